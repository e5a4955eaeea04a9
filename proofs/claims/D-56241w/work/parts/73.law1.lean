set_option maxRecDepth 100000
/-! ===== the law of arrivals: the greatest closed labelling ===== -/
def LEG (g : Nat → Nat) (t k : Nat) : Prop := t < g 1 ∧ k < g (16 + 36 * t + 3) - 1
/-- a journey rides the leg k of the train t, by the labels e -/
def onP (g e : Nat → Nat) (a v t : Nat) : Nat → Prop
  | 0 => bdG g e a v t 0 ∧ ¬ g (16 + 36 * t + 0) ≤ ldG g t 0
  | k + 1 => (onP g e a v t k ∨ bdG g e a v t (k + 1)) ∧ ¬ g (16 + 36 * t + 0) ≤ ldG g t (k + 1)
def iniE (a v : Nat) : Nat → Nat := fun s => if s = a then v else 1000000
def Clo (g e : Nat → Nat) (a v : Nat) : Prop := (∀ s, s < g 0 → e s ≤ iniE a v s) ∧ ∀ t k, LEG g t k → onP g e a v t k → e (plG g t (k + 1)) ≤ CmG g t (k + 1)
def Snd (g e : Nat → Nat) (a v : Nat) : Prop := ∀ f, Clo g f a v → ∀ s, s < g 0 → f s ≤ e s
theorem arr_uniq {g e f : Nat → Nat} {a v : Nat} (h1 : Clo g e a v) (h2 : Snd g e a v) (h3 : Clo g f a v) (h4 : Snd g f a v) : ∀ s, s < g 0 → e s = f s := fun s hs => Nat.le_antisymm (h4 e h1 s hs) (h2 f h3 s hs)
theorem LEG.pl0 {g : Nat → Nat} {t k : Nat} (hI : GW g) (h : LEG g t k) : plG g t k < g 0 := hI.pl h.1 (by have := h.2; omega)
theorem LEG.pl1 {g : Nat → Nat} {t k : Nat} (hI : GW g) (h : LEG g t k) : plG g t (k + 1) < g 0 := hI.pl h.1 (by have := h.2; omega)
theorem LEG.dn {g : Nat → Nat} {t k : Nat} (h : LEG g t (k + 1)) : LEG g t k := ⟨h.1, by have := h.2; omega⟩
theorem LEG.dn2 {g : Nat → Nat} {t k j : Nat} (h : LEG g t k) (hj : j ≤ k) : LEG g t j := ⟨h.1, by have := h.2; omega⟩
theorem bdG_mono {g e f : Nat → Nat} {a v t k : Nat} (hf : f (plG g t k) ≤ e (plG g t k)) (h : bdG g e a v t k) : bdG g f a v t k := by
  rcases h with h | ⟨h1, h2, h3⟩
  · exact Or.inl h
  · exact Or.inr ⟨h1, by omega, by omega⟩
theorem onP_mono {g e f : Nat → Nat} {a v t : Nat} (hI : GW g) (hf : ∀ s, s < g 0 → f s ≤ e s) : ∀ k, LEG g t k → onP g e a v t k → onP g f a v t k
  | 0, hl, h => ⟨bdG_mono (hf _ (hl.pl0 hI)) h.1, h.2⟩
  | k + 1, hl, h => ⟨h.1.imp (onP_mono hI hf k hl.dn) (bdG_mono (hf _ (hl.pl0 hI))), h.2⟩
abbrev idR : (Nat → Nat) → Nat → Nat := fun f => f
theorem riI_le {g : Nat → Nat} {a v t : Nat} {y : Nat × (Nat → Nat)} : ∀ k i, (riI idR g a v t y k).2.2 i ≤ y.2 i
  | 0, i => Nat.le_refl _
  | k + 1, i => by
    have ih := riI_le (g := g) (a := a) (v := v) (t := t) (y := y) k
    show (rsG idR g a v t k (riI idR g a v t y k)).2.2 i ≤ y.2 i
    unfold rsG
    split
    · rename_i h
      show up _ _ _ i ≤ _
      unfold up
      split
      · rename_i hi
        subst hi
        exact Nat.le_trans (Nat.le_of_lt h.2) (ih _)
      · exact ih i
    · exact ih i
theorem riO_le {g : Nat → Nat} {a v : Nat} {y : Nat × (Nat → Nat)} : ∀ t i, (riO idR g a v y t).2 i ≤ y.2 i
  | 0, i => Nat.le_refl _
  | t + 1, i => Nat.le_trans (riI_le _ i) (riO_le t i)
theorem riI_snd {g f : Nat → Nat} {a v t : Nat} {y : Nat × (Nat → Nat)} (hI : GW g) (hf : Clo g f a v) (ht : t < g 1) (hy : ∀ s, s < g 0 → f s ≤ y.2 s) : ∀ k, k ≤ g (16 + 36 * t + 3) - 1 → (∀ s, s < g 0 → f s ≤ (riI idR g a v t y k).2.2 s) ∧ ((riI idR g a v t y k).1 = 1 → ∃ j, k = j + 1 ∧ onP g f a v t j)
  | 0, _ => ⟨hy, fun h => by cases h⟩
  | k + 1, hk => by
    obtain ⟨i1, i2⟩ := riI_snd hI hf ht hy k (by omega)
    have hl : LEG g t k := ⟨ht, by omega⟩
    have hon : onG g (idR (riI idR g a v t y k).2.2) a v t k (riI idR g a v t y k).1 = 1 → onP g f a v t k := by
      intro h
      unfold onG at h
      split at h
      · rename_i hc
        cases k with
        | zero =>
          refine ⟨?_, hc.2⟩
          rcases hc.1 with q | q
          · obtain ⟨j, hj, -⟩ := i2 q; omega
          · exact bdG_mono (i1 _ (hl.pl0 hI)) q
        | succ k =>
          refine ⟨?_, hc.2⟩
          rcases hc.1 with q | q
          · obtain ⟨j, hj, hz⟩ := i2 q
            have e : j = k := by omega
            subst e
            exact Or.inl hz
          · exact Or.inr (bdG_mono (i1 _ (hl.pl0 hI)) q)
      · cases h
    show (∀ s, s < g 0 → f s ≤ (rsG idR g a v t k (riI idR g a v t y k)).2.2 s) ∧ ((rsG idR g a v t k (riI idR g a v t y k)).1 = 1 → _)
    unfold rsG
    split
    · rename_i h
      refine ⟨fun s hs => ?_, fun _ => ⟨k, rfl, hon h.1⟩⟩
      show f s ≤ up _ _ _ s
      unfold up
      split
      · rename_i hi
        subst hi
        exact hf.2 t k hl (hon h.1)
      · exact i1 s hs
    · exact ⟨i1, fun h => ⟨k, rfl, hon h⟩⟩
theorem riO_snd {g f : Nat → Nat} {a v : Nat} {y : Nat × (Nat → Nat)} (hI : GW g) (hf : Clo g f a v) (hy : ∀ s, s < g 0 → f s ≤ y.2 s) : ∀ t, t ≤ g 1 → ∀ s, s < g 0 → f s ≤ (riO idR g a v y t).2 s
  | 0, _ => hy
  | t + 1, ht => (riI_snd hI hf (by omega) (riO_snd hI hf hy t (by omega)) _ (Nat.le_refl _)).1
theorem ex_succ {p : Nat → Prop} {k : Nat} : (∃ j, k + 1 = j + 1 ∧ p j) ↔ p k := by
  constructor
  · rintro ⟨j, hj, z⟩
    have e : j = k := by omega
    rw [← e]; exact z
  · intro z; exact ⟨k, rfl, z⟩
theorem riI_zero {g : Nat → Nat} {a v t : Nat} {y : Nat × (Nat → Nat)} : ∀ k, (riI idR g a v t y k).2.1 = 0 → (riI idR g a v t y k).2.2 = y.2 ∧ y.1 = 0 ∧ (∀ j, j < k → onP g y.2 a v t j → y.2 (plG g t (j + 1)) ≤ CmG g t (j + 1)) ∧ ((riI idR g a v t y k).1 = 1 ↔ ∃ j, k = j + 1 ∧ onP g y.2 a v t j)
  | 0, h => ⟨rfl, h, fun j hj => absurd hj (Nat.not_lt_zero j), ⟨(fun z => by cases z), (fun z => by obtain ⟨j, hj, -⟩ := z; omega)⟩⟩
  | k + 1, h => by
    have h : (rsG idR g a v t k (riI idR g a v t y k)).2.1 = 0 := h
    unfold rsG at h
    split at h
    · cases h
    · rename_i hn
      obtain ⟨q1, q2, q3, q4⟩ := riI_zero k h
      have hon : onG g (idR (riI idR g a v t y k).2.2) a v t k (riI idR g a v t y k).1 = 1 ↔ onP g y.2 a v t k := by
        rw [q1]
        unfold onG
        cases k with
        | zero =>
          show (if _ then 1 else 0) = 1 ↔ bdG g y.2 a v t 0 ∧ _
          have hz : ¬ (riI idR g a v t y 0).1 = 1 := fun z => by cases z
          constructor
          · intro z
            split at z
            · rename_i c; exact ⟨c.1.resolve_left hz, c.2⟩
            · cases z
          · intro z
            rw [if_pos ⟨Or.inr z.1, z.2⟩]
        | succ k =>
          show (if _ then 1 else 0) = 1 ↔ (onP g y.2 a v t k ∨ bdG g y.2 a v t (k + 1)) ∧ _
          have hz : (riI idR g a v t y (k + 1)).1 = 1 ↔ onP g y.2 a v t k := q4.trans ex_succ
          constructor
          · intro z
            split at z
            · rename_i c; exact ⟨c.1.imp hz.mp id, c.2⟩
            · cases z
          · intro z
            rw [if_pos ⟨z.1.imp hz.mpr id, z.2⟩]
      have e0 : rsG idR g a v t k (riI idR g a v t y k) = (onG g (idR (riI idR g a v t y k).2.2) a v t k (riI idR g a v t y k).1, (riI idR g a v t y k).2.1, (riI idR g a v t y k).2.2) := by
        unfold rsG; exact if_neg hn
      have e1 : riI idR g a v t y (k + 1) = (onG g (idR (riI idR g a v t y k).2.2) a v t k (riI idR g a v t y k).1, (riI idR g a v t y k).2.1, (riI idR g a v t y k).2.2) := e0
      rw [e1]
      refine ⟨q1, q2, fun j hj ho => ?_, hon.trans ex_succ.symm⟩
      by_cases e : j = k
      · subst e
        rw [q1] at hn
        exact Nat.not_lt.mp (fun z => hn ⟨by rw [q1] at hon; exact hon.mpr ho, z⟩)
      · exact q3 j (by omega) ho
theorem riO_zero {g : Nat → Nat} {a v : Nat} {y : Nat × (Nat → Nat)} : ∀ n, (riO idR g a v y n).1 = 0 → riO idR g a v y n = (0, y.2) ∧ y.1 = 0 ∧ ∀ t, t < n → ∀ k, k < g (16 + 36 * t + 3) - 1 → onP g y.2 a v t k → y.2 (plG g t (k + 1)) ≤ CmG g t (k + 1)
  | 0, h => ⟨Prod.ext h rfl, h, fun t ht => absurd ht (Nat.not_lt_zero t)⟩
  | n + 1, h => by
    have h : (riI idR g a v n (riO idR g a v y n) (g (16 + 36 * n + 3) - 1)).2.1 = 0 := h
    obtain ⟨q1, q2, q3, -⟩ := riI_zero _ h
    obtain ⟨p1, p2, p3⟩ := riO_zero n q2
    rw [p1] at q1 q3
    refine ⟨?_, p2, fun t ht k hk ho => ?_⟩
    · show (riI idR g a v n (riO idR g a v y n) (g (16 + 36 * n + 3) - 1)).2 = (0, y.2)
      rw [p1] at h ⊢
      exact Prod.ext h q1
    · by_cases e : t = n
      · subst e; exact q3 k hk ho
      · exact p3 t (by omega) k hk ho
theorem goF_arr {g : Nat → Nat} {a v : Nat} (hI : GW g) : ∀ n e, smE 8 e < n → (∀ i, e i < 2 ^ 27) →
    (∀ i, goF g a v n e i ≤ e i) ∧ (∀ f, Clo g f a v → (∀ s, s < g 0 → f s ≤ e s) → ∀ s, s < g 0 → f s ≤ goF g a v n e s) ∧ ∀ t k, LEG g t k → onP g (goF g a v n e) a v t k → goF g a v n e (plG g t (k + 1)) ≤ CmG g t (k + 1)
  | 0, e, h, _ => absurd h (Nat.not_lt_zero _)
  | n + 1, e, h, he => by
    have hok : okR e (riO idR g a v (0, e) (g 1)).1 (riO idR g a v (0, e) (g 1)).2 := riO_ok hI ⟨Nat.zero_lt_succ 1, he, Nat.le_refl _⟩ (g 1) (Nat.le_refl _)
    by_cases hc : (riO idR g a v (0, e) (g 1)).1 = 1
    · have e1 : goF g a v (n + 1) e = goF g a v n (riO idR g a v (0, e) (g 1)).2 := if_pos hc
      have hlt := hok.2.2
      rw [hc] at hlt
      obtain ⟨i1, i2, i3⟩ := goF_arr hI n (riO idR g a v (0, e) (g 1)).2 (by omega) hok.2.1
      refine ⟨fun i => ?_, fun f hf hfe s hs => ?_, fun t k hl ho => ?_⟩
      · rw [e1]; exact Nat.le_trans (i1 i) (riO_le _ i)
      · rw [e1]; exact i2 f hf (riO_snd hI hf hfe (g 1) (Nat.le_refl _)) s hs
      · rw [e1] at ho ⊢; exact i3 t k hl ho
    · have h0 : (riO idR g a v (0, e) (g 1)).1 = 0 := by have := hok.1; omega
      obtain ⟨q1, -, q3⟩ := riO_zero (g 1) h0
      have e1 : goF g a v (n + 1) e = e := by
        show (if _ then _ else _) = e
        rw [if_neg hc, q1]
      refine ⟨fun i => ?_, fun f hf hfe s hs => ?_, fun t k hl ho => ?_⟩
      · rw [e1]; exact Nat.le_refl _
      · rw [e1]; exact hfe s hs
      · rw [e1] at ho ⊢; exact q3 t hl.1 k hl.2 ho
/-- the reference's labels -/
theorem goE_arr {g e0 : Nat → Nat} {a v : Nat} (hI : GW g) (hv : v < 2 ^ 27) (he : ∀ i, e0 i < 2 ^ 27) : Clo g (goE g a v e0) a v ∧ Snd g (goE g a v e0) a v := by
  obtain ⟨h1, h2, h3⟩ := goF_arr (a := a) (v := v) hI (smE 8 (bgP a v e0 8) + 1) (bgP a v e0 8) (Nat.lt_succ_self _) (bgP_27 hv he 8)
  have hini : ∀ s, s < g 0 → bgP a v e0 8 s = iniE a v s := fun s hs => by unfold bgP iniE; rw [if_pos (Nat.lt_of_lt_of_le hs hI.2.1)]
  refine ⟨⟨fun s hs => ?_, h3⟩, fun f hf s hs => h2 f hf (fun s hs => ?_) s hs⟩
  · rw [← hini s hs]; exact h1 s
  · rw [hini s hs]; exact hf.1 s hs
theorem cb_bd {g e : Nat → Nat} {a v t k : Nat} (hL : LvG g t k < 1000000) : cbG g e a v t k ↔ bdG g e a v t k := by
  show bmG g e a v (plG g t k) ≤ LvG g t k ↔ _
  unfold bmG
  by_cases h : plG g t k = a
  · rw [if_pos h]
    exact ⟨fun z => Or.inl ⟨h, z⟩, fun z => z.elim (fun z => z.2) (fun z => absurd h z.1)⟩
  · rw [if_neg h]
    constructor
    · intro z; exact Or.inr ⟨h, by omega, by omega⟩
    · intro z
      rcases z with z | z
      · exact absurd z.1 h
      · obtain ⟨-, z2, z3⟩ := z; omega
/-- no leg carries more than the train has places -/
def LdC (g : Nat → Nat) : Prop := ∀ t k, LEG g t k → ldG g t k ≤ g (16 + 36 * t + 0)
/-- all departures of legs are early enough; every ride takes time -/
def TmC (g : Nat → Nat) : Prop := ∀ t k, LEG g t k → LvG g t k < 1000000 ∧ CmG g t (k + 1) < 1000000 ∧ LvG g t k < CmG g t (k + 1)
theorem fr_full {g : Nat → Nat} {t k : Nat} (hC : LdC g) (hl : LEG g t k) : ldG g t k = g (16 + 36 * t + 0) ↔ g (16 + 36 * t + 0) ≤ ldG g t k := by
  have := hC t k hl; omega
