set_option maxRecDepth 100000
/-! ===== boardings: the two sides joined ===== -/
section BJ
variable {g b : Nat → Nat} {a v t : Nat} {x : (Nat → Nat) × Nat}
/-- a train's legs in one round of the class; all trains' -/
def cbI (g b : Nat → Nat) (a t : Nat) (x : (Nat → Nat) × Nat) : Nat → (Nat → Nat) × Nat
  | 0 => x
  | k + 1 => boS g b a (cbI g b a t x k) (t, k)
def cbO (g b : Nat → Nat) (a : Nat) : Nat → (Nat → Nat) × Nat
  | 0 => (b, 0)
  | t + 1 => cbI g b a t (cbO g b a t) (g (16 + 36 * t + 3) - 1)
theorem boF_cb : boF g b a = (cbO g b a (g 1)).1 :=
  (congrArg Prod.fst (lg_nest (g := g) (F := boS g b a) (b := (b, 0)) (I := fun t x k => cbI g b a t x k) (O := cbO g b a) (fun _ _ => rfl) (fun _ _ _ => rfl) rfl (fun _ => rfl) (g 1))).symm
theorem bo_bd {k : Nat} (hL : LvG g t k < 1000000) (ha : b a = v) : b (plG g t k) + (if plG g t k = a then 0 else g (8 + plG g t k)) ≤ LvG g t k ↔ bdG g b a v t k := by
  by_cases h : plG g t k = a
  · rw [if_pos h, Nat.add_zero, h, ha]
    constructor
    · intro q; exact Or.inl ⟨h, q⟩
    · intro q
      rcases q with ⟨_, q⟩ | ⟨q, _⟩
      · exact q
      · exact absurd h q
  · rw [if_neg h]
    constructor
    · intro q; exact Or.inr ⟨h, by omega, q⟩
    · intro q
      rcases q with ⟨q, _⟩ | ⟨_, _, q⟩
      · exact absurd q h
      · exact q
theorem bo_on {k : Nat} (hT : TmC g) (hC : LdC g) (ha : b a = v) (hl : LEG g t k) {on : Nat} (ho : ∀ j, k = j + 1 → (on = 1 ↔ onP g b a v t j)) : (((0 < k ∧ on = 1) ∨ b (plG g t k) + (if plG g t k = a then 0 else g (8 + plG g t k)) ≤ LvG g t k) ∧ ¬ ldG g t k = g (16 + 36 * t + 0)) ↔ onP g b a v t k := by
  rw [bo_bd (hT t k hl).1 ha, fr_full hC hl]
  cases k with
  | zero =>
    constructor
    · rintro ⟨q | q, r⟩
      · exact absurd q.1 (Nat.lt_irrefl 0)
      · exact ⟨q, r⟩
    · intro q; exact ⟨Or.inr q.1, q.2⟩
  | succ j =>
    constructor
    · rintro ⟨q | q, r⟩
      · exact ⟨Or.inl ((ho j rfl).mp q.2), r⟩
      · exact ⟨Or.inr q, r⟩
    · rintro ⟨q | q, r⟩
      · exact ⟨Or.inl ⟨Nat.succ_pos j, (ho j rfl).mpr q⟩, r⟩
      · exact ⟨Or.inr q, r⟩
theorem cbI_2 (hT : TmC g) (hC : LdC g) (ha : b a = v) (ht : t < g 1) : ∀ k, k ≤ g (16 + 36 * t + 3) - 1 → ∀ j, k = j + 1 → ((cbI g b a t x k).2 = 1 ↔ onP g b a v t j)
  | 0, _, j, hj => by cases hj
  | k + 1, hk, j, hj => by
    have e : j = k := by omega
    subst e
    have hl : LEG g t j := ⟨ht, by omega⟩
    have hc := bo_on hT hC ha hl (on := (cbI g b a t x j).2) (fun i hi => cbI_2 hT hC ha ht j (by omega) i hi)
    show (boS g b a (cbI g b a t x j) (t, j)).2 = 1 ↔ _
    unfold boS
    by_cases q : onP g b a v t j
    · rw [if_pos (hc.mpr q)]; exact ⟨fun _ => q, fun _ => rfl⟩
    · rw [if_neg (fun z => q (hc.mp z))]; exact ⟨(fun z => by cases z), fun z => absurd z q⟩
theorem cbI_on (hT : TmC g) (hC : LdC g) (ha : b a = v) {k : Nat} (hl : LEG g t k) (q : onP g b a v t k) : (cbI g b a t x (k + 1)).1 = up (cbI g b a t x k).1 (plG g t (k + 1)) (min ((cbI g b a t x k).1 (plG g t (k + 1))) (CmG g t (k + 1))) := by
  show (boS g b a (cbI g b a t x k) (t, k)).1 = _
  unfold boS
  rw [if_pos ((bo_on hT hC ha hl (on := (cbI g b a t x k).2) (fun i hi => cbI_2 hT hC ha hl.1 k (by have := hl.2; omega) i hi)).mpr q)]
theorem cbI_off (hT : TmC g) (hC : LdC g) (ha : b a = v) {k : Nat} (hl : LEG g t k) (q : ¬ onP g b a v t k) : (cbI g b a t x (k + 1)).1 = (cbI g b a t x k).1 := by
  show (boS g b a (cbI g b a t x k) (t, k)).1 = _
  unfold boS
  rw [if_neg (fun z => q ((bo_on hT hC ha hl (on := (cbI g b a t x k).2) (fun i hi => cbI_2 hT hC ha hl.1 k (by have := hl.2; omega) i hi)).mp z))]
theorem cbI_inv (hT : TmC g) (hC : LdC g) (ha : b a = v) (ht : t < g 1) : ∀ k, k ≤ g (16 + 36 * t + 3) - 1 → (∀ s, (cbI g b a t x k).1 s ≤ x.1 s) ∧ (∀ j, j < k → onP g b a v t j → (cbI g b a t x k).1 (plG g t (j + 1)) ≤ CmG g t (j + 1)) ∧
    (∀ s, (cbI g b a t x k).1 s = x.1 s ∨ ∃ j, j < k ∧ onP g b a v t j ∧ s = plG g t (j + 1) ∧ (cbI g b a t x k).1 s = CmG g t (j + 1))
  | 0, _ => ⟨fun s => Nat.le_refl _, fun j hj => absurd hj (Nat.not_lt_zero j), fun s => Or.inl rfl⟩
  | k + 1, hk => by
    obtain ⟨i2, i3, i4⟩ := cbI_inv hT hC ha ht k (by omega)
    have hl : LEG g t k := ⟨ht, by omega⟩
    by_cases q : onP g b a v t k
    · rw [cbI_on hT hC ha hl q]
      refine ⟨fun s => ?_, fun j hj ho => ?_, fun s => ?_⟩
      · by_cases z : s = plG g t (k + 1)
        · rw [z, up_s]; exact Nat.le_trans (Nat.min_le_left _ _) (i2 _)
        · rw [up_n z]; exact i2 s
      · by_cases z : plG g t (j + 1) = plG g t (k + 1)
        · by_cases w : j = k
          · rw [w, up_s]; exact Nat.min_le_right _ _
          · have i5 := i3 j (by omega) ho
            rw [z] at i5 ⊢
            rw [up_s]; exact Nat.le_trans (Nat.min_le_left _ _) i5
        · rw [up_n z]
          exact i3 j (by have : j ≠ k := fun w => z (by rw [w]); omega) ho
      · by_cases z : s = plG g t (k + 1)
        · rw [z, up_s]
          by_cases w : (cbI g b a t x k).1 (plG g t (k + 1)) ≤ CmG g t (k + 1)
          · rw [Nat.min_eq_left w]
            rcases i4 (plG g t (k + 1)) with i5 | ⟨j, j1, j2, j3, j4⟩
            · exact Or.inl i5
            · exact Or.inr ⟨j, by omega, j2, j3, j4⟩
          · rw [Nat.min_eq_right (by omega)]
            exact Or.inr ⟨k, Nat.lt_succ_self k, q, rfl, rfl⟩
        · rw [up_n z]
          rcases i4 s with i5 | ⟨j, j1, j2, j3, j4⟩
          · exact Or.inl i5
          · exact Or.inr ⟨j, by omega, j2, j3, j4⟩
    · rw [cbI_off hT hC ha hl q]
      refine ⟨i2, fun j hj ho => ?_, fun s => ?_⟩
      · exact i3 j (by have : j ≠ k := fun w => q (w ▸ ho); omega) ho
      · rcases i4 s with i5 | ⟨j, j1, j2, j3, j4⟩
        · exact Or.inl i5
        · exact Or.inr ⟨j, by omega, j2, j3, j4⟩
theorem cbO_inv (hT : TmC g) (hC : LdC g) (ha : b a = v) : ∀ n, n ≤ g 1 → (∀ s, (cbO g b a n).1 s ≤ b s) ∧ (∀ t k, t < n → LEG g t k → onP g b a v t k → (cbO g b a n).1 (plG g t (k + 1)) ≤ CmG g t (k + 1)) ∧
    (∀ s, (cbO g b a n).1 s = b s ∨ ∃ t k, LEG g t k ∧ onP g b a v t k ∧ s = plG g t (k + 1) ∧ (cbO g b a n).1 s = CmG g t (k + 1))
  | 0, _ => ⟨fun s => Nat.le_refl _, fun t k ht => absurd ht (Nat.not_lt_zero t), fun s => Or.inl rfl⟩
  | n + 1, hn => by
    obtain ⟨o1, o2, o3⟩ := cbO_inv hT hC ha n (by omega)
    obtain ⟨i1, i2, i3⟩ := cbI_inv (x := cbO g b a n) hT hC ha (show n < g 1 by omega) (g (16 + 36 * n + 3) - 1) (Nat.le_refl _)
    refine ⟨fun s => Nat.le_trans (i1 s) (o1 s), fun t k ht hl ho => ?_, fun s => ?_⟩
    · by_cases e : t = n
      · subst e; exact i2 k hl.2 ho
      · exact Nat.le_trans (i1 _) (o2 t k (by omega) hl ho)
    · rcases i3 s with i5 | ⟨j, j1, j2, j3, j4⟩
      · rcases o3 s with o5 | ⟨t, k, q1, q2, q3, q4⟩
        · exact Or.inl (i5.trans o5)
        · exact Or.inr ⟨t, k, q1, q2, q3, i5.trans q4⟩
      · exact Or.inr ⟨n, j, ⟨by omega, j1⟩, j2, j3, j4⟩
theorem boF_inv (hT : TmC g) (hC : LdC g) (ha : b a = v) : (∀ s, boF g b a s ≤ b s) ∧ (∀ t k, LEG g t k → onP g b a v t k → boF g b a (plG g t (k + 1)) ≤ CmG g t (k + 1)) ∧
    (∀ s, boF g b a s = b s ∨ ∃ t k, LEG g t k ∧ onP g b a v t k ∧ s = plG g t (k + 1) ∧ boF g b a s = CmG g t (k + 1)) := by
  obtain ⟨o1, o2, o3⟩ := cbO_inv hT hC ha (g 1) (Nat.le_refl _)
  rw [boF_cb]
  exact ⟨o1, fun t k hl ho => o2 t k hl.1 hl ho, o3⟩
/-- the reference's round is the class's -/
theorem riI_cb {e : Nat → Nat} {y : Nat × (Nat → Nat)} (hI : GW g) (hT : TmC g) (hC : LdC g) (ha : b a = v) (heb : ∀ s, s < g 0 → e s = b s) (hyx : ∀ s, s < g 0 → y.2 s = x.1 s) (ht : t < g 1) : ∀ k, k ≤ g (16 + 36 * t + 3) - 1 →
    (∀ s, s < g 0 → (riI (fun _ => e) g a v t y k).2.2 s = (cbI g b a t x k).1 s) ∧ (∀ j, k = j + 1 → ((riI (fun _ => e) g a v t y k).1 = 1 ↔ onP g b a v t j)) ∧ (k = 0 → (riI (fun _ => e) g a v t y k).1 = 0)
  | 0, _ => ⟨hyx, (fun j hj => by cases hj), fun _ => rfl⟩
  | k + 1, hk => by
    obtain ⟨i1, i2, i3⟩ := riI_cb hI hT hC ha heb hyx ht k (by omega)
    have hl : LEG g t k := ⟨ht, by omega⟩
    have hbd : bdG g e a v t k ↔ bdG g b a v t k := ⟨bdG_mono (Nat.le_of_eq (heb _ (hl.pl0 hI)).symm), bdG_mono (Nat.le_of_eq (heb _ (hl.pl0 hI)))⟩
    have hon : onG g e a v t k (riI (fun _ => e) g a v t y k).1 = 1 ↔ onP g b a v t k := by
      unfold onG
      cases k with
      | zero =>
        have i4 := i3 rfl
        rw [i4]
        by_cases q : onP g b a v t 0
        · rw [if_pos ⟨Or.inr (hbd.mpr q.1), q.2⟩]; exact ⟨fun _ => q, fun _ => rfl⟩
        · rw [if_neg (fun z => q ⟨z.1.elim (fun z => by cases z) hbd.mp, z.2⟩)]; exact ⟨(fun z => by cases z), fun z => absurd z q⟩
      | succ j =>
        have i4 := i2 j rfl
        by_cases q : onP g b a v t (j + 1)
        · rw [if_pos ⟨q.1.imp i4.mpr hbd.mpr, q.2⟩]; exact ⟨fun _ => q, fun _ => rfl⟩
        · rw [if_neg (fun z => q ⟨z.1.imp i4.mp hbd.mp, z.2⟩)]; exact ⟨(fun z => by cases z), fun z => absurd z q⟩
    have hpl := hl.pl1 hI
    refine ⟨fun s hs => ?_, fun j hj => ?_, (fun z => by cases z)⟩
    · show (rsG (fun _ => e) g a v t k (riI (fun _ => e) g a v t y k)).2.2 s = _
      unfold rsG
      by_cases q : onP g b a v t k
      · rw [cbI_on hT hC ha hl q]
        by_cases w : CmG g t (k + 1) < (riI (fun _ => e) g a v t y k).2.2 (plG g t (k + 1))
        · rw [if_pos ⟨hon.mpr q, w⟩]
          show up _ _ _ s = _
          by_cases z : s = plG g t (k + 1)
          · rw [z, up_s, up_s, ← i1 _ hpl, Nat.min_eq_right (Nat.le_of_lt w)]
          · rw [up_n z, up_n z]; exact i1 s hs
        · rw [if_neg (fun z => w z.2)]
          by_cases z : s = plG g t (k + 1)
          · rw [z, up_s, ← i1 _ hpl, Nat.min_eq_left (by omega)]
          · rw [up_n z]; exact i1 s hs
      · rw [cbI_off hT hC ha hl q, if_neg (fun z => q (hon.mp z.1))]
        exact i1 s hs
    · have e2 : j = k := by omega
      subst e2
      rw [← hon]
      show (rsG (fun _ => e) g a v t j (riI (fun _ => e) g a v t y j)).1 = 1 ↔ _
      unfold rsG
      split <;> exact Iff.rfl
theorem riO_cb {e : Nat → Nat} {y : Nat × (Nat → Nat)} (hI : GW g) (hT : TmC g) (hC : LdC g) (ha : b a = v) (heb : ∀ s, s < g 0 → e s = b s) (hyb : ∀ s, s < g 0 → y.2 s = b s) : ∀ n, n ≤ g 1 → ∀ s, s < g 0 → (riO (fun _ => e) g a v y n).2 s = (cbO g b a n).1 s
  | 0, _ => hyb
  | n + 1, hn => (riI_cb hI hT hC ha heb (riO_cb hI hT hC ha heb hyb n (by omega)) (show n < g 1 by omega) _ (Nat.le_refl _)).1
theorem riI_z {R : (Nat → Nat) → Nat → Nat} {y : Nat × (Nat → Nat)} : ∀ k, (riI R g a v t y k).2.1 = 0 → (riI R g a v t y k).2.2 = y.2 ∧ y.1 = 0
  | 0, h => ⟨rfl, h⟩
  | k + 1, h => by
    have h : (rsG R g a v t k (riI R g a v t y k)).2.1 = 0 := h
    show (rsG R g a v t k (riI R g a v t y k)).2.2 = _ ∧ _
    unfold rsG at h ⊢
    split at h
    · exact absurd h Nat.one_ne_zero
    · rename_i q
      rw [if_neg q]
      exact riI_z k h
theorem riO_z {R : (Nat → Nat) → Nat → Nat} {y : Nat × (Nat → Nat)} : ∀ n, (riO R g a v y n).1 = 0 → (riO R g a v y n).2 = y.2 ∧ y.1 = 0
  | 0, h => ⟨rfl, h⟩
  | n + 1, h => by
    obtain ⟨h1, h2⟩ := riI_z _ h
    obtain ⟨h3, h4⟩ := riO_z n h2
    exact ⟨h1.trans h3, h4⟩
/-- what the class's labels are after n rounds -/
def BRn (g e : Nat → Nat) (a v n : Nat) (b : Nat → Nat) : Prop := (∀ s, s < g 0 → e s ≤ b s) ∧ (∀ s, s < g 0 → b s ≤ iniE a v s) ∧ ∀ s, s < g 0 → cnE g e s ≤ n → b s ≤ e s
theorem snd_v {e : Nat → Nat} (hI : GW g) (hT : TmC g) (hv : v ≤ 1000000) (hs : Snd g e a v) : ∀ s, s < g 0 → v ≤ e s := by
  refine hs (fun _ => v) ⟨fun s _ => ?_, fun t k hl ho => ?_⟩
  · unfold iniE; split
    · exact Nat.le_refl _
    · exact hv
  · obtain ⟨j, hj, hb, -⟩ := onP_bd ho
    have h1 : v ≤ LvG g t j := by
      rcases hb with ⟨_, q⟩ | ⟨_, _, q⟩
      · exact q
      · have q : v + g (8 + plG g t j) ≤ LvG g t j := q
        omega
    have h2 := LvG_mono (g := g) (t := t) hj
    have h3 := (hT t k hl).2.2
    show v ≤ CmG g t (k + 1)
    omega
theorem onP_up {e : Nat → Nat} {j : Nat} (hb : bdG g e a v t j) : ∀ k, j ≤ k → (∀ i, j ≤ i → i ≤ k → ¬ g (16 + 36 * t + 0) ≤ ldG g t i) → onP g e a v t k
  | 0, hj, hf => by
    have : j = 0 := by omega
    subst this
    exact ⟨hb, hf 0 (Nat.le_refl _) (Nat.le_refl _)⟩
  | k + 1, hj, hf => by
    by_cases q : j = k + 1
    · subst q; exact ⟨Or.inr hb, hf _ (Nat.le_refl _) (Nat.le_refl _)⟩
    · exact ⟨Or.inl (onP_up hb k (by omega) (fun i h1 h2 => hf i h1 (by omega))), hf _ hj (Nat.le_refl _)⟩
theorem BRn.step {e : Nat → Nat} {n : Nat} (hI : GW g) (hT : TmC g) (hC : LdC g) (hv : v ≤ 1000000) (ha0 : a < g 0) (hcl : Clo g e a v) (hsn : Snd g e a v) (hb : BRn g e a v n b) : BRn g e a v (n + 1) (boF g b a) ∧ b a = v := by
  obtain ⟨b1, b2, b3⟩ := hb
  have hav : b a = v := by
    have q1 := b2 a ha0
    have q2 := b1 a ha0
    have q3 := snd_v hI hT hv hsn a ha0
    unfold iniE at q1
    rw [if_pos rfl] at q1
    omega
  obtain ⟨f1, f2, f3⟩ := boF_inv (a := a) hT hC hav
  refine ⟨⟨fun s hs => ?_, fun s hs => Nat.le_trans (f1 s) (b2 s hs), fun s hs hc => ?_⟩, hav⟩
  · rcases f3 s with q | ⟨t, k, q1, q2, q3, q4⟩
    · rw [q]; exact b1 s hs
    · rw [q4, q3]; exact hcl.2 t k q1 (onP_mono hI b1 k q1 q2)
  · by_cases hsa : s = a
    · rw [hsa]
      have q3 := snd_v hI hT hv hsn a ha0
      have := f1 a
      omega
    · have q1 := b2 s hs
      unfold iniE at q1
      rw [if_neg hsa] at q1
      by_cases hlt : e s < 1000000
      · obtain ⟨t, k, l1, l2, l3, l4⟩ := sup_leg hI hcl hsn hs hsa hlt
        obtain ⟨j, j1, j2, j3⟩ := onP_bd l4
        have hlj := l1.dn2 j1
        have hpj := hlj.pl0 hI
        have hbj : bdG g b a v t j := by
          rcases id j2 with ⟨p1, p2⟩ | ⟨p1, p2, p3⟩
          · exact Or.inl ⟨p1, p2⟩
          · have hlt2 : e (plG g t j) < e s := by
              have h2 := LvG_mono (g := g) (t := t) j1
              have h3 := (hT t k l1).2.2
              rw [← l3]; omega
            have hc2 := cnE_lt hpj hlt2
            exact bdG_mono (b3 _ hpj (by omega)) j2
        rw [← l2, ← l3] at *
        exact f2 t k l1 (onP_up hbj k j1 j3)
      · exact Nat.le_trans (f1 s) (by omega)
theorem bwN_end {K n c : Nat} (h : b c ≠ 1000000) : bwN g a c K n b = (n, b) := by
  cases K with
  | zero => rfl
  | succ K => unfold bwN; rw [if_neg h]
theorem bwN_s {K n c : Nat} (h : b c = 1000000) : bwN g a c (K + 1) n b = bwN g a c K (n + 1) (boF g b a) := by
  conv => lhs; unfold bwN
  rw [if_pos h]
/-- from a fixed point on nothing is reached any more -/
theorem bw_fix {e : Nat → Nat} {c : Nat} (hI : GW g) (hT : TmC g) (hC : LdC g) (hv : v ≤ 1000000) (ha0 : a < g 0) (hc0 : c < g 0) (hcl : Clo g e a v) (hsn : Snd g e a v) (he : e c = 1000000) : ∀ K n b, BRn g e a v n b → (bwN g a c K n b).2 c = 1000000
  | 0, n, b, hb => by
    have q1 := hb.1 c hc0
    have q2 := hb.2.1 c hc0
    have q3 : iniE a v c ≤ 1000000 := by unfold iniE; split <;> omega
    show b c = 1000000
    omega
  | K + 1, n, b, hb => by
    have q1 := hb.1 c hc0
    have q2 := hb.2.1 c hc0
    have q3 : iniE a v c ≤ 1000000 := by unfold iniE; split <;> omega
    rw [bwN_s (by omega)]
    exact bw_fix hI hT hC hv ha0 hc0 hcl hsn he K (n + 1) _ (hb.step hI hT hC hv ha0 hcl hsn).1
theorem bd_join {e0 : Nat → Nat} {c : Nat} (hI : GW g) (hT : TmC g) (hC : LdC g) (hv : v ≤ 1000000) (ha0 : a < g 0) (hc0 : c < g 0) (hcl : Clo g e0 a v) (hsn : Snd g e0 a v) : ∀ (K n s : Nat) (e f b : Nat → Nat) (KC : Nat), (s = 1 → smE 8 e < K) → s < 2 → (∀ i, e i < 2 ^ 27) → (∀ i, f i < 2 ^ 27) → (∀ s, s < g 0 → e s = b s) → BRn g e0 a v n b → (s = 0 → ∀ s, s < g 0 → boF g b a s = b s) → 49 ≤ n + KC →
    ((bdL g a v c K n s e f).2.1 c = 1000000 ↔ (bwN g a c KC n b).2 c = 1000000) ∧ ((bdL g a v c K n s e f).2.1 c ≠ 1000000 → (bdL g a v c K n s e f).1 = (bwN g a c KC n b).1)
  | K, n, s, e, f, b, KC, hK, hs2, he, hf, heb, hB, hfix, hKC => by
    have hini : iniE a v c ≤ 1000000 := by unfold iniE; split <;> omega
    by_cases hec : e c = 1000000
    · have hbc : b c = 1000000 := (heb c hc0).symm.trans hec
      by_cases hs1 : s = 1
      · -- one more round
        subst hs1
        obtain ⟨K, rfl⟩ : ∃ K2, K = K2 + 1 := ⟨K - 1, by have := hK rfl; omega⟩
        have hst : bdL g a v c (K + 1) n 1 e f = bdL g a v c K (n + 1) (riO (fun _ => e) g a v (0, mxN e f 8) (g 1)).1 (mxN (riO (fun _ => e) g a v (0, mxN e f 8) (g 1)).2 e 8) (riO (fun _ => e) g a v (0, mxN e f 8) (g 1)).2 := by
          conv => lhs; unfold bdL
          rw [if_pos ⟨rfl, hec⟩]
        obtain ⟨hB2, hav⟩ := hB.step hI hT hC hv ha0 hcl hsn
        have g8 := hI.2.1
        have hmx : ∀ s, s < g 0 → (mxN e f 8) s = b s := fun s hs => by unfold mxN; rw [if_pos (by omega)]; exact heb s hs
        have hok := riO_ok (R := fun _ => e) (a := a) (v := v) hI (show okR (mxN e f 8) ((0 : Nat), mxN e f 8).1 ((0 : Nat), mxN e f 8).2 from ⟨(show (0 : Nat) < 2 by decide), mxN_27 he hf, Nat.le_refl _⟩) (g 1) (Nat.le_refl _)
        have hs3 : smE 8 (mxN e f 8) = smE 8 e := smE_mx 8 (Nat.le_refl _)
        have hr := riO_cb (y := (0, mxN e f 8)) hI hT hC hav heb hmx (g 1) (Nat.le_refl _)
        generalize hR : riO (fun _ => e) g a v (0, mxN e f 8) (g 1) = R at hst hok hr
        obtain ⟨s2, f2⟩ := R
        obtain ⟨o1, o2, o3⟩ := hok
        dsimp only at o1 o2 o3
        have hs4 : smE 8 (mxN f2 e 8) = smE 8 f2 := smE_mx 8 (Nat.le_refl _)
        have heb2 : ∀ s, s < g 0 → (mxN f2 e 8) s = boF g b a s := fun s hs => by
          unfold mxN; rw [if_pos (by omega), boF_cb]; exact hr s hs
        have hfix2 : s2 = 0 → ∀ s, s < g 0 → boF g (boF g b a) a s = boF g b a s := by
          intro z
          have q := (riO_z (R := fun _ => e) (g := g) (a := a) (v := v) (y := (0, mxN e f 8)) (g 1) (by rw [hR]; exact z)).1
          rw [hR] at q
          have q2 : ∀ s, s < g 0 → boF g b a s = b s := fun s hs => by rw [boF_cb, ← hr s hs]; show f2 s = b s; rw [show f2 = mxN e f 8 from q]; exact hmx s hs
          have hav2 : boF g b a a = v := (q2 a ha0).trans hav
          have q3 := riO_cb (b := boF g b a) (e := b) (y := (0, b)) hI hT hC hav2 (fun s hs => (q2 s hs).symm) (fun s hs => (q2 s hs).symm) (g 1) (Nat.le_refl _)
          have q4 := riO_cb (b := b) (e := b) (y := (0, b)) hI hT hC hav (fun s hs => rfl) (fun s hs => rfl) (g 1) (Nat.le_refl _)
          intro s hs
          rw [boF_cb (b := boF g b a), ← q3 s hs, q4 s hs, ← boF_cb]
        cases KC with
        | zero =>
          -- the class has made its rounds: the labels are final
          have hcn : cnE g e0 c ≤ n := Nat.le_trans List.countP_le_length (by rw [List.length_range]; omega)
          have hfin : e0 c = 1000000 := by
            have q1 := hB.2.2 c hc0 hcn
            have q2 := hB.1 c hc0
            omega
          have hj := bd_join hI hT hC hv ha0 hc0 hcl hsn K (n + 1) s2 (mxN f2 e 8) f2 (boF g b a) 49 (fun z => by have := hK rfl; omega) o1 (mxN_27 o2 he) o2 heb2 hB2 hfix2 (by omega)
          rw [hst]
          have q := hj.1.mpr (bw_fix hI hT hC hv ha0 hc0 hcl hsn hfin 49 (n + 1) _ hB2)
          exact ⟨⟨fun _ => hbc, fun _ => q⟩, fun z => absurd q z⟩
        | succ KC =>
          rw [hst, bwN_s hbc]
          exact bd_join hI hT hC hv ha0 hc0 hcl hsn K (n + 1) s2 (mxN f2 e 8) f2 (boF g b a) KC (fun z => by have := hK rfl; omega) o1 (mxN_27 o2 he) o2 heb2 hB2 hfix2 (by omega)
      · -- no change any more
        rw [bdL_end (fun z => hs1 z.1)]
        have hs0 : s = 0 := by omega
        have hav := (hB.step hI hT hC hv ha0 hcl hsn).2
        have hclb : Clo g b a v := ⟨hB.2.1, fun t k hl ho => by
          rw [← hfix hs0 _ (hl.pl1 hI)]; exact (boF_inv hT hC hav).2.1 t k hl ho⟩
        have hfin : e0 c = 1000000 := by
          have q1 := hsn b hclb c hc0
          have q2 := hB.1 c hc0
          omega
        have q := bw_fix hI hT hC hv ha0 hc0 hcl hsn hfin KC n b hB
        exact ⟨⟨fun _ => q, fun _ => hec⟩, fun z => absurd hec z⟩
    · rw [bdL_end (fun z => hec z.2), bwN_end (fun z => hec ((heb c hc0).trans z))]
      exact ⟨by show e c = _ ↔ b c = _; rw [heb c hc0], fun _ => rfl⟩
termination_by K => K
/-- boardings: the reference's answer is the class's -/
theorem bdR_BW {n : Nat} {ge gt : Nat → Nat} {c : Nat} (h : INV n g) (ha0 : a < g 0) (hc0 : c < g 0) (hv : v ≤ 9999) (hge : ∀ i, ge i < 2 ^ 27) (hgt : ∀ i, gt i < 2 ^ 27) :
    ((bdR g a v c ge gt).2.1 c = 1000000 ↔ (BWv g a c v).2 c = 1000000) ∧ ((bdR g a v c ge gt).2.1 c ≠ 1000000 → (bdR g a v c ge gt).1 = (BWv g a c v).1) := by
  obtain ⟨d1, d2⟩ := goE_arr (a := a) (v := v) (e0 := fun _ => 0) h.W (by omega) (fun _ => by decide)
  have g8 := h.W.2.1
  have hb : ∀ s, s < g 0 → bgP a v (bgP a v (fun _ => 0) (g 0)) (g 0) s = iniE a v s := fun s hs => by unfold bgP iniE; rw [if_pos hs]
  refine bd_join h.W h.T h.L (by omega) ha0 hc0 d1 d2 _ 0 1 _ gt _ 49 (fun _ => Nat.lt_succ_self _) (by decide) (bgP_27 (by omega) hge 8) hgt (fun s hs => ?_) ⟨fun s hs => ?_, fun s hs => ?_, fun s hs hc => ?_⟩ (fun z => by cases z) (Nat.le_refl _)
  · rw [hb s hs]; unfold bgP iniE; rw [if_pos (by omega)]
  · rw [hb s hs]; exact d1.1 s hs
  · rw [hb s hs]; exact Nat.le_refl _
  · rw [hb s hs]
    by_cases q : s = a
    · subst q
      unfold iniE; rw [if_pos rfl]
      exact snd_v h.W h.T (by omega) d2 s hs
    · -- no station is earlier: so it is the start, or unreached
      have hz : cnE g (goE g a v (fun _ => 0)) s = 0 := by omega
      have hge2 : goE g a v (fun _ => 0) s ≤ goE g a v (fun _ => 0) a := by
        apply Nat.le_of_not_lt
        intro z
        have := cnE_lt (g := g) (e := goE g a v (fun _ => 0)) ha0 z
        omega
      have h1 := d1.1 a ha0
      unfold iniE at h1
      rw [if_pos rfl] at h1
      have h2 := snd_v h.W h.T (by omega) d2 s hs
      by_cases hlt : goE g a v (fun _ => 0) s < 1000000
      · obtain ⟨t, k, l1, l2, l3, l4⟩ := sup_leg h.W d1 d2 hs q hlt
        obtain ⟨j, j1, j2, j3⟩ := onP_bd l4
        have h3 := LvG_mono (g := g) (t := t) j1
        have h4 := (h.T t k l1).2.2
        have h5 : v ≤ LvG g t j := by
          rcases j2 with ⟨_, p⟩ | ⟨_, _, p⟩
          · exact p
          · have := snd_v h.W h.T (by omega) d2 _ ((l1.dn2 j1).pl0 h.W); omega
        omega
      · unfold iniE; rw [if_neg q]; omega
end BJ
