set_option maxRecDepth 100000
/-! ===== a suitcase sent: the invariant is kept ===== -/
section SND
variable {n : Nat} {g e R : Nat → Nat} {a v t : Nat}
theorem dnK_ge : ∀ {k j : Nat}, j ≤ k → cbG g e a v t j → j ≤ dnK g e a v t k
  | 0, j, h, _ => by omega
  | k + 1, j, h, hc => by
    unfold dnK
    split
    · omega
    · rename_i q
      exact dnK_ge (k := k) (Nat.le_of_not_lt (fun z => q (by rw [show k + 1 = j by omega]; exact hc))) hc
theorem dnK_le : ∀ k, dnK g e a v t k ≤ k
  | 0 => Nat.le_refl _
  | k + 1 => by
    unfold dnK
    split
    · exact Nat.le_refl _
    · exact Nat.le_succ_of_le (dnK_le k)
theorem dnL_ge {p : Nat × Nat} : ∀ {k : Nat}, p ∈ dnL g e a v t k → dnK g e a v t k ≤ p.2
  | 0, h => by exact Nat.zero_le _
  | k + 1, h => by
    unfold dnL at h
    unfold dnK
    by_cases q : cbG g e a v t (k + 1)
    · rw [if_pos q] at h ⊢
      rw [List.mem_singleton.mp h]; exact Nat.le_refl _
    · rw [if_neg q] at h ⊢
      rcases List.mem_cons.mp h with rfl | h
      · exact Nat.le_succ_of_le (dnK_le k)
      · exact dnL_ge h
theorem dnL_nodup : ∀ k, (dnL g e a v t k).Nodup
  | 0 => by unfold dnL; exact List.nodup_cons.mpr ⟨List.not_mem_nil, List.nodup_nil⟩
  | k + 1 => by
    unfold dnL
    split
    · exact List.nodup_cons.mpr ⟨List.not_mem_nil, List.nodup_nil⟩
    · exact List.nodup_cons.mpr ⟨fun h => by have := (dnL_mem k h).2; omega, dnL_nodup k⟩
theorem CmG_mono {i k : Nat} (h : i ≤ k) : CmG g t (i + 1) ≤ CmG g t (k + 1) := by
  rcases Nat.eq_or_lt_of_le h with rfl | h
  · exact Nat.le_refl _
  · have h1 := LvG_CmG (g := g) (t := t) (k := i)
    have h2 := LvG_mono (g := g) (t := t) (show i + 1 ≤ k from h)
    have h3 : CmG g t (k + 1) = LvG g t k + g (16 + 36 * t + (4 + 3 * (k + 1) + 1)) := rfl
    omega
/-- the legs ridden are apart, have room, and arrive no later than the goal's label -/
theorem ltG_good (hI : GW g) (hT : TmC g) (hA : ARR g a v e R) (ha : a < g 0) : ∀ K s, s < g 0 → e s < 1000000 → (ltG g e R a v K s).Nodup ∧ ∀ p, p ∈ ltG g e R a v K s → CmG g p.1 (p.2 + 1) ≤ e s ∧ ldG g p.1 p.2 < g (16 + 36 * p.1 + 0)
  | 0, s, _, _ => ⟨List.nodup_nil, fun p hp => by cases hp⟩
  | K + 1, s, hs, hlt => by
    unfold ltG
    by_cases hsa : s = a
    · rw [if_pos hsa]; exact ⟨List.nodup_nil, fun p hp => by cases hp⟩
    rw [if_neg hsa]
    obtain ⟨t, k, hll, ho⟩ := llG_sup hI hA hs hsa hlt
    rw [hll]
    obtain ⟨hj, hd⟩ := ll_dn hT hA ha hll ho
    obtain ⟨hl, -, h2, -⟩ := llG_at hll
    obtain ⟨hc, hk⟩ := dnK_at hj
    have hld := hl.dn2 hk
    obtain ⟨ih1, ih2⟩ := ltG_good hI hT hA ha K (plG g t (dnK g e a v t k)) (hld.pl0 hI) (by omega)
    obtain ⟨j, hj1, hj2, hj3⟩ := onP_bd ho
    have hjk : j ≤ dnK g e a v t k := dnK_ge hj1 ((cb_bd (hT t j (hl.dn2 hj1)).1).mpr hj2)
    have hT1 := hT t _ hld
    have hlab : e (plG g t (dnK g e a v t k)) ≤ LvG g t (dnK g e a v t k) := by
      have hb : bmG g e a v (plG g t (dnK g e a v t k)) ≤ LvG g t (dnK g e a v t k) := hc
      unfold bmG at hb
      split at hb
      · rename_i q
        have h6 := hA.1.1 a ha
        unfold iniE at h6
        rw [if_pos rfl] at h6
        rw [q]; omega
      · omega
    show (dnL g e a v t k ++ ltG g e R a v K (plG g t (dnK g e a v t k))).Nodup ∧ _
    refine ⟨List.nodup_append.mpr ⟨dnL_nodup k, ih1, fun p hp q hq hpq => ?_⟩, fun p hp => ?_⟩
    · subst hpq
      obtain ⟨e1, e2⟩ := dnL_mem k hp
      have e3 := dnL_ge hp
      have e4 := (ih2 p hq).1
      have e5 := hT t p.2 (hl.dn2 e2)
      have e6 := LvG_mono (g := g) (t := t) e3
      rw [e1] at e4
      omega
    · rcases List.mem_append.mp hp with hp | hp
      · obtain ⟨e1, e2⟩ := dnL_mem k hp
        have e3 := dnL_ge hp
        have e4 := CmG_mono (g := g) (t := t) e2
        have e5 := hj3 p.2 (by omega) e2
        rw [e1]
        exact ⟨by omega, by omega⟩
      · obtain ⟨e1, e2⟩ := ih2 p hp
        exact ⟨by omega, e2⟩
/-- one leg is taken: the coins -/
def stW (g : Nat → Nat) (p : Nat × Nat) : Nat → Nat := up (upL g p) 6 (upL g p 6 + 2)
theorem stW_o {p : Nat × Nat} {i : Nat} (h6 : i ≠ 6) (h : i ≠ ixL p) : stW g p i = g i := by unfold stW upL; rw [up_n h6, up_n h]
theorem stW_ix {p : Nat × Nat} : stW g p (ixL p) = g (ixL p) + 1 := by unfold stW upL; rw [up_n (by unfold ixL; omega), up_s]
theorem stW_6 {p : Nat × Nat} : stW g p 6 = g 6 + 2 := by unfold stW upL; rw [up_s, up_n (by unfold ixL; omega)]
theorem fold_one {α : Type} {f f2 : α → Nat} {p : α} (hp : f2 p = f p + 1) : ∀ {L : List α} {a : Nat}, L.Nodup → p ∈ L → (∀ x, x ∈ L → x ≠ p → f2 x = f x) → L.foldl (fun a x => a + f2 x) a = L.foldl (fun a x => a + f x) a + 1
  | [], _, _, h, _ => by cases h
  | x :: L, a, hn, h, hx => by
    obtain ⟨n1, n2⟩ := List.nodup_cons.mp hn
    show L.foldl _ (a + f2 x) = L.foldl _ (a + f x) + 1
    by_cases q : x = p
    · subst q
      rw [fold_cg (f := f) (f2 := f2) (fun y hy => hx y (List.mem_cons_of_mem _ hy) (fun z => n1 (z ▸ hy))), hp]
      have : ∀ (L : List α) (b : Nat), L.foldl (fun a x => a + f x) (b + 1) = L.foldl (fun a x => a + f x) b + 1 := by
        intro L
        induction L with
        | nil => intro b; rfl
        | cons y L ih =>
          intro b
          show L.foldl _ (b + 1 + f y) = L.foldl _ (b + f y) + 1
          rw [show b + 1 + f y = b + f y + 1 by omega]; exact ih _
      rw [show a + (f x + 1) = a + f x + 1 by omega]
      exact this L _
    · rw [hx x List.mem_cons_self q]
      exact fold_one hp n2 ((List.mem_cons.mp h).resolve_left (fun z => q z.symm)) (fun y hy => hx y (List.mem_cons_of_mem _ hy))
def COI (g : Nat → Nat) : Prop := g 6 = 2 * ((lgL g).foldl (fun (a : Nat) (x : Nat × Nat) => a + (g (16 + 36 * x.1 + (28 + x.2)))) 0)
def SM8 (g : Nat → Nat) : Prop := ∀ t, t < g 1 → t < 6 ∧ g (16 + 36 * t + 3) ≤ 8
theorem LEG.k7 {k : Nat} (h8 : SM8 g) (h : LEG g t k) : t < 6 ∧ k < 7 := by have := h8 t h.1; have := h.2; omega
theorem stW_lg {p : Nat × Nat} (h8 : SM8 g) (hp : LEG g p.1 p.2) : stW g p 1 = g 1 ∧ ∀ t, stW g p (16 + 36 * t + 3) = g (16 + 36 * t + 3) := by
  have := hp.k7 h8
  exact ⟨stW_o (by decide) (by unfold ixL; omega), fun t => stW_o (by omega) (by unfold ixL; omega)⟩
theorem stW_co {p : Nat × Nat} (h8 : SM8 g) (hp : LEG g p.1 p.2) (hc : COI g) : COI (stW g p) := by
  obtain ⟨e1, e3⟩ := stW_lg h8 hp
  unfold COI at hc ⊢
  rw [stW_6, lgL_cg e1 (fun t _ => e3 t), hc, fold_one (f := fun x => g (16 + 36 * x.1 + (28 + x.2))) (f2 := fun x => stW g p (16 + 36 * x.1 + (28 + x.2))) (p := p) stW_ix lgL_nodup (mem_lgL.mpr hp) (fun x hx hne => ?_)]
  · omega
  · obtain ⟨x1, x2⟩ := x
    have h1 := LEG.k7 h8 (mem_lgL.mp hx)
    have h2 := hp.k7 h8
    refine stW_o (by omega) (fun z => hne ?_)
    obtain ⟨p1, p2⟩ := p
    unfold ixL at z
    simp only at z h2 ⊢
    exact Prod.ext (by show x1 = p1; omega) (by show x2 = p2; omega)
theorem stW_8 {p : Nat × Nat} (h8 : SM8 g) (hp : LEG g p.1 p.2) : SM8 (stW g p) := by
  obtain ⟨e1, e3⟩ := stW_lg h8 hp
  intro t ht
  rw [e3]; exact h8 t (by omega)
theorem stW_leg {p : Nat × Nat} {k : Nat} (h8 : SM8 g) (hp : LEG g p.1 p.2) : LEG (stW g p) t k ↔ LEG g t k := by
  obtain ⟨e1, e3⟩ := stW_lg h8 hp
  unfold LEG; rw [e1, e3]
theorem cinS_co : ∀ {L : List (Nat × Nat)} {g : Nat → Nat}, SM8 g → (∀ p, p ∈ L → LEG g p.1 p.2) → COI g → COI (cinS g L)
  | [], _, _, _, h => h
  | p :: L, g, h8, hL, h => by
    have hp := hL p List.mem_cons_self
    exact cinS_co (L := L) (g := stW g p) (stW_8 h8 hp) (fun q hq => (stW_leg h8 hp).mpr (hL q (List.mem_cons_of_mem _ hq))) (stW_co h8 hp h)
theorem ixL_inj {p q : Nat × Nat} (hp : p.2 < 7) (hq : q.2 < 7) (h : ixL p = ixL q) : p = q := by
  unfold ixL at h; exact Prod.ext (by omega) (by omega)
theorem cinS_ix : ∀ {L : List (Nat × Nat)} {g : Nat → Nat} {p : Nat × Nat}, (∀ q, q ∈ L → q.2 < 7) → L.Nodup → p ∈ L → cinS g L (ixL p) = g (ixL p) + 1
  | [], _, _, _, _, h => by cases h
  | q :: L, g, p, h7, hn, h => by
    obtain ⟨n1, n2⟩ := List.nodup_cons.mp hn
    have hp7 := h7 p h
    have h1 : cinS g (q :: L) = cinS (stW g q) L := rfl
    have i6 : ixL p ≠ 6 := by unfold ixL; omega
    rw [h1]
    by_cases e : p = q
    · subst e
      rw [cinS_o i6 (fun r hr z => n1 (ixL_inj (h7 r (List.mem_cons_of_mem _ hr)) hp7 z ▸ hr)), stW_ix]
    · rw [cinS_ix (fun r hr => h7 r (List.mem_cons_of_mem _ hr)) n2 ((List.mem_cons.mp h).resolve_left e), stW_o i6 (fun z => e (ixL_inj hp7 (h7 q List.mem_cons_self) z))]
theorem inv_SC {k et : Nat} {L : List (Nat × Nat)} (h : INV n g) (hk : k < g 2) (hL : ∀ p, p ∈ L → LEG g p.1 p.2) (hn : L.Nodup) (hr : ∀ p, p ∈ L → ldG g p.1 p.2 < g (16 + 36 * p.1 + 0)) (hlen : L.length ≤ 56) (het : et ≤ 9999) (h6b : 2 * ((lgL g).foldl (fun (a : Nat) (x : Nat × Nat) => a + (g (16 + 36 * x.1 + (28 + x.2)))) 0) ≤ 420) : INV (n + 1) (nxSC g k L et) := by
  have hI := h.W
  obtain ⟨S, T, C, B, LL, N⟩ := INV.iff.mp h
  have c8 := C.1
  have s8 := S.1
  have t6 := T.1
  have b10 := B.1
  have h8 : SM8 g := fun t ht => ⟨by omega, (T.2.1 t ht).2⟩
  have o2 : ∀ i, i < 232 → nxSC g k L et i = cinS g L i := fun i a => by unfold nxSC; rw [up_n (by omega), up_n (by omega)]
  have hi : ∀ i, 264 ≤ i → nxSC g k L et i = g i := fun i a => by unfold nxSC; rw [up_n (by omega), up_n (by omega)]; exact cinS_hi hI hL (by omega)
  have lo : ∀ i, i < 16 → i ≠ 6 → nxSC g k L et i = g i := fun i a b => by rw [o2 i (by omega)]; exact cinS_lo hI hL a b
  have ot : ∀ t j, t < 6 → j < 28 → nxSC g k L et (16 + 36 * t + j) = g (16 + 36 * t + j) := fun t j a b => by rw [o2 _ (by omega)]; exact cinS_tr hI hL b
  have h0 : nxSC g k L et 0 = g 0 := lo 0 (by decide) (by decide)
  have h1 : nxSC g k L et 1 = g 1 := lo 1 (by decide) (by decide)
  have h2 : nxSC g k L et 2 = g 2 := lo 2 (by decide) (by decide)
  have h4 : nxSC g k L et 4 = g 4 := lo 4 (by decide) (by decide)
  have hc : ∀ i j, i < 8 → j < 4 → i ≠ k ∨ j = 0 ∨ j = 2 → nxSC g k L et (232 + 4 * i + j) = g (232 + 4 * i + j) := fun i j a b c => by
    unfold nxSC; rw [up_n (by omega), up_n (by omega)]; exact cinS_hi hI hL (by omega)
  have hno : ∀ t j, 28 ≤ j → j < 36 → t < 6 → (∀ p, p ∈ L → p ≠ (t, j - 28)) → nxSC g k L et (16 + 36 * t + j) = g (16 + 36 * t + j) := fun t j a b c d => by
    rw [o2 _ (by omega)]
    refine cinS_o (by omega) (fun p hp z => ?_)
    have := (hL p hp).k7 h8
    unfold ixL at z
    exact d p hp (Prod.ext (by show p.1 = t; omega) (by show p.2 = j - 28; omega))
  have hleg : ∀ t k2, LEG (nxSC g k L et) t k2 → LEG g t k2 := fun t k2 q => by
    obtain ⟨q1, q2⟩ := q
    rw [h1] at q1
    rw [ot t 3 (by omega) (by decide)] at q2
    exact ⟨q1, q2⟩
  refine INV.iff.mpr ⟨⟨by rw [h0]; exact S.1, fun s hs => ?_⟩, ⟨by rw [h1]; exact t6, fun t q => ?_, fun t j q r => ?_, fun t q r j hj => ?_, fun t q => ?_, fun t j q r r2 => ?_⟩, ⟨by rw [h2]; exact c8, fun i j q r => ?_, fun i q => ?_, by rw [h2, h4]; exact C.2.2.2.1, fun i q => ?_⟩, B.cg (Nat.le_of_eq h1.symm) (lo 3 (by decide) (by decide)) (lo 5 (by decide) (by decide)) (fun i a b => hi i a) (fun u hu => by rw [ot u 3 (by omega) (by decide)]; exact Nat.le_refl _), ⟨fun t j q => ?_, ?_⟩, N.cg h4 (lo 5 (by decide) (by decide)) (lo 7 (by decide) (by decide)) (fun i => ?_)⟩
  · rw [h0] at hs; rw [lo _ (by omega) (by omega)]; exact S.2 s hs
  · rw [h1] at q; rw [ot t 3 (by omega) (by decide)]; exact T.2.1 t q
  · rw [h1] at q; rw [ot t 3 (by omega) (by decide)] at r
    have := T.2.1 t q
    show nxSC g k L et (16 + 36 * t + (4 + 3 * j)) < _
    rw [ot t _ (by omega) (by omega), h0]; exact T.2.2.1 t j q r
  · rw [h1] at q
    by_cases z : j < 28
    · rw [ot t j r z]; exact T.2.2.2.1 t q r j hj
    · rw [hno t j (by omega) hj r (fun p hp e => by have := (hL p hp).1; rw [e] at this; have : t < g 1 := this; omega)]; exact T.2.2.2.1 t q r j hj
  · rw [h1] at q
    obtain ⟨e1, e2, e3, e4⟩ := T.2.2.2.2.1 t q
    have h9 := T.2.1 t q
    rw [ot t 0 (by omega) (by decide), ot t 1 (by omega) (by decide), ot t 2 (by omega) (by decide), ot t 3 (by omega) (by decide)]
    refine ⟨e1, e2, e3, fun j a b => ?_⟩
    rw [ot t _ (by omega) (by omega), ot t _ (by omega) (by omega)]; exact e4 j a b
  · rw [h1] at q; rw [ot t 3 (by omega) (by decide)] at r
    rw [hno t (28 + j) (by omega) (by omega) (by omega) (fun p hp e => by
      have h9 := (hL p hp).2
      rw [e] at h9
      have h9 : 28 + j - 28 < g (16 + 36 * t + 3) - 1 := h9
      omega)]
    exact T.2.2.2.2.2 t j q r r2
  · rw [h2] at r; rw [hc i 0 (by omega) (by decide) (by omega), hc j 0 (by omega) (by decide) (by omega)]; exact C.2.1 i j q r
  · rw [h2] at q; rw [hc i 0 (by omega) (by decide) (by omega), h4]; exact C.2.2.1 i q
  · rw [h2] at q
    rw [h0]
    by_cases z : i = k
    · subst z
      have e1 : nxSC g i L et (232 + 4 * i + 1) = g (232 + 4 * i + 2) := by unfold nxSC; rw [up_n (by omega), up_s]
      have e3 : nxSC g i L et (232 + 4 * i + 3) = et := by unfold nxSC; rw [up_s]
      rw [e1, e3, hc i 2 (by omega) (by decide) (by omega)]
      have := C.2.2.2.2 i q
      exact ⟨this.2.1, this.2.1, het⟩
    · rw [hc i 1 (by omega) (by decide) (by omega), hc i 2 (by omega) (by decide) (by omega), hc i 3 (by omega) (by decide) (by omega)]; exact C.2.2.2.2 i q
  · have q' := hleg t j q
    have q7 := q'.k7 h8
    have q0 : bkG g t j (g 3) + g (16 + 36 * t + (28 + j)) ≤ g (16 + 36 * t + 0) := LL.1 t j q'
    show bkG (nxSC g k L et) t j (nxSC g k L et 3) + nxSC g k L et (16 + 36 * t + (28 + j)) ≤ _
    rw [bkG_cg (lo 3 (by decide) (by decide)) (fun a b c d => hi _ (by omega)), ot t 0 (by omega) (by decide)]
    by_cases z : (t, j) ∈ L
    · have e1 : nxSC g k L et (16 + 36 * t + (28 + j)) = g (16 + 36 * t + (28 + j)) + 1 := by
        rw [o2 _ (by omega)]
        exact cinS_ix (p := (t, j)) (fun q hq => ((hL q hq).k7 h8).2) hn z
      have e2 : bkG g t j (g 3) + g (16 + 36 * t + (28 + j)) < g (16 + 36 * t + 0) := hr (t, j) z
      rw [e1]; omega
    · rw [hno t (28 + j) (by omega) (by omega) (by omega) (fun p hp e => z (by rw [e, show 28 + j - 28 = j by omega] at hp; exact hp))]
      exact q0
  · have hco := cinS_co h8 hL LL.2
    unfold COI at hco
    rw [o2 6 (by decide), hco]
    have e1 : cinS g L 1 = g 1 := cinS_lo hI hL (by decide) (by decide)
    have e3 : ∀ t, cinS g L (16 + 36 * t + 3) = g (16 + 36 * t + 3) := fun t => cinS_tr hI hL (by decide)
    rw [lgL_cg e1 (fun t _ => e3 t), lgL_cg h1 (fun t q => ot t 3 (by omega) (by decide))]
    congr 1
    exact fold_cg (fun x hx => by
      have h7 := LEG.k7 h8 (mem_lgL.mp hx)
      exact (o2 _ (by omega)).symm)
  · have g0 := N.1 (232 + 4 * k + 2)
    by_cases z3 : i = 232 + 4 * k + 3
    · have e3 : nxSC g k L et (232 + 4 * k + 3) = et := by unfold nxSC; rw [up_s]
      rw [z3, e3]; omega
    by_cases z1 : i = 232 + 4 * k + 1
    · have e1 : nxSC g k L et (232 + 4 * k + 1) = g (232 + 4 * k + 2) := by unfold nxSC; rw [up_n (by omega), up_s]
      rw [z1, e1]; exact g0
    have e : nxSC g k L et i = cinS g L i := by unfold nxSC; rw [up_n z3, up_n z1]
    rw [e]
    by_cases z : ∃ p, p ∈ L ∧ ixL p = i
    · obtain ⟨p, hp, rfl⟩ := z
      rw [cinS_ix (fun q hq => ((hL q hq).k7 h8).2) hn hp]
      have h5 := hr p hp
      have h5 : bkG g p.1 p.2 (g 3) + g (16 + 36 * p.1 + (28 + p.2)) < g (16 + 36 * p.1 + 0) := h5
      have h9 := (T.2.2.2.2.1 p.1 (hL p hp).1).1.2
      show g (16 + 36 * p.1 + (28 + p.2)) + 1 < _
      omega
    · by_cases z6 : i = 6
      · have h7 := cinS_le (g := g) (L := L) (i := 6)
        have h9 := LL.2
        rw [z6]; omega
      · rw [cinS_o z6 (fun p hp e => z ⟨p, hp, e⟩)]; exact N.1 i
end SND
