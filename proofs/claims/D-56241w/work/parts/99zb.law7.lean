set_option maxRecDepth 100000
/-! ===== the other changes keep the invariant ===== -/
theorem skI_lt {k i m : Nat} (hi : i < m - 1) : sk k i < m := by unfold sk; split <;> omega
theorem skI_mono {k i j : Nat} (h : i < j) : sk k i < sk k j := by unfold sk; split <;> split <;> omega
theorem dropN_b {g : Nat → Nat} {b k c i B : Nat} (h : ∀ i, g i < B) (hB : 0 < B) : dropN g b k c i < B := by
  unfold dropN z1N d1N
  split
  · exact hB
  · split
    · exact h _
    · exact h _
theorem up_b {g : Nat → Nat} {k v i B : Nat} (h : ∀ i, g i < B) (hv : v < B) : up g k v i < B := by
  unfold up; split
  · exact hv
  · exact h i
theorem up_bf {g : Nat → Nat} {k v B : Nat} (h : ∀ i, g i < B) (hv : v < B) : ∀ i, up g k v i < B := fun _ => up_b h hv
section IV2
variable {n : Nat} {g g2 : Nat → Nat}
theorem IVL.gen (hT : IVT g) (h : IVL g) (h1 : g2 1 = g 1) (h6 : g2 6 = g 6) (ht : ∀ i, 16 ≤ i → i < 232 → g2 i = g i) (hld : ∀ t k, LEG g t k → bkG g2 t k (g2 3) + g (16 + 36 * t + (28 + k)) ≤ g (16 + 36 * t + 0)) : IVL g2 := by
  obtain ⟨a, b⟩ := h
  have t6 := hT.1
  have hl : ∀ {t k}, LEG g2 t k → LEG g t k := fun {t k} q => ⟨h1 ▸ q.1, by have h9 : t < g 1 := h1 ▸ q.1; have := ht (16 + 36 * t + 3) (by omega) (by omega); have := q.2; omega⟩
  refine ⟨fun t k q => ?_, ?_⟩
  · have q' := hl q
    have h8 := hT.2.1 t q'.1
    have q1 := q'.1
    have hk := q'.2
    show bkG g2 t k (g2 3) + g2 (16 + 36 * t + (28 + k)) ≤ _
    rw [ht (16 + 36 * t + (28 + k)) (by omega) (by omega), ht (16 + 36 * t + 0) (by omega) (by omega)]
    exact hld t k q'
  · rw [h6, lgL_cg h1 (fun t q => ht _ (by omega) (by omega)), b]
    congr 1
    exact (fold_cg (fun x hx => by
      obtain ⟨q1, q2⟩ := mem_lgL.mp hx
      have h8 := hT.2.1 _ q1
      exact ht _ (by omega) (by omega))).symm
theorem inv_CO {k : Nat} (h : INV n g) (hn : n < 1000) (hk : k < g 2) : INV (n + 1) (nxCO g k) := by
  obtain ⟨S, T, C, B, L, N⟩ := INV.iff.mp h
  have c8 := C.1
  have s8 := S.1
  have t6 := T.1
  have lo : ∀ i, i < 232 → i ≠ 2 → i ≠ 7 → nxCO g k i = g i := fun i a b c => nxCO_lo a b c
  have hi : ∀ i, 264 ≤ i → nxCO g k i = g i := fun i a => nxCO_hi c8 (by omega) a
  have e : ∀ i j, i < g 2 - 1 → j < 4 → nxCO g k (232 + 4 * i + j) = g (232 + 4 * sk k i + j) := fun i j a b => nxCO_e c8 a b
  have h0 : nxCO g k 0 = g 0 := lo 0 (by omega) (by omega) (by omega)
  have h1 : nxCO g k 1 = g 1 := lo 1 (by omega) (by omega) (by omega)
  have h4 : nxCO g k 4 = g 4 := lo 4 (by omega) (by omega) (by omega)
  refine INV.iff.mpr ⟨⟨by rw [h0]; exact S.1, fun s hs => ?_⟩, T.cg (Nat.le_of_eq h0.symm) h1 (fun i a b => lo i (by omega) (by omega) (by omega)), ⟨by rw [nxCO_2]; omega, fun i j a b => ?_, fun i a => ?_, by rw [nxCO_2, h4]; have := C.2.2.2.1; omega, fun i a => ?_⟩, B.cg (Nat.le_of_eq h1.symm) (lo 3 (by omega) (by omega) (by omega)) (lo 5 (by omega) (by omega) (by omega)) (fun i a b => hi i a) (fun u hu => by rw [lo _ (by omega) (by omega) (by omega)]; exact Nat.le_refl _), L.cgA T h1 (lo 3 (by omega) (by omega) (by omega)) (lo 6 (by omega) (by omega) (by omega)) B.1 (fun i a b => lo i b (by omega) (by omega)) (fun i a b => hi i a), ⟨fun i => ?_, ?_⟩⟩
  · rw [h0] at hs; rw [lo _ (by omega) (by omega) (by omega)]; exact S.2 s hs
  · rw [nxCO_2] at b; rw [e i 0 (by omega) (by decide), e j 0 (by omega) (by decide)]; exact C.2.1 _ _ (skI_mono a) (skI_lt (by omega))
  · rw [nxCO_2] at a; rw [e i 0 (by omega) (by decide), h4]; exact C.2.2.1 _ (skI_lt (by omega))
  · rw [nxCO_2] at a; rw [e i 1 (by omega) (by decide), e i 2 (by omega) (by decide), e i 3 (by omega) (by decide), h0]; exact C.2.2.2.2 _ (skI_lt (by omega))
  · have hg : ∀ i, dropN (up g 2 (g 2 - 1)) 232 k (g 2 - 1) i < 2 ^ 19 := fun i => dropN_b (fun i => up_b N.1 (by have := N.1 2; omega)) (by decide)
    have h7 := N.2
    show up _ 7 _ i < _
    refine up_b hg ?_
    rw [dropN_lo (by omega), up_n (by omega)]; omega
  · rw [h4, nxCO_7, lo 5 (by omega) (by omega) (by omega)]; have := N.2; omega
theorem inv_CB {k : Nat} (h : INV n g) (hk : k < g 3) : INV (n + 1) (nxCB g k) := by
  obtain ⟨S, T, C, B, L, N⟩ := INV.iff.mp h
  have c8 := C.1
  have s8 := S.1
  have t6 := T.1
  have b10 := B.1
  have lo : ∀ i, i < 264 → i ≠ 3 → nxCB g k i = g i := fun i a b => nxCB_lo a b
  have e : ∀ i j, i < g 3 - 1 → j < 4 → nxCB g k (264 + 4 * i + j) = g (264 + 4 * sk k i + j) := fun i j a b => nxCB_e a b
  have h0 : nxCB g k 0 = g 0 := lo 0 (by omega) (by omega)
  have h1 : nxCB g k 1 = g 1 := lo 1 (by omega) (by omega)
  have h5 : nxCB g k 5 = g 5 := lo 5 (by omega) (by omega)
  refine INV.iff.mpr ⟨⟨by rw [h0]; exact S.1, fun s hs => ?_⟩, T.cg (Nat.le_of_eq h0.symm) h1 (fun i a b => lo i (by omega) (by omega)), C.cg (Nat.le_of_eq h0.symm) (lo 2 (by omega) (by omega)) (lo 4 (by omega) (by omega)) (fun i a b => lo i (by omega) (by omega)), ⟨by rw [nxCB_3]; omega, fun i j a b => ?_, fun i a => ?_, by rw [nxCB_3, h5]; have := B.2.2.2.1; omega, fun i a => ?_⟩, L.gen T h1 (lo 6 (by omega) (by omega)) (fun i a b => lo i (by omega) (by omega)) (fun t j q => ?_), N.cg (lo 4 (by omega) (by omega)) h5 (lo 7 (by omega) (by omega)) (fun i => ?_)⟩
  · rw [h0] at hs; rw [lo _ (by omega) (by omega)]; exact S.2 s hs
  · rw [nxCB_3] at b; rw [e i 0 (by omega) (by decide), e j 0 (by omega) (by decide)]; exact B.2.1 _ _ (skI_mono a) (skI_lt (by omega))
  · rw [nxCB_3] at a; rw [e i 0 (by omega) (by decide), h5]; exact B.2.2.1 _ (skI_lt (by omega))
  · rw [nxCB_3] at a
    rw [e i 1 (by omega) (by decide), e i 2 (by omega) (by decide), e i 3 (by omega) (by decide), h1]
    obtain ⟨e1, e2, e3⟩ := B.2.2.2.2 _ (skI_lt (k := k) (show i < g 3 - 1 by omega))
    rw [lo _ (by omega) (by omega)]
    exact ⟨e1, e2, e3⟩
  · have q1 := bkG_cb (t := t) (j := j) hk
    have q2 : bkG g t j (g 3) + g (16 + 36 * t + (28 + j)) ≤ g (16 + 36 * t + 0) := L.1 t j q
    omega
  · exact dropN_b (fun i => up_b N.1 (by have := N.1 3; omega)) (by decide)
theorem anyB_z {t f : Nat} : ∀ {l : Nat}, ¬ 0 < anyB g t f l → ∀ j, f ≤ j → j < l → ldG g t j < g (16 + 36 * t + 0)
  | 0, _, j, _, h => absurd h (Nat.not_lt_zero j)
  | l + 1, h, j, hf, hl => by
    unfold anyB at h
    by_cases q : anyB g t f l = 1 ∨ (f ≤ l ∧ g (16 + 36 * t + 0) ≤ ldG g t l)
    · rw [if_pos q] at h; omega
    · by_cases e : j = l
      · subst e
        have := fun z => q (Or.inr ⟨hf, z⟩)
        omega
      · exact anyB_z (l := l) (fun z => q (Or.inl (by have := anyB_01 (g := g) (t := t) (f := f) (j := l); omega))) j hf (by omega)
theorem inv_BK {u f l : Nat} (h : INV n g) (hn : n < 1000) (h3 : g 3 < 10) (hu : u < g 1) (hf : f < l) (hl : l < g (16 + 36 * u + 3)) (ha : ¬ 0 < anyB g u f l) : INV (n + 1) (nxBK g u f l) := by
  obtain ⟨S, T, C, B, L, N⟩ := INV.iff.mp h
  have c8 := C.1
  have s8 := S.1
  have t6 := T.1
  have b10 := B.1
  have lo : ∀ i, i < 264 → i ≠ 3 → i ≠ 5 → nxBK g u f l i = g i := fun i a b c => nxBK_o (by omega) (by omega) (by omega) (by omega) b c
  have e : ∀ i j, i < g 3 → j < 4 → nxBK g u f l (264 + 4 * i + j) = g (264 + 4 * i + j) := fun i j a b => nxBK_o (by omega) (by omega) (by omega) (by omega) (by omega) (by omega)
  have h0 : nxBK g u f l 0 = g 0 := lo 0 (by omega) (by omega) (by omega)
  have h1 : nxBK g u f l 1 = g 1 := lo 1 (by omega) (by omega) (by omega)
  refine INV.iff.mpr ⟨⟨by rw [h0]; exact S.1, fun s hs => ?_⟩, T.cg (Nat.le_of_eq h0.symm) h1 (fun i a b => lo i (by omega) (by omega) (by omega)), C.cg (Nat.le_of_eq h0.symm) (lo 2 (by omega) (by omega) (by omega)) (lo 4 (by omega) (by omega) (by omega)) (fun i a b => lo i (by omega) (by omega) (by omega)), ⟨by rw [nxBK_3]; omega, fun i j a b => ?_, fun i a => ?_, by rw [nxBK_3, nxBK_5]; have := B.2.2.2.1; omega, fun i a => ?_⟩, L.gen T h1 (lo 6 (by omega) (by omega) (by omega)) (fun i a b => lo i (by omega) (by omega) (by omega)) (fun t j q => ?_), ⟨fun i => ?_, ?_⟩⟩
  · rw [h0] at hs; rw [lo _ (by omega) (by omega) (by omega)]; exact S.2 s hs
  · rw [nxBK_3] at b
    rw [e i 0 (by omega) (by decide)]
    by_cases z : j = g 3
    · rw [z, nxBK_i]; exact B.2.2.1 i (by omega)
    · rw [e j 0 (by omega) (by decide)]; exact B.2.1 i j a (by omega)
  · rw [nxBK_3] at a
    rw [nxBK_5]
    by_cases z : i = g 3
    · rw [z, nxBK_i]; omega
    · rw [e i 0 (by omega) (by decide)]; have := B.2.2.1 i (by omega); omega
  · rw [nxBK_3] at a
    rw [h1]
    by_cases z : i = g 3
    · rw [z, nxBK_t, nxBK_f, nxBK_l, lo _ (by omega) (by omega) (by omega)]; exact ⟨hu, hf, hl⟩
    · rw [e i 1 (by omega) (by decide), e i 2 (by omega) (by decide), e i 3 (by omega) (by decide)]
      obtain ⟨e1, e2, e3⟩ := B.2.2.2.2 i (by omega)
      rw [lo _ (by omega) (by omega) (by omega)]
      exact ⟨e1, e2, e3⟩
  · rw [bkG_bk]
    have q2 : bkG g t j (g 3) + g (16 + 36 * t + (28 + j)) ≤ g (16 + 36 * t + 0) := L.1 t j q
    split
    · rename_i z
      obtain ⟨rfl, z2, z3⟩ := z
      have q3 : bkG g u j (g 3) + g (16 + 36 * u + (28 + j)) < g (16 + 36 * u + 0) := anyB_z ha j z2 z3
      omega
    · omega
  · have n5 := N.2
    have g1 := N.1 1
    have gs := N.1 (16 + 36 * u + 3)
    exact up_bf (up_bf (up_bf (up_bf (up_bf (up_bf N.1 (N.1 5)) (by omega)) (by omega)) (by omega)) (by omega)) (by omega) i
  · rw [lo 4 (by omega) (by omega) (by omega), nxBK_5, lo 7 (by omega) (by omega) (by omega)]; have := N.2; omega
end IV2
