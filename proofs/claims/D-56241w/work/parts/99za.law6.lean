set_option maxRecDepth 100000
/-! ===== every change keeps the invariant ===== -/
/-- the stations; the trains; the cases; the bookings; the loads -/
def IVS (g : Nat → Nat) : Prop := g 0 ≤ 8 ∧ ∀ s, s < g 0 → 1 ≤ g (8 + s) ∧ g (8 + s) ≤ 30
def IVT (g : Nat → Nat) : Prop := g 1 ≤ 6 ∧ (∀ t, t < g 1 → 1 ≤ g (16 + 36 * t + 3) ∧ g (16 + 36 * t + 3) ≤ 8) ∧ (∀ t k, t < g 1 → k < g (16 + 36 * t + 3) → plG g t k < g 0) ∧
  (∀ t, g 1 ≤ t → t < 6 → ∀ j, j < 36 → g (16 + 36 * t + j) = 0) ∧
  (∀ t, t < g 1 → (1 ≤ g (16 + 36 * t + 0) ∧ g (16 + 36 * t + 0) ≤ 5) ∧ g (16 + 36 * t + 1) ≤ 1439 ∧ g (16 + 36 * t + 2) ≤ 120 ∧ ∀ k, 0 < k → k < g (16 + 36 * t + 3) → (1 ≤ g (16 + 36 * t + (4 + 3 * k + 1)) ∧ g (16 + 36 * t + (4 + 3 * k + 1)) ≤ 300) ∧ g (16 + 36 * t + (4 + 3 * k + 2)) ≤ 60) ∧
  (∀ t k, t < g 1 → g (16 + 36 * t + 3) ≤ k + 1 → k < 8 → g (16 + 36 * t + (28 + k)) = 0)
def IVC (g : Nat → Nat) : Prop := g 2 ≤ 8 ∧ (∀ i j, i < j → j < g 2 → g (232 + 4 * i + 0) < g (232 + 4 * j + 0)) ∧ (∀ i, i < g 2 → g (232 + 4 * i + 0) < g 4) ∧ g 2 ≤ g 4 ∧
  (∀ i, i < g 2 → g (232 + 4 * i + 1) < g 0 ∧ g (232 + 4 * i + 2) < g 0 ∧ g (232 + 4 * i + 3) ≤ 9999)
def IVB (g : Nat → Nat) : Prop := g 3 ≤ 10 ∧ (∀ i j, i < j → j < g 3 → g (264 + 4 * i + 0) < g (264 + 4 * j + 0)) ∧ (∀ i, i < g 3 → g (264 + 4 * i + 0) < g 5) ∧ g 3 ≤ g 5 ∧
  (∀ o, o < g 3 → g (264 + 4 * o + 1) < g 1 ∧ g (264 + 4 * o + 2) < g (264 + 4 * o + 3) ∧ g (264 + 4 * o + 3) < g (16 + 36 * g (264 + 4 * o + 1) + 3))
def IVL (g : Nat → Nat) : Prop := LdC g ∧ g 6 = 2 * ((lgL g).foldl (fun (a : Nat) (x : Nat × Nat) => a + (g (16 + 36 * x.1 + (28 + x.2)))) 0)
def IVN (n : Nat) (g : Nat → Nat) : Prop := (∀ i, g i < 2 ^ 19) ∧ (g 4 ≤ n ∧ g 5 ≤ n ∧ g 7 ≤ n)
theorem INV.iff {n : Nat} {g : Nat → Nat} : INV n g ↔ IVS g ∧ IVT g ∧ IVC g ∧ IVB g ∧ IVL g ∧ IVN n g := by
  constructor
  · intro h
    obtain ⟨-, w0, w1, w2, w3, w4, w5⟩ := h.W
    exact ⟨⟨w0, h.tr⟩, ⟨w1, w4, w5, h.z, h.tm, h.w0⟩, ⟨w2, h.id, h.nx, h.n4, h.cs⟩, ⟨w3, h.bd, h.nb, h.n5, h.bv⟩, ⟨h.L, h.co⟩, h.b, h.cn⟩
  · rintro ⟨⟨w0, tr⟩, ⟨w1, w4, w5, z, tm, zw⟩, ⟨w2, id, nx, n4, cs⟩, ⟨w3, bd, nb, n5, bv⟩, ⟨L, co⟩, b, cn⟩
    exact ⟨⟨fun i => Nat.lt_trans (b i) (by decide), w0, w1, w2, w3, w4, w5⟩, id, bd, nx, nb, ⟨n4, n5⟩, z, bv, cs, L, co, b, tr, tm, cn, zw⟩
section IVcg
variable {n : Nat} {g g2 : Nat → Nat}
theorem IVT.cg (h : IVT g) (h0 : g 0 ≤ g2 0) (h1 : g2 1 = g 1) (ht : ∀ i, 16 ≤ i → i < 232 → g2 i = g i) : IVT g2 := by
  obtain ⟨a, b, c, d, e, f⟩ := h
  refine ⟨by omega, fun t q => ?_, fun t k q r => ?_, fun t q r j hj => ?_, fun t q => ?_, fun t k q r r2 => ?_⟩
  · rw [ht _ (by omega) (by omega)]; exact b t (by omega)
  · rw [ht _ (by omega) (by omega)] at r
    have := b t (by omega)
    show g2 (16 + 36 * t + (4 + 3 * k)) < g2 0
    rw [ht _ (by omega) (by omega)]; exact Nat.lt_of_lt_of_le (c t k (by omega) r) h0
  · rw [ht _ (by omega) (by omega)]; exact d t (by omega) r j hj
  · have hb := b t (by omega)
    rw [ht _ (by omega) (by omega), ht _ (by omega) (by omega), ht _ (by omega) (by omega), ht (16 + 36 * t + 3) (by omega) (by omega)]
    obtain ⟨e1, e2, e3, e4⟩ := e t (by omega)
    refine ⟨e1, e2, e3, fun k hk hk2 => ?_⟩
    rw [ht _ (by omega) (by omega), ht _ (by omega) (by omega)]
    exact e4 k hk hk2
  · rw [ht _ (by omega) (by omega)] at r; rw [ht _ (by omega) (by omega)]; exact f t k (by omega) r r2
theorem IVC.cg (h : IVC g) (h0 : g 0 ≤ g2 0) (h2 : g2 2 = g 2) (h4 : g2 4 = g 4) (ht : ∀ i, 232 ≤ i → i < 264 → g2 i = g i) : IVC g2 := by
  obtain ⟨a, b, c, d, e⟩ := h
  refine ⟨by omega, fun i j q r => ?_, fun i q => ?_, by omega, fun i q => ?_⟩
  · rw [ht _ (by omega) (by omega), ht _ (by omega) (by omega)]; exact b i j q (by omega)
  · rw [ht _ (by omega) (by omega), h4]; exact c i (by omega)
  · rw [ht (232 + 4 * i + 1) (by omega) (by omega), ht (232 + 4 * i + 2) (by omega) (by omega), ht (232 + 4 * i + 3) (by omega) (by omega)]
    have := e i (by omega)
    exact ⟨by omega, by omega, this.2.2⟩
theorem IVB.cg (h : IVB g) (h1 : g 1 ≤ g2 1) (h3 : g2 3 = g 3) (h5 : g2 5 = g 5) (ht : ∀ i, 264 ≤ i → i < 304 → g2 i = g i) (hs : ∀ t, t < g 1 → g (16 + 36 * t + 3) ≤ g2 (16 + 36 * t + 3)) : IVB g2 := by
  obtain ⟨a, b, c, d, e⟩ := h
  refine ⟨by omega, fun i j q r => ?_, fun i q => ?_, by omega, fun i q => ?_⟩
  · rw [ht _ (by omega) (by omega), ht _ (by omega) (by omega)]; exact b i j q (by omega)
  · rw [ht _ (by omega) (by omega), h5]; exact c i (by omega)
  · rw [ht (264 + 4 * i + 1) (by omega) (by omega), ht (264 + 4 * i + 2) (by omega) (by omega), ht (264 + 4 * i + 3) (by omega) (by omega)]
    obtain ⟨e1, e2, e3⟩ := e i (by omega)
    exact ⟨by omega, e2, Nat.lt_of_lt_of_le e3 (hs _ e1)⟩
theorem fold_cg {α : Type} {f f2 : α → Nat} : ∀ {L : List α} {a : Nat}, (∀ x, x ∈ L → f2 x = f x) → L.foldl (fun a x => a + f2 x) a = L.foldl (fun a x => a + f x) a
  | [], _, _ => rfl
  | x :: L, a, h => by
    show L.foldl _ (a + f2 x) = L.foldl _ (a + f x)
    rw [h x (List.mem_cons_self ..)]
    exact fold_cg (fun y hy => h y (List.mem_cons_of_mem _ hy))
theorem lgL_cg (h1 : g2 1 = g 1) (hs : ∀ t, t < g 1 → g2 (16 + 36 * t + 3) = g (16 + 36 * t + 3)) : lgL g2 = lgL g := by
  unfold lgL
  rw [h1]
  have : ∀ t, t ∈ List.range (g 1) → lgT g2 t = lgT g t := fun t ht => by unfold lgT; rw [hs t (List.mem_range.mp ht)]
  rw [List.flatMap_def, List.flatMap_def, List.map_congr_left this]
theorem IVL.cg (hT : IVT g) (h : IVL g) (h1 : g2 1 = g 1) (h3 : g2 3 = g 3) (h6 : g2 6 = g 6) (ht : ∀ t, t < g 1 → ∀ j, j < 36 → j = 0 ∨ j = 3 ∨ 28 ≤ j → g2 (16 + 36 * t + j) = g (16 + 36 * t + j)) (hb : ∀ o, o < g 3 → ∀ j, j < 4 → g2 (264 + 4 * o + j) = g (264 + 4 * o + j)) : IVL g2 := by
  obtain ⟨a, b⟩ := h
  have hl : ∀ {t k}, LEG g2 t k → LEG g t k := fun {t k} q => ⟨h1 ▸ q.1, by have := ht t (h1 ▸ q.1) 3 (by decide) (Or.inr (Or.inl rfl)); have := q.2; omega⟩
  refine ⟨fun t k q => ?_, ?_⟩
  · have q' := hl q
    have h8 := hT.2.1 t q'.1
    have hk := q'.2
    show bkG g2 t k (g2 3) + g2 (16 + 36 * t + (28 + k)) ≤ _
    rw [bkG_cg h3 hb, ht t q'.1 (28 + k) (by omega) (by omega), ht t q'.1 0 (by decide) (Or.inl rfl)]
    exact a t k q'
  · rw [h6, lgL_cg h1 (fun t q => ht t q 3 (by decide) (Or.inr (Or.inl rfl))), b]
    congr 1
    exact (fold_cg (fun x hx => by
      obtain ⟨q1, q2⟩ := mem_lgL.mp hx
      have h8 := hT.2.1 _ q1
      exact ht _ q1 _ (by omega) (by omega))).symm
theorem IVL.cgA (hT : IVT g) (h : IVL g) (h1 : g2 1 = g 1) (h3 : g2 3 = g 3) (h6 : g2 6 = g 6) (hB3 : g 3 ≤ 10) (ht : ∀ i, 16 ≤ i → i < 232 → g2 i = g i) (hb : ∀ i, 264 ≤ i → i < 304 → g2 i = g i) : IVL g2 :=
  h.cg hT h1 h3 h6 (fun t q j hj _ => ht _ (by omega) (by have := hT.1; omega)) (fun o q j hj => hb _ (by omega) (by omega))
theorem IVN.cg (h : IVN n g) (h4 : g2 4 = g 4) (h5 : g2 5 = g 5) (h7 : g2 7 = g 7) (hb : ∀ i, g2 i < 2 ^ 19) : IVN (n + 1) g2 := ⟨hb, by have := h.2; omega⟩
end IVcg
theorem inv_AS {n p : Nat} {g : Nat → Nat} (h : INV n g) (h0 : g 0 < 8) (hp : 1 ≤ p ∧ p ≤ 30) : INV (n + 1) (nxAS g p) := by
  obtain ⟨S, T, C, B, L, N⟩ := INV.iff.mp h
  have o : ∀ i, i ≠ 0 → i ≠ 8 + g 0 → nxAS g p i = g i := fun i a b => nxAS_o a b
  refine INV.iff.mpr ⟨⟨by rw [nxAS_0]; omega, fun s hs => ?_⟩, T.cg (by rw [nxAS_0]; omega) (o 1 (by omega) (by omega)) (fun i a b => o i (by omega) (by omega)), C.cg (by rw [nxAS_0]; omega) (o 2 (by omega) (by omega)) (o 4 (by omega) (by omega)) (fun i a b => o i (by omega) (by omega)), B.cg (by rw [o 1 (by omega) (by omega)]; exact Nat.le_refl _) (o 3 (by omega) (by omega)) (o 5 (by omega) (by omega)) (fun i a b => o i (by omega) (by omega)) (fun t ht => by rw [o _ (by omega) (by omega)]; exact Nat.le_refl _), L.cgA T (o 1 (by omega) (by omega)) (o 3 (by omega) (by omega)) (o 6 (by omega) (by omega)) B.1 (fun i a b => o i (by omega) (by omega)) (fun i a b => o i (by omega) (by omega)), N.cg (o 4 (by omega) (by omega)) (o 5 (by omega) (by omega)) (o 7 (by omega) (by omega)) (fun i => ?_)⟩
  · rw [nxAS_0] at hs
    by_cases e : s = g 0
    · rw [e, nxAS_8]; exact hp
    · rw [o _ (by omega) (by omega)]; exact S.2 s (by omega)
  · by_cases e0 : i = 0
    · rw [e0, nxAS_0]; omega
    · by_cases e8 : i = 8 + g 0
      · rw [e8, nxAS_8]; omega
      · rw [o i e0 e8]; exact N.1 i
theorem inv_DT {n t v : Nat} {g : Nat → Nat} (h : INV n g) (ht : t < g 1) (hv : v ≤ 120) : INV (n + 1) (nxDT g t v) := by
  obtain ⟨S, T, C, B, L, N⟩ := INV.iff.mp h
  have t6 := T.1
  have o : ∀ i, i ≠ 16 + 36 * t + 2 → nxDT g t v i = g i := fun i a => nxDT_o a
  refine INV.iff.mpr ⟨⟨by rw [o 0 (by omega)]; exact S.1, fun s hs => ?_⟩, ⟨by rw [o 1 (by omega)]; exact T.1, fun u q => ?_, fun u k q r => ?_, fun u q r j hj => ?_, fun u q => ?_, fun u k q r r2 => ?_⟩, C.cg (by rw [o 0 (by omega)]; exact Nat.le_refl _) (o 2 (by omega)) (o 4 (by omega)) (fun i a b => o i (by omega)), B.cg (by rw [o 1 (by omega)]; exact Nat.le_refl _) (o 3 (by omega)) (o 5 (by omega)) (fun i a b => o i (by omega)) (fun u hu => by rw [o _ (by omega)]; exact Nat.le_refl _), L.cg T (o 1 (by omega)) (o 3 (by omega)) (o 6 (by omega)) (fun u q j hj hj2 => o _ (by omega)) (fun u q j hj => o _ (by omega)), N.cg (o 4 (by omega)) (o 5 (by omega)) (o 7 (by omega)) (fun i => ?_)⟩
  · rw [o 0 (by omega)] at hs; have s8 := S.1; rw [o _ (by omega)]; exact S.2 s hs
  · rw [o 1 (by omega)] at q; rw [o _ (by omega)]; exact T.2.1 u q
  · rw [o 1 (by omega)] at q; rw [o _ (by omega)] at r; have := T.2.1 u q
    show nxDT g t v (16 + 36 * u + (4 + 3 * k)) < _
    rw [o _ (by omega), o 0 (by omega)]; exact T.2.2.1 u k q r
  · rw [o 1 (by omega)] at q; rw [o _ (by omega)]; exact T.2.2.2.1 u q r j hj
  · rw [o 1 (by omega)] at q
    obtain ⟨e1, e2, e3, e4⟩ := T.2.2.2.2.1 u q
    have h8 := T.2.1 u q
    rw [o (16 + 36 * u + 0) (by omega), o (16 + 36 * u + 1) (by omega), o (16 + 36 * u + 3) (by omega)]
    refine ⟨e1, e2, ?_, fun k hk hk2 => ?_⟩
    · by_cases e : u = t
      · rw [e, nxDT_s]; exact hv
      · rw [o _ (by omega)]; exact e3
    · rw [o _ (by omega), o _ (by omega)]; exact e4 k hk hk2
  · rw [o 1 (by omega)] at q; rw [o _ (by omega)] at r; rw [o _ (by omega)]; exact T.2.2.2.2.2 u k q r r2
  · by_cases e : i = 16 + 36 * t + 2
    · rw [e, nxDT_s]; omega
    · rw [o i e]; exact N.1 i
theorem inv_RL {n k q : Nat} {g : Nat → Nat} (h : INV n g) (hk : k < g 2) (hq : q < g 0) : INV (n + 1) (nxRL g k q) := by
  obtain ⟨S, T, C, B, L, N⟩ := INV.iff.mp h
  have c8 := C.1
  have o : ∀ i, i ≠ 232 + 4 * k + 2 → nxRL g k q i = g i := fun i a => nxRL_o a
  have h0 : nxRL g k q 0 = g 0 := o 0 (by omega)
  have h1 : nxRL g k q 1 = g 1 := o 1 (by omega)
  have h2 : nxRL g k q 2 = g 2 := o 2 (by omega)
  refine INV.iff.mpr ⟨⟨by rw [h0]; exact S.1, fun s hs => ?_⟩, T.cg (Nat.le_of_eq h0.symm) h1 (fun i a b => o i (by omega)), ⟨by rw [h2]; exact C.1, fun i j a b => ?_, fun i a => ?_, by rw [h2, o 4 (by omega)]; exact C.2.2.2.1, fun i a => ?_⟩, B.cg (Nat.le_of_eq h1.symm) (o 3 (by omega)) (o 5 (by omega)) (fun i a b => o i (by omega)) (fun u hu => by have := T.1; rw [o _ (by omega)]; exact Nat.le_refl _), L.cgA T h1 (o 3 (by omega)) (o 6 (by omega)) B.1 (fun i a b => o i (by omega)) (fun i a b => o i (by omega)), N.cg (o 4 (by omega)) (o 5 (by omega)) (o 7 (by omega)) (fun i => ?_)⟩
  · rw [h0] at hs; have s8 := S.1; rw [o _ (by omega)]; exact S.2 s hs
  · rw [h2] at b; rw [o _ (by omega), o _ (by omega)]; exact C.2.1 i j a b
  · rw [h2] at a; rw [o _ (by omega), o 4 (by omega)]; exact C.2.2.1 i a
  · rw [h2] at a
    obtain ⟨e1, e2, e3⟩ := C.2.2.2.2 i a
    rw [o (232 + 4 * i + 1) (by omega), o (232 + 4 * i + 3) (by omega), h0]
    refine ⟨e1, ?_, e3⟩
    by_cases e : i = k
    · rw [e, nxRL_s]; exact hq
    · rw [o _ (by omega)]; exact e2
  · by_cases e : i = 232 + 4 * k + 2
    · rw [e, nxRL_s]; have := N.1 0; omega
    · rw [o i e]; exact N.1 i
theorem inv_AC {n s d v : Nat} {g : Nat → Nat} (h : INV n g) (hn : n < 1000) (h2 : g 2 < 8) (hs : s < g 0) (hd : d < g 0) (hv : v ≤ 9999) : INV (n + 1) (nxAC g s d v) := by
  obtain ⟨S, T, C, B, L, N⟩ := INV.iff.mp h
  have s8 := S.1
  have o : ∀ i, i ≠ 232 + 4 * g 2 + 0 → i ≠ 232 + 4 * g 2 + 1 → i ≠ 232 + 4 * g 2 + 2 → i ≠ 232 + 4 * g 2 + 3 → i ≠ 2 → i ≠ 4 → nxAC g s d v i = g i := fun i a b c d e f => nxAC_o a b c d e f
  have o2 : ∀ i, i < 232 → i ≠ 2 → i ≠ 4 → nxAC g s d v i = g i := fun i a b c => o i (by omega) (by omega) (by omega) (by omega) b c
  have o3 : ∀ i, 264 ≤ i → nxAC g s d v i = g i := fun i a => o i (by omega) (by omega) (by omega) (by omega) (by omega) (by omega)
  have h0 : nxAC g s d v 0 = g 0 := o2 0 (by omega) (by omega) (by omega)
  have h1 : nxAC g s d v 1 = g 1 := o2 1 (by omega) (by omega) (by omega)
  have oc : ∀ i j, i < g 2 → j < 4 → nxAC g s d v (232 + 4 * i + j) = g (232 + 4 * i + j) := fun i j a b => o _ (by omega) (by omega) (by omega) (by omega) (by omega) (by omega)
  refine INV.iff.mpr ⟨⟨by rw [h0]; exact S.1, fun s hs => ?_⟩, T.cg (Nat.le_of_eq h0.symm) h1 (fun i a b => o2 i (by omega) (by omega) (by omega)), ⟨by rw [nxAC_2]; omega, fun i j a b => ?_, fun i a => ?_, by rw [nxAC_2, nxAC_4]; have := C.2.2.2.1; omega, fun i a => ?_⟩, B.cg (Nat.le_of_eq h1.symm) (o2 3 (by omega) (by omega) (by omega)) (o2 5 (by omega) (by omega) (by omega)) (fun i a b => o3 i a) (fun u hu => by have := T.1; rw [o2 _ (by omega) (by omega) (by omega)]; exact Nat.le_refl _), L.cgA T h1 (o2 3 (by omega) (by omega) (by omega)) (o2 6 (by omega) (by omega) (by omega)) B.1 (fun i a b => o2 i b (by omega) (by omega)) (fun i a b => o3 i a), ⟨fun i => ?_, ?_⟩⟩
  · rw [h0] at hs; rw [o2 _ (by omega) (by omega) (by omega)]; exact S.2 s hs
  · rw [nxAC_2] at b
    rw [oc i 0 (by omega) (by decide)]
    by_cases e : j = g 2
    · rw [e, nxAC_i]; exact C.2.2.1 i (by omega)
    · rw [oc j 0 (by omega) (by decide)]; exact C.2.1 i j a (by omega)
  · rw [nxAC_2] at a
    rw [nxAC_4]
    by_cases e : i = g 2
    · rw [e, nxAC_i]; omega
    · rw [oc i 0 (by omega) (by decide)]; have := C.2.2.1 i (by omega); omega
  · rw [nxAC_2] at a
    rw [h0]
    by_cases e : i = g 2
    · rw [e, nxAC_s, nxAC_d, nxAC_v]; exact ⟨hs, hd, hv⟩
    · rw [oc i 1 (by omega) (by decide), oc i 2 (by omega) (by decide), oc i 3 (by omega) (by decide)]; exact C.2.2.2.2 i (by omega)
  · have g0 := N.1 0
    have c4 := N.2
    by_cases e0 : i = 232 + 4 * g 2 + 0
    · rw [e0, nxAC_i]; omega
    by_cases e1 : i = 232 + 4 * g 2 + 1
    · rw [e1, nxAC_s]; omega
    by_cases e2 : i = 232 + 4 * g 2 + 2
    · rw [e2, nxAC_d]; omega
    by_cases e3 : i = 232 + 4 * g 2 + 3
    · rw [e3, nxAC_v]; omega
    by_cases e4 : i = 2
    · rw [e4, nxAC_2]; omega
    by_cases e5 : i = 4
    · rw [e5, nxAC_4]; omega
    rw [o i e0 e1 e2 e3 e4 e5]; exact N.1 i
  · rw [nxAC_4, o2 5 (by omega) (by omega) (by omega), o2 7 (by omega) (by omega) (by omega)]
    have := N.2; omega
