set_option maxRecDepth 100000
/-! ===== a new train, a longer train: the invariant is kept ===== -/
section IV3
variable {n : Nat} {g : Nat → Nat}
theorem inv_AT {s d c : Nat} (h : INV n g) (h6 : g 1 < 6) (hs : s < g 0) (hd : d ≤ 1439) (hc : 1 ≤ c ∧ c ≤ 5) : INV (n + 1) (nxAT g s d c) := by
  obtain ⟨S, T, C, B, L, N⟩ := INV.iff.mp h
  have c8 := C.1
  have s8 := S.1
  have b10 := B.1
  have o : ∀ i, i ≠ 16 + 36 * g 1 + 0 → i ≠ 16 + 36 * g 1 + 1 → i ≠ 16 + 36 * g 1 + 3 → i ≠ 16 + 36 * g 1 + 4 → i ≠ 1 → nxAT g s d c i = g i := fun i a b c d e => nxAT_o a b c d e
  have lo : ∀ i, i < 16 → i ≠ 1 → nxAT g s d c i = g i := fun i a b => o i (by omega) (by omega) (by omega) (by omega) b
  have hi : ∀ i, 232 ≤ i → nxAT g s d c i = g i := fun i a => o i (by omega) (by omega) (by omega) (by omega) (by omega)
  have ot : ∀ t j, t ≠ g 1 → j < 36 → nxAT g s d c (16 + 36 * t + j) = g (16 + 36 * t + j) := fun t j a b => o _ (by omega) (by omega) (by omega) (by omega) (by omega)
  have h0 : nxAT g s d c 0 = g 0 := lo 0 (by omega) (by omega)
  have oz : ∀ j, j < 36 → j ≠ 0 → j ≠ 1 → j ≠ 3 → j ≠ 4 → nxAT g s d c (16 + 36 * g 1 + j) = 0 := fun j a b c d e => by
    rw [o _ (by omega) (by omega) (by omega) (by omega) (by omega)]; exact T.2.2.2.1 (g 1) (Nat.le_refl _) h6 j a
  have hleg : ∀ t k, LEG (nxAT g s d c) t k → LEG g t k := fun t k q => by
    obtain ⟨q1, q2⟩ := q
    rw [nxAT_1] at q1
    by_cases e : t = g 1
    · rw [e, nxAT_3] at q2; omega
    · rw [ot t 3 e (by decide)] at q2; exact ⟨by omega, q2⟩
  refine INV.iff.mpr ⟨⟨by rw [h0]; exact S.1, fun s hs => ?_⟩, ⟨by rw [nxAT_1]; omega, fun t q => ?_, fun t k q r => ?_, fun t q r j hj => ?_, fun t q => ?_, fun t k q r r2 => ?_⟩, C.cg (Nat.le_of_eq h0.symm) (lo 2 (by omega) (by omega)) (lo 4 (by omega) (by omega)) (fun i a b => hi i a), B.cg (by rw [nxAT_1]; omega) (lo 3 (by omega) (by omega)) (lo 5 (by omega) (by omega)) (fun i a b => hi i (by omega)) (fun u hu => by rw [ot u 3 (by omega) (by decide)]; exact Nat.le_refl _), ⟨fun t k q => ?_, ?_⟩, N.cg (lo 4 (by omega) (by omega)) (lo 5 (by omega) (by omega)) (lo 7 (by omega) (by omega)) (fun i => ?_)⟩
  · rw [h0] at hs; rw [lo _ (by omega) (by omega)]; exact S.2 s hs
  · rw [nxAT_1] at q
    by_cases e : t = g 1
    · rw [e, nxAT_3]; decide
    · rw [ot t 3 e (by decide)]; exact T.2.1 t (by omega)
  · rw [nxAT_1] at q
    show nxAT g s d c (16 + 36 * t + (4 + 3 * k)) < _
    rw [h0]
    by_cases e : t = g 1
    · rw [e, nxAT_3] at r
      obtain rfl : k = 0 := by omega
      rw [e]; show nxAT g s d c (16 + 36 * g 1 + 4) < _
      rw [nxAT_4]; exact hs
    · rw [ot t 3 e (by decide)] at r
      have := T.2.1 t (by omega)
      rw [ot t _ e (by omega)]; exact T.2.2.1 t k (by omega) r
  · rw [nxAT_1] at q; rw [ot t j (by omega) hj]; exact T.2.2.2.1 t (by omega) r j hj
  · rw [nxAT_1] at q
    by_cases e : t = g 1
    · rw [e, nxAT_c, nxAT_d, oz 2 (by decide) (by decide) (by decide) (by decide) (by decide), nxAT_3]
      exact ⟨hc, hd, by decide, fun k a b => by omega⟩
    · rw [ot t 0 e (by decide), ot t 1 e (by decide), ot t 2 e (by decide), ot t 3 e (by decide)]
      obtain ⟨e1, e2, e3, e4⟩ := T.2.2.2.2.1 t (by omega)
      have h8 := T.2.1 t (by omega)
      refine ⟨e1, e2, e3, fun k a b => ?_⟩
      rw [ot t _ e (by omega), ot t _ e (by omega)]; exact e4 k a b
  · rw [nxAT_1] at q
    by_cases e : t = g 1
    · rw [e]; exact oz _ (by omega) (by omega) (by omega) (by omega) (by omega)
    · rw [ot t 3 e (by decide)] at r; rw [ot t _ e (by omega)]; exact T.2.2.2.2.2 t k (by omega) r r2
  · have q' := hleg t k q
    have q1 := q'.1
    have q2 := q'.2
    have h8 := T.2.1 t q1
    show bkG (nxAT g s d c) t k (nxAT g s d c 3) + nxAT g s d c (16 + 36 * t + (28 + k)) ≤ _
    rw [bkG_cg (lo 3 (by omega) (by omega)) (fun a b j e => hi _ (by omega)), ot t _ (by omega) (by omega), ot t 0 (by omega) (by decide)]
    exact L.1 t k q'
  · have hlg : lgL (nxAT g s d c) = lgL g := by
      unfold lgL
      rw [nxAT_1, List.range_succ, List.flatMap_append]
      have e1 : [g 1].flatMap (lgT (nxAT g s d c)) = [] := by
        show lgT (nxAT g s d c) (g 1) ++ [] = []
        unfold lgT
        rw [nxAT_3]; rfl
      have : ∀ t, t ∈ List.range (g 1) → lgT (nxAT g s d c) t = lgT g t := fun t ht => by unfold lgT; rw [ot t 3 (Nat.ne_of_lt (List.mem_range.mp ht)) (by decide)]
      rw [e1, List.append_nil, List.flatMap_def, List.flatMap_def, List.map_congr_left this]
    rw [lo 6 (by omega) (by omega), hlg, L.2]
    congr 1
    exact (fold_cg (fun x hx => by
      obtain ⟨q1, q2⟩ := mem_lgL.mp hx
      have h8 := T.2.1 _ q1
      exact ot _ _ (by omega) (by omega))).symm
  · have n5 := N.1 5
    have g1 := N.1 1
    have gs := N.1 0
    exact up_bf (up_bf (up_bf (up_bf (up_bf N.1 (by omega)) (by omega)) (by omega)) (by omega)) (by omega) i
theorem foldl_cg {α β : Type} {f f2 : β → α → β} : ∀ {L : List α} {a : β}, (∀ x, x ∈ L → ∀ a, f2 a x = f a x) → L.foldl f2 a = L.foldl f a
  | [], _, _ => rfl
  | x :: L, a, h => by
    show L.foldl _ (f2 a x) = L.foldl _ (f a x)
    rw [h x (List.mem_cons_self ..)]
    exact foldl_cg (fun y hy => h y (List.mem_cons_of_mem _ hy))
theorem bkG_zero {t k : Nat} : ∀ n, (∀ o, o < n → g (264 + 4 * o + 1) = t → ¬ k < g (264 + 4 * o + 3)) → bkG g t k n = 0
  | 0, _ => rfl
  | n + 1, h => by
    show bkG g t k n + bkC g t k n = 0
    rw [bkG_zero n (fun o ho => h o (by omega))]
    unfold bkC byG
    rw [if_neg (fun z => h n (by omega) z.1 z.2.2)]
theorem inv_ET {t s r w : Nat} (h : INV n g) (ht : t < g 1) (hs : s < g 0) (hr : 1 ≤ r ∧ r ≤ 300) (hw : w ≤ 60) (hK : g (16 + 36 * t + 3) < 8) : INV (n + 1) (nxET g t s r w) := by
  obtain ⟨S, T, C, B, L, N⟩ := INV.iff.mp h
  have c8 := C.1
  have s8 := S.1
  have b10 := B.1
  have t6 := T.1
  have k1 := (T.2.1 t ht).1
  have o : ∀ i, i ≠ 16 + 36 * t + 4 + 3 * g (16 + 36 * t + 3) → i ≠ 16 + 36 * t + 4 + 3 * g (16 + 36 * t + 3) + 1 → i ≠ 16 + 36 * t + 4 + 3 * g (16 + 36 * t + 3) + 2 → i ≠ 16 + 36 * t + 3 → nxET g t s r w i = g i := fun i a b c d => nxET_o a b c d
  have lo : ∀ i, i < 16 → nxET g t s r w i = g i := fun i a => o i (by omega) (by omega) (by omega) (by omega)
  have hi : ∀ i, 232 ≤ i → nxET g t s r w i = g i := fun i a => o i (by omega) (by omega) (by omega) (by omega)
  have ot : ∀ u j, u ≠ t → j < 36 → nxET g t s r w (16 + 36 * u + j) = g (16 + 36 * u + j) := fun u j a b => o _ (by omega) (by omega) (by omega) (by omega)
  have oz : ∀ j, j < 4 + 3 * g (16 + 36 * t + 3) ∨ 28 ≤ j → j ≠ 3 → nxET g t s r w (16 + 36 * t + j) = g (16 + 36 * t + j) := fun j a b => o _ (by omega) (by omega) (by omega) (by omega)
  have oa : ∀ u j, j < 36 → j < 3 ∨ 28 ≤ j → nxET g t s r w (16 + 36 * u + j) = g (16 + 36 * u + j) := fun u j a b => by
    by_cases e : u = t
    · rw [e]; exact oz j (by omega) (by omega)
    · exact ot u j e a
  have h0 : nxET g t s r w 0 = g 0 := lo 0 (by omega)
  have h1 : nxET g t s r w 1 = g 1 := lo 1 (by omega)
  have hw0 := T.2.2.2.2.2 t (g (16 + 36 * t + 3) - 1) ht (by omega) (by omega)
  have hbk : ∀ u k, bkG (nxET g t s r w) u k (nxET g t s r w 3) = bkG g u k (g 3) := fun u k => bkG_cg (lo 3 (by omega)) (fun a b j e => hi _ (by omega))
  refine INV.iff.mpr ⟨⟨by rw [h0]; exact S.1, fun s hs => ?_⟩, ⟨by rw [h1]; exact t6, fun u q => ?_, fun u k q r => ?_, fun u q r j hj => ?_, fun u q => ?_, fun u k q r r2 => ?_⟩, C.cg (Nat.le_of_eq h0.symm) (lo 2 (by omega)) (lo 4 (by omega)) (fun i a b => hi i a), B.cg (Nat.le_of_eq h1.symm) (lo 3 (by omega)) (lo 5 (by omega)) (fun i a b => hi i (by omega)) (fun u hu => ?_), ⟨fun u k q => ?_, ?_⟩, N.cg (lo 4 (by omega)) (lo 5 (by omega)) (lo 7 (by omega)) (fun i => ?_)⟩
  · rw [h0] at hs; rw [lo _ (by omega)]; exact S.2 s hs
  · rw [h1] at q
    by_cases e : u = t
    · rw [e, nxET_3]; omega
    · rw [ot u 3 e (by decide)]; exact T.2.1 u q
  · rw [h1] at q
    show nxET g t s _ w (16 + 36 * u + (4 + 3 * k)) < _
    rw [h0]
    by_cases e : u = t
    · subst e
      rw [nxET_3] at r
      by_cases e2 : k = g (16 + 36 * u + 3)
      · rw [e2, nxET_s]; exact hs
      · rw [oz _ (by omega) (by omega)]; exact T.2.2.1 u k q (by omega)
    · rw [ot u 3 e (by decide)] at r
      have := T.2.1 u q
      rw [ot u _ e (by omega)]; exact T.2.2.1 u k q r
  · rw [h1] at q; rw [ot u j (by omega) hj]; exact T.2.2.2.1 u q r j hj
  · rw [h1] at q
    obtain ⟨e1, e2, e3, e4⟩ := T.2.2.2.2.1 u q
    have h8 := T.2.1 u q
    rw [oa u 0 (by decide) (by decide), oa u 1 (by decide) (by decide), oa u 2 (by decide) (by decide)]
    refine ⟨e1, e2, e3, fun k a b => ?_⟩
    by_cases e : u = t
    · subst e
      rw [nxET_3] at b
      by_cases z : k = g (16 + 36 * u + 3)
      · rw [z, nxET_r, nxET_w]; exact ⟨hr, hw⟩
      · rw [oz _ (by omega) (by omega), oz _ (by omega) (by omega)]; exact e4 k a (by omega)
    · rw [ot u 3 e (by decide)] at b
      rw [ot u _ e (by omega), ot u _ e (by omega)]; exact e4 k a b
  · rw [h1] at q
    rw [oa u _ (by omega) (by omega)]
    by_cases e : u = t
    · subst e; rw [nxET_3] at r; exact T.2.2.2.2.2 u k q (by omega) r2
    · rw [ot u 3 e (by decide)] at r; exact T.2.2.2.2.2 u k q r r2
  · by_cases e : u = t
    · rw [e, nxET_3]; omega
    · rw [ot u 3 e (by decide)]; exact Nat.le_refl _
  · obtain ⟨q1, q2⟩ := q
    rw [h1] at q1
    have h8 := T.2.1 u q1
    have hk8 : k < 8 := by
      by_cases e : u = t
      · rw [e, nxET_3] at q2; omega
      · rw [ot u 3 e (by decide)] at q2; omega
    show bkG (nxET g t s r w) u k (nxET g t s r w 3) + nxET g t s r w (16 + 36 * u + (28 + k)) ≤ _
    rw [hbk, oa u _ (by omega) (by omega), oa u 0 (by decide) (by decide)]
    by_cases e : u = t
    · subst e
      rw [nxET_3] at q2
      by_cases z : k = g (16 + 36 * u + 3) - 1
      · rw [bkG_zero (g 3) (fun a b e1 e2 => by have := (B.2.2.2.2 a b).2.2; rw [e1] at this; omega), z, hw0]
        exact Nat.zero_le _
      · exact L.1 u k ⟨q1, by omega⟩
    · rw [ot u 3 e (by decide)] at q2; exact L.1 u k ⟨q1, q2⟩
  · rw [lo 6 (by omega), L.2]
    congr 1
    unfold lgL
    rw [h1, List.foldl_flatMap, List.foldl_flatMap]
    refine (foldl_cg (fun u hu a => ?_)).symm
    have hu' := List.mem_range.mp hu
    have h8 := T.2.1 u hu'
    by_cases e : u = t
    · subst e
      unfold lgT
      rw [nxET_3, show g (16 + 36 * u + 3) + 1 - 1 = (g (16 + 36 * u + 3) - 1) + 1 by omega, List.range_succ, List.map_append, List.foldl_append]
      show List.foldl _ _ _ + nxET g u s r w (16 + 36 * u + (28 + (g (16 + 36 * u + 3) - 1))) = _
      rw [oa u _ (by omega) (by omega), hw0, Nat.add_zero]
      exact foldl_cg (fun x hx a => by
        obtain ⟨k, hk, rfl⟩ := List.mem_map.mp hx
        have := List.mem_range.mp hk
        show a + nxET g u s r w (16 + 36 * u + (28 + k)) = _
        rw [oa u _ (by omega) (by omega)])
    · unfold lgT
      rw [ot u 3 e (by decide)]
      exact foldl_cg (fun x hx a => by
        obtain ⟨k, hk, rfl⟩ := List.mem_map.mp hx
        have := List.mem_range.mp hk
        show a + nxET g t s r w (16 + 36 * u + (28 + k)) = _
        rw [oa u _ (by omega) (by omega)])
  · have g1 := N.1 1
    have gs := N.1 0
    exact up_bf (up_bf (up_bf (up_bf N.1 (by omega)) (by omega)) (by omega)) (by omega) i
end IV3
