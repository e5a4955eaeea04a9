set_option maxRecDepth 100000
/-! ===== the suitcases' ranks: the two sides joined ===== -/
section RK
variable {g : Nat → Nat}
theorem rkG_cnt {i : Nat} : ∀ n, rkG g i n = (List.range n).countP (fun o => decide (g (232 + 4 * o + 3) < g (232 + 4 * i + 3) ∨ (g (232 + 4 * o + 3) = g (232 + 4 * i + 3) ∧ o < i)))
  | 0 => rfl
  | n + 1 => by
    rw [List.range_succ, List.countP_append, ← rkG_cnt n, List.countP_singleton]
    show rkG g i n + rkC g i n = _
    congr 1
    unfold rkC
    by_cases q : g (232 + 4 * n + 3) < g (232 + 4 * i + 3) ∨ (g (232 + 4 * n + 3) = g (232 + 4 * i + 3) ∧ n < i)
    · rw [if_pos q, if_pos (decide_eq_true q)]
    · rw [if_neg q, if_neg (fun z => q (of_decide_eq_true z))]
theorem SUS.len {S : List Nat} (h : SUS g S) : S.length = g 2 := by rw [h.1.length_eq, List.length_range]
theorem SUS.nd {S : List Nat} (h : SUS g S) : S.Nodup := (h.1.nodup_iff).mpr List.nodup_range
theorem SUS.lt {S : List Nat} (h : SUS g S) {k : Nat} (hk : k < S.length) : S.getD k 0 < g 2 := List.mem_range.mp (h.1.subset (BOS.gm hk))
theorem SUS.inj {S : List Nat} (h : SUS g S) {i j : Nat} (hi : i < S.length) (hj : j < S.length) (e : S.getD i 0 = S.getD j 0) : i = j := by
  rw [List.getD_eq_getElem?_getD, List.getElem?_eq_getElem hi, List.getD_eq_getElem?_getD, List.getElem?_eq_getElem hj] at e
  exact (List.getElem_inj h.nd).mp e
theorem SUS.srt {S : List Nat} (h : SUS g S) {i j : Nat} (hij : i < j) (hj : j < S.length) : suLt g (S.getD i 0) (S.getD j 0) := by
  have := (List.pairwise_iff_getElem.mp h.2) i j (by omega) hj hij
  rw [List.getD_eq_getElem?_getD, List.getElem?_eq_getElem (by omega), List.getD_eq_getElem?_getD, List.getElem?_eq_getElem hj]
  exact this
/-- the order by ready and place -/
theorem SUS.lx {n : Nat} {S : List Nat} (hV : INV n g) (h : SUS g S) {i j : Nat} (hij : i < j) (hj : j < S.length) : g (232 + 4 * S.getD i 0 + 3) < g (232 + 4 * S.getD j 0 + 3) ∨ (g (232 + 4 * S.getD i 0 + 3) = g (232 + 4 * S.getD j 0 + 3) ∧ S.getD i 0 < S.getD j 0) := by
  have h1 := h.srt hij hj
  have h3 := h.lt (show i < S.length by omega)
  have h4 := h.lt hj
  generalize S.getD i 0 = o at *
  generalize S.getD j 0 = p at *
  rcases h1 with q | ⟨q1, q2⟩
  · exact Or.inl q
  · refine Or.inr ⟨q1, ?_⟩
    apply Classical.byContradiction
    intro z
    by_cases e : o = p
    · subst e; exact Nat.lt_irrefl _ q2
    · have := hV.id p o (by omega) h3
      omega
theorem cnt_lt (k : Nat) : ∀ n, k ≤ n → (List.range n).countP (fun j => decide (j < k)) = k
  | 0, h => by rw [Nat.le_zero.mp h]; rfl
  | n + 1, h => by
    rw [List.range_succ, List.countP_append, List.countP_singleton]
    by_cases e : k = n + 1
    · subst e
      rw [if_pos (decide_eq_true (Nat.lt_succ_self n))]
      have : (List.range n).countP (fun j => decide (j < n + 1)) = n := by
        rw [List.countP_eq_length.mpr (fun j hj => decide_eq_true (by have := List.mem_range.mp hj; omega)), List.length_range]
      rw [this]
    · rw [if_neg (by simp only [decide_eq_true_eq]; omega), cnt_lt k n (by omega), Nat.add_zero]
theorem rk_pos {n k : Nat} {S : List Nat} (hV : INV n g) (h : SUS g S) (hk : k < g 2) : rkG g (S.getD k 0) (g 2) = k := by
  have hl := h.len
  rw [rkG_cnt, ← h.1.countP_eq, ← cnt_pos]
  refine Eq.trans (List.countP_congr (fun j hj => ?_)) (cnt_lt k S.length (by omega))
  have hj := List.mem_range.mp hj
  simp only [decide_eq_true_eq]
  constructor
  · intro q
    apply Classical.byContradiction
    intro z
    by_cases e : j = k
    · subst e; rcases q with q | q <;> omega
    · have := h.lx hV (show k < j by omega) hj
      rcases q with q | q <;> rcases this with y | y <;> omega
  · intro q; exact h.lx hV q (by omega)
theorem rkG_lt {i : Nat} : ∀ n, rkG g i n ≤ n ∧ (i < n → rkG g i n < n)
  | 0 => ⟨Nat.le_refl _, fun h => absurd h (Nat.not_lt_zero _)⟩
  | n + 1 => by
    obtain ⟨h1, h2⟩ := rkG_lt (i := i) n
    have h3 : rkC g i n ≤ 1 := by unfold rkC; split <;> omega
    have e : rkG g i (n + 1) = rkG g i n + rkC g i n := rfl
    refine ⟨by omega, fun h => ?_⟩
    by_cases q : i = n
    · subst q
      have h4 : rkC g i i = 0 := by unfold rkC; rw [if_neg (by omega)]
      omega
    · have := h2 (by omega); omega
theorem rk_join {n k : Nat} {S : List Nat} (hV : INV n g) (h : SUS g S) (hk : k < g 2) : fdP (fun i => nI (rkG g i (g 2)) = nI k) (g 2) = some (S.getD k 0) := by
  have hl := h.len
  have h8 := hV.W.2.2.2.1
  cases hf : fdP (fun i => nI (rkG g i (g 2)) = nI k) (g 2) with
  | none =>
    exfalso
    have h1 := List.find?_eq_none.mp hf (S.getD k 0) (List.mem_range.mpr (h.lt (by omega)))
    exact h1 (decide_eq_true (congrArg nI (rk_pos hV h hk)))
  | some i =>
    obtain ⟨f1, f2⟩ := fdP_lt hf
    have hm : i ∈ S := (h.1.mem_iff).mpr (List.mem_range.mpr f1)
    obtain ⟨j, hj, e⟩ := List.mem_iff_getElem.mp hm
    have e : S.getD j 0 = i := by rw [List.getD_eq_getElem?_getD, List.getElem?_eq_getElem hj]; exact e
    subst e
    rw [rk_pos hV h (by omega)] at f2
    have := nI_inj9 (by omega) (by omega) f2
    rw [this]
theorem rk_none {n : Nat} {p : Int32} (hV : INV n g) (h : ∀ k, k < g 2 → nI k ≠ p) : fdP (fun i => nI (rkG g i (g 2)) = p) (g 2) = none :=
  fdP_none (fun i hi => h _ ((rkG_lt (g 2)).2 hi))
end RK
