set_option maxRecDepth 100000
/-! ===== a suitcase sent: the next rows are the same ===== -/
def seqL (x y : Nat → Nat) (n : Nat) : List (Nat × Nat) := (List.range n).map (fun i => (x i, y i))
section SQ
variable {g e R : Nat → Nat} {a v t : Nat}
theorem seqL_fl {x y : Nat → Nat} {n d f : Nat} : seqL (flX x n d t) (flY y n d f) (n + d) = seqL x y n ++ (List.range d).map (fun i => (t, f + i)) := by
  unfold seqL
  rw [List.range_add, List.map_append, List.map_map]
  congr 1
  · refine List.map_congr_left (fun i hi => ?_)
    have := List.mem_range.mp hi
    unfold flX flY
    rw [if_neg (by omega), if_neg (by omega)]
  · refine List.map_congr_left (fun i hi => ?_)
    have := List.mem_range.mp hi
    show (flX x n d t (n + i), flY y n d f (n + i)) = _
    unfold flX flY
    rw [if_pos (by omega), if_pos (by omega), Nat.add_sub_cancel_left]
theorem dnL_perm : ∀ k, (dnL g e a v t k).Perm ((List.range (k + 1 - dnK g e a v t k)).map (fun i => (t, dnK g e a v t k + i)))
  | 0 => List.Perm.refl _
  | k + 1 => by
    have ih := dnL_perm k
    have hk := dnK_le (g := g) (e := e) (a := a) (v := v) (t := t) k
    rw [show dnK g e a v t (k + 1) = (if cbG g e a v t (k + 1) then k + 1 else dnK g e a v t k) from rfl]
    rw [show dnL g e a v t (k + 1) = (if cbG g e a v t (k + 1) then [(t, k + 1)] else (t, k + 1) :: dnL g e a v t k) from rfl]
    by_cases q : cbG g e a v t (k + 1)
    · rw [if_pos q, if_pos q, show k + 1 + 1 - (k + 1) = 1 by omega]
      exact List.Perm.refl _
    · rw [if_neg q, if_neg q, show k + 1 + 1 - dnK g e a v t k = (k + 1 - dnK g e a v t k) + 1 by omega, List.range_succ, List.map_append]
      refine (List.Perm.cons _ ih).trans ?_
      show List.Perm _ (_ ++ [(t, dnK g e a v t k + (k + 1 - dnK g e a v t k))])
      rw [show dnK g e a v t k + (k + 1 - dnK g e a v t k) = k + 1 by omega]
      exact (List.perm_append_comm (l₁ := [(t, k + 1)]))
theorem ltG_st {K s k : Nat} (hs : s ≠ a) (hll : llG g e R s = some (t, k)) : ltG g e R a v (K + 1) s = dnL g e a v t k ++ ltG g e R a v K (plG g t (dnK g e a v t k)) := by
  rw [ltG, if_neg hs, hll]
theorem snL_seq (hT : TmC g) (hA : ARR g a v e R) : ∀ (K s n : Nat) (x y : Nat → Nat), (seqL (snL g e a v K s n x y).2.1 (snL g e a v K s n x y).2.2 (snL g e a v K s n x y).1).Perm (seqL x y n ++ ltG g e R a v K s)
  | 0, s, n, x, y => by
    show List.Perm (seqL x y n) (seqL x y n ++ [])
    rw [List.append_nil]
  | K + 1, s, n, x, y => by
    by_cases hs : s = a
    · rw [snL_a hs]
      unfold ltG
      rw [if_pos hs, List.append_nil]
    · have hg := gk_ll (s := s) hT hA
      cases hll : llG g e R s with
      | none =>
        rw [hll] at hg
        rw [snL_n hg]
        unfold ltG
        rw [if_neg hs, hll]
        show List.Perm _ (_ ++ [])
        rw [List.append_nil]
      | some p =>
        obtain ⟨t, k⟩ := p
        rw [hll] at hg
        rw [snL_s hs hg]
        refine (snL_seq hT hA K _ _ _ _).trans ?_
        rw [ltG_st hs hll, seqL_fl, List.append_assoc]
        show List.Perm (seqL x y n ++ ((List.range (k + 1 - dnK g e a v t k)).map (fun i => (t, dnK g e a v t k + i)) ++ ltG g e R a v K (plG g t (dnK g e a v t k)))) (seqL x y n ++ (dnL g e a v t k ++ ltG g e R a v K (plG g t (dnK g e a v t k))))
        exact List.Perm.append_left _ (List.Perm.append_right _ (dnL_perm (g := g) (e := e) (a := a) (v := v) (t := t) k).symm)
end SQ
theorem upF_at {g : Nat → Nat} {i : Nat} {L : List (Nat × Nat)} : (L.foldl upL g) i = g i + L.countP (fun p => ixL p == i) := by
    induction L generalizing g with
    | nil => rfl
    | cons p L ih =>
      show (L.foldl upL (upL g p)) i = _
      rw [ih, List.countP_cons]
      unfold upL up
      by_cases q : i = ixL p
      · subst q
        rw [if_pos rfl, if_pos (by simp)]; omega
      · rw [if_neg q, if_neg (by simp; exact fun z => q z.symm)]; omega
theorem inG_up {g x y : Nat → Nat} : ∀ n, inG g x y n = (seqL x y n).foldl upL g
  | 0 => rfl
  | n + 1 => by
    have ih := inG_up (g := g) (x := x) (y := y) n
    unfold seqL at ih ⊢
    rw [List.range_succ, List.map_append, List.foldl_append, ← ih]
    show up (inG g x y n) (16 + 36 * x n + 28 + y n) (inG g x y n (16 + 36 * x n + 28 + y n) + 1) = up (inG g x y n) (16 + 36 * x n + (28 + y n)) (inG g x y n (16 + 36 * x n + (28 + y n)) + 1)
    rw [Nat.add_assoc (16 + 36 * x n) 28 (y n)]
theorem cinS_at {g : Nat → Nat} {i : Nat} {L : List (Nat × Nat)} : cinS g L i = if i = 6 then g 6 + 2 * L.length else g i + L.countP (fun p => ixL p == i) := by
  induction L generalizing g with
  | nil =>
    show g i = _
    by_cases q : i = 6
    · rw [if_pos q, q]; rfl
    · rw [if_neg q]; rfl
  | cons p L ih =>
    show cinS (stW g p) L i = _
    rw [ih, List.countP_cons, List.length_cons]
    by_cases q : i = 6
    · rw [if_pos q, if_pos q, stW_6]; omega
    · rw [if_neg q, if_neg q]
      by_cases q2 : i = ixL p
      · rw [q2, stW_ix, if_pos (by simp)]; omega
      · rw [stW_o q q2, if_neg (by simp; exact fun z => q2 z.symm)]; omega
theorem nxSD_SC {g x y e : Nat → Nat} {k n et : Nat} {L : List (Nat × Nat)} (hp : (seqL x y n).Perm L) (he : e (g (232 + 4 * k + 2)) = et) : nxSD g k n x y e = nxSC g k L et := by
  unfold nxSD nxSC
  have hl : L.length = n := by rw [← hp.length_eq]; unfold seqL; rw [List.length_map, List.length_range]
  have h6 : inG g x y n 6 = g 6 := by
    rw [inG_up, upF_at, List.countP_eq_zero.mpr (fun p _ => by simp; unfold ixL; omega)]; rfl
  have h1 : up (inG g x y n) 6 (inG g x y n 6 + 2 * n) = cinS g L := by
    funext i
    rw [cinS_at]
    by_cases q : i = 6
    · rw [if_pos q, q, up_s, h6, hl]
    · rw [if_neg q, up_n q, inG_up, upF_at, hp.countP_eq]
  rw [h1, he]
