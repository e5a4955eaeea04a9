set_option maxRecDepth 100000
/-- the first row of n whose number is p -/
def fdO (g : Nat → Nat) (b : Nat) (p : Int32) (n : Nat) : Option Nat := (List.range n).find? (fun k => decide (nI (g (b + 4 * k + 0)) = p))
theorem fdO_some {g : Nat → Nat} {b n j : Nat} {p : Int32} (hj : j < n) (hp : nI (g (b + 4 * j + 0)) = p) (ha : ∀ i, i < j → nI (g (b + 4 * i + 0)) ≠ p) : fdO g b p n = some j := by
  unfold fdO
  rw [List.find?_range_eq_some]
  exact ⟨by simpa using hp, by simp [hj], fun i hi => by simpa using ha i hi⟩
theorem fdO_none {g : Nat → Nat} {b n : Nat} {p : Int32} (ha : ∀ i, i < n → nI (g (b + 4 * i + 0)) ≠ p) : fdO g b p n = none := by
  unfold fdO
  rw [List.find?_eq_none]
  intro x hx
  simpa using ha x (List.mem_range.mp hx)
theorem fdO_lt {g : Nat → Nat} {b n j : Nat} {p : Int32} (h : fdO g b p n = some j) : j < n ∧ nI (g (b + 4 * j + 0)) = p := by
  unfold fdO at h
  rw [List.find?_range_eq_some] at h
  exact ⟨by simpa using h.2.1, by simpa using h.1⟩
def d1N (g : Nat → Nat) (lo hi : Nat) : Nat → Nat := fun i => if lo ≤ i ∧ i < hi then g (i + 4) else g i
theorem d1N_0 {g : Nat → Nat} {lo : Nat} : d1N g lo lo = g := by funext i; unfold d1N; rw [if_neg (by omega)]
theorem d1N_at {g : Nat → Nat} {lo j : Nat} : d1N g lo j (j + 4) = g (j + 4) := by unfold d1N; rw [if_neg (by omega)]
theorem d1N_s {g : Nat → Nat} {lo j : Nat} (h : lo ≤ j) : up (d1N g lo j) j (g (j + 4)) = d1N g lo (j + 1) := by
  funext i; unfold up d1N
  by_cases h1 : i = j
  · rw [if_pos h1, if_pos (by omega), h1]
  · rw [if_neg h1]
    by_cases h2 : lo ≤ i ∧ i < j
    · rw [if_pos h2, if_pos (by omega)]
    · rw [if_neg h2, if_neg (by omega)]
def z1N (g : Nat → Nat) (lo n : Nat) : Nat → Nat := fun i => if lo ≤ i ∧ i < lo + n then 0 else g i
theorem z1N_0 {g : Nat → Nat} {lo : Nat} : z1N g lo 0 = g := by funext i; unfold z1N; rw [if_neg (by omega)]
theorem z1N_s {g : Nat → Nat} {lo n : Nat} : up (z1N g lo n) (lo + n) 0 = z1N g lo (n + 1) := by
  funext i; unfold up z1N
  by_cases h1 : i = lo + n
  · rw [if_pos h1, if_pos (by omega)]
  · rw [if_neg h1]
    by_cases h2 : lo ≤ i ∧ i < lo + n
    · rw [if_pos h2, if_pos (by omega)]
    · rw [if_neg h2, if_neg (by omega)]
/-- the rows from b on, row k taken out of c + 1 -/
def dropN (g : Nat → Nat) (b k c : Nat) : Nat → Nat := z1N (d1N g (b + 4 * k) (b + 4 * c)) (b + 4 * c) 4
theorem dropN_lo {g : Nat → Nat} {b k c i : Nat} (h : i < b) : dropN g b k c i = g i := by
  unfold dropN z1N d1N; rw [if_neg (by omega), if_neg (by omega)]
def nxRL (g : Nat → Nat) (k q : Nat) : Nat → Nat := up g (232 + 4 * k + 2) q
def nxCO (g : Nat → Nat) (k : Nat) : Nat → Nat := up (dropN (up g 2 (g 2 - 1)) 232 k (g 2 - 1)) 7 (dropN (up g 2 (g 2 - 1)) 232 k (g 2 - 1) 7 + 1)
def nxCB (g : Nat → Nat) (k : Nat) : Nat → Nat := dropN (up g 3 (g 3 - 1)) 264 k (g 3 - 1)
/-- a full leg among those from f on, below j: 1 -/
def anyB (g : Nat → Nat) (t f : Nat) : Nat → Nat
  | 0 => 0
  | j + 1 => if anyB g t f j = 1 ∨ (f ≤ j ∧ g (16 + 36 * t + 0) ≤ ldG g t j) then 1 else 0
theorem anyB_01 {g : Nat → Nat} {t f j : Nat} : anyB g t f j ≤ 1 := by
  cases j with
  | zero => exact Nat.zero_le _
  | succ j => unfold anyB; split <;> omega
theorem anyB_lo {g : Nat → Nat} {t f : Nat} : ∀ {j : Nat}, j ≤ f → anyB g t f j = 0
  | 0, _ => rfl
  | j + 1, h => by
    unfold anyB
    rw [anyB_lo (j := j) (by omega), if_neg (by omega)]
def cdBK (g : Nat → Nat) (s p q : Int32) : Nat := if ¬ (iR s (g 1) ∧ iR p (g (16 + 36 * s.toInt.toNat + 3))) ∨ ¬ (iR s (g 1) ∧ iR q (g (16 + 36 * s.toInt.toNat + 3))) then 1 else if tn q ≤ tn p then 2 else if g 3 = 10 then 3 else if 0 < anyB g (tn s) (tn p) (tn q) then 4 else 0
def nxBK (g : Nat → Nat) (t f l : Nat) : Nat → Nat := up (up (up (up (up (up g (264 + 4 * g 3 + 0) (g 5)) (264 + 4 * g 3 + 1) t) (264 + 4 * g 3 + 2) f) (264 + 4 * g 3 + 3) l) 3 (g 3 + 1)) 5 (g 5 + 1)

theorem ct_foundN {G : GG} {l : Launch} {h : AH} {m : Nat} {fs : List Value} {aG : Nat} {g : Nat → Nat} {p : Int32}  (hm : h m = some (.inr (0, fs))) (h_g : fs[0]? = some (.ref aG)) (hg : h aG = some (iA G 304 (fun i => nI (g i)))) (hn : g 2 ≤ 8) (hB : GB g) (hfo : fdO g 232 p (g 2) = none) : Ct G l yX4_found cX4_found 3 (some .int) 1 0 0 [.ref m, .int (p)] h (PR (.int (-1)) h) := by
  refine Ct.of (by decide) (Nat.le_of_ble_eq_true rfl) (cat1 rfl) (fun X hXl F HN => ?_)
  subst hXl
  refine V_iconst (v := nI 0) F dX4_found_0 rfl ?_
  refine V_istore_n (i := 2) F dX4_found_1 rfl (Nat.le_of_ble_eq_true rfl) (Nat.le_of_ble_eq_true rfl) ?_
  have loop_2 : ∀ (nn : Nat) (j : Nat), g 2 < j + nn → j ≤ g 2 → (∀ i, i < j → nI (g (232 + 4 * i + 0)) ≠ p) → VV G X 3 (EQ G X 0 0 (PR (.int (-1)) h)) h 0 0 [some (.ref (m)), some (.int (p)), some (.int (nI (j)))] [] 2 := by
    intro nn
    induction nn with
    | zero => intro j hn hj hbf; exact absurd hn (by omega)
    | succ nn ih_2 =>
      intro j hn hj hbf
      refine V_iload_n (i := 2) F dX4_found_2 rfl rfl ?_
      refine V_aload_n (i := 0) F dX4_found_3 rfl rfl ?_
      refine V_getf F dX4_found_4 fc_X4_7_X4 (.inl hm) h_g ?_
      refine V_iconst (v := nI 2) F dX4_found_7 rfl ?_
      refine V_ialdG F dX4_found_8 (.inl hg) (by omega) (by decide) rfl ?_
      refine V_icmp_geN (tgt := 30) F dX4_found_9 (by decide) (by omega) hB.lt (fun c_9 => ?_) (fun c_9 => ?_)
      · refine V_iconst (v := -1) F dX4_found_30 rfl ?_
        exact V_iret F dX4_found_31 rfl (Nat.le_of_ble_eq_true rfl) (Nat.le_of_ble_eq_true rfl) ⟨rfl, rfl⟩
      · refine V_aload_n (i := 0) F dX4_found_12 rfl rfl ?_
        refine V_iload_n (i := 2) F dX4_found_13 rfl rfl ?_
        refine V_iconst (v := nI 0) F dX4_found_14 rfl ?_
        refine V_cV2r F dX4_found_15 lk_X4_141 (ct_the hm h_g hg (by omega)) ⟨0, _, _, _, rfl, (.inl hm)⟩ (Nat.le_of_ble_eq_true rfl) (Nat.le_of_ble_eq_true rfl) (Nat.le_of_ble_eq_true rfl) (Nat.le_of_ble_eq_true rfl) (Nat.le_of_ble_eq_true rfl) ?_
        refine V_iload_n (i := 1) F dX4_found_18 rfl rfl ?_
        refine V_icmp_ne (tgt := 24) F dX4_found_19 (by decide) (fun c_19 => ?_) (fun c_19 => ?_)
        · refine V_iinc (i := 2) (v := nI (j + 1)) F dX4_found_24 rfl (nI_add (j) 1) (Nat.le_of_ble_eq_true rfl) ?_
          refine V_goto (tgt := 2) F dX4_found_27 (by decide) ?_
          refine VV.weak (L' := [some (.ref (m)), some (.int (p)), some (.int (nI (j + 1)))]) (LW.c1 (LW.c1 (LW.c1 LW.nil))) ?_
          exact ih_2 (j + 1) (by omega) (by omega) (fun i hi => by rcases Nat.lt_succ_iff_lt_or_eq.mp hi with q | q; exact hbf i q; rw [q]; exact c_19)
        · refine V_iload_n (i := 2) F dX4_found_22 rfl rfl ?_
          exact absurd ((fdO_some (by omega) c_19 hbf).symm.trans hfo) (by simp)
  refine VV.weak (L' := [some (.ref (m)), some (.int (p)), some (.int (nI (0)))]) (LW.c1 (LW.c1 (LW.c1 LW.nil))) ?_
  exact loop_2 (g 2 + 1) 0 (by omega) (by omega) (fun i hi => absurd hi (Nat.not_lt_zero i))
theorem ct_foundS {G : GG} {l : Launch} {h : AH} {m : Nat} {fs : List Value} {aG : Nat} {g : Nat → Nat} {p : Int32} {k : Nat} (hm : h m = some (.inr (0, fs))) (h_g : fs[0]? = some (.ref aG)) (hg : h aG = some (iA G 304 (fun i => nI (g i)))) (hn : g 2 ≤ 8) (hB : GB g) (hfo : fdO g 232 p (g 2) = some k) : Ct G l yX4_found cX4_found 3 (some .int) 1 0 0 [.ref m, .int (p)] h (PR (.int (nI k)) h) := by
  refine Ct.of (by decide) (Nat.le_of_ble_eq_true rfl) (cat1 rfl) (fun X hXl F HN => ?_)
  subst hXl
  refine V_iconst (v := nI 0) F dX4_found_0 rfl ?_
  refine V_istore_n (i := 2) F dX4_found_1 rfl (Nat.le_of_ble_eq_true rfl) (Nat.le_of_ble_eq_true rfl) ?_
  have loop_2 : ∀ (nn : Nat) (j : Nat), g 2 < j + nn → j ≤ g 2 → (∀ i, i < j → nI (g (232 + 4 * i + 0)) ≠ p) → VV G X 3 (EQ G X 0 0 (PR (.int (nI k)) h)) h 0 0 [some (.ref (m)), some (.int (p)), some (.int (nI (j)))] [] 2 := by
    intro nn
    induction nn with
    | zero => intro j hn hj hbf; exact absurd hn (by omega)
    | succ nn ih_2 =>
      intro j hn hj hbf
      refine V_iload_n (i := 2) F dX4_found_2 rfl rfl ?_
      refine V_aload_n (i := 0) F dX4_found_3 rfl rfl ?_
      refine V_getf F dX4_found_4 fc_X4_7_X4 (.inl hm) h_g ?_
      refine V_iconst (v := nI 2) F dX4_found_7 rfl ?_
      refine V_ialdG F dX4_found_8 (.inl hg) (by omega) (by decide) rfl ?_
      refine V_icmp_geN (tgt := 30) F dX4_found_9 (by decide) (by omega) hB.lt (fun c_9 => ?_) (fun c_9 => ?_)
      · refine V_iconst (v := -1) F dX4_found_30 rfl ?_
        exact absurd ((fdO_none (fun i hi => hbf i (by omega))).symm.trans hfo) (by simp)
      · refine V_aload_n (i := 0) F dX4_found_12 rfl rfl ?_
        refine V_iload_n (i := 2) F dX4_found_13 rfl rfl ?_
        refine V_iconst (v := nI 0) F dX4_found_14 rfl ?_
        refine V_cV2r F dX4_found_15 lk_X4_141 (ct_the hm h_g hg (by omega)) ⟨0, _, _, _, rfl, (.inl hm)⟩ (Nat.le_of_ble_eq_true rfl) (Nat.le_of_ble_eq_true rfl) (Nat.le_of_ble_eq_true rfl) (Nat.le_of_ble_eq_true rfl) (Nat.le_of_ble_eq_true rfl) ?_
        refine V_iload_n (i := 1) F dX4_found_18 rfl rfl ?_
        refine V_icmp_ne (tgt := 24) F dX4_found_19 (by decide) (fun c_19 => ?_) (fun c_19 => ?_)
        · refine V_iinc (i := 2) (v := nI (j + 1)) F dX4_found_24 rfl (nI_add (j) 1) (Nat.le_of_ble_eq_true rfl) ?_
          refine V_goto (tgt := 2) F dX4_found_27 (by decide) ?_
          refine VV.weak (L' := [some (.ref (m)), some (.int (p)), some (.int (nI (j + 1)))]) (LW.c1 (LW.c1 (LW.c1 LW.nil))) ?_
          exact ih_2 (j + 1) (by omega) (by omega) (fun i hi => by rcases Nat.lt_succ_iff_lt_or_eq.mp hi with q | q; exact hbf i q; rw [q]; exact c_19)
        · refine V_iload_n (i := 2) F dX4_found_22 rfl rfl ?_
          exact V_iret F dX4_found_23 rfl (Nat.le_of_ble_eq_true rfl) (Nat.le_of_ble_eq_true rfl) ⟨by rw [Option.some.inj ((fdO_some (by omega) c_19 hbf).symm.trans hfo)], rfl⟩
  refine VV.weak (L' := [some (.ref (m)), some (.int (p)), some (.int (nI (0)))]) (LW.c1 (LW.c1 (LW.c1 LW.nil))) ?_
  exact loop_2 (g 2 + 1) 0 (by omega) (by omega) (fun i hi => absurd hi (Nat.not_lt_zero i))
theorem ct_placedN {G : GG} {l : Launch} {h : AH} {m : Nat} {fs : List Value} {aG : Nat} {g : Nat → Nat} {p : Int32}  (hm : h m = some (.inr (0, fs))) (h_g : fs[0]? = some (.ref aG)) (hg : h aG = some (iA G 304 (fun i => nI (g i)))) (hn : g 3 ≤ 10) (hB : GB g) (hfo : fdO g 264 p (g 3) = none) : Ct G l yX4_placed cX4_placed 3 (some .int) 1 0 0 [.ref m, .int (p)] h (PR (.int (-1)) h) := by
  refine Ct.of (by decide) (Nat.le_of_ble_eq_true rfl) (cat1 rfl) (fun X hXl F HN => ?_)
  subst hXl
  refine V_iconst (v := nI 0) F dX4_placed_0 rfl ?_
  refine V_istore_n (i := 2) F dX4_placed_1 rfl (Nat.le_of_ble_eq_true rfl) (Nat.le_of_ble_eq_true rfl) ?_
  have loop_2 : ∀ (nn : Nat) (j : Nat), g 3 < j + nn → j ≤ g 3 → (∀ i, i < j → nI (g (264 + 4 * i + 0)) ≠ p) → VV G X 3 (EQ G X 0 0 (PR (.int (-1)) h)) h 0 0 [some (.ref (m)), some (.int (p)), some (.int (nI (j)))] [] 2 := by
    intro nn
    induction nn with
    | zero => intro j hn hj hbf; exact absurd hn (by omega)
    | succ nn ih_2 =>
      intro j hn hj hbf
      refine V_iload_n (i := 2) F dX4_placed_2 rfl rfl ?_
      refine V_aload_n (i := 0) F dX4_placed_3 rfl rfl ?_
      refine V_getf F dX4_placed_4 fc_X4_7_X4 (.inl hm) h_g ?_
      refine V_iconst (v := nI 3) F dX4_placed_7 rfl ?_
      refine V_ialdG F dX4_placed_8 (.inl hg) (by omega) (by decide) rfl ?_
      refine V_icmp_geN (tgt := 30) F dX4_placed_9 (by decide) (by omega) hB.lt (fun c_9 => ?_) (fun c_9 => ?_)
      · refine V_iconst (v := -1) F dX4_placed_30 rfl ?_
        exact V_iret F dX4_placed_31 rfl (Nat.le_of_ble_eq_true rfl) (Nat.le_of_ble_eq_true rfl) ⟨rfl, rfl⟩
      · refine V_aload_n (i := 0) F dX4_placed_12 rfl rfl ?_
        refine V_iload_n (i := 2) F dX4_placed_13 rfl rfl ?_
        refine V_iconst (v := nI 0) F dX4_placed_14 rfl ?_
        refine V_cV2r F dX4_placed_15 lk_X4_83 (ct_by hm h_g hg (by omega)) ⟨0, _, _, _, rfl, (.inl hm)⟩ (Nat.le_of_ble_eq_true rfl) (Nat.le_of_ble_eq_true rfl) (Nat.le_of_ble_eq_true rfl) (Nat.le_of_ble_eq_true rfl) (Nat.le_of_ble_eq_true rfl) ?_
        refine V_iload_n (i := 1) F dX4_placed_18 rfl rfl ?_
        refine V_icmp_ne (tgt := 24) F dX4_placed_19 (by decide) (fun c_19 => ?_) (fun c_19 => ?_)
        · refine V_iinc (i := 2) (v := nI (j + 1)) F dX4_placed_24 rfl (nI_add (j) 1) (Nat.le_of_ble_eq_true rfl) ?_
          refine V_goto (tgt := 2) F dX4_placed_27 (by decide) ?_
          refine VV.weak (L' := [some (.ref (m)), some (.int (p)), some (.int (nI (j + 1)))]) (LW.c1 (LW.c1 (LW.c1 LW.nil))) ?_
          exact ih_2 (j + 1) (by omega) (by omega) (fun i hi => by rcases Nat.lt_succ_iff_lt_or_eq.mp hi with q | q; exact hbf i q; rw [q]; exact c_19)
        · refine V_iload_n (i := 2) F dX4_placed_22 rfl rfl ?_
          exact absurd ((fdO_some (by omega) c_19 hbf).symm.trans hfo) (by simp)
  refine VV.weak (L' := [some (.ref (m)), some (.int (p)), some (.int (nI (0)))]) (LW.c1 (LW.c1 (LW.c1 LW.nil))) ?_
  exact loop_2 (g 3 + 1) 0 (by omega) (by omega) (fun i hi => absurd hi (Nat.not_lt_zero i))
theorem ct_placedS {G : GG} {l : Launch} {h : AH} {m : Nat} {fs : List Value} {aG : Nat} {g : Nat → Nat} {p : Int32} {k : Nat} (hm : h m = some (.inr (0, fs))) (h_g : fs[0]? = some (.ref aG)) (hg : h aG = some (iA G 304 (fun i => nI (g i)))) (hn : g 3 ≤ 10) (hB : GB g) (hfo : fdO g 264 p (g 3) = some k) : Ct G l yX4_placed cX4_placed 3 (some .int) 1 0 0 [.ref m, .int (p)] h (PR (.int (nI k)) h) := by
  refine Ct.of (by decide) (Nat.le_of_ble_eq_true rfl) (cat1 rfl) (fun X hXl F HN => ?_)
  subst hXl
  refine V_iconst (v := nI 0) F dX4_placed_0 rfl ?_
  refine V_istore_n (i := 2) F dX4_placed_1 rfl (Nat.le_of_ble_eq_true rfl) (Nat.le_of_ble_eq_true rfl) ?_
  have loop_2 : ∀ (nn : Nat) (j : Nat), g 3 < j + nn → j ≤ g 3 → (∀ i, i < j → nI (g (264 + 4 * i + 0)) ≠ p) → VV G X 3 (EQ G X 0 0 (PR (.int (nI k)) h)) h 0 0 [some (.ref (m)), some (.int (p)), some (.int (nI (j)))] [] 2 := by
    intro nn
    induction nn with
    | zero => intro j hn hj hbf; exact absurd hn (by omega)
    | succ nn ih_2 =>
      intro j hn hj hbf
      refine V_iload_n (i := 2) F dX4_placed_2 rfl rfl ?_
      refine V_aload_n (i := 0) F dX4_placed_3 rfl rfl ?_
      refine V_getf F dX4_placed_4 fc_X4_7_X4 (.inl hm) h_g ?_
      refine V_iconst (v := nI 3) F dX4_placed_7 rfl ?_
      refine V_ialdG F dX4_placed_8 (.inl hg) (by omega) (by decide) rfl ?_
      refine V_icmp_geN (tgt := 30) F dX4_placed_9 (by decide) (by omega) hB.lt (fun c_9 => ?_) (fun c_9 => ?_)
      · refine V_iconst (v := -1) F dX4_placed_30 rfl ?_
        exact absurd ((fdO_none (fun i hi => hbf i (by omega))).symm.trans hfo) (by simp)
      · refine V_aload_n (i := 0) F dX4_placed_12 rfl rfl ?_
        refine V_iload_n (i := 2) F dX4_placed_13 rfl rfl ?_
        refine V_iconst (v := nI 0) F dX4_placed_14 rfl ?_
        refine V_cV2r F dX4_placed_15 lk_X4_83 (ct_by hm h_g hg (by omega)) ⟨0, _, _, _, rfl, (.inl hm)⟩ (Nat.le_of_ble_eq_true rfl) (Nat.le_of_ble_eq_true rfl) (Nat.le_of_ble_eq_true rfl) (Nat.le_of_ble_eq_true rfl) (Nat.le_of_ble_eq_true rfl) ?_
        refine V_iload_n (i := 1) F dX4_placed_18 rfl rfl ?_
        refine V_icmp_ne (tgt := 24) F dX4_placed_19 (by decide) (fun c_19 => ?_) (fun c_19 => ?_)
        · refine V_iinc (i := 2) (v := nI (j + 1)) F dX4_placed_24 rfl (nI_add (j) 1) (Nat.le_of_ble_eq_true rfl) ?_
          refine V_goto (tgt := 2) F dX4_placed_27 (by decide) ?_
          refine VV.weak (L' := [some (.ref (m)), some (.int (p)), some (.int (nI (j + 1)))]) (LW.c1 (LW.c1 (LW.c1 LW.nil))) ?_
          exact ih_2 (j + 1) (by omega) (by omega) (fun i hi => by rcases Nat.lt_succ_iff_lt_or_eq.mp hi with q | q; exact hbf i q; rw [q]; exact c_19)
        · refine V_iload_n (i := 2) F dX4_placed_22 rfl rfl ?_
          exact V_iret F dX4_placed_23 rfl (Nat.le_of_ble_eq_true rfl) (Nat.le_of_ble_eq_true rfl) ⟨by rw [Option.some.inj ((fdO_some (by omega) c_19 hbf).symm.trans hfo)], rfl⟩
  refine VV.weak (L' := [some (.ref (m)), some (.int (p)), some (.int (nI (0)))]) (LW.c1 (LW.c1 (LW.c1 LW.nil))) ?_
  exact loop_2 (g 3 + 1) 0 (by omega) (by omega) (fun i hi => absurd hi (Nat.not_lt_zero i))
theorem ct_isLostN {G : GG} {l : Launch} {h : AH} {m : Nat} {fs : List Value} {aG : Nat} {g : Nat → Nat} {p : Int32}  (hm : h m = some (.inr (0, fs))) (h_g : fs[0]? = some (.ref aG)) (hg : h aG = some (iA G 304 (fun i => nI (g i)))) (hlen : fs.length = 25) (hn : g 2 ≤ 8) (hB : GB g) (hfo : fdO g 232 p (g 2) = none) : Ct G l yX4_isLost cX4_isLost 2 (some .boolean) 2 0 0 [.ref m, .int p] h (PR (.int (nI 1)) (hset h m (.inr (0, fs.set 7 (.int (nI 1)))))) := by
  refine Ct.of (by decide) (Nat.le_of_ble_eq_true rfl) (cat1 rfl) (fun X hXl F HN => ?_)
  subst hXl
  refine V_aload_n (i := 0) F dX4_isLost_0 rfl rfl ?_
  refine V_aload_n (i := 0) F dX4_isLost_1 rfl rfl ?_
  refine V_iload_n (i := 1) F dX4_isLost_2 rfl rfl ?_
  refine V_cV1r F dX4_isLost_3 lk_X4_144 (ct_foundN hm h_g hg hn hB hfo) ⟨0, _, _, _, rfl, (.inl hm)⟩ (Nat.le_of_ble_eq_true rfl) (Nat.le_of_ble_eq_true rfl) (Nat.le_of_ble_eq_true rfl) (Nat.le_of_ble_eq_true rfl) (Nat.le_of_ble_eq_true rfl) ?_
  refine V_if_ge (tgt := 13) F dX4_isLost_6 (by decide) (fun c_6 => absurd c_6 (by decide)) (fun c_6 => ?_)
  refine V_iconst (v := nI 1) F dX4_isLost_9 rfl ?_
  refine V_goto (tgt := 14) F dX4_isLost_10 (by decide) ?_
  refine V_cV1r F dX4_isLost_14 lk_X4_92 (ct_failsP 1 hm hlen (by decide)) ⟨0, _, _, _, rfl, (.inl hm)⟩ (Nat.le_of_ble_eq_true rfl) (Nat.le_of_ble_eq_true rfl) (Nat.le_of_ble_eq_true rfl) (Nat.le_of_ble_eq_true rfl) (Nat.le_of_ble_eq_true rfl) ?_
  exact V_iret F dX4_isLost_17 rfl (Nat.le_of_ble_eq_true rfl) (Nat.le_of_ble_eq_true rfl) ⟨rfl, rfl⟩
theorem ct_isLostS {G : GG} {l : Launch} {h : AH} {m : Nat} {fs : List Value} {aG : Nat} {g : Nat → Nat} {p : Int32} {k : Nat} (hm : h m = some (.inr (0, fs))) (h_g : fs[0]? = some (.ref aG)) (hg : h aG = some (iA G 304 (fun i => nI (g i)))) (hlen : fs.length = 25) (hn : g 2 ≤ 8) (hB : GB g) (hfo : fdO g 232 p (g 2) = some k) : Ct G l yX4_isLost cX4_isLost 2 (some .boolean) 2 0 0 [.ref m, .int p] h (PR (.int (nI 0)) (hset h m (.inr (0, fs.set 7 (.int (nI 0)))))) := by
  refine Ct.of (by decide) (Nat.le_of_ble_eq_true rfl) (cat1 rfl) (fun X hXl F HN => ?_)
  subst hXl
  refine V_aload_n (i := 0) F dX4_isLost_0 rfl rfl ?_
  refine V_aload_n (i := 0) F dX4_isLost_1 rfl rfl ?_
  refine V_iload_n (i := 1) F dX4_isLost_2 rfl rfl ?_
  refine V_cV1r F dX4_isLost_3 lk_X4_144 (ct_foundS hm h_g hg hn hB hfo) ⟨0, _, _, _, rfl, (.inl hm)⟩ (Nat.le_of_ble_eq_true rfl) (Nat.le_of_ble_eq_true rfl) (Nat.le_of_ble_eq_true rfl) (Nat.le_of_ble_eq_true rfl) (Nat.le_of_ble_eq_true rfl) ?_
  refine V_if_geN (tgt := 13) F dX4_isLost_6 (by decide) (by have := (fdO_lt hfo).1; omega) ?_
  refine V_iconst (v := nI 0) F dX4_isLost_13 rfl ?_
  refine V_cV1r F dX4_isLost_14 lk_X4_92 (ct_fails0 hm hlen) ⟨0, _, _, _, rfl, (.inl hm)⟩ (Nat.le_of_ble_eq_true rfl) (Nat.le_of_ble_eq_true rfl) (Nat.le_of_ble_eq_true rfl) (Nat.le_of_ble_eq_true rfl) (Nat.le_of_ble_eq_true rfl) ?_
  exact V_iret F dX4_isLost_17 rfl (Nat.le_of_ble_eq_true rfl) (Nat.le_of_ble_eq_true rfl) ⟨rfl, rfl⟩
theorem ct_drops {G : GG} {l : Launch} {h : AH} {m : Nat} {fs : List Value} {aG : Nat} {g : Nat → Nat} {b k c : Nat} (hm : h m = some (.inr (0, fs))) (h_g : fs[0]? = some (.ref aG)) (hg : h aG = some (iA G 304 (fun i => nI (g i)))) (hkc : k ≤ c) (hbc : b + 4 * c + 4 ≤ 304) : Ct G l yX4_drops cX4_drops 5 none 0 0 0 [.ref m, .int (nI (b)), .int (nI (k)), .int (nI (c))] h (PV (hset h aG (iA G 304 (fun i => nI (dropN g b k c i))))) := by
  refine Ct.of (by decide) (Nat.le_of_ble_eq_true rfl) (cat1 rfl) (fun X hXl F HN => ?_)
  subst hXl
  refine V_iload_n (i := 1) F dX4_drops_0 rfl rfl ?_
  refine V_iconst (v := nI 4) F dX4_drops_1 rfl ?_
  refine V_iload_n (i := 2) F dX4_drops_2 rfl rfl ?_
  refine V_imulN F dX4_drops_3 ?_
  refine V_iaddN F dX4_drops_4 ?_
  refine V_istore (i := 4) F dX4_drops_5 (Nat.le_of_ble_eq_true rfl) (Nat.le_of_ble_eq_true rfl) ?_
  have loop_7 : ∀ (nn : Nat) (j : Nat), b + 4 * c < j + nn → j ≤ b + 4 * c → b + 4 * k ≤ j → VV G X 5 (EQ G X 0 0 (PV (hset h aG (iA G 304 (fun i => nI (dropN g b k c i)))))) (hset h aG (iA G 304 (fun i => nI ((d1N g (b + 4 * k) j) i)))) 0 0 [some (.ref (m)), some (.int (nI (b))), some (.int (nI (k))), some (.int (nI (c))), some (.int (nI (j)))] [] 7 := by
    intro nn
    induction nn with
    | zero => intro j hn hj hjk; exact absurd hn (by omega)
    | succ nn ih_7 =>
      intro j hn hj hjk
      refine V_iload (i := 4) F dX4_drops_7 rfl ?_
      refine V_iload_n (i := 1) F dX4_drops_9 rfl rfl ?_
      refine V_iconst (v := nI 4) F dX4_drops_10 rfl ?_
      refine V_iload_n (i := 3) F dX4_drops_11 rfl rfl ?_
      refine V_imulN F dX4_drops_12 ?_
      refine V_iaddN F dX4_drops_13 ?_
      refine V_icmp_geN (tgt := 39) F dX4_drops_14 (by decide) (by omega) (by omega) (fun c_14 => ?_) (fun c_14 => ?_)
      · refine V_iconst (v := nI 0) F dX4_drops_39 rfl ?_
        refine V_istore (i := 4) F dX4_drops_40 (Nat.le_of_ble_eq_true rfl) (Nat.le_of_ble_eq_true rfl) ?_
        have loop_42 : ∀ (nn : Nat) (j : Nat), 4 < j + nn → j ≤ 4 → VV G X 5 (EQ G X 0 0 (PV (hset h aG (iA G 304 (fun i => nI (dropN g b k c i)))))) (hset h aG (iA G 304 (fun i => nI ((z1N (d1N g (b + 4 * k) (b + 4 * c)) (b + 4 * c) j) i)))) 0 0 [some (.ref (m)), some (.int (nI (b))), some (.int (nI (k))), some (.int (nI (c))), some (.int (nI (j)))] [] 42 := by
          intro nn
          induction nn with
          | zero => intro j hn2 hj2; exact absurd hn2 (by omega)
          | succ nn ih_42 =>
            intro j hn2 hj2
            refine V_iload (i := 4) F dX4_drops_42 rfl ?_
            refine V_iconst (v := nI 4) F dX4_drops_44 rfl ?_
            refine V_icmp_geN (tgt := 68) F dX4_drops_45 (by decide) (by omega) (by omega) (fun c_45 => ?_) (fun c_45 => ?_)
            · exact V_vret F dX4_drops_68 (Nat.le_of_ble_eq_true rfl) (Nat.le_of_ble_eq_true rfl) ⟨rfl, by rw [show j = 4 by omega]; rfl⟩
            · refine V_aload_n (i := 0) F dX4_drops_48 rfl rfl ?_
              refine V_getf F dX4_drops_49 fc_X4_7_X4 (.inl ((hset_ne (ne_oa hm hg)).trans hm)) h_g ?_
              refine V_iload_n (i := 1) F dX4_drops_52 rfl rfl ?_
              refine V_iconst (v := nI 4) F dX4_drops_53 rfl ?_
              refine V_iload_n (i := 3) F dX4_drops_54 rfl rfl ?_
              refine V_imulN F dX4_drops_55 ?_
              refine V_iaddN F dX4_drops_56 ?_
              refine V_iload (i := 4) F dX4_drops_57 rfl ?_
              refine V_iaddN F dX4_drops_59 ?_
              refine V_iconst (v := nI 0) F dX4_drops_60 rfl ?_
              refine V_iastG F dX4_drops_61 hset_self (by omega) (by decide) ?_
              refine V_iinc (i := 4) (v := nI (j + 1)) F dX4_drops_62 rfl (nI_add (j) 1) (Nat.le_of_ble_eq_true rfl) ?_
              refine V_goto (tgt := 42) F dX4_drops_65 (by decide) ?_
              refine VV.weak (L' := [some (.ref (m)), some (.int (nI (b))), some (.int (nI (k))), some (.int (nI (c))), some (.int (nI ((j + 1))))]) (LW.c1 (LW.c1 (LW.c1 (LW.c1 (LW.c1 LW.nil))))) ?_
              refine VV.heap (by rw [hset_hset, z1N_s]) ?_
              exact ih_42 (j + 1) (by omega) (by omega)
        refine VV.weak (L' := [some (.ref (m)), some (.int (nI (b))), some (.int (nI (k))), some (.int (nI (c))), some (.int (nI (0)))]) (LW.c1 (LW.c1 (LW.c1 (LW.c1 (LW.c1 LW.nil))))) ?_
        obtain rfl : j = b + 4 * c := by omega
        refine VV.heap (h' := hset h aG (iA G 304 (fun i => nI (z1N (d1N g (b + 4 * k) (b + 4 * c)) (b + 4 * c) 0 i)))) (by rw [z1N_0]) ?_
        exact loop_42 5 0 (by omega) (by omega)
      · refine V_aload_n (i := 0) F dX4_drops_17 rfl rfl ?_
        refine V_getf F dX4_drops_18 fc_X4_7_X4 (.inl ((hset_ne (ne_oa hm hg)).trans hm)) h_g ?_
        refine V_iload (i := 4) F dX4_drops_21 rfl ?_
        refine V_aload_n (i := 0) F dX4_drops_23 rfl rfl ?_
        refine V_getf F dX4_drops_24 fc_X4_7_X4 (.inl ((hset_ne (ne_oa hm hg)).trans hm)) h_g ?_
        refine V_iload (i := 4) F dX4_drops_27 rfl ?_
        refine V_iconst (v := nI 4) F dX4_drops_29 rfl ?_
        refine V_iaddN F dX4_drops_30 ?_
        refine V_ialdG F dX4_drops_31 (.inl hset_self) (by omega) (by decide) rfl ?_
        refine V_iastG F dX4_drops_32 hset_self (by omega) (by decide) ?_
        refine V_iinc (i := 4) (v := nI (j + 1)) F dX4_drops_33 rfl (nI_add (j) 1) (Nat.le_of_ble_eq_true rfl) ?_
        refine V_goto (tgt := 7) F dX4_drops_36 (by decide) ?_
        refine VV.weak (L' := [some (.ref (m)), some (.int (nI (b))), some (.int (nI (k))), some (.int (nI (c))), some (.int (nI ((j + 1))))]) (LW.c1 (LW.c1 (LW.c1 (LW.c1 (LW.c1 LW.nil))))) ?_
        refine VV.heap (by rw [hset_hset, d1N_at, d1N_s hjk]) ?_
        exact ih_7 (j + 1) (by omega) (by omega) (by omega)
  refine VV.weak (L' := [some (.ref (m)), some (.int (nI (b))), some (.int (nI (k))), some (.int (nI (c))), some (.int (nI (b + 4 * k)))]) (LW.c1 (LW.c1 (LW.c1 (LW.c1 (LW.c1 LW.nil))))) ?_
  refine VV.heap (h' := hset h aG (iA G 304 (fun i => nI (d1N g (b + 4 * k) (b + 4 * k) i)))) (by rw [d1N_0]; exact (hset_id hg).symm) ?_
  exact loop_7 (b + 4 * c + 1) (b + 4 * k) (by omega) (by omega) (by omega)
theorem ct_relabelN {G : GG} {l : Launch} {h : AH} {m : Nat} {fs : List Value} {aG : Nat} {g : Nat → Nat} {p q : Int32} (hm : h m = some (.inr (0, fs))) (h_g : fs[0]? = some (.ref aG)) (hg : h aG = some (iA G 304 (fun i => nI (g i)))) (hlen : fs.length = 25) (hn : g 2 ≤ 8) (hB : GB g) (hfo : fdO g 232 p (g 2) = none) : Ct G l yX4_relabel cX4_relabel 5 (some .int) 3 0 0 [.ref m, .int (p), .int (q)] h (PR (.int (nI 0)) (hset h m (.inr (0, fs.set 7 (.int (nI 1)))))) := by
  refine Ct.of (by decide) (Nat.le_of_ble_eq_true rfl) (cat1 rfl) (fun X hXl F HN => ?_)
  subst hXl
  refine V_aload_n (i := 0) F dX4_relabel_0 rfl rfl ?_
  refine V_iload_n (i := 1) F dX4_relabel_1 rfl rfl ?_
  refine V_cV1r F dX4_relabel_2 lk_X4_148 (ct_isLostN hm h_g hg hlen hn hB hfo) ⟨0, _, _, _, rfl, (.inl hm)⟩ (Nat.le_of_ble_eq_true rfl) (Nat.le_of_ble_eq_true rfl) (Nat.le_of_ble_eq_true rfl) (Nat.le_of_ble_eq_true rfl) (Nat.le_of_ble_eq_true rfl) ?_
  refine V_if_neN (tgt := 28) F dX4_relabel_5 (by decide) (by omega) (fun c_5 => ?_) (fun c_5 => absurd c_5 (by decide))
  refine V_iconst (v := nI 0) F dX4_relabel_28 rfl ?_
  exact V_iret F dX4_relabel_29 rfl (Nat.le_of_ble_eq_true rfl) (Nat.le_of_ble_eq_true rfl) ⟨rfl, rfl⟩
theorem ct_collectN {G : GG} {l : Launch} {h : AH} {m : Nat} {fs : List Value} {aG : Nat} {g : Nat → Nat} {p : Int32} (hm : h m = some (.inr (0, fs))) (h_g : fs[0]? = some (.ref aG)) (hg : h aG = some (iA G 304 (fun i => nI (g i)))) (hlen : fs.length = 25) (hn : g 2 ≤ 8) (hB : GB g) (hfo : fdO g 232 p (g 2) = none) : Ct G l yX4_collect cX4_collect 3 (some .int) 3 0 0 [.ref m, .int (p)] h (PR (.int (nI 0)) (hset h m (.inr (0, fs.set 7 (.int (nI 1)))))) := by
  refine Ct.of (by decide) (Nat.le_of_ble_eq_true rfl) (cat1 rfl) (fun X hXl F HN => ?_)
  subst hXl
  refine V_aload_n (i := 0) F dX4_collect_0 rfl rfl ?_
  refine V_iload_n (i := 1) F dX4_collect_1 rfl rfl ?_
  refine V_cV1r F dX4_collect_2 lk_X4_148 (ct_isLostN hm h_g hg hlen hn hB hfo) ⟨0, _, _, _, rfl, (.inl hm)⟩ (Nat.le_of_ble_eq_true rfl) (Nat.le_of_ble_eq_true rfl) (Nat.le_of_ble_eq_true rfl) (Nat.le_of_ble_eq_true rfl) (Nat.le_of_ble_eq_true rfl) ?_
  refine V_if_eqN (tgt := 10) F dX4_collect_5 (by decide) (by omega) (fun c_5 => absurd c_5 (by decide)) (fun c_5 => ?_)
  refine V_iconst (v := nI 0) F dX4_collect_8 rfl ?_
  exact V_iret F dX4_collect_9 rfl (Nat.le_of_ble_eq_true rfl) (Nat.le_of_ble_eq_true rfl) ⟨rfl, rfl⟩
theorem ct_cancelBookingN {G : GG} {l : Launch} {h : AH} {m : Nat} {fs : List Value} {aG : Nat} {g : Nat → Nat} {p : Int32} (hm : h m = some (.inr (0, fs))) (h_g : fs[0]? = some (.ref aG)) (hg : h aG = some (iA G 304 (fun i => nI (g i)))) (hlen : fs.length = 25) (hn : g 3 ≤ 10) (hB : GB g) (hfo : fdO g 264 p (g 3) = none) : Ct G l yX4_cancelBooking cX4_cancelBooking 3 (some .int) 2 0 0 [.ref m, .int (p)] h (PR (.int (nI 0)) (hset h m (.inr (0, fs.set 7 (.int (nI 1)))))) := by
  refine Ct.of (by decide) (Nat.le_of_ble_eq_true rfl) (cat1 rfl) (fun X hXl F HN => ?_)
  subst hXl
  refine V_aload_n (i := 0) F dX4_cancelBooking_0 rfl rfl ?_
  refine V_iload_n (i := 1) F dX4_cancelBooking_1 rfl rfl ?_
  refine V_cV1r F dX4_cancelBooking_2 lk_X4_167 (ct_placedN hm h_g hg hn  hB hfo) ⟨0, _, _, _, rfl, (.inl hm)⟩ (Nat.le_of_ble_eq_true rfl) (Nat.le_of_ble_eq_true rfl) (Nat.le_of_ble_eq_true rfl) (Nat.le_of_ble_eq_true rfl) (Nat.le_of_ble_eq_true rfl) ?_
  refine V_istore_n (i := 2) F dX4_cancelBooking_5 rfl (Nat.le_of_ble_eq_true rfl) (Nat.le_of_ble_eq_true rfl) ?_
  refine V_aload_n (i := 0) F dX4_cancelBooking_6 rfl rfl ?_
  refine V_iload_n (i := 2) F dX4_cancelBooking_7 rfl rfl ?_
  refine V_if_ge (tgt := 15) F dX4_cancelBooking_8 (by decide) (fun c_8 => absurd c_8 (by decide)) (fun c_8 => ?_)
  refine V_iconst (v := nI 1) F dX4_cancelBooking_11 rfl ?_
  refine V_goto (tgt := 16) F dX4_cancelBooking_12 (by decide) ?_
  refine V_cV1r F dX4_cancelBooking_16 lk_X4_92 (ct_failsP 1 hm hlen (by decide)) ⟨0, _, _, _, rfl, (.inl hm)⟩ (Nat.le_of_ble_eq_true rfl) (Nat.le_of_ble_eq_true rfl) (Nat.le_of_ble_eq_true rfl) (Nat.le_of_ble_eq_true rfl) (Nat.le_of_ble_eq_true rfl) ?_
  refine V_if_eqN (tgt := 24) F dX4_cancelBooking_19 (by decide) (by omega) (fun c_19 => absurd c_19 (by decide)) (fun c_19 => ?_)
  refine V_iconst (v := nI 0) F dX4_cancelBooking_22 rfl ?_
  exact V_iret F dX4_cancelBooking_23 rfl (Nat.le_of_ble_eq_true rfl) (Nat.le_of_ble_eq_true rfl) ⟨rfl, rfl⟩
theorem ct_relabelS {G : GG} {l : Launch} {h : AH} {m : Nat} {fs : List Value} {aG : Nat} {g : Nat → Nat} {aK : Nat} {gk : Nat → Nat} {w : Nat} {ch : Nat} {p q : Int32} {k : Nat} (hm : h m = some (.inr (0, fs))) (h_g : fs[0]? = some (.ref aG)) (hg : h aG = some (iA G 304 (fun i => nI (g i)))) (h_kept : fs[1]? = some (.ref aK)) (hk : h aK = some (iA G 2432 (fun i => nI (gk i)))) (h_isWithin : fs[6]? = some (.int (nI (w)))) (h_changes : fs[5]? = some (.int (nI (ch)))) (hlen : fs.length = 25) (hw : w < 2) (hch : ch ≤ 8) (hGK : aG ≠ aK) (hI : GW g) (hfo : fdO g 232 p (g 2) = some k) : Ct G l yX4_relabel cX4_relabel 5 (some .int) 3 0 0 [.ref m, .int (p), .int (q)] h (PX (if ¬ iR q (g 0) then 2 else 0) (fun k => hset h m (.inr (0, fs.set 7 (.int (nI k))))) (.int (nI (g (232 + 4 * k + 2)))) (hset (kpH G h m fs aK gk w ch g) aG (iA G 304 (fun i => nI ((nxRL g k (tn q)) i))))) := by
  refine Ct.of (by decide) (Nat.le_of_ble_eq_true rfl) (cat1 rfl) (fun X hXl F HN => ?_)
  subst hXl
  obtain ⟨hB, hn0, hn1, hn2, hn3, hst, hpl⟩ := hI
  have hmK : m ≠ aK := ne_oa hm hk
  refine V_aload_n (i := 0) F dX4_relabel_0 rfl rfl ?_
  refine V_iload_n (i := 1) F dX4_relabel_1 rfl rfl ?_
  refine V_cV1r F dX4_relabel_2 lk_X4_148 (ct_isLostS hm h_g hg hlen hn2 hB hfo) ⟨0, _, _, _, rfl, (.inl hm)⟩ (Nat.le_of_ble_eq_true rfl) (Nat.le_of_ble_eq_true rfl) (Nat.le_of_ble_eq_true rfl) (Nat.le_of_ble_eq_true rfl) (Nat.le_of_ble_eq_true rfl) ?_
  refine V_if_neN (tgt := 28) F dX4_relabel_5 (by decide) (by omega) (fun c_5 => absurd c_5 (by decide)) (fun c_5 => ?_)
  have hk2 := (fdO_lt hfo).1
  refine V_aload_n (i := 0) F dX4_relabel_8 rfl rfl ?_
  refine V_aload_n (i := 0) F dX4_relabel_9 rfl rfl ?_
  refine V_iload_n (i := 2) F dX4_relabel_10 rfl rfl ?_
  refine V_cV1r F dX4_relabel_11 lk_X4_99 (ct_isStation hset_self (gset h_g (by decide)) ((hset_ne (ne_ao hg hm)).trans hg) hB.lt) ⟨0, _, _, _, rfl, (.inl hset_self)⟩ (Nat.le_of_ble_eq_true rfl) (Nat.le_of_ble_eq_true rfl) (Nat.le_of_ble_eq_true rfl) (Nat.le_of_ble_eq_true rfl) (Nat.le_of_ble_eq_true rfl) ?_
  refine V_if_eqB (tgt := 21) F dX4_relabel_14 (by decide) (fun c_14 => ?_) (fun c_14 => ?_)
  · refine V_iconst (v := nI 2) F dX4_relabel_21 rfl ?_
    refine V_cV1r F dX4_relabel_22 lk_X4_92 (ct_failsP 2 hset_self (lens hlen) (by decide)) ⟨0, _, _, _, rfl, (.inl hset_self)⟩ (Nat.le_of_ble_eq_true rfl) (Nat.le_of_ble_eq_true rfl) (Nat.le_of_ble_eq_true rfl) (Nat.le_of_ble_eq_true rfl) (Nat.le_of_ble_eq_true rfl) ?_
    refine VV.heap (h' := hset h m (.inr (0, fs.set 7 (.int (nI (2)))))) (by rw [hset_hset, List.set_set]) ?_
    refine V_if_eqN (tgt := 30) F dX4_relabel_25 (by decide) (by omega) (fun c_25 => absurd c_25 (by decide)) (fun c_25 => ?_)
    refine V_iconst (v := nI 0) F dX4_relabel_28 rfl ?_
    exact V_iret F dX4_relabel_29 rfl (Nat.le_of_ble_eq_true rfl) (Nat.le_of_ble_eq_true rfl) (PX.fail 2 (if_pos c_14) (by decide) rfl)
  · obtain ⟨c, hc, rfl⟩ := iR_of c_14 hB.lt
    refine V_iconst (v := nI 0) F dX4_relabel_17 rfl ?_
    refine V_goto (tgt := 22) F dX4_relabel_18 (by decide) ?_
    refine V_cV1r F dX4_relabel_22 lk_X4_92 (ct_fails0 hset_self (lens hlen)) ⟨0, _, _, _, rfl, (.inl hset_self)⟩ (Nat.le_of_ble_eq_true rfl) (Nat.le_of_ble_eq_true rfl) (Nat.le_of_ble_eq_true rfl) (Nat.le_of_ble_eq_true rfl) (Nat.le_of_ble_eq_true rfl) ?_
    refine VV.heap (h' := hset h m (.inr (0, fs.set 7 (.int (nI (0)))))) (by rw [hset_hset, List.set_set]) ?_
    refine V_if_eqN (tgt := 30) F dX4_relabel_25 (by decide) (by omega) (fun c_25 => ?_) (fun c_25 => absurd c_25 (by decide))
    refine V_aload_n (i := 0) F dX4_relabel_30 rfl rfl ?_
    refine V_iload_n (i := 1) F dX4_relabel_31 rfl rfl ?_
    refine V_cV1r F dX4_relabel_32 lk_X4_144 (ct_foundS hset_self (gset h_g (by decide)) ((hset_ne (ne_ao hg hm)).trans hg) hn2 hB hfo) ⟨0, _, _, _, rfl, (.inl hset_self)⟩ (Nat.le_of_ble_eq_true rfl) (Nat.le_of_ble_eq_true rfl) (Nat.le_of_ble_eq_true rfl) (Nat.le_of_ble_eq_true rfl) (Nat.le_of_ble_eq_true rfl) ?_
    refine V_istore_n (i := 3) F dX4_relabel_35 rfl (Nat.le_of_ble_eq_true rfl) (Nat.le_of_ble_eq_true rfl) ?_
    refine V_aload_n (i := 0) F dX4_relabel_36 rfl rfl ?_
    refine V_iload_n (i := 3) F dX4_relabel_37 rfl rfl ?_
    refine V_iconst (v := nI 2) F dX4_relabel_38 rfl ?_
    refine V_cV2r F dX4_relabel_39 lk_X4_141 (ct_the hset_self (gset h_g (by decide)) ((hset_ne (ne_ao hg hm)).trans hg) (by omega)) ⟨0, _, _, _, rfl, (.inl hset_self)⟩ (Nat.le_of_ble_eq_true rfl) (Nat.le_of_ble_eq_true rfl) (Nat.le_of_ble_eq_true rfl) (Nat.le_of_ble_eq_true rfl) (Nat.le_of_ble_eq_true rfl) ?_
    refine V_istore (i := 4) F dX4_relabel_42 (Nat.le_of_ble_eq_true rfl) (Nat.le_of_ble_eq_true rfl) ?_
    refine V_aload_n (i := 0) F dX4_relabel_44 rfl rfl ?_
    refine V_aload_n (i := 0) F dX4_relabel_45 rfl rfl ?_
    refine V_getf F dX4_relabel_46 fc_X4_7_X4 (.inl hset_self) (gset h_g (by decide)) ?_
    refine V_cV1v F dX4_relabel_49 lk_X4_95 (ct_keeps hset_self (lens hlen) (gset h_kept (by decide)) ((hset_ne (Ne.symm hmK)).trans hk) (gset h_isWithin (by decide)) hw (gset h_changes (by decide)) hch ((hset_ne (ne_ao hg hm)).trans hg) hGK) ⟨0, _, _, _, rfl, (.inl hset_self)⟩ (Nat.le_of_ble_eq_true rfl) (Nat.le_of_ble_eq_true rfl) (Nat.le_of_ble_eq_true rfl) (Nat.le_of_ble_eq_true rfl) (Nat.le_of_ble_eq_true rfl) ?_
    refine VV.heap kpH_7 ?_
    refine V_aload_n (i := 0) F dX4_relabel_52 rfl rfl ?_
    refine V_getf F dX4_relabel_53 fc_X4_7_X4 (.inl (kpH_m hmK)) (kpF_at h_g (by decide) (by decide)) ?_
    refine V_sipush (v := nI 232) F dX4_relabel_56 rfl ?_
    refine V_iconst (v := nI 4) F dX4_relabel_59 rfl ?_
    refine V_iload_n (i := 3) F dX4_relabel_60 rfl rfl ?_
    refine V_imulN F dX4_relabel_61 ?_
    refine V_iaddN F dX4_relabel_62 ?_
    refine V_iconst (v := nI 2) F dX4_relabel_63 rfl ?_
    refine V_iaddN F dX4_relabel_64 ?_
    refine V_iload_n (i := 2) F dX4_relabel_65 rfl rfl ?_
    refine V_iastG F dX4_relabel_66 ((kpH_o (ne_ao hg hm) hGK).trans hg) (by omega) (by decide) ?_
    refine V_iload (i := 4) F dX4_relabel_67 rfl ?_
    exact V_iret F dX4_relabel_69 rfl (Nat.le_of_ble_eq_true rfl) (Nat.le_of_ble_eq_true rfl) (PX.ok (if_neg (not_not_intro c_14)) (by first | rfl | (simp (disch := omega) only [tn_nI])) (by unfold nxRL; simp (disch := omega) only [tn_nI, hset_hset]))
theorem ct_collectS {G : GG} {l : Launch} {h : AH} {m : Nat} {fs : List Value} {aG : Nat} {g : Nat → Nat} {aK : Nat} {gk : Nat → Nat} {w : Nat} {ch : Nat} {p : Int32} {k : Nat} (hm : h m = some (.inr (0, fs))) (h_g : fs[0]? = some (.ref aG)) (hg : h aG = some (iA G 304 (fun i => nI (g i)))) (h_kept : fs[1]? = some (.ref aK)) (hk : h aK = some (iA G 2432 (fun i => nI (gk i)))) (h_isWithin : fs[6]? = some (.int (nI (w)))) (h_changes : fs[5]? = some (.int (nI (ch)))) (hlen : fs.length = 25) (hw : w < 2) (hch : ch ≤ 8) (hGK : aG ≠ aK) (hI : GW g) (hfo : fdO g 232 p (g 2) = some k) : Ct G l yX4_collect cX4_collect 3 (some .int) 3 0 0 [.ref m, .int (p)] h (PX (if g (232 + 4 * k + 1) ≠ g (232 + 4 * k + 2) then 2 else 0) (fun k => hset h m (.inr (0, fs.set 7 (.int (nI k))))) (.int (nI (g 2 - 1))) (hset (kpH G h m fs aK gk w ch g) aG (iA G 304 (fun i => nI ((nxCO g k) i))))) := by
  refine Ct.of (by decide) (Nat.le_of_ble_eq_true rfl) (cat1 rfl) (fun X hXl F HN => ?_)
  subst hXl
  obtain ⟨hB, hn0, hn1, hn2, hn3, hst, hpl⟩ := hI
  have hmK : m ≠ aK := ne_oa hm hk
  refine V_aload_n (i := 0) F dX4_collect_0 rfl rfl ?_
  refine V_iload_n (i := 1) F dX4_collect_1 rfl rfl ?_
  refine V_cV1r F dX4_collect_2 lk_X4_148 (ct_isLostS hm h_g hg hlen hn2 hB hfo) ⟨0, _, _, _, rfl, (.inl hm)⟩ (Nat.le_of_ble_eq_true rfl) (Nat.le_of_ble_eq_true rfl) (Nat.le_of_ble_eq_true rfl) (Nat.le_of_ble_eq_true rfl) (Nat.le_of_ble_eq_true rfl) ?_
  refine V_if_eqN (tgt := 10) F dX4_collect_5 (by decide) (by omega) (fun c_5 => ?_) (fun c_5 => absurd c_5 (by decide))
  have hk2 := (fdO_lt hfo).1
  refine V_aload_n (i := 0) F dX4_collect_10 rfl rfl ?_
  refine V_iload_n (i := 1) F dX4_collect_11 rfl rfl ?_
  refine V_cV1r F dX4_collect_12 lk_X4_144 (ct_foundS hset_self (gset h_g (by decide)) ((hset_ne (ne_ao hg hm)).trans hg) hn2 hB hfo) ⟨0, _, _, _, rfl, (.inl hset_self)⟩ (Nat.le_of_ble_eq_true rfl) (Nat.le_of_ble_eq_true rfl) (Nat.le_of_ble_eq_true rfl) (Nat.le_of_ble_eq_true rfl) (Nat.le_of_ble_eq_true rfl) ?_
  refine V_istore_n (i := 2) F dX4_collect_15 rfl (Nat.le_of_ble_eq_true rfl) (Nat.le_of_ble_eq_true rfl) ?_
  refine V_aload_n (i := 0) F dX4_collect_16 rfl rfl ?_
  refine V_aload_n (i := 0) F dX4_collect_17 rfl rfl ?_
  refine V_iload_n (i := 2) F dX4_collect_18 rfl rfl ?_
  refine V_iconst (v := nI 1) F dX4_collect_19 rfl ?_
  refine V_cV2r F dX4_collect_20 lk_X4_141 (ct_the hset_self (gset h_g (by decide)) ((hset_ne (ne_ao hg hm)).trans hg) (by omega)) ⟨0, _, _, _, rfl, (.inl hset_self)⟩ (Nat.le_of_ble_eq_true rfl) (Nat.le_of_ble_eq_true rfl) (Nat.le_of_ble_eq_true rfl) (Nat.le_of_ble_eq_true rfl) (Nat.le_of_ble_eq_true rfl) ?_
  refine V_aload_n (i := 0) F dX4_collect_23 rfl rfl ?_
  refine V_iload_n (i := 2) F dX4_collect_24 rfl rfl ?_
  refine V_iconst (v := nI 2) F dX4_collect_25 rfl ?_
  refine V_cV2r F dX4_collect_26 lk_X4_141 (ct_the hset_self (gset h_g (by decide)) ((hset_ne (ne_ao hg hm)).trans hg) (by omega)) ⟨0, _, _, _, rfl, (.inl hset_self)⟩ (Nat.le_of_ble_eq_true rfl) (Nat.le_of_ble_eq_true rfl) (Nat.le_of_ble_eq_true rfl) (Nat.le_of_ble_eq_true rfl) (Nat.le_of_ble_eq_true rfl) ?_
  refine V_icmp_neN (tgt := 36) F dX4_collect_29 (by decide) hB.lt hB.lt (fun c_29 => ?_) (fun c_29 => ?_)
  · refine V_iconst (v := nI 2) F dX4_collect_36 rfl ?_
    refine V_cV1r F dX4_collect_37 lk_X4_92 (ct_failsP 2 hset_self (lens hlen) (by decide)) ⟨0, _, _, _, rfl, (.inl hset_self)⟩ (Nat.le_of_ble_eq_true rfl) (Nat.le_of_ble_eq_true rfl) (Nat.le_of_ble_eq_true rfl) (Nat.le_of_ble_eq_true rfl) (Nat.le_of_ble_eq_true rfl) ?_
    refine VV.heap (h' := hset h m (.inr (0, fs.set 7 (.int (nI (2)))))) (by rw [hset_hset, List.set_set]) ?_
    refine V_if_eqN (tgt := 45) F dX4_collect_40 (by decide) (by omega) (fun c_40 => absurd c_40 (by decide)) (fun c_40 => ?_)
    refine V_iconst (v := nI 0) F dX4_collect_43 rfl ?_
    exact V_iret F dX4_collect_44 rfl (Nat.le_of_ble_eq_true rfl) (Nat.le_of_ble_eq_true rfl) (PX.fail 2 (if_pos c_29) (by decide) rfl)
  · refine V_iconst (v := nI 0) F dX4_collect_32 rfl ?_
    refine V_goto (tgt := 37) F dX4_collect_33 (by decide) ?_
    refine V_cV1r F dX4_collect_37 lk_X4_92 (ct_fails0 hset_self (lens hlen)) ⟨0, _, _, _, rfl, (.inl hset_self)⟩ (Nat.le_of_ble_eq_true rfl) (Nat.le_of_ble_eq_true rfl) (Nat.le_of_ble_eq_true rfl) (Nat.le_of_ble_eq_true rfl) (Nat.le_of_ble_eq_true rfl) ?_
    refine VV.heap (h' := hset h m (.inr (0, fs.set 7 (.int (nI (0)))))) (by rw [hset_hset, List.set_set]) ?_
    refine V_if_eqN (tgt := 45) F dX4_collect_40 (by decide) (by omega) (fun c_40 => ?_) (fun c_40 => absurd c_40 (by decide))
    refine V_aload_n (i := 0) F dX4_collect_45 rfl rfl ?_
    refine V_aload_n (i := 0) F dX4_collect_46 rfl rfl ?_
    refine V_getf F dX4_collect_47 fc_X4_7_X4 (.inl hset_self) (gset h_g (by decide)) ?_
    refine V_cV1v F dX4_collect_50 lk_X4_95 (ct_keeps hset_self (lens hlen) (gset h_kept (by decide)) ((hset_ne (Ne.symm hmK)).trans hk) (gset h_isWithin (by decide)) hw (gset h_changes (by decide)) hch ((hset_ne (ne_ao hg hm)).trans hg) hGK) ⟨0, _, _, _, rfl, (.inl hset_self)⟩ (Nat.le_of_ble_eq_true rfl) (Nat.le_of_ble_eq_true rfl) (Nat.le_of_ble_eq_true rfl) (Nat.le_of_ble_eq_true rfl) (Nat.le_of_ble_eq_true rfl) ?_
    refine VV.heap kpH_7 ?_
    refine V_aload_n (i := 0) F dX4_collect_53 rfl rfl ?_
    refine V_getf F dX4_collect_54 fc_X4_7_X4 (.inl (kpH_m hmK)) (kpF_at h_g (by decide) (by decide)) ?_
    refine V_iconst (v := nI 2) F dX4_collect_57 rfl ?_
    refine V_dup2 F dX4_collect_58 rfl rfl ?_
    refine V_ialdG F dX4_collect_59 (.inl ((kpH_o (ne_ao hg hm) hGK).trans hg)) (by omega) (by decide) rfl ?_
    refine V_iconst (v := nI 1) F dX4_collect_60 rfl ?_
    refine V_isubN F dX4_collect_61 (by omega) ?_
    refine V_iastG F dX4_collect_62 ((kpH_o (ne_ao hg hm) hGK).trans hg) (by omega) (by decide) ?_
    refine V_aload_n (i := 0) F dX4_collect_63 rfl rfl ?_
    refine V_sipush (v := nI 232) F dX4_collect_64 rfl ?_
    refine V_iload_n (i := 2) F dX4_collect_67 rfl rfl ?_
    refine V_aload_n (i := 0) F dX4_collect_68 rfl rfl ?_
    refine V_getf F dX4_collect_69 fc_X4_7_X4 (.inl ((hset_ne (ne_oa hm hg)).trans (kpH_m hmK))) (kpF_at h_g (by decide) (by decide)) ?_
    refine V_iconst (v := nI 2) F dX4_collect_72 rfl ?_
    refine V_ialdG F dX4_collect_73 (.inl hset_self) (by omega) (by decide) up_s ?_
    refine V_cV3v F dX4_collect_74 lk_X4_160 (ct_drops ((hset_ne (ne_oa hm hg)).trans (kpH_m hmK)) (kpF_at h_g (by decide) (by decide)) hset_self (by omega) (by omega)) ⟨0, _, _, _, rfl, (.inl ((hset_ne (ne_oa hm hg)).trans (kpH_m hmK)))⟩ (Nat.le_of_ble_eq_true rfl) (Nat.le_of_ble_eq_true rfl) (Nat.le_of_ble_eq_true rfl) (Nat.le_of_ble_eq_true rfl) (Nat.le_of_ble_eq_true rfl) ?_
    refine V_aload_n (i := 0) F dX4_collect_77 rfl rfl ?_
    refine V_getf F dX4_collect_78 fc_X4_7_X4 (.inl ((hset_ne (ne_oa hm hg)).trans ((hset_ne (ne_oa hm hg)).trans (kpH_m hmK)))) (kpF_at h_g (by decide) (by decide)) ?_
    refine V_bipush (v := nI 7) F dX4_collect_81 rfl ?_
    refine V_dup2 F dX4_collect_83 rfl rfl ?_
    refine V_ialdG F dX4_collect_84 (.inl hset_self) (by omega) (by decide) rfl ?_
    refine V_iconst (v := nI 1) F dX4_collect_85 rfl ?_
    refine V_iaddN F dX4_collect_86 ?_
    refine V_iastG F dX4_collect_87 hset_self (by omega) (by decide) ?_
    refine V_aload_n (i := 0) F dX4_collect_88 rfl rfl ?_
    refine V_getf F dX4_collect_89 fc_X4_7_X4 (.inl ((hset_ne (ne_oa hm hg)).trans ((hset_ne (ne_oa hm hg)).trans ((hset_ne (ne_oa hm hg)).trans (kpH_m hmK))))) (kpF_at h_g (by decide) (by decide)) ?_
    refine V_iconst (v := nI 2) F dX4_collect_92 rfl ?_
    refine V_ialdG F dX4_collect_93 (.inl hset_self) (by omega) (by decide) (up_n (by omega)) ?_
    exact V_iret F dX4_collect_94 rfl (Nat.le_of_ble_eq_true rfl) (Nat.le_of_ble_eq_true rfl) (PX.ok (if_neg (not_not_intro c_29)) (by rw [dropN_lo (by decide), up_s]) (by unfold nxCO; simp only [hset_hset]))
theorem ct_cancelBookingS {G : GG} {l : Launch} {h : AH} {m : Nat} {fs : List Value} {aG : Nat} {g : Nat → Nat} {aK : Nat} {gk : Nat → Nat} {w : Nat} {ch : Nat} {p : Int32} {k : Nat} (hm : h m = some (.inr (0, fs))) (h_g : fs[0]? = some (.ref aG)) (hg : h aG = some (iA G 304 (fun i => nI (g i)))) (h_kept : fs[1]? = some (.ref aK)) (hk : h aK = some (iA G 2432 (fun i => nI (gk i)))) (h_isWithin : fs[6]? = some (.int (nI (w)))) (h_changes : fs[5]? = some (.int (nI (ch)))) (hlen : fs.length = 25) (hw : w < 2) (hch : ch ≤ 8) (hGK : aG ≠ aK) (hI : GW g) (hfo : fdO g 264 p (g 3) = some k) : Ct G l yX4_cancelBooking cX4_cancelBooking 3 (some .int) 2 0 0 [.ref m, .int (p)] h (PX (0) (fun k => hset h m (.inr (0, fs.set 7 (.int (nI k))))) (.int (nI (g 3 - 1))) (hset (kpH G h m fs aK gk w ch g) aG (iA G 304 (fun i => nI ((nxCB g k) i))))) := by
  refine Ct.of (by decide) (Nat.le_of_ble_eq_true rfl) (cat1 rfl) (fun X hXl F HN => ?_)
  subst hXl
  obtain ⟨hB, hn0, hn1, hn2, hn3, hst, hpl⟩ := hI
  have hmK : m ≠ aK := ne_oa hm hk
  refine V_aload_n (i := 0) F dX4_cancelBooking_0 rfl rfl ?_
  refine V_iload_n (i := 1) F dX4_cancelBooking_1 rfl rfl ?_
  refine V_cV1r F dX4_cancelBooking_2 lk_X4_167 (ct_placedS hm h_g hg hn3 hB hfo) ⟨0, _, _, _, rfl, (.inl hm)⟩ (Nat.le_of_ble_eq_true rfl) (Nat.le_of_ble_eq_true rfl) (Nat.le_of_ble_eq_true rfl) (Nat.le_of_ble_eq_true rfl) (Nat.le_of_ble_eq_true rfl) ?_
  refine V_istore_n (i := 2) F dX4_cancelBooking_5 rfl (Nat.le_of_ble_eq_true rfl) (Nat.le_of_ble_eq_true rfl) ?_
  have hk2 := (fdO_lt hfo).1
  refine V_aload_n (i := 0) F dX4_cancelBooking_6 rfl rfl ?_
  refine V_iload_n (i := 2) F dX4_cancelBooking_7 rfl rfl ?_
  refine V_if_geN (tgt := 15) F dX4_cancelBooking_8 (by decide) (by omega) ?_
  refine V_iconst (v := nI 0) F dX4_cancelBooking_15 rfl ?_
  refine V_cV1r F dX4_cancelBooking_16 lk_X4_92 (ct_fails0 hm hlen) ⟨0, _, _, _, rfl, (.inl hm)⟩ (Nat.le_of_ble_eq_true rfl) (Nat.le_of_ble_eq_true rfl) (Nat.le_of_ble_eq_true rfl) (Nat.le_of_ble_eq_true rfl) (Nat.le_of_ble_eq_true rfl) ?_
  refine V_if_eqN (tgt := 24) F dX4_cancelBooking_19 (by decide) (by omega) (fun c_19 => ?_) (fun c_19 => absurd c_19 (by decide))
  refine V_aload_n (i := 0) F dX4_cancelBooking_24 rfl rfl ?_
  refine V_aload_n (i := 0) F dX4_cancelBooking_25 rfl rfl ?_
  refine V_getf F dX4_cancelBooking_26 fc_X4_7_X4 (.inl hset_self) (gset h_g (by decide)) ?_
  refine V_cV1v F dX4_cancelBooking_29 lk_X4_95 (ct_keeps hset_self (lens hlen) (gset h_kept (by decide)) ((hset_ne (Ne.symm hmK)).trans hk) (gset h_isWithin (by decide)) hw (gset h_changes (by decide)) hch ((hset_ne (ne_ao hg hm)).trans hg) hGK) ⟨0, _, _, _, rfl, (.inl hset_self)⟩ (Nat.le_of_ble_eq_true rfl) (Nat.le_of_ble_eq_true rfl) (Nat.le_of_ble_eq_true rfl) (Nat.le_of_ble_eq_true rfl) (Nat.le_of_ble_eq_true rfl) ?_
  refine VV.heap kpH_7 ?_
  refine V_aload_n (i := 0) F dX4_cancelBooking_32 rfl rfl ?_
  refine V_getf F dX4_cancelBooking_33 fc_X4_7_X4 (.inl (kpH_m hmK)) (kpF_at h_g (by decide) (by decide)) ?_
  refine V_iconst (v := nI 3) F dX4_cancelBooking_36 rfl ?_
  refine V_dup2 F dX4_cancelBooking_37 rfl rfl ?_
  refine V_ialdG F dX4_cancelBooking_38 (.inl ((kpH_o (ne_ao hg hm) hGK).trans hg)) (by omega) (by decide) rfl ?_
  refine V_iconst (v := nI 1) F dX4_cancelBooking_39 rfl ?_
  refine V_isubN F dX4_cancelBooking_40 (by omega) ?_
  refine V_iastG F dX4_cancelBooking_41 ((kpH_o (ne_ao hg hm) hGK).trans hg) (by omega) (by decide) ?_
  refine V_aload_n (i := 0) F dX4_cancelBooking_42 rfl rfl ?_
  refine V_sipush (v := nI 264) F dX4_cancelBooking_43 rfl ?_
  refine V_iload_n (i := 2) F dX4_cancelBooking_46 rfl rfl ?_
  refine V_aload_n (i := 0) F dX4_cancelBooking_47 rfl rfl ?_
  refine V_getf F dX4_cancelBooking_48 fc_X4_7_X4 (.inl ((hset_ne (ne_oa hm hg)).trans (kpH_m hmK))) (kpF_at h_g (by decide) (by decide)) ?_
  refine V_iconst (v := nI 3) F dX4_cancelBooking_51 rfl ?_
  refine V_ialdG F dX4_cancelBooking_52 (.inl hset_self) (by omega) (by decide) up_s ?_
  refine V_cV3v F dX4_cancelBooking_53 lk_X4_160 (ct_drops ((hset_ne (ne_oa hm hg)).trans (kpH_m hmK)) (kpF_at h_g (by decide) (by decide)) hset_self (by omega) (by omega)) ⟨0, _, _, _, rfl, (.inl ((hset_ne (ne_oa hm hg)).trans (kpH_m hmK)))⟩ (Nat.le_of_ble_eq_true rfl) (Nat.le_of_ble_eq_true rfl) (Nat.le_of_ble_eq_true rfl) (Nat.le_of_ble_eq_true rfl) (Nat.le_of_ble_eq_true rfl) ?_
  refine V_aload_n (i := 0) F dX4_cancelBooking_56 rfl rfl ?_
  refine V_getf F dX4_cancelBooking_57 fc_X4_7_X4 (.inl ((hset_ne (ne_oa hm hg)).trans ((hset_ne (ne_oa hm hg)).trans (kpH_m hmK)))) (kpF_at h_g (by decide) (by decide)) ?_
  refine V_iconst (v := nI 3) F dX4_cancelBooking_60 rfl ?_
  refine V_ialdG F dX4_cancelBooking_61 (.inl hset_self) (by omega) (by decide) rfl ?_
  exact V_iret F dX4_cancelBooking_62 rfl (Nat.le_of_ble_eq_true rfl) (Nat.le_of_ble_eq_true rfl) (PX.ok rfl (by rw [dropN_lo (by decide), up_s]) (by unfold nxCB; simp only [hset_hset]))
theorem ct_book {G : GG} {l : Launch} {h : AH} {m : Nat} {fs : List Value} {aG : Nat} {g : Nat → Nat} {aK : Nat} {gk : Nat → Nat} {w : Nat} {ch : Nat} {s p q : Int32} (hm : h m = some (.inr (0, fs))) (h_g : fs[0]? = some (.ref aG)) (hg : h aG = some (iA G 304 (fun i => nI (g i)))) (h_kept : fs[1]? = some (.ref aK)) (hk : h aK = some (iA G 2432 (fun i => nI (gk i)))) (h_isWithin : fs[6]? = some (.int (nI (w)))) (h_changes : fs[5]? = some (.int (nI (ch)))) (hlen : fs.length = 25) (hw : w < 2) (hch : ch ≤ 8) (hGK : aG ≠ aK) (hI : GW g)  : Ct G l yX4_book cX4_book 6 (some .int) 4 0 0 [.ref m, .int (s), .int (p), .int (q)] h (PX (cdBK g s p q) (fun k => hset h m (.inr (0, fs.set 7 (.int (nI k))))) (.int (nI (g 5))) (hset (kpH G h m fs aK gk w ch g) aG (iA G 304 (fun i => nI ((nxBK g (tn s) (tn p) (tn q)) i))))) := by
  refine Ct.of (by decide) (Nat.le_of_ble_eq_true rfl) (cat1 rfl) (fun X hXl F HN => ?_)
  subst hXl
  obtain ⟨hB, hn0, hn1, hn2, hn3, hst, hpl⟩ := hI
  have hmK : m ≠ aK := ne_oa hm hk
  refine V_aload_n (i := 0) F dX4_book_0 rfl rfl ?_
  refine V_aload_n (i := 0) F dX4_book_1 rfl rfl ?_
  refine V_iload_n (i := 1) F dX4_book_2 rfl rfl ?_
  refine V_iload_n (i := 2) F dX4_book_3 rfl rfl ?_
  refine V_cV2r F dX4_book_4 lk_X4_164 (ct_isStop hm h_g hg hn1 hB) ⟨0, _, _, _, rfl, (.inl hm)⟩ (Nat.le_of_ble_eq_true rfl) (Nat.le_of_ble_eq_true rfl) (Nat.le_of_ble_eq_true rfl) (Nat.le_of_ble_eq_true rfl) (Nat.le_of_ble_eq_true rfl) ?_
  refine V_if_eqB (tgt := 19) F dX4_book_7 (by decide) (fun c_7 => ?_) (fun c_7 => ?_)
  · refine V_iconst (v := nI 1) F dX4_book_19 rfl ?_
    refine V_goto (tgt := 48) F dX4_book_20 (by decide) ?_
    refine V_cV1r F dX4_book_48 lk_X4_92 (ct_failsP 1 hm hlen (by decide)) ⟨0, _, _, _, rfl, (.inl hm)⟩ (Nat.le_of_ble_eq_true rfl) (Nat.le_of_ble_eq_true rfl) (Nat.le_of_ble_eq_true rfl) (Nat.le_of_ble_eq_true rfl) (Nat.le_of_ble_eq_true rfl) ?_
    refine V_if_eqN (tgt := 56) F dX4_book_51 (by decide) (by omega) (fun c_51 => absurd c_51 (by decide)) (fun c_51 => ?_)
    refine V_iconst (v := nI 0) F dX4_book_54 rfl ?_
    exact V_iret F dX4_book_55 rfl (Nat.le_of_ble_eq_true rfl) (Nat.le_of_ble_eq_true rfl) (PX.fail 1 (if_pos (by first | exact Or.inl c_7 | exact Or.inr c_16)) (by decide) rfl)
  · obtain ⟨b, hb, rfl⟩ := iR_of c_7.1 hB.lt
    have hsb := hst b hb
    have hz1 := c_7.2
    rw [toNat_nI (by omega)] at hz1
    obtain ⟨c, hc, rfl⟩ := iR_of hz1 hB.lt
    refine V_aload_n (i := 0) F dX4_book_10 rfl rfl ?_
    refine V_iload_n (i := 1) F dX4_book_11 rfl rfl ?_
    refine V_iload_n (i := 3) F dX4_book_12 rfl rfl ?_
    refine V_cV2r F dX4_book_13 lk_X4_164 (ct_isStop hm h_g hg hn1 hB) ⟨0, _, _, _, rfl, (.inl hm)⟩ (Nat.le_of_ble_eq_true rfl) (Nat.le_of_ble_eq_true rfl) (Nat.le_of_ble_eq_true rfl) (Nat.le_of_ble_eq_true rfl) (Nat.le_of_ble_eq_true rfl) ?_
    refine V_if_neB (tgt := 23) F dX4_book_16 (by decide) (fun c_16 => ?_) (fun c_16 => ?_)
    · have hz2 := c_16.2
      rw [toNat_nI (by omega)] at hz2
      obtain ⟨e, he, rfl⟩ := iR_of hz2 hB.lt
      refine V_iload_n (i := 2) F dX4_book_23 rfl rfl ?_
      refine V_iload_n (i := 3) F dX4_book_24 rfl rfl ?_
      refine V_icmp_ltN (tgt := 32) F dX4_book_25 (by decide) (by omega) (by omega) (fun c_25 => ?_) (fun c_25 => ?_)
      · refine V_aload_n (i := 0) F dX4_book_32 rfl rfl ?_
        refine V_getf F dX4_book_33 fc_X4_7_X4 (.inl hm) h_g ?_
        refine V_iconst (v := nI 3) F dX4_book_36 rfl ?_
        refine V_ialdG F dX4_book_37 (.inl hg) (by omega) (by decide) rfl ?_
        refine V_bipush (v := nI 10) F dX4_book_38 rfl ?_
        refine V_icmp_neN (tgt := 47) F dX4_book_40 (by decide) hB.lt (by decide) (fun c_40 => ?_) (fun c_40 => ?_)
        · refine V_iconst (v := nI 0) F dX4_book_47 rfl ?_
          refine V_cV1r F dX4_book_48 lk_X4_92 (ct_fails0 hm hlen) ⟨0, _, _, _, rfl, (.inl hm)⟩ (Nat.le_of_ble_eq_true rfl) (Nat.le_of_ble_eq_true rfl) (Nat.le_of_ble_eq_true rfl) (Nat.le_of_ble_eq_true rfl) (Nat.le_of_ble_eq_true rfl) ?_
          refine V_if_eqN (tgt := 56) F dX4_book_51 (by decide) (by omega) (fun c_51 => ?_) (fun c_51 => absurd c_51 (by decide))
          refine V_iconst (v := nI 0) F dX4_book_56 rfl ?_
          refine V_istore (i := 4) F dX4_book_57 (Nat.le_of_ble_eq_true rfl) (Nat.le_of_ble_eq_true rfl) ?_
          refine V_iload_n (i := 2) F dX4_book_59 rfl rfl ?_
          refine V_istore (i := 5) F dX4_book_60 (Nat.le_of_ble_eq_true rfl) (Nat.le_of_ble_eq_true rfl) ?_
          have loop_62 : ∀ (nn : Nat) (j : Nat), e < j + nn → j ≤ e → c ≤ j → VV G X 6 (EQ G X 0 0 (PX (cdBK g (nI b) (nI c) (nI e)) (fun k => hset h m (.inr (0, fs.set 7 (.int (nI k))))) (.int (nI (g 5))) (hset (kpH G h m fs aK gk w ch g) aG (iA G 304 (fun i => nI ((nxBK g (tn (nI b)) (tn (nI c)) (tn (nI e))) i)))))) (hset h (m) (.inr (0, (fs).set 7 (.int (nI (0)))))) 0 0 [some (.ref (m)), some (.int (nI (b))), some (.int (nI (c))), some (.int (nI (e))), some (.int (nI (anyB g b c j))), some (.int (nI (j)))] [] 62 := by
            intro nn
            induction nn with
            | zero => intro j hn hj hcj; exact absurd hn (by omega)
            | succ nn ih_62 =>
              intro j hn hj hcj
              refine V_iload (i := 5) F dX4_book_62 rfl ?_
              refine V_iload_n (i := 3) F dX4_book_64 rfl rfl ?_
              refine V_icmp_geN (tgt := 96) F dX4_book_65 (by decide) (by omega) (by omega) (fun c_65 => ?_) (fun c_65 => ?_)
              · refine V_aload_n (i := 0) F dX4_book_96 rfl rfl ?_
                refine V_iload (i := 4) F dX4_book_97 rfl ?_
                refine V_if_eqN (tgt := 106) F dX4_book_99 (by decide) (by have := anyB_01 (g := g) (t := b) (f := c) (j := j); omega) (fun c_99 => ?_) (fun c_99 => ?_)
                · refine V_iconst (v := nI 0) F dX4_book_106 rfl ?_
                  refine V_cV1r F dX4_book_107 lk_X4_92 (ct_fails0 hset_self (lens hlen)) ⟨0, _, _, _, rfl, (.inl hset_self)⟩ (Nat.le_of_ble_eq_true rfl) (Nat.le_of_ble_eq_true rfl) (Nat.le_of_ble_eq_true rfl) (Nat.le_of_ble_eq_true rfl) (Nat.le_of_ble_eq_true rfl) ?_
                  refine VV.heap (h' := hset h m (.inr (0, fs.set 7 (.int (nI (0)))))) (by rw [hset_hset, List.set_set]) ?_
                  refine V_if_eqN (tgt := 115) F dX4_book_110 (by decide) (by omega) (fun c_110 => ?_) (fun c_110 => absurd c_110 (by decide))
                  refine V_aload_n (i := 0) F dX4_book_115 rfl rfl ?_
                  refine V_aload_n (i := 0) F dX4_book_116 rfl rfl ?_
                  refine V_getf F dX4_book_117 fc_X4_7_X4 (.inl hset_self) (gset h_g (by decide)) ?_
                  refine V_cV1v F dX4_book_120 lk_X4_95 (ct_keeps hset_self (lens hlen) (gset h_kept (by decide)) ((hset_ne (Ne.symm hmK)).trans hk) (gset h_isWithin (by decide)) hw (gset h_changes (by decide)) hch ((hset_ne (ne_ao hg hm)).trans hg) hGK) ⟨0, _, _, _, rfl, (.inl hset_self)⟩ (Nat.le_of_ble_eq_true rfl) (Nat.le_of_ble_eq_true rfl) (Nat.le_of_ble_eq_true rfl) (Nat.le_of_ble_eq_true rfl) (Nat.le_of_ble_eq_true rfl) ?_
                  refine VV.heap kpH_7 ?_
                  refine V_sipush (v := nI 264) F dX4_book_123 rfl ?_
                  refine V_iconst (v := nI 4) F dX4_book_126 rfl ?_
                  refine V_aload_n (i := 0) F dX4_book_127 rfl rfl ?_
                  refine V_getf F dX4_book_128 fc_X4_7_X4 (.inl (kpH_m hmK)) (kpF_at h_g (by decide) (by decide)) ?_
                  refine V_iconst (v := nI 3) F dX4_book_131 rfl ?_
                  refine V_ialdG F dX4_book_132 (.inl ((kpH_o (ne_ao hg hm) hGK).trans hg)) (by omega) (by decide) rfl ?_
                  refine V_imulN F dX4_book_133 ?_
                  refine V_iaddN F dX4_book_134 ?_
                  refine V_istore (i := 5) F dX4_book_135 (Nat.le_of_ble_eq_true rfl) (Nat.le_of_ble_eq_true rfl) ?_
                  refine V_aload_n (i := 0) F dX4_book_137 rfl rfl ?_
                  refine V_getf F dX4_book_138 fc_X4_7_X4 (.inl (kpH_m hmK)) (kpF_at h_g (by decide) (by decide)) ?_
                  refine V_iload (i := 5) F dX4_book_141 rfl ?_
                  refine V_iconst (v := nI 0) F dX4_book_143 rfl ?_
                  refine V_iaddN F dX4_book_144 ?_
                  refine V_aload_n (i := 0) F dX4_book_145 rfl rfl ?_
                  refine V_getf F dX4_book_146 fc_X4_7_X4 (.inl (kpH_m hmK)) (kpF_at h_g (by decide) (by decide)) ?_
                  refine V_iconst (v := nI 5) F dX4_book_149 rfl ?_
                  refine V_ialdG F dX4_book_150 (.inl ((kpH_o (ne_ao hg hm) hGK).trans hg)) (by omega) (by decide) rfl ?_
                  refine V_iastG F dX4_book_151 ((kpH_o (ne_ao hg hm) hGK).trans hg) (by omega) (by decide) ?_
                  refine V_aload_n (i := 0) F dX4_book_152 rfl rfl ?_
                  refine V_getf F dX4_book_153 fc_X4_7_X4 (.inl ((hset_ne (ne_oa hm hg)).trans (kpH_m hmK))) (kpF_at h_g (by decide) (by decide)) ?_
                  refine V_iload (i := 5) F dX4_book_156 rfl ?_
                  refine V_iconst (v := nI 1) F dX4_book_158 rfl ?_
                  refine V_iaddN F dX4_book_159 ?_
                  refine V_iload_n (i := 1) F dX4_book_160 rfl rfl ?_
                  refine V_iastG F dX4_book_161 hset_self (by omega) (by decide) ?_
                  refine V_aload_n (i := 0) F dX4_book_162 rfl rfl ?_
                  refine V_getf F dX4_book_163 fc_X4_7_X4 (.inl ((hset_ne (ne_oa hm hg)).trans ((hset_ne (ne_oa hm hg)).trans (kpH_m hmK)))) (kpF_at h_g (by decide) (by decide)) ?_
                  refine V_iload (i := 5) F dX4_book_166 rfl ?_
                  refine V_iconst (v := nI 2) F dX4_book_168 rfl ?_
                  refine V_iaddN F dX4_book_169 ?_
                  refine V_iload_n (i := 2) F dX4_book_170 rfl rfl ?_
                  refine V_iastG F dX4_book_171 hset_self (by omega) (by decide) ?_
                  refine V_aload_n (i := 0) F dX4_book_172 rfl rfl ?_
                  refine V_getf F dX4_book_173 fc_X4_7_X4 (.inl ((hset_ne (ne_oa hm hg)).trans ((hset_ne (ne_oa hm hg)).trans ((hset_ne (ne_oa hm hg)).trans (kpH_m hmK))))) (kpF_at h_g (by decide) (by decide)) ?_
                  refine V_iload (i := 5) F dX4_book_176 rfl ?_
                  refine V_iconst (v := nI 3) F dX4_book_178 rfl ?_
                  refine V_iaddN F dX4_book_179 ?_
                  refine V_iload_n (i := 3) F dX4_book_180 rfl rfl ?_
                  refine V_iastG F dX4_book_181 hset_self (by omega) (by decide) ?_
                  refine V_aload_n (i := 0) F dX4_book_182 rfl rfl ?_
                  refine V_getf F dX4_book_183 fc_X4_7_X4 (.inl ((hset_ne (ne_oa hm hg)).trans ((hset_ne (ne_oa hm hg)).trans ((hset_ne (ne_oa hm hg)).trans ((hset_ne (ne_oa hm hg)).trans (kpH_m hmK)))))) (kpF_at h_g (by decide) (by decide)) ?_
                  refine V_iconst (v := nI 3) F dX4_book_186 rfl ?_
                  refine V_dup2 F dX4_book_187 rfl rfl ?_
                  refine V_ialdG F dX4_book_188 (.inl hset_self) (by omega) (by decide) ((up_n (by omega)).trans ((up_n (by omega)).trans ((up_n (by omega)).trans (up_n (by omega))))) ?_
                  refine V_iconst (v := nI 1) F dX4_book_189 rfl ?_
                  refine V_iaddN F dX4_book_190 ?_
                  refine V_iastG F dX4_book_191 hset_self (by omega) (by decide) ?_
                  refine V_aload_n (i := 0) F dX4_book_192 rfl rfl ?_
                  refine V_getf F dX4_book_193 fc_X4_7_X4 (.inl ((hset_ne (ne_oa hm hg)).trans ((hset_ne (ne_oa hm hg)).trans ((hset_ne (ne_oa hm hg)).trans ((hset_ne (ne_oa hm hg)).trans ((hset_ne (ne_oa hm hg)).trans (kpH_m hmK))))))) (kpF_at h_g (by decide) (by decide)) ?_
                  refine V_iconst (v := nI 5) F dX4_book_196 rfl ?_
                  refine V_dup2 F dX4_book_197 rfl rfl ?_
                  refine V_ialdG F dX4_book_198 (.inl hset_self) (by omega) (by decide) ((up_n (by omega)).trans ((up_n (by omega)).trans ((up_n (by omega)).trans ((up_n (by omega)).trans (up_n (by omega)))))) ?_
                  refine V_iconst (v := nI 1) F dX4_book_199 rfl ?_
                  refine V_iaddN F dX4_book_200 ?_
                  refine V_iastG F dX4_book_201 hset_self (by omega) (by decide) ?_
                  refine V_aload_n (i := 0) F dX4_book_202 rfl rfl ?_
                  refine V_getf F dX4_book_203 fc_X4_7_X4 (.inl ((hset_ne (ne_oa hm hg)).trans ((hset_ne (ne_oa hm hg)).trans ((hset_ne (ne_oa hm hg)).trans ((hset_ne (ne_oa hm hg)).trans ((hset_ne (ne_oa hm hg)).trans ((hset_ne (ne_oa hm hg)).trans (kpH_m hmK)))))))) (kpF_at h_g (by decide) (by decide)) ?_
                  refine V_iconst (v := nI 5) F dX4_book_206 rfl ?_
                  refine V_ialdG F dX4_book_207 (.inl hset_self) (by omega) (by decide) up_s ?_
                  refine V_iconst (v := nI 1) F dX4_book_208 rfl ?_
                  refine V_isubN F dX4_book_209 (by omega) ?_
                  exact V_iret F dX4_book_210 rfl (Nat.le_of_ble_eq_true rfl) (Nat.le_of_ble_eq_true rfl) (PX.ok ((if_neg (not_or.mpr ⟨not_not_intro c_7, not_not_intro c_16⟩)).trans ((if_neg (by rw [tn_nI (a := c) (by omega), tn_nI (a := e) (by omega)]; omega)).trans ((if_neg c_40).trans (if_neg (by rw [tn_nI (a := b) (by omega), tn_nI (a := c) (by omega), tn_nI (a := e) (by omega)]; rw [show j = e by omega] at c_99; omega))))) (by first | rfl | (simp (disch := omega) only [tn_nI])) (by unfold nxBK; simp (disch := omega) only [tn_nI, hset_hset]))
                · refine V_iconst (v := nI 4) F dX4_book_102 rfl ?_
                  refine V_goto (tgt := 107) F dX4_book_103 (by decide) ?_
                  refine V_cV1r F dX4_book_107 lk_X4_92 (ct_failsP 4 hset_self (lens hlen) (by decide)) ⟨0, _, _, _, rfl, (.inl hset_self)⟩ (Nat.le_of_ble_eq_true rfl) (Nat.le_of_ble_eq_true rfl) (Nat.le_of_ble_eq_true rfl) (Nat.le_of_ble_eq_true rfl) (Nat.le_of_ble_eq_true rfl) ?_
                  refine VV.heap (h' := hset h m (.inr (0, fs.set 7 (.int (nI (4)))))) (by rw [hset_hset, List.set_set]) ?_
                  refine V_if_eqN (tgt := 115) F dX4_book_110 (by decide) (by omega) (fun c_110 => absurd c_110 (by decide)) (fun c_110 => ?_)
                  refine V_iconst (v := nI 0) F dX4_book_113 rfl ?_
                  exact V_iret F dX4_book_114 rfl (Nat.le_of_ble_eq_true rfl) (Nat.le_of_ble_eq_true rfl) (PX.fail 4 ((if_neg (not_or.mpr ⟨not_not_intro c_7, not_not_intro c_16⟩)).trans ((if_neg (by rw [tn_nI (a := c) (by omega), tn_nI (a := e) (by omega)]; omega)).trans ((if_neg c_40).trans (if_pos (by rw [tn_nI (a := b) (by omega), tn_nI (a := c) (by omega), tn_nI (a := e) (by omega)]; rw [show j = e by omega] at c_99; omega))))) (by decide) rfl)
              · refine V_iload (i := 4) F dX4_book_68 rfl ?_
                refine V_if_neN (tgt := 83) F dX4_book_70 (by decide) (by have := anyB_01 (g := g) (t := b) (f := c) (j := j); omega) (fun c_70 => ?_) (fun c_70 => ?_)
                · have hcc : anyB g b c (j + 1) = 1 := if_pos (Or.inl (by have := anyB_01 (g := g) (t := b) (f := c) (j := j); omega))
                  refine V_iconst (v := nI 1) F dX4_book_83 rfl ?_
                  refine V_goto (tgt := 88) F dX4_book_84 (by decide) ?_
                  refine VV.stk (st' := [.int (nI (anyB g b c (j + 1)))]) (by rw [hcc]) ?_
                  refine V_istore (i := 4) F dX4_book_88 (Nat.le_of_ble_eq_true rfl) (Nat.le_of_ble_eq_true rfl) ?_
                  refine V_iinc (i := 5) (v := nI (j + 1)) F dX4_book_90 rfl (nI_add (j) 1) (Nat.le_of_ble_eq_true rfl) ?_
                  refine V_goto (tgt := 62) F dX4_book_93 (by decide) ?_
                  refine VV.weak (L' := [some (.ref (m)), some (.int (nI (b))), some (.int (nI (c))), some (.int (nI (e))), some (.int (nI (anyB g b c (j + 1)))), some (.int (nI ((j + 1))))]) (LW.c1 (LW.c1 (LW.c1 (LW.c1 (LW.c1 (LW.c1 LW.nil)))))) ?_
                  exact ih_62 (j + 1) (by omega) (by omega) (by omega)
                · refine V_aload_n (i := 0) F dX4_book_73 rfl rfl ?_
                  refine V_iload_n (i := 1) F dX4_book_74 rfl rfl ?_
                  refine V_iload (i := 5) F dX4_book_75 rfl ?_
                  refine V_cV2r F dX4_book_77 lk_X4_116 (ct_isTaken hset_self (gset h_g (by decide)) ((hset_ne (ne_ao hg hm)).trans hg) (by omega) (by omega) hn3 hB) ⟨0, _, _, _, rfl, (.inl hset_self)⟩ (Nat.le_of_ble_eq_true rfl) (Nat.le_of_ble_eq_true rfl) (Nat.le_of_ble_eq_true rfl) (Nat.le_of_ble_eq_true rfl) (Nat.le_of_ble_eq_true rfl) ?_
                  refine V_if_eqB (tgt := 87) F dX4_book_80 (by decide) (fun c_80 => ?_) (fun c_80 => ?_)
                  · have hcc : anyB g b c (j + 1) = 0 := if_neg (fun z => by rcases z with z | z; omega; exact c_80 z.2)
                    refine V_iconst (v := nI 0) F dX4_book_87 rfl ?_
                    refine VV.stk (st' := [.int (nI (anyB g b c (j + 1)))]) (by rw [hcc]) ?_
                    refine V_istore (i := 4) F dX4_book_88 (Nat.le_of_ble_eq_true rfl) (Nat.le_of_ble_eq_true rfl) ?_
                    refine V_iinc (i := 5) (v := nI (j + 1)) F dX4_book_90 rfl (nI_add (j) 1) (Nat.le_of_ble_eq_true rfl) ?_
                    refine V_goto (tgt := 62) F dX4_book_93 (by decide) ?_
                    refine VV.weak (L' := [some (.ref (m)), some (.int (nI (b))), some (.int (nI (c))), some (.int (nI (e))), some (.int (nI (anyB g b c (j + 1)))), some (.int (nI ((j + 1))))]) (LW.c1 (LW.c1 (LW.c1 (LW.c1 (LW.c1 (LW.c1 LW.nil)))))) ?_
                    exact ih_62 (j + 1) (by omega) (by omega) (by omega)
                  · have hcc : anyB g b c (j + 1) = 1 := if_pos (Or.inr ⟨hcj, c_80⟩)
                    refine V_iconst (v := nI 1) F dX4_book_83 rfl ?_
                    refine V_goto (tgt := 88) F dX4_book_84 (by decide) ?_
                    refine VV.stk (st' := [.int (nI (anyB g b c (j + 1)))]) (by rw [hcc]) ?_
                    refine V_istore (i := 4) F dX4_book_88 (Nat.le_of_ble_eq_true rfl) (Nat.le_of_ble_eq_true rfl) ?_
                    refine V_iinc (i := 5) (v := nI (j + 1)) F dX4_book_90 rfl (nI_add (j) 1) (Nat.le_of_ble_eq_true rfl) ?_
                    refine V_goto (tgt := 62) F dX4_book_93 (by decide) ?_
                    refine VV.weak (L' := [some (.ref (m)), some (.int (nI (b))), some (.int (nI (c))), some (.int (nI (e))), some (.int (nI (anyB g b c (j + 1)))), some (.int (nI ((j + 1))))]) (LW.c1 (LW.c1 (LW.c1 (LW.c1 (LW.c1 (LW.c1 LW.nil)))))) ?_
                    exact ih_62 (j + 1) (by omega) (by omega) (by omega)
          refine VV.weak (L' := [some (.ref (m)), some (.int (nI (b))), some (.int (nI (c))), some (.int (nI (e))), some (.int (nI (0))), some (.int (nI (c)))]) (LW.c1 (LW.c1 (LW.c1 (LW.c1 (LW.c1 (LW.c1 LW.nil)))))) ?_
          have q9 := loop_62 (e + 1) c (by omega) (by omega) (Nat.le_refl _)
          rw [anyB_lo (Nat.le_refl c)] at q9
          exact q9
        · refine V_iconst (v := nI 3) F dX4_book_43 rfl ?_
          refine V_goto (tgt := 48) F dX4_book_44 (by decide) ?_
          refine V_cV1r F dX4_book_48 lk_X4_92 (ct_failsP 3 hm hlen (by decide)) ⟨0, _, _, _, rfl, (.inl hm)⟩ (Nat.le_of_ble_eq_true rfl) (Nat.le_of_ble_eq_true rfl) (Nat.le_of_ble_eq_true rfl) (Nat.le_of_ble_eq_true rfl) (Nat.le_of_ble_eq_true rfl) ?_
          refine V_if_eqN (tgt := 56) F dX4_book_51 (by decide) (by omega) (fun c_51 => absurd c_51 (by decide)) (fun c_51 => ?_)
          refine V_iconst (v := nI 0) F dX4_book_54 rfl ?_
          exact V_iret F dX4_book_55 rfl (Nat.le_of_ble_eq_true rfl) (Nat.le_of_ble_eq_true rfl) (PX.fail 3 ((if_neg (not_or.mpr ⟨not_not_intro c_7, not_not_intro c_16⟩)).trans ((if_neg (by rw [tn_nI (a := c) (by omega), tn_nI (a := e) (by omega)]; omega)).trans (if_pos c_40))) (by decide) rfl)
      · refine V_iconst (v := nI 2) F dX4_book_28 rfl ?_
        refine V_goto (tgt := 48) F dX4_book_29 (by decide) ?_
        refine V_cV1r F dX4_book_48 lk_X4_92 (ct_failsP 2 hm hlen (by decide)) ⟨0, _, _, _, rfl, (.inl hm)⟩ (Nat.le_of_ble_eq_true rfl) (Nat.le_of_ble_eq_true rfl) (Nat.le_of_ble_eq_true rfl) (Nat.le_of_ble_eq_true rfl) (Nat.le_of_ble_eq_true rfl) ?_
        refine V_if_eqN (tgt := 56) F dX4_book_51 (by decide) (by omega) (fun c_51 => absurd c_51 (by decide)) (fun c_51 => ?_)
        refine V_iconst (v := nI 0) F dX4_book_54 rfl ?_
        exact V_iret F dX4_book_55 rfl (Nat.le_of_ble_eq_true rfl) (Nat.le_of_ble_eq_true rfl) (PX.fail 2 ((if_neg (not_or.mpr ⟨not_not_intro c_7, not_not_intro c_16⟩)).trans (if_pos (by rw [tn_nI (a := c) (by omega), tn_nI (a := e) (by omega)]; omega))) (by decide) rfl)
    · refine V_iconst (v := nI 1) F dX4_book_19 rfl ?_
      refine V_goto (tgt := 48) F dX4_book_20 (by decide) ?_
      refine V_cV1r F dX4_book_48 lk_X4_92 (ct_failsP 1 hm hlen (by decide)) ⟨0, _, _, _, rfl, (.inl hm)⟩ (Nat.le_of_ble_eq_true rfl) (Nat.le_of_ble_eq_true rfl) (Nat.le_of_ble_eq_true rfl) (Nat.le_of_ble_eq_true rfl) (Nat.le_of_ble_eq_true rfl) ?_
      refine V_if_eqN (tgt := 56) F dX4_book_51 (by decide) (by omega) (fun c_51 => absurd c_51 (by decide)) (fun c_51 => ?_)
      refine V_iconst (v := nI 0) F dX4_book_54 rfl ?_
      exact V_iret F dX4_book_55 rfl (Nat.le_of_ble_eq_true rfl) (Nat.le_of_ble_eq_true rfl) (PX.fail 1 (if_pos (by first | exact Or.inl c_7 | exact Or.inr c_16)) (by decide) rfl)
