theorem nx2_s {A : Nat → Nat} {n j : Nat} : nx2 (fun i => A (i + 1)) (n - 1) j = nx2 A n (j + 1) := by
  unfold nx2
  by_cases c : j + 1 + 1 < n
  · rw [if_pos c, if_pos (by omega)]
  · rw [if_neg c, if_neg (by omega)]
theorem pv2_s {A : Nat → Nat} {j : Nat} (hj : 0 < j) : pv2 (fun i => A (i + 1)) j = pv2 A (j + 1) := by
  unfold pv2
  rw [if_neg (by omega), if_neg (by omega)]
  show some (A (j - 1 + 1)) = some (A (j + 1 - 1))
  rw [show j - 1 + 1 = j + 1 - 1 by omega]
theorem nx2_t {A : Nat → Nat} {n j : Nat} (hj : j + 2 < n) : nx2 A (n - 1) j = nx2 A n j := by unfold nx2; rw [if_pos (by omega), if_pos (by omega)]
theorem AI.tl {n : Nat} {A : Nat → Nat} (hA : AI n A) : AI (n - 1) (fun i => A (i + 1)) := fun i j hi hj h => by have := hA (i + 1) (j + 1) (by omega) (by omega) h; omega
theorem AI.le {n m : Nat} {A : Nat → Nat} (hA : AI n A) (h : m ≤ n) : AI m A := fun i j hi hj => hA i j (by omega) (by omega)

theorem ct_LL_unlinkFirst {G : GG} {l : Launch} {h : AH} {a mc n : Nat} {A V : Nat → Nat}  (hL : LLs h a mc n A V) (hn0 : 0 < n) : Ct G l yJ3_unlinkFirst cJ3_unlinkFirst 4 (some (.object "java/lang/Object")) 0 (0) (0) [.ref a, .ref (A 0)] h (fun r h2 => r = some (.ref (V 0)) ∧ LLs h2 a (mc + 1) (n - 1) (fun i => A (i + 1)) (fun i => V (i + 1)) ∧ Fr (mT a n A) h h2) := by
  refine Ct.of (by decide) (Nat.le_of_ble_eq_true rfl) (cat1 rfl) (fun X hXl F HN => ?_)
  subst hXl
  have hN := hL.2.2
  have hNa : ∀ j, j < n → A j ≠ a := fun j hj => ne_oo (hN j hj) hL.1 (by decide)
  have ha : h a = some (.inr (19, [.int (nI mc), .int (nI n), .ref (A 0), .ref (A (n - 1))])) := by have z := hL.1; rw [LL.f0 hn0, LL.l0 hn0] at z; exact z
  by_cases hn1 : n = 1
  · have hm : h (A 0) = some (.inr (20, [.ref (V 0), .null, va_rf (pv2 A 0)])) := by have z := hN 0 hn0; rw [show nx2 A n 0 = none from if_neg (by omega)] at z; exact z
    refine V_aload_n (i := 1) F dJ3_unlinkFirst_0 rfl rfl ?_
    refine V_getf F dJ3_unlinkFirst_1 fc_J3_39_J24 (.inl hm) rfl ?_
    refine V_astore_n (i := 2) F dJ3_unlinkFirst_4 rfl (Nat.le_of_ble_eq_true rfl) (Nat.le_of_ble_eq_true rfl) ?_
    refine V_aload_n (i := 1) F dJ3_unlinkFirst_5 rfl rfl ?_
    refine V_getf F dJ3_unlinkFirst_6 fc_J3_36_J24 (.inl hm) rfl ?_
    refine V_astore_nN (i := 3) F dJ3_unlinkFirst_9 rfl (Nat.le_of_ble_eq_true rfl) (Nat.le_of_ble_eq_true rfl) ?_
    refine V_aload_n (i := 1) F dJ3_unlinkFirst_10 rfl rfl ?_
    refine V_null F dJ3_unlinkFirst_11 ?_
    refine V_putf F dJ3_unlinkFirst_12 fp_J3_39_J24 hm rfl rfl (Nat.le_of_ble_eq_true rfl) ?_
    refine VV.heap (h' := (hset h (A 0) (.inr (20, [.null, .null, va_rf (pv2 A 0)])))) rfl ?_
    have p1 : (hset h (A 0) (.inr (20, [.null, .null, va_rf (pv2 A 0)]))) a = some (.inr (19, [.int (nI mc), .int (nI n), .ref (A 0), .ref (A (n - 1))])) := ((hset_ne (ne_oo ha hm (by decide))).trans ha)
    have p2 : (hset h (A 0) (.inr (20, [.null, .null, va_rf (pv2 A 0)]))) (A 0) = some (.inr (20, [.null, .null, va_rf (pv2 A 0)])) := (hset_self (e := .inr (20, [.null, .null, va_rf (pv2 A 0)])))
    refine V_aload_n (i := 1) F dJ3_unlinkFirst_15 rfl rfl ?_
    refine V_null F dJ3_unlinkFirst_16 ?_
    refine V_putf F dJ3_unlinkFirst_17 fp_J3_36_J24 p2 rfl rfl (Nat.le_of_ble_eq_true rfl) ?_
    refine VV.heap (h' := (hset (hset h (A 0) (.inr (20, [.null, .null, va_rf (pv2 A 0)]))) (A 0) (.inr (20, [.null, .null, va_rf (pv2 A 0)])))) rfl ?_
    have p3 : (hset (hset h (A 0) (.inr (20, [.null, .null, va_rf (pv2 A 0)]))) (A 0) (.inr (20, [.null, .null, va_rf (pv2 A 0)]))) a = some (.inr (19, [.int (nI mc), .int (nI n), .ref (A 0), .ref (A (n - 1))])) := ((hset_ne (ne_oo p1 p2 (by decide))).trans p1)
    have p4 : (hset (hset h (A 0) (.inr (20, [.null, .null, va_rf (pv2 A 0)]))) (A 0) (.inr (20, [.null, .null, va_rf (pv2 A 0)]))) (A 0) = some (.inr (20, [.null, .null, va_rf (pv2 A 0)])) := (hset_self (e := .inr (20, [.null, .null, va_rf (pv2 A 0)])))
    refine V_aload_n (i := 0) F dJ3_unlinkFirst_20 rfl rfl ?_
    refine V_aload_nN (i := 3) F dJ3_unlinkFirst_21 rfl rfl ?_
    refine V_putf F dJ3_unlinkFirst_22 fp_J3_18_J3 p3 rfl rfl (Nat.le_of_ble_eq_true rfl) ?_
    refine VV.heap (h' := (hset (hset (hset h (A 0) (.inr (20, [.null, .null, va_rf (pv2 A 0)]))) (A 0) (.inr (20, [.null, .null, va_rf (pv2 A 0)]))) (a) (.inr (19, [.int (nI mc), .int (nI n), .null, .ref (A (n - 1))])))) rfl ?_
    have p5 : (hset (hset (hset h (A 0) (.inr (20, [.null, .null, va_rf (pv2 A 0)]))) (A 0) (.inr (20, [.null, .null, va_rf (pv2 A 0)]))) (a) (.inr (19, [.int (nI mc), .int (nI n), .null, .ref (A (n - 1))]))) (A 0) = some (.inr (20, [.null, .null, va_rf (pv2 A 0)])) := ((hset_ne (ne_oo p4 p3 (by decide))).trans p4)
    have p6 : (hset (hset (hset h (A 0) (.inr (20, [.null, .null, va_rf (pv2 A 0)]))) (A 0) (.inr (20, [.null, .null, va_rf (pv2 A 0)]))) (a) (.inr (19, [.int (nI mc), .int (nI n), .null, .ref (A (n - 1))]))) a = some (.inr (19, [.int (nI mc), .int (nI n), .null, .ref (A (n - 1))])) := (hset_self (e := .inr (19, [.int (nI mc), .int (nI n), .null, .ref (A (n - 1))])))
    refine V_aload_nN (i := 3) F dJ3_unlinkFirst_25 rfl rfl ?_
    refine V_ifnonnullN F dJ3_unlinkFirst_26 ?_
    refine V_aload_n (i := 0) F dJ3_unlinkFirst_29 rfl rfl ?_
    refine V_null F dJ3_unlinkFirst_30 ?_
    refine V_putf F dJ3_unlinkFirst_31 fp_J3_27_J3 p6 rfl rfl (Nat.le_of_ble_eq_true rfl) ?_
    refine VV.heap (h' := (hset (hset (hset (hset h (A 0) (.inr (20, [.null, .null, va_rf (pv2 A 0)]))) (A 0) (.inr (20, [.null, .null, va_rf (pv2 A 0)]))) (a) (.inr (19, [.int (nI mc), .int (nI n), .null, .ref (A (n - 1))]))) (a) (.inr (19, [.int (nI mc), .int (nI n), .null, .null])))) rfl ?_
    refine V_goto (tgt := 42) F dJ3_unlinkFirst_34 (by decide) ?_
    have p7 : (hset (hset (hset (hset h (A 0) (.inr (20, [.null, .null, va_rf (pv2 A 0)]))) (A 0) (.inr (20, [.null, .null, va_rf (pv2 A 0)]))) (a) (.inr (19, [.int (nI mc), .int (nI n), .null, .ref (A (n - 1))]))) (a) (.inr (19, [.int (nI mc), .int (nI n), .null, .null]))) (A 0) = some (.inr (20, [.null, .null, va_rf (pv2 A 0)])) := ((hset_ne (ne_oo p5 p6 (by decide))).trans p5)
    have p8 : (hset (hset (hset (hset h (A 0) (.inr (20, [.null, .null, va_rf (pv2 A 0)]))) (A 0) (.inr (20, [.null, .null, va_rf (pv2 A 0)]))) (a) (.inr (19, [.int (nI mc), .int (nI n), .null, .ref (A (n - 1))]))) (a) (.inr (19, [.int (nI mc), .int (nI n), .null, .null]))) a = some (.inr (19, [.int (nI mc), .int (nI n), .null, .null])) := (hset_self (e := .inr (19, [.int (nI mc), .int (nI n), .null, .null])))
    refine V_aload_n (i := 0) F dJ3_unlinkFirst_42 rfl rfl ?_
    refine V_dup F dJ3_unlinkFirst_43 rfl ?_
    refine V_getf F dJ3_unlinkFirst_44 fc_J3_7_J3 (.inl p8) rfl ?_
    refine V_iconst (v := nI 1) F dJ3_unlinkFirst_47 rfl ?_
    refine V_isubN F dJ3_unlinkFirst_48 (by omega) ?_
    refine V_putf F dJ3_unlinkFirst_49 fp_J3_7_J3 p8 rfl rfl (Nat.le_of_ble_eq_true rfl) ?_
    refine VV.heap (h' := (hset (hset (hset (hset (hset h (A 0) (.inr (20, [.null, .null, va_rf (pv2 A 0)]))) (A 0) (.inr (20, [.null, .null, va_rf (pv2 A 0)]))) (a) (.inr (19, [.int (nI mc), .int (nI n), .null, .ref (A (n - 1))]))) (a) (.inr (19, [.int (nI mc), .int (nI n), .null, .null]))) (a) (.inr (19, [.int (nI mc), .int (nI (n - 1)), .null, .null])))) rfl ?_
    have p9 : (hset (hset (hset (hset (hset h (A 0) (.inr (20, [.null, .null, va_rf (pv2 A 0)]))) (A 0) (.inr (20, [.null, .null, va_rf (pv2 A 0)]))) (a) (.inr (19, [.int (nI mc), .int (nI n), .null, .ref (A (n - 1))]))) (a) (.inr (19, [.int (nI mc), .int (nI n), .null, .null]))) (a) (.inr (19, [.int (nI mc), .int (nI (n - 1)), .null, .null]))) (A 0) = some (.inr (20, [.null, .null, va_rf (pv2 A 0)])) := ((hset_ne (ne_oo p7 p8 (by decide))).trans p7)
    have p10 : (hset (hset (hset (hset (hset h (A 0) (.inr (20, [.null, .null, va_rf (pv2 A 0)]))) (A 0) (.inr (20, [.null, .null, va_rf (pv2 A 0)]))) (a) (.inr (19, [.int (nI mc), .int (nI n), .null, .ref (A (n - 1))]))) (a) (.inr (19, [.int (nI mc), .int (nI n), .null, .null]))) (a) (.inr (19, [.int (nI mc), .int (nI (n - 1)), .null, .null]))) a = some (.inr (19, [.int (nI mc), .int (nI (n - 1)), .null, .null])) := (hset_self (e := .inr (19, [.int (nI mc), .int (nI (n - 1)), .null, .null])))
    refine V_aload_n (i := 0) F dJ3_unlinkFirst_52 rfl rfl ?_
    refine V_dup F dJ3_unlinkFirst_53 rfl ?_
    refine V_getf F dJ3_unlinkFirst_54 fc_J3_33_J3 (.inl p10) rfl ?_
    refine V_iconst (v := nI 1) F dJ3_unlinkFirst_57 rfl ?_
    refine V_iaddN F dJ3_unlinkFirst_58 ?_
    refine V_putf F dJ3_unlinkFirst_59 fp_J3_33_J3 p10 rfl rfl (Nat.le_of_ble_eq_true rfl) ?_
    refine VV.heap (h' := (hset (hset (hset (hset (hset (hset h (A 0) (.inr (20, [.null, .null, va_rf (pv2 A 0)]))) (A 0) (.inr (20, [.null, .null, va_rf (pv2 A 0)]))) (a) (.inr (19, [.int (nI mc), .int (nI n), .null, .ref (A (n - 1))]))) (a) (.inr (19, [.int (nI mc), .int (nI n), .null, .null]))) (a) (.inr (19, [.int (nI mc), .int (nI (n - 1)), .null, .null]))) (a) (.inr (19, [.int (nI (mc + 1)), .int (nI (n - 1)), .null, .null])))) rfl ?_
    refine V_aload_n (i := 2) F dJ3_unlinkFirst_62 rfl rfl ?_
    have hfz := (((((((Fr.rf (M := mT a n A) (h := h)).put (x := .inr (20, [.null, .null, va_rf (pv2 A 0)])) hm rfl rfl (Or.inl (Or.inr ⟨0, hn0, rfl⟩))).put (x := .inr (20, [.null, .null, va_rf (pv2 A 0)])) p2 rfl rfl (Or.inl (Or.inr ⟨0, hn0, rfl⟩))).put (x := .inr (19, [.int (nI mc), .int (nI n), .null, .ref (A (n - 1))])) p3 rfl rfl (Or.inl (Or.inl rfl))).put (x := .inr (19, [.int (nI mc), .int (nI n), .null, .null])) p6 rfl rfl (Or.inl (Or.inl rfl))).put (x := .inr (19, [.int (nI mc), .int (nI (n - 1)), .null, .null])) p8 rfl rfl (Or.inl (Or.inl rfl))).put (x := .inr (19, [.int (nI (mc + 1)), .int (nI (n - 1)), .null, .null])) p10 rfl rfl (Or.inl (Or.inl rfl)))
    have pa : (hset (hset (hset (hset (hset (hset h (A 0) (.inr (20, [.null, .null, va_rf (pv2 A 0)]))) (A 0) (.inr (20, [.null, .null, va_rf (pv2 A 0)]))) (a) (.inr (19, [.int (nI mc), .int (nI n), .null, .ref (A (n - 1))]))) (a) (.inr (19, [.int (nI mc), .int (nI n), .null, .null]))) (a) (.inr (19, [.int (nI mc), .int (nI (n - 1)), .null, .null]))) (a) (.inr (19, [.int (nI (mc + 1)), .int (nI (n - 1)), .null, .null]))) a = some (.inr (19, [.int (nI (mc + 1)), .int (nI (n - 1)), .null, .null])) := (hset_self (e := .inr (19, [.int (nI (mc + 1)), .int (nI (n - 1)), .null, .null])))
    refine V_aret F dJ3_unlinkFirst_63 (Or.inl ⟨_, rfl⟩) (Or.inr ⟨_, rfl⟩) (by first | exact Nat.le_of_ble_eq_true rfl | omega) (by first | exact Nat.le_of_ble_eq_true rfl | omega) ⟨rfl, ⟨?_, hL.2.1.tl, fun j hj => ?_⟩, hfz⟩
    · rw [if_neg (by omega), if_neg (by omega)]; exact pa
    · omega
  · have hm : h (A 0) = some (.inr (20, [.ref (V 0), .ref (A 1), va_rf (pv2 A 0)])) := by have z := hN 0 hn0; rw [show nx2 A n 0 = some (A 1) from if_pos (by omega)] at z; exact z
    have h01 : A 0 ≠ A 1 := fun z => by have := hL.2.1 0 1 hn0 (by omega) z; omega
    have hq := hN 1 (by omega)
    refine V_aload_n (i := 1) F dJ3_unlinkFirst_0 rfl rfl ?_
    refine V_getf F dJ3_unlinkFirst_1 fc_J3_39_J24 (.inl hm) rfl ?_
    refine V_astore_n (i := 2) F dJ3_unlinkFirst_4 rfl (Nat.le_of_ble_eq_true rfl) (Nat.le_of_ble_eq_true rfl) ?_
    refine V_aload_n (i := 1) F dJ3_unlinkFirst_5 rfl rfl ?_
    refine V_getf F dJ3_unlinkFirst_6 fc_J3_36_J24 (.inl hm) rfl ?_
    refine V_astore_n (i := 3) F dJ3_unlinkFirst_9 rfl (Nat.le_of_ble_eq_true rfl) (Nat.le_of_ble_eq_true rfl) ?_
    refine V_aload_n (i := 1) F dJ3_unlinkFirst_10 rfl rfl ?_
    refine V_null F dJ3_unlinkFirst_11 ?_
    refine V_putf F dJ3_unlinkFirst_12 fp_J3_39_J24 hm rfl rfl (Nat.le_of_ble_eq_true rfl) ?_
    refine VV.heap (h' := (hset h (A 0) (.inr (20, [.null, .ref (A 1), va_rf (pv2 A 0)])))) rfl ?_
    have p1 : (hset h (A 0) (.inr (20, [.null, .ref (A 1), va_rf (pv2 A 0)]))) a = some (.inr (19, [.int (nI mc), .int (nI n), .ref (A 0), .ref (A (n - 1))])) := ((hset_ne (ne_oo ha hm (by decide))).trans ha)
    have p2 : (hset h (A 0) (.inr (20, [.null, .ref (A 1), va_rf (pv2 A 0)]))) (A 1) = some (.inr (20, [.ref (V 1), va_rf (nx2 A n 1), va_rf (pv2 A 1)])) := ((hset_ne (Ne.symm h01)).trans hq)
    have p3 : (hset h (A 0) (.inr (20, [.null, .ref (A 1), va_rf (pv2 A 0)]))) (A 0) = some (.inr (20, [.null, .ref (A 1), va_rf (pv2 A 0)])) := (hset_self (e := .inr (20, [.null, .ref (A 1), va_rf (pv2 A 0)])))
    refine V_aload_n (i := 1) F dJ3_unlinkFirst_15 rfl rfl ?_
    refine V_null F dJ3_unlinkFirst_16 ?_
    refine V_putf F dJ3_unlinkFirst_17 fp_J3_36_J24 p3 rfl rfl (Nat.le_of_ble_eq_true rfl) ?_
    refine VV.heap (h' := (hset (hset h (A 0) (.inr (20, [.null, .ref (A 1), va_rf (pv2 A 0)]))) (A 0) (.inr (20, [.null, .null, va_rf (pv2 A 0)])))) rfl ?_
    have p4 : (hset (hset h (A 0) (.inr (20, [.null, .ref (A 1), va_rf (pv2 A 0)]))) (A 0) (.inr (20, [.null, .null, va_rf (pv2 A 0)]))) a = some (.inr (19, [.int (nI mc), .int (nI n), .ref (A 0), .ref (A (n - 1))])) := ((hset_ne (ne_oo p1 p3 (by decide))).trans p1)
    have p5 : (hset (hset h (A 0) (.inr (20, [.null, .ref (A 1), va_rf (pv2 A 0)]))) (A 0) (.inr (20, [.null, .null, va_rf (pv2 A 0)]))) (A 1) = some (.inr (20, [.ref (V 1), va_rf (nx2 A n 1), va_rf (pv2 A 1)])) := ((hset_ne (Ne.symm h01)).trans p2)
    have p6 : (hset (hset h (A 0) (.inr (20, [.null, .ref (A 1), va_rf (pv2 A 0)]))) (A 0) (.inr (20, [.null, .null, va_rf (pv2 A 0)]))) (A 0) = some (.inr (20, [.null, .null, va_rf (pv2 A 0)])) := (hset_self (e := .inr (20, [.null, .null, va_rf (pv2 A 0)])))
    refine V_aload_n (i := 0) F dJ3_unlinkFirst_20 rfl rfl ?_
    refine V_aload_n (i := 3) F dJ3_unlinkFirst_21 rfl rfl ?_
    refine V_putf F dJ3_unlinkFirst_22 fp_J3_18_J3 p4 rfl rfl (Nat.le_of_ble_eq_true rfl) ?_
    refine VV.heap (h' := (hset (hset (hset h (A 0) (.inr (20, [.null, .ref (A 1), va_rf (pv2 A 0)]))) (A 0) (.inr (20, [.null, .null, va_rf (pv2 A 0)]))) (a) (.inr (19, [.int (nI mc), .int (nI n), .ref (A 1), .ref (A (n - 1))])))) rfl ?_
    have p7 : (hset (hset (hset h (A 0) (.inr (20, [.null, .ref (A 1), va_rf (pv2 A 0)]))) (A 0) (.inr (20, [.null, .null, va_rf (pv2 A 0)]))) (a) (.inr (19, [.int (nI mc), .int (nI n), .ref (A 1), .ref (A (n - 1))]))) (A 1) = some (.inr (20, [.ref (V 1), va_rf (nx2 A n 1), va_rf (pv2 A 1)])) := ((hset_ne (ne_oo p5 p4 (by decide))).trans p5)
    have p8 : (hset (hset (hset h (A 0) (.inr (20, [.null, .ref (A 1), va_rf (pv2 A 0)]))) (A 0) (.inr (20, [.null, .null, va_rf (pv2 A 0)]))) (a) (.inr (19, [.int (nI mc), .int (nI n), .ref (A 1), .ref (A (n - 1))]))) (A 0) = some (.inr (20, [.null, .null, va_rf (pv2 A 0)])) := ((hset_ne (ne_oo p6 p4 (by decide))).trans p6)
    have p9 : (hset (hset (hset h (A 0) (.inr (20, [.null, .ref (A 1), va_rf (pv2 A 0)]))) (A 0) (.inr (20, [.null, .null, va_rf (pv2 A 0)]))) (a) (.inr (19, [.int (nI mc), .int (nI n), .ref (A 1), .ref (A (n - 1))]))) a = some (.inr (19, [.int (nI mc), .int (nI n), .ref (A 1), .ref (A (n - 1))])) := (hset_self (e := .inr (19, [.int (nI mc), .int (nI n), .ref (A 1), .ref (A (n - 1))])))
    refine V_aload_n (i := 3) F dJ3_unlinkFirst_25 rfl rfl ?_
    refine V_ifnonnull (tgt := 37) F dJ3_unlinkFirst_26 (by decide) ?_
    refine V_aload_n (i := 3) F dJ3_unlinkFirst_37 rfl rfl ?_
    refine V_null F dJ3_unlinkFirst_38 ?_
    refine V_putf F dJ3_unlinkFirst_39 fp_J3_30_J24 p7 rfl rfl (Nat.le_of_ble_eq_true rfl) ?_
    refine VV.heap (h' := (hset (hset (hset (hset h (A 0) (.inr (20, [.null, .ref (A 1), va_rf (pv2 A 0)]))) (A 0) (.inr (20, [.null, .null, va_rf (pv2 A 0)]))) (a) (.inr (19, [.int (nI mc), .int (nI n), .ref (A 1), .ref (A (n - 1))]))) (A 1) (.inr (20, [.ref (V 1), va_rf (nx2 A n 1), .null])))) rfl ?_
    have p10 : (hset (hset (hset (hset h (A 0) (.inr (20, [.null, .ref (A 1), va_rf (pv2 A 0)]))) (A 0) (.inr (20, [.null, .null, va_rf (pv2 A 0)]))) (a) (.inr (19, [.int (nI mc), .int (nI n), .ref (A 1), .ref (A (n - 1))]))) (A 1) (.inr (20, [.ref (V 1), va_rf (nx2 A n 1), .null]))) (A 0) = some (.inr (20, [.null, .null, va_rf (pv2 A 0)])) := ((hset_ne h01).trans p8)
    have p11 : (hset (hset (hset (hset h (A 0) (.inr (20, [.null, .ref (A 1), va_rf (pv2 A 0)]))) (A 0) (.inr (20, [.null, .null, va_rf (pv2 A 0)]))) (a) (.inr (19, [.int (nI mc), .int (nI n), .ref (A 1), .ref (A (n - 1))]))) (A 1) (.inr (20, [.ref (V 1), va_rf (nx2 A n 1), .null]))) a = some (.inr (19, [.int (nI mc), .int (nI n), .ref (A 1), .ref (A (n - 1))])) := ((hset_ne (ne_oo p9 p7 (by decide))).trans p9)
    have p12 : (hset (hset (hset (hset h (A 0) (.inr (20, [.null, .ref (A 1), va_rf (pv2 A 0)]))) (A 0) (.inr (20, [.null, .null, va_rf (pv2 A 0)]))) (a) (.inr (19, [.int (nI mc), .int (nI n), .ref (A 1), .ref (A (n - 1))]))) (A 1) (.inr (20, [.ref (V 1), va_rf (nx2 A n 1), .null]))) (A 1) = some (.inr (20, [.ref (V 1), va_rf (nx2 A n 1), .null])) := (hset_self (e := .inr (20, [.ref (V 1), va_rf (nx2 A n 1), .null])))
    refine V_aload_n (i := 0) F dJ3_unlinkFirst_42 rfl rfl ?_
    refine V_dup F dJ3_unlinkFirst_43 rfl ?_
    refine V_getf F dJ3_unlinkFirst_44 fc_J3_7_J3 (.inl p11) rfl ?_
    refine V_iconst (v := nI 1) F dJ3_unlinkFirst_47 rfl ?_
    refine V_isubN F dJ3_unlinkFirst_48 (by omega) ?_
    refine V_putf F dJ3_unlinkFirst_49 fp_J3_7_J3 p11 rfl rfl (Nat.le_of_ble_eq_true rfl) ?_
    refine VV.heap (h' := (hset (hset (hset (hset (hset h (A 0) (.inr (20, [.null, .ref (A 1), va_rf (pv2 A 0)]))) (A 0) (.inr (20, [.null, .null, va_rf (pv2 A 0)]))) (a) (.inr (19, [.int (nI mc), .int (nI n), .ref (A 1), .ref (A (n - 1))]))) (A 1) (.inr (20, [.ref (V 1), va_rf (nx2 A n 1), .null]))) (a) (.inr (19, [.int (nI mc), .int (nI (n - 1)), .ref (A 1), .ref (A (n - 1))])))) rfl ?_
    have p13 : (hset (hset (hset (hset (hset h (A 0) (.inr (20, [.null, .ref (A 1), va_rf (pv2 A 0)]))) (A 0) (.inr (20, [.null, .null, va_rf (pv2 A 0)]))) (a) (.inr (19, [.int (nI mc), .int (nI n), .ref (A 1), .ref (A (n - 1))]))) (A 1) (.inr (20, [.ref (V 1), va_rf (nx2 A n 1), .null]))) (a) (.inr (19, [.int (nI mc), .int (nI (n - 1)), .ref (A 1), .ref (A (n - 1))]))) (A 0) = some (.inr (20, [.null, .null, va_rf (pv2 A 0)])) := ((hset_ne (ne_oo p10 p11 (by decide))).trans p10)
    have p14 : (hset (hset (hset (hset (hset h (A 0) (.inr (20, [.null, .ref (A 1), va_rf (pv2 A 0)]))) (A 0) (.inr (20, [.null, .null, va_rf (pv2 A 0)]))) (a) (.inr (19, [.int (nI mc), .int (nI n), .ref (A 1), .ref (A (n - 1))]))) (A 1) (.inr (20, [.ref (V 1), va_rf (nx2 A n 1), .null]))) (a) (.inr (19, [.int (nI mc), .int (nI (n - 1)), .ref (A 1), .ref (A (n - 1))]))) (A 1) = some (.inr (20, [.ref (V 1), va_rf (nx2 A n 1), .null])) := ((hset_ne (ne_oo p12 p11 (by decide))).trans p12)
    have p15 : (hset (hset (hset (hset (hset h (A 0) (.inr (20, [.null, .ref (A 1), va_rf (pv2 A 0)]))) (A 0) (.inr (20, [.null, .null, va_rf (pv2 A 0)]))) (a) (.inr (19, [.int (nI mc), .int (nI n), .ref (A 1), .ref (A (n - 1))]))) (A 1) (.inr (20, [.ref (V 1), va_rf (nx2 A n 1), .null]))) (a) (.inr (19, [.int (nI mc), .int (nI (n - 1)), .ref (A 1), .ref (A (n - 1))]))) a = some (.inr (19, [.int (nI mc), .int (nI (n - 1)), .ref (A 1), .ref (A (n - 1))])) := (hset_self (e := .inr (19, [.int (nI mc), .int (nI (n - 1)), .ref (A 1), .ref (A (n - 1))])))
    refine V_aload_n (i := 0) F dJ3_unlinkFirst_52 rfl rfl ?_
    refine V_dup F dJ3_unlinkFirst_53 rfl ?_
    refine V_getf F dJ3_unlinkFirst_54 fc_J3_33_J3 (.inl p15) rfl ?_
    refine V_iconst (v := nI 1) F dJ3_unlinkFirst_57 rfl ?_
    refine V_iaddN F dJ3_unlinkFirst_58 ?_
    refine V_putf F dJ3_unlinkFirst_59 fp_J3_33_J3 p15 rfl rfl (Nat.le_of_ble_eq_true rfl) ?_
    refine VV.heap (h' := (hset (hset (hset (hset (hset (hset h (A 0) (.inr (20, [.null, .ref (A 1), va_rf (pv2 A 0)]))) (A 0) (.inr (20, [.null, .null, va_rf (pv2 A 0)]))) (a) (.inr (19, [.int (nI mc), .int (nI n), .ref (A 1), .ref (A (n - 1))]))) (A 1) (.inr (20, [.ref (V 1), va_rf (nx2 A n 1), .null]))) (a) (.inr (19, [.int (nI mc), .int (nI (n - 1)), .ref (A 1), .ref (A (n - 1))]))) (a) (.inr (19, [.int (nI (mc + 1)), .int (nI (n - 1)), .ref (A 1), .ref (A (n - 1))])))) rfl ?_
    refine V_aload_n (i := 2) F dJ3_unlinkFirst_62 rfl rfl ?_
    have hfz := (((((((Fr.rf (M := mT a n A) (h := h)).put (x := .inr (20, [.null, .ref (A 1), va_rf (pv2 A 0)])) hm rfl rfl (Or.inl (Or.inr ⟨0, hn0, rfl⟩))).put (x := .inr (20, [.null, .null, va_rf (pv2 A 0)])) p3 rfl rfl (Or.inl (Or.inr ⟨0, hn0, rfl⟩))).put (x := .inr (19, [.int (nI mc), .int (nI n), .ref (A 1), .ref (A (n - 1))])) p4 rfl rfl (Or.inl (Or.inl rfl))).put (x := .inr (20, [.ref (V 1), va_rf (nx2 A n 1), .null])) p7 rfl rfl (Or.inl (Or.inr ⟨1, by omega, rfl⟩))).put (x := .inr (19, [.int (nI mc), .int (nI (n - 1)), .ref (A 1), .ref (A (n - 1))])) p11 rfl rfl (Or.inl (Or.inl rfl))).put (x := .inr (19, [.int (nI (mc + 1)), .int (nI (n - 1)), .ref (A 1), .ref (A (n - 1))])) p15 rfl rfl (Or.inl (Or.inl rfl)))
    have pa : (hset (hset (hset (hset (hset (hset h (A 0) (.inr (20, [.null, .ref (A 1), va_rf (pv2 A 0)]))) (A 0) (.inr (20, [.null, .null, va_rf (pv2 A 0)]))) (a) (.inr (19, [.int (nI mc), .int (nI n), .ref (A 1), .ref (A (n - 1))]))) (A 1) (.inr (20, [.ref (V 1), va_rf (nx2 A n 1), .null]))) (a) (.inr (19, [.int (nI mc), .int (nI (n - 1)), .ref (A 1), .ref (A (n - 1))]))) (a) (.inr (19, [.int (nI (mc + 1)), .int (nI (n - 1)), .ref (A 1), .ref (A (n - 1))]))) a = some (.inr (19, [.int (nI (mc + 1)), .int (nI (n - 1)), .ref (A 1), .ref (A (n - 1))])) := (hset_self (e := .inr (19, [.int (nI (mc + 1)), .int (nI (n - 1)), .ref (A 1), .ref (A (n - 1))])))
    have pq : (hset (hset (hset (hset (hset (hset h (A 0) (.inr (20, [.null, .ref (A 1), va_rf (pv2 A 0)]))) (A 0) (.inr (20, [.null, .null, va_rf (pv2 A 0)]))) (a) (.inr (19, [.int (nI mc), .int (nI n), .ref (A 1), .ref (A (n - 1))]))) (A 1) (.inr (20, [.ref (V 1), va_rf (nx2 A n 1), .null]))) (a) (.inr (19, [.int (nI mc), .int (nI (n - 1)), .ref (A 1), .ref (A (n - 1))]))) (a) (.inr (19, [.int (nI (mc + 1)), .int (nI (n - 1)), .ref (A 1), .ref (A (n - 1))]))) (A 1) = some (.inr (20, [.ref (V 1), va_rf (nx2 A n 1), .null])) := ((hset_ne (ne_oo p14 p15 (by decide))).trans p14)
    refine V_aret F dJ3_unlinkFirst_63 (Or.inl ⟨_, rfl⟩) (Or.inr ⟨_, rfl⟩) (by first | exact Nat.le_of_ble_eq_true rfl | omega) (by first | exact Nat.le_of_ble_eq_true rfl | omega) ⟨rfl, ⟨?_, hL.2.1.tl, fun j hj => ?_⟩, hfz⟩
    · rw [if_pos (by omega), if_pos (by omega)]; show _ = some (Sum.inr (19, [_, _, _, Value.ref (A (n - 1 - 1 + 1))])); rw [show n - 1 - 1 + 1 = n - 1 by omega]; exact pa
    · by_cases c : j = 0
      · subst c; rw [nx2_s]; exact pq
      · have e1 := hNa (j + 1) (by omega)
        have e2 : A (j + 1) ≠ A 0 := fun z => by have := hL.2.1 (j + 1) 0 (by omega) hn0 z; omega
        have e3 : A (j + 1) ≠ A 1 := fun z => by have := hL.2.1 (j + 1) 1 (by omega) (by omega) z; omega
        rw [nx2_s, pv2_s (by omega), ← hN (j + 1) (by omega)]
        simp only [hset, if_neg e1, if_neg e2, if_neg e3]
theorem ct_LL_removeFirst {G : GG} {l : Launch} {h : AH} {a mc n : Nat} {A V : Nat → Nat}  (hL : LLs h a mc n A V) (hn0 : 0 < n) : Ct G l yJ3_removeFirst cJ3_removeFirst 2 (some (.object "java/lang/Object")) 1 (0) (0) [.ref a] h (fun r h2 => r = some (.ref (V 0)) ∧ LLs h2 a (mc + 1) (n - 1) (fun i => A (i + 1)) (fun i => V (i + 1)) ∧ Fr (mT a n A) h h2) := by
  refine Ct.of (by decide) (Nat.le_of_ble_eq_true rfl) (cat1 rfl) (fun X hXl F HN => ?_)
  subst hXl
  have ha : h a = some (.inr (19, [.int (nI mc), .int (nI n), .ref (A 0), .ref (A (n - 1))])) := by have z := hL.1; rw [LL.f0 hn0, LL.l0 hn0] at z; exact z
  refine V_aload_n (i := 0) F dJ3_removeFirst_0 rfl rfl ?_
  refine V_getf F dJ3_removeFirst_1 fc_J3_18_J3 (.inl ha) rfl ?_
  refine V_astore_n (i := 1) F dJ3_removeFirst_4 rfl (Nat.le_of_ble_eq_true rfl) (Nat.le_of_ble_eq_true rfl) ?_
  refine V_aload_n (i := 1) F dJ3_removeFirst_5 rfl rfl ?_
  refine V_ifnonnull (tgt := 17) F dJ3_removeFirst_6 (by decide) ?_
  refine V_aload_n (i := 0) F dJ3_removeFirst_17 rfl rfl ?_
  refine V_aload_n (i := 1) F dJ3_removeFirst_18 rfl rfl ?_
  refine V_callV (st := []) F dJ3_removeFirst_19 lk_J3_46 (ct_LL_unlinkFirst hL hn0) ⟨19, _, _, _, rfl, (.inl ha)⟩ rfl rfl (Nat.le_of_ble_eq_true rfl) (Nat.le_of_ble_eq_true rfl) (Nat.le_of_ble_eq_true rfl) (by first | exact Nat.le_of_ble_eq_true rfl | omega) (by first | exact Nat.le_of_ble_eq_true rfl | omega) ?_
  rintro _ h2 ⟨rfl, hL2, hx2⟩
  refine VV.stk (st' := [.ref (V 0)]) rfl ?_
  exact V_aret F dJ3_removeFirst_22 (Or.inl ⟨_, rfl⟩) (Or.inr ⟨_, rfl⟩) (by first | exact Nat.le_of_ble_eq_true rfl | omega) (by first | exact Nat.le_of_ble_eq_true rfl | omega) ⟨rfl, hL2, hx2⟩
theorem ct_LL_unlinkLast {G : GG} {l : Launch} {h : AH} {a mc n : Nat} {A V : Nat → Nat}  (hL : LLs h a mc n A V) (hn0 : 0 < n) : Ct G l yJ3_unlinkLast cJ3_unlinkLast 4 (some (.object "java/lang/Object")) 0 (0) (0) [.ref a, .ref (A (n - 1))] h (fun r h2 => r = some (.ref (V (n - 1))) ∧ LLs h2 a (mc + 1) (n - 1) A V ∧ Fr (mT a n A) h h2) := by
  refine Ct.of (by decide) (Nat.le_of_ble_eq_true rfl) (cat1 rfl) (fun X hXl F HN => ?_)
  subst hXl
  have hN := hL.2.2
  have hNa : ∀ j, j < n → A j ≠ a := fun j hj => ne_oo (hN j hj) hL.1 (by decide)
  have ha : h a = some (.inr (19, [.int (nI mc), .int (nI n), .ref (A 0), .ref (A (n - 1))])) := by have z := hL.1; rw [LL.f0 hn0, LL.l0 hn0] at z; exact z
  by_cases hn1 : n = 1
  · have hm : h (A (n - 1)) = some (.inr (20, [.ref (V (n - 1)), va_rf (nx2 A n (n - 1)), .null])) := by have z := hN (n - 1) (by omega); rw [show pv2 A (n - 1) = none from if_pos (by omega)] at z; exact z
    refine V_aload_n (i := 1) F dJ3_unlinkLast_0 rfl rfl ?_
    refine V_getf F dJ3_unlinkLast_1 fc_J3_39_J24 (.inl hm) rfl ?_
    refine V_astore_n (i := 2) F dJ3_unlinkLast_4 rfl (Nat.le_of_ble_eq_true rfl) (Nat.le_of_ble_eq_true rfl) ?_
    refine V_aload_n (i := 1) F dJ3_unlinkLast_5 rfl rfl ?_
    refine V_getf F dJ3_unlinkLast_6 fc_J3_30_J24 (.inl hm) rfl ?_
    refine V_astore_nN (i := 3) F dJ3_unlinkLast_9 rfl (Nat.le_of_ble_eq_true rfl) (Nat.le_of_ble_eq_true rfl) ?_
    refine V_aload_n (i := 1) F dJ3_unlinkLast_10 rfl rfl ?_
    refine V_null F dJ3_unlinkLast_11 ?_
    refine V_putf F dJ3_unlinkLast_12 fp_J3_39_J24 hm rfl rfl (Nat.le_of_ble_eq_true rfl) ?_
    refine VV.heap (h' := (hset h (A (n - 1)) (.inr (20, [.null, va_rf (nx2 A n (n - 1)), .null])))) rfl ?_
    have p1 : (hset h (A (n - 1)) (.inr (20, [.null, va_rf (nx2 A n (n - 1)), .null]))) a = some (.inr (19, [.int (nI mc), .int (nI n), .ref (A 0), .ref (A (n - 1))])) := ((hset_ne (ne_oo ha hm (by decide))).trans ha)
    have p2 : (hset h (A (n - 1)) (.inr (20, [.null, va_rf (nx2 A n (n - 1)), .null]))) (A (n - 1)) = some (.inr (20, [.null, va_rf (nx2 A n (n - 1)), .null])) := (hset_self (e := .inr (20, [.null, va_rf (nx2 A n (n - 1)), .null])))
    refine V_aload_n (i := 1) F dJ3_unlinkLast_15 rfl rfl ?_
    refine V_null F dJ3_unlinkLast_16 ?_
    refine V_putf F dJ3_unlinkLast_17 fp_J3_30_J24 p2 rfl rfl (Nat.le_of_ble_eq_true rfl) ?_
    refine VV.heap (h' := (hset (hset h (A (n - 1)) (.inr (20, [.null, va_rf (nx2 A n (n - 1)), .null]))) (A (n - 1)) (.inr (20, [.null, va_rf (nx2 A n (n - 1)), .null])))) rfl ?_
    have p3 : (hset (hset h (A (n - 1)) (.inr (20, [.null, va_rf (nx2 A n (n - 1)), .null]))) (A (n - 1)) (.inr (20, [.null, va_rf (nx2 A n (n - 1)), .null]))) a = some (.inr (19, [.int (nI mc), .int (nI n), .ref (A 0), .ref (A (n - 1))])) := ((hset_ne (ne_oo p1 p2 (by decide))).trans p1)
    have p4 : (hset (hset h (A (n - 1)) (.inr (20, [.null, va_rf (nx2 A n (n - 1)), .null]))) (A (n - 1)) (.inr (20, [.null, va_rf (nx2 A n (n - 1)), .null]))) (A (n - 1)) = some (.inr (20, [.null, va_rf (nx2 A n (n - 1)), .null])) := (hset_self (e := .inr (20, [.null, va_rf (nx2 A n (n - 1)), .null])))
    refine V_aload_n (i := 0) F dJ3_unlinkLast_20 rfl rfl ?_
    refine V_aload_nN (i := 3) F dJ3_unlinkLast_21 rfl rfl ?_
    refine V_putf F dJ3_unlinkLast_22 fp_J3_27_J3 p3 rfl rfl (Nat.le_of_ble_eq_true rfl) ?_
    refine VV.heap (h' := (hset (hset (hset h (A (n - 1)) (.inr (20, [.null, va_rf (nx2 A n (n - 1)), .null]))) (A (n - 1)) (.inr (20, [.null, va_rf (nx2 A n (n - 1)), .null]))) (a) (.inr (19, [.int (nI mc), .int (nI n), .ref (A 0), .null])))) rfl ?_
    have p5 : (hset (hset (hset h (A (n - 1)) (.inr (20, [.null, va_rf (nx2 A n (n - 1)), .null]))) (A (n - 1)) (.inr (20, [.null, va_rf (nx2 A n (n - 1)), .null]))) (a) (.inr (19, [.int (nI mc), .int (nI n), .ref (A 0), .null]))) (A (n - 1)) = some (.inr (20, [.null, va_rf (nx2 A n (n - 1)), .null])) := ((hset_ne (ne_oo p4 p3 (by decide))).trans p4)
    have p6 : (hset (hset (hset h (A (n - 1)) (.inr (20, [.null, va_rf (nx2 A n (n - 1)), .null]))) (A (n - 1)) (.inr (20, [.null, va_rf (nx2 A n (n - 1)), .null]))) (a) (.inr (19, [.int (nI mc), .int (nI n), .ref (A 0), .null]))) a = some (.inr (19, [.int (nI mc), .int (nI n), .ref (A 0), .null])) := (hset_self (e := .inr (19, [.int (nI mc), .int (nI n), .ref (A 0), .null])))
    refine V_aload_nN (i := 3) F dJ3_unlinkLast_25 rfl rfl ?_
    refine V_ifnonnullN F dJ3_unlinkLast_26 ?_
    refine V_aload_n (i := 0) F dJ3_unlinkLast_29 rfl rfl ?_
    refine V_null F dJ3_unlinkLast_30 ?_
    refine V_putf F dJ3_unlinkLast_31 fp_J3_18_J3 p6 rfl rfl (Nat.le_of_ble_eq_true rfl) ?_
    refine VV.heap (h' := (hset (hset (hset (hset h (A (n - 1)) (.inr (20, [.null, va_rf (nx2 A n (n - 1)), .null]))) (A (n - 1)) (.inr (20, [.null, va_rf (nx2 A n (n - 1)), .null]))) (a) (.inr (19, [.int (nI mc), .int (nI n), .ref (A 0), .null]))) (a) (.inr (19, [.int (nI mc), .int (nI n), .null, .null])))) rfl ?_
    refine V_goto (tgt := 42) F dJ3_unlinkLast_34 (by decide) ?_
    have p7 : (hset (hset (hset (hset h (A (n - 1)) (.inr (20, [.null, va_rf (nx2 A n (n - 1)), .null]))) (A (n - 1)) (.inr (20, [.null, va_rf (nx2 A n (n - 1)), .null]))) (a) (.inr (19, [.int (nI mc), .int (nI n), .ref (A 0), .null]))) (a) (.inr (19, [.int (nI mc), .int (nI n), .null, .null]))) (A (n - 1)) = some (.inr (20, [.null, va_rf (nx2 A n (n - 1)), .null])) := ((hset_ne (ne_oo p5 p6 (by decide))).trans p5)
    have p8 : (hset (hset (hset (hset h (A (n - 1)) (.inr (20, [.null, va_rf (nx2 A n (n - 1)), .null]))) (A (n - 1)) (.inr (20, [.null, va_rf (nx2 A n (n - 1)), .null]))) (a) (.inr (19, [.int (nI mc), .int (nI n), .ref (A 0), .null]))) (a) (.inr (19, [.int (nI mc), .int (nI n), .null, .null]))) a = some (.inr (19, [.int (nI mc), .int (nI n), .null, .null])) := (hset_self (e := .inr (19, [.int (nI mc), .int (nI n), .null, .null])))
    refine V_aload_n (i := 0) F dJ3_unlinkLast_42 rfl rfl ?_
    refine V_dup F dJ3_unlinkLast_43 rfl ?_
    refine V_getf F dJ3_unlinkLast_44 fc_J3_7_J3 (.inl p8) rfl ?_
    refine V_iconst (v := nI 1) F dJ3_unlinkLast_47 rfl ?_
    refine V_isubN F dJ3_unlinkLast_48 (by omega) ?_
    refine V_putf F dJ3_unlinkLast_49 fp_J3_7_J3 p8 rfl rfl (Nat.le_of_ble_eq_true rfl) ?_
    refine VV.heap (h' := (hset (hset (hset (hset (hset h (A (n - 1)) (.inr (20, [.null, va_rf (nx2 A n (n - 1)), .null]))) (A (n - 1)) (.inr (20, [.null, va_rf (nx2 A n (n - 1)), .null]))) (a) (.inr (19, [.int (nI mc), .int (nI n), .ref (A 0), .null]))) (a) (.inr (19, [.int (nI mc), .int (nI n), .null, .null]))) (a) (.inr (19, [.int (nI mc), .int (nI (n - 1)), .null, .null])))) rfl ?_
    have p9 : (hset (hset (hset (hset (hset h (A (n - 1)) (.inr (20, [.null, va_rf (nx2 A n (n - 1)), .null]))) (A (n - 1)) (.inr (20, [.null, va_rf (nx2 A n (n - 1)), .null]))) (a) (.inr (19, [.int (nI mc), .int (nI n), .ref (A 0), .null]))) (a) (.inr (19, [.int (nI mc), .int (nI n), .null, .null]))) (a) (.inr (19, [.int (nI mc), .int (nI (n - 1)), .null, .null]))) (A (n - 1)) = some (.inr (20, [.null, va_rf (nx2 A n (n - 1)), .null])) := ((hset_ne (ne_oo p7 p8 (by decide))).trans p7)
    have p10 : (hset (hset (hset (hset (hset h (A (n - 1)) (.inr (20, [.null, va_rf (nx2 A n (n - 1)), .null]))) (A (n - 1)) (.inr (20, [.null, va_rf (nx2 A n (n - 1)), .null]))) (a) (.inr (19, [.int (nI mc), .int (nI n), .ref (A 0), .null]))) (a) (.inr (19, [.int (nI mc), .int (nI n), .null, .null]))) (a) (.inr (19, [.int (nI mc), .int (nI (n - 1)), .null, .null]))) a = some (.inr (19, [.int (nI mc), .int (nI (n - 1)), .null, .null])) := (hset_self (e := .inr (19, [.int (nI mc), .int (nI (n - 1)), .null, .null])))
    refine V_aload_n (i := 0) F dJ3_unlinkLast_52 rfl rfl ?_
    refine V_dup F dJ3_unlinkLast_53 rfl ?_
    refine V_getf F dJ3_unlinkLast_54 fc_J3_33_J3 (.inl p10) rfl ?_
    refine V_iconst (v := nI 1) F dJ3_unlinkLast_57 rfl ?_
    refine V_iaddN F dJ3_unlinkLast_58 ?_
    refine V_putf F dJ3_unlinkLast_59 fp_J3_33_J3 p10 rfl rfl (Nat.le_of_ble_eq_true rfl) ?_
    refine VV.heap (h' := (hset (hset (hset (hset (hset (hset h (A (n - 1)) (.inr (20, [.null, va_rf (nx2 A n (n - 1)), .null]))) (A (n - 1)) (.inr (20, [.null, va_rf (nx2 A n (n - 1)), .null]))) (a) (.inr (19, [.int (nI mc), .int (nI n), .ref (A 0), .null]))) (a) (.inr (19, [.int (nI mc), .int (nI n), .null, .null]))) (a) (.inr (19, [.int (nI mc), .int (nI (n - 1)), .null, .null]))) (a) (.inr (19, [.int (nI (mc + 1)), .int (nI (n - 1)), .null, .null])))) rfl ?_
    refine V_aload_n (i := 2) F dJ3_unlinkLast_62 rfl rfl ?_
    have hfz := (((((((Fr.rf (M := mT a n A) (h := h)).put (x := .inr (20, [.null, va_rf (nx2 A n (n - 1)), .null])) hm rfl rfl (Or.inl (Or.inr ⟨n - 1, by omega, rfl⟩))).put (x := .inr (20, [.null, va_rf (nx2 A n (n - 1)), .null])) p2 rfl rfl (Or.inl (Or.inr ⟨n - 1, by omega, rfl⟩))).put (x := .inr (19, [.int (nI mc), .int (nI n), .ref (A 0), .null])) p3 rfl rfl (Or.inl (Or.inl rfl))).put (x := .inr (19, [.int (nI mc), .int (nI n), .null, .null])) p6 rfl rfl (Or.inl (Or.inl rfl))).put (x := .inr (19, [.int (nI mc), .int (nI (n - 1)), .null, .null])) p8 rfl rfl (Or.inl (Or.inl rfl))).put (x := .inr (19, [.int (nI (mc + 1)), .int (nI (n - 1)), .null, .null])) p10 rfl rfl (Or.inl (Or.inl rfl)))
    have pa : (hset (hset (hset (hset (hset (hset h (A (n - 1)) (.inr (20, [.null, va_rf (nx2 A n (n - 1)), .null]))) (A (n - 1)) (.inr (20, [.null, va_rf (nx2 A n (n - 1)), .null]))) (a) (.inr (19, [.int (nI mc), .int (nI n), .ref (A 0), .null]))) (a) (.inr (19, [.int (nI mc), .int (nI n), .null, .null]))) (a) (.inr (19, [.int (nI mc), .int (nI (n - 1)), .null, .null]))) (a) (.inr (19, [.int (nI (mc + 1)), .int (nI (n - 1)), .null, .null]))) a = some (.inr (19, [.int (nI (mc + 1)), .int (nI (n - 1)), .null, .null])) := (hset_self (e := .inr (19, [.int (nI (mc + 1)), .int (nI (n - 1)), .null, .null])))
    refine V_aret F dJ3_unlinkLast_63 (Or.inl ⟨_, rfl⟩) (Or.inr ⟨_, rfl⟩) (by first | exact Nat.le_of_ble_eq_true rfl | omega) (by first | exact Nat.le_of_ble_eq_true rfl | omega) ⟨rfl, ⟨?_, hL.2.1.le (by omega), fun j hj => ?_⟩, hfz⟩
    · rw [if_neg (by omega), if_neg (by omega)]; exact pa
    · omega
  · have hm : h (A (n - 1)) = some (.inr (20, [.ref (V (n - 1)), va_rf (nx2 A n (n - 1)), .ref (A (n - 2))])) := by have z := hN (n - 1) (by omega); rw [show pv2 A (n - 1) = some (A (n - 2)) from (if_neg (by omega)).trans (by rw [show n - 1 - 1 = n - 2 by omega])] at z; exact z
    have h01 : A (n - 1) ≠ A (n - 2) := fun z => by have := hL.2.1 (n - 1) (n - 2) (by omega) (by omega) z; omega
    have hq := hN (n - 2) (by omega)
    refine V_aload_n (i := 1) F dJ3_unlinkLast_0 rfl rfl ?_
    refine V_getf F dJ3_unlinkLast_1 fc_J3_39_J24 (.inl hm) rfl ?_
    refine V_astore_n (i := 2) F dJ3_unlinkLast_4 rfl (Nat.le_of_ble_eq_true rfl) (Nat.le_of_ble_eq_true rfl) ?_
    refine V_aload_n (i := 1) F dJ3_unlinkLast_5 rfl rfl ?_
    refine V_getf F dJ3_unlinkLast_6 fc_J3_30_J24 (.inl hm) rfl ?_
    refine V_astore_n (i := 3) F dJ3_unlinkLast_9 rfl (Nat.le_of_ble_eq_true rfl) (Nat.le_of_ble_eq_true rfl) ?_
    refine V_aload_n (i := 1) F dJ3_unlinkLast_10 rfl rfl ?_
    refine V_null F dJ3_unlinkLast_11 ?_
    refine V_putf F dJ3_unlinkLast_12 fp_J3_39_J24 hm rfl rfl (Nat.le_of_ble_eq_true rfl) ?_
    refine VV.heap (h' := (hset h (A (n - 1)) (.inr (20, [.null, va_rf (nx2 A n (n - 1)), .ref (A (n - 2))])))) rfl ?_
    have p1 : (hset h (A (n - 1)) (.inr (20, [.null, va_rf (nx2 A n (n - 1)), .ref (A (n - 2))]))) a = some (.inr (19, [.int (nI mc), .int (nI n), .ref (A 0), .ref (A (n - 1))])) := ((hset_ne (ne_oo ha hm (by decide))).trans ha)
    have p2 : (hset h (A (n - 1)) (.inr (20, [.null, va_rf (nx2 A n (n - 1)), .ref (A (n - 2))]))) (A (n - 2)) = some (.inr (20, [.ref (V (n - 2)), va_rf (nx2 A n (n - 2)), va_rf (pv2 A (n - 2))])) := ((hset_ne (Ne.symm h01)).trans hq)
    have p3 : (hset h (A (n - 1)) (.inr (20, [.null, va_rf (nx2 A n (n - 1)), .ref (A (n - 2))]))) (A (n - 1)) = some (.inr (20, [.null, va_rf (nx2 A n (n - 1)), .ref (A (n - 2))])) := (hset_self (e := .inr (20, [.null, va_rf (nx2 A n (n - 1)), .ref (A (n - 2))])))
    refine V_aload_n (i := 1) F dJ3_unlinkLast_15 rfl rfl ?_
    refine V_null F dJ3_unlinkLast_16 ?_
    refine V_putf F dJ3_unlinkLast_17 fp_J3_30_J24 p3 rfl rfl (Nat.le_of_ble_eq_true rfl) ?_
    refine VV.heap (h' := (hset (hset h (A (n - 1)) (.inr (20, [.null, va_rf (nx2 A n (n - 1)), .ref (A (n - 2))]))) (A (n - 1)) (.inr (20, [.null, va_rf (nx2 A n (n - 1)), .null])))) rfl ?_
    have p4 : (hset (hset h (A (n - 1)) (.inr (20, [.null, va_rf (nx2 A n (n - 1)), .ref (A (n - 2))]))) (A (n - 1)) (.inr (20, [.null, va_rf (nx2 A n (n - 1)), .null]))) a = some (.inr (19, [.int (nI mc), .int (nI n), .ref (A 0), .ref (A (n - 1))])) := ((hset_ne (ne_oo p1 p3 (by decide))).trans p1)
    have p5 : (hset (hset h (A (n - 1)) (.inr (20, [.null, va_rf (nx2 A n (n - 1)), .ref (A (n - 2))]))) (A (n - 1)) (.inr (20, [.null, va_rf (nx2 A n (n - 1)), .null]))) (A (n - 2)) = some (.inr (20, [.ref (V (n - 2)), va_rf (nx2 A n (n - 2)), va_rf (pv2 A (n - 2))])) := ((hset_ne (Ne.symm h01)).trans p2)
    have p6 : (hset (hset h (A (n - 1)) (.inr (20, [.null, va_rf (nx2 A n (n - 1)), .ref (A (n - 2))]))) (A (n - 1)) (.inr (20, [.null, va_rf (nx2 A n (n - 1)), .null]))) (A (n - 1)) = some (.inr (20, [.null, va_rf (nx2 A n (n - 1)), .null])) := (hset_self (e := .inr (20, [.null, va_rf (nx2 A n (n - 1)), .null])))
    refine V_aload_n (i := 0) F dJ3_unlinkLast_20 rfl rfl ?_
    refine V_aload_n (i := 3) F dJ3_unlinkLast_21 rfl rfl ?_
    refine V_putf F dJ3_unlinkLast_22 fp_J3_27_J3 p4 rfl rfl (Nat.le_of_ble_eq_true rfl) ?_
    refine VV.heap (h' := (hset (hset (hset h (A (n - 1)) (.inr (20, [.null, va_rf (nx2 A n (n - 1)), .ref (A (n - 2))]))) (A (n - 1)) (.inr (20, [.null, va_rf (nx2 A n (n - 1)), .null]))) (a) (.inr (19, [.int (nI mc), .int (nI n), .ref (A 0), .ref (A (n - 2))])))) rfl ?_
    have p7 : (hset (hset (hset h (A (n - 1)) (.inr (20, [.null, va_rf (nx2 A n (n - 1)), .ref (A (n - 2))]))) (A (n - 1)) (.inr (20, [.null, va_rf (nx2 A n (n - 1)), .null]))) (a) (.inr (19, [.int (nI mc), .int (nI n), .ref (A 0), .ref (A (n - 2))]))) (A (n - 2)) = some (.inr (20, [.ref (V (n - 2)), va_rf (nx2 A n (n - 2)), va_rf (pv2 A (n - 2))])) := ((hset_ne (ne_oo p5 p4 (by decide))).trans p5)
    have p8 : (hset (hset (hset h (A (n - 1)) (.inr (20, [.null, va_rf (nx2 A n (n - 1)), .ref (A (n - 2))]))) (A (n - 1)) (.inr (20, [.null, va_rf (nx2 A n (n - 1)), .null]))) (a) (.inr (19, [.int (nI mc), .int (nI n), .ref (A 0), .ref (A (n - 2))]))) (A (n - 1)) = some (.inr (20, [.null, va_rf (nx2 A n (n - 1)), .null])) := ((hset_ne (ne_oo p6 p4 (by decide))).trans p6)
    have p9 : (hset (hset (hset h (A (n - 1)) (.inr (20, [.null, va_rf (nx2 A n (n - 1)), .ref (A (n - 2))]))) (A (n - 1)) (.inr (20, [.null, va_rf (nx2 A n (n - 1)), .null]))) (a) (.inr (19, [.int (nI mc), .int (nI n), .ref (A 0), .ref (A (n - 2))]))) a = some (.inr (19, [.int (nI mc), .int (nI n), .ref (A 0), .ref (A (n - 2))])) := (hset_self (e := .inr (19, [.int (nI mc), .int (nI n), .ref (A 0), .ref (A (n - 2))])))
    refine V_aload_n (i := 3) F dJ3_unlinkLast_25 rfl rfl ?_
    refine V_ifnonnull (tgt := 37) F dJ3_unlinkLast_26 (by decide) ?_
    refine V_aload_n (i := 3) F dJ3_unlinkLast_37 rfl rfl ?_
    refine V_null F dJ3_unlinkLast_38 ?_
    refine V_putf F dJ3_unlinkLast_39 fp_J3_36_J24 p7 rfl rfl (Nat.le_of_ble_eq_true rfl) ?_
    refine VV.heap (h' := (hset (hset (hset (hset h (A (n - 1)) (.inr (20, [.null, va_rf (nx2 A n (n - 1)), .ref (A (n - 2))]))) (A (n - 1)) (.inr (20, [.null, va_rf (nx2 A n (n - 1)), .null]))) (a) (.inr (19, [.int (nI mc), .int (nI n), .ref (A 0), .ref (A (n - 2))]))) (A (n - 2)) (.inr (20, [.ref (V (n - 2)), .null, va_rf (pv2 A (n - 2))])))) rfl ?_
    have p10 : (hset (hset (hset (hset h (A (n - 1)) (.inr (20, [.null, va_rf (nx2 A n (n - 1)), .ref (A (n - 2))]))) (A (n - 1)) (.inr (20, [.null, va_rf (nx2 A n (n - 1)), .null]))) (a) (.inr (19, [.int (nI mc), .int (nI n), .ref (A 0), .ref (A (n - 2))]))) (A (n - 2)) (.inr (20, [.ref (V (n - 2)), .null, va_rf (pv2 A (n - 2))]))) (A (n - 1)) = some (.inr (20, [.null, va_rf (nx2 A n (n - 1)), .null])) := ((hset_ne h01).trans p8)
    have p11 : (hset (hset (hset (hset h (A (n - 1)) (.inr (20, [.null, va_rf (nx2 A n (n - 1)), .ref (A (n - 2))]))) (A (n - 1)) (.inr (20, [.null, va_rf (nx2 A n (n - 1)), .null]))) (a) (.inr (19, [.int (nI mc), .int (nI n), .ref (A 0), .ref (A (n - 2))]))) (A (n - 2)) (.inr (20, [.ref (V (n - 2)), .null, va_rf (pv2 A (n - 2))]))) a = some (.inr (19, [.int (nI mc), .int (nI n), .ref (A 0), .ref (A (n - 2))])) := ((hset_ne (ne_oo p9 p7 (by decide))).trans p9)
    have p12 : (hset (hset (hset (hset h (A (n - 1)) (.inr (20, [.null, va_rf (nx2 A n (n - 1)), .ref (A (n - 2))]))) (A (n - 1)) (.inr (20, [.null, va_rf (nx2 A n (n - 1)), .null]))) (a) (.inr (19, [.int (nI mc), .int (nI n), .ref (A 0), .ref (A (n - 2))]))) (A (n - 2)) (.inr (20, [.ref (V (n - 2)), .null, va_rf (pv2 A (n - 2))]))) (A (n - 2)) = some (.inr (20, [.ref (V (n - 2)), .null, va_rf (pv2 A (n - 2))])) := (hset_self (e := .inr (20, [.ref (V (n - 2)), .null, va_rf (pv2 A (n - 2))])))
    refine V_aload_n (i := 0) F dJ3_unlinkLast_42 rfl rfl ?_
    refine V_dup F dJ3_unlinkLast_43 rfl ?_
    refine V_getf F dJ3_unlinkLast_44 fc_J3_7_J3 (.inl p11) rfl ?_
    refine V_iconst (v := nI 1) F dJ3_unlinkLast_47 rfl ?_
    refine V_isubN F dJ3_unlinkLast_48 (by omega) ?_
    refine V_putf F dJ3_unlinkLast_49 fp_J3_7_J3 p11 rfl rfl (Nat.le_of_ble_eq_true rfl) ?_
    refine VV.heap (h' := (hset (hset (hset (hset (hset h (A (n - 1)) (.inr (20, [.null, va_rf (nx2 A n (n - 1)), .ref (A (n - 2))]))) (A (n - 1)) (.inr (20, [.null, va_rf (nx2 A n (n - 1)), .null]))) (a) (.inr (19, [.int (nI mc), .int (nI n), .ref (A 0), .ref (A (n - 2))]))) (A (n - 2)) (.inr (20, [.ref (V (n - 2)), .null, va_rf (pv2 A (n - 2))]))) (a) (.inr (19, [.int (nI mc), .int (nI (n - 1)), .ref (A 0), .ref (A (n - 2))])))) rfl ?_
    have p13 : (hset (hset (hset (hset (hset h (A (n - 1)) (.inr (20, [.null, va_rf (nx2 A n (n - 1)), .ref (A (n - 2))]))) (A (n - 1)) (.inr (20, [.null, va_rf (nx2 A n (n - 1)), .null]))) (a) (.inr (19, [.int (nI mc), .int (nI n), .ref (A 0), .ref (A (n - 2))]))) (A (n - 2)) (.inr (20, [.ref (V (n - 2)), .null, va_rf (pv2 A (n - 2))]))) (a) (.inr (19, [.int (nI mc), .int (nI (n - 1)), .ref (A 0), .ref (A (n - 2))]))) (A (n - 1)) = some (.inr (20, [.null, va_rf (nx2 A n (n - 1)), .null])) := ((hset_ne (ne_oo p10 p11 (by decide))).trans p10)
    have p14 : (hset (hset (hset (hset (hset h (A (n - 1)) (.inr (20, [.null, va_rf (nx2 A n (n - 1)), .ref (A (n - 2))]))) (A (n - 1)) (.inr (20, [.null, va_rf (nx2 A n (n - 1)), .null]))) (a) (.inr (19, [.int (nI mc), .int (nI n), .ref (A 0), .ref (A (n - 2))]))) (A (n - 2)) (.inr (20, [.ref (V (n - 2)), .null, va_rf (pv2 A (n - 2))]))) (a) (.inr (19, [.int (nI mc), .int (nI (n - 1)), .ref (A 0), .ref (A (n - 2))]))) (A (n - 2)) = some (.inr (20, [.ref (V (n - 2)), .null, va_rf (pv2 A (n - 2))])) := ((hset_ne (ne_oo p12 p11 (by decide))).trans p12)
    have p15 : (hset (hset (hset (hset (hset h (A (n - 1)) (.inr (20, [.null, va_rf (nx2 A n (n - 1)), .ref (A (n - 2))]))) (A (n - 1)) (.inr (20, [.null, va_rf (nx2 A n (n - 1)), .null]))) (a) (.inr (19, [.int (nI mc), .int (nI n), .ref (A 0), .ref (A (n - 2))]))) (A (n - 2)) (.inr (20, [.ref (V (n - 2)), .null, va_rf (pv2 A (n - 2))]))) (a) (.inr (19, [.int (nI mc), .int (nI (n - 1)), .ref (A 0), .ref (A (n - 2))]))) a = some (.inr (19, [.int (nI mc), .int (nI (n - 1)), .ref (A 0), .ref (A (n - 2))])) := (hset_self (e := .inr (19, [.int (nI mc), .int (nI (n - 1)), .ref (A 0), .ref (A (n - 2))])))
    refine V_aload_n (i := 0) F dJ3_unlinkLast_52 rfl rfl ?_
    refine V_dup F dJ3_unlinkLast_53 rfl ?_
    refine V_getf F dJ3_unlinkLast_54 fc_J3_33_J3 (.inl p15) rfl ?_
    refine V_iconst (v := nI 1) F dJ3_unlinkLast_57 rfl ?_
    refine V_iaddN F dJ3_unlinkLast_58 ?_
    refine V_putf F dJ3_unlinkLast_59 fp_J3_33_J3 p15 rfl rfl (Nat.le_of_ble_eq_true rfl) ?_
    refine VV.heap (h' := (hset (hset (hset (hset (hset (hset h (A (n - 1)) (.inr (20, [.null, va_rf (nx2 A n (n - 1)), .ref (A (n - 2))]))) (A (n - 1)) (.inr (20, [.null, va_rf (nx2 A n (n - 1)), .null]))) (a) (.inr (19, [.int (nI mc), .int (nI n), .ref (A 0), .ref (A (n - 2))]))) (A (n - 2)) (.inr (20, [.ref (V (n - 2)), .null, va_rf (pv2 A (n - 2))]))) (a) (.inr (19, [.int (nI mc), .int (nI (n - 1)), .ref (A 0), .ref (A (n - 2))]))) (a) (.inr (19, [.int (nI (mc + 1)), .int (nI (n - 1)), .ref (A 0), .ref (A (n - 2))])))) rfl ?_
    refine V_aload_n (i := 2) F dJ3_unlinkLast_62 rfl rfl ?_
    have hfz := (((((((Fr.rf (M := mT a n A) (h := h)).put (x := .inr (20, [.null, va_rf (nx2 A n (n - 1)), .ref (A (n - 2))])) hm rfl rfl (Or.inl (Or.inr ⟨n - 1, by omega, rfl⟩))).put (x := .inr (20, [.null, va_rf (nx2 A n (n - 1)), .null])) p3 rfl rfl (Or.inl (Or.inr ⟨n - 1, by omega, rfl⟩))).put (x := .inr (19, [.int (nI mc), .int (nI n), .ref (A 0), .ref (A (n - 2))])) p4 rfl rfl (Or.inl (Or.inl rfl))).put (x := .inr (20, [.ref (V (n - 2)), .null, va_rf (pv2 A (n - 2))])) p7 rfl rfl (Or.inl (Or.inr ⟨n - 2, by omega, rfl⟩))).put (x := .inr (19, [.int (nI mc), .int (nI (n - 1)), .ref (A 0), .ref (A (n - 2))])) p11 rfl rfl (Or.inl (Or.inl rfl))).put (x := .inr (19, [.int (nI (mc + 1)), .int (nI (n - 1)), .ref (A 0), .ref (A (n - 2))])) p15 rfl rfl (Or.inl (Or.inl rfl)))
    have pa : (hset (hset (hset (hset (hset (hset h (A (n - 1)) (.inr (20, [.null, va_rf (nx2 A n (n - 1)), .ref (A (n - 2))]))) (A (n - 1)) (.inr (20, [.null, va_rf (nx2 A n (n - 1)), .null]))) (a) (.inr (19, [.int (nI mc), .int (nI n), .ref (A 0), .ref (A (n - 2))]))) (A (n - 2)) (.inr (20, [.ref (V (n - 2)), .null, va_rf (pv2 A (n - 2))]))) (a) (.inr (19, [.int (nI mc), .int (nI (n - 1)), .ref (A 0), .ref (A (n - 2))]))) (a) (.inr (19, [.int (nI (mc + 1)), .int (nI (n - 1)), .ref (A 0), .ref (A (n - 2))]))) a = some (.inr (19, [.int (nI (mc + 1)), .int (nI (n - 1)), .ref (A 0), .ref (A (n - 2))])) := (hset_self (e := .inr (19, [.int (nI (mc + 1)), .int (nI (n - 1)), .ref (A 0), .ref (A (n - 2))])))
    have pq : (hset (hset (hset (hset (hset (hset h (A (n - 1)) (.inr (20, [.null, va_rf (nx2 A n (n - 1)), .ref (A (n - 2))]))) (A (n - 1)) (.inr (20, [.null, va_rf (nx2 A n (n - 1)), .null]))) (a) (.inr (19, [.int (nI mc), .int (nI n), .ref (A 0), .ref (A (n - 2))]))) (A (n - 2)) (.inr (20, [.ref (V (n - 2)), .null, va_rf (pv2 A (n - 2))]))) (a) (.inr (19, [.int (nI mc), .int (nI (n - 1)), .ref (A 0), .ref (A (n - 2))]))) (a) (.inr (19, [.int (nI (mc + 1)), .int (nI (n - 1)), .ref (A 0), .ref (A (n - 2))]))) (A (n - 2)) = some (.inr (20, [.ref (V (n - 2)), .null, va_rf (pv2 A (n - 2))])) := ((hset_ne (ne_oo p14 p15 (by decide))).trans p14)
    refine V_aret F dJ3_unlinkLast_63 (Or.inl ⟨_, rfl⟩) (Or.inr ⟨_, rfl⟩) (by first | exact Nat.le_of_ble_eq_true rfl | omega) (by first | exact Nat.le_of_ble_eq_true rfl | omega) ⟨rfl, ⟨?_, hL.2.1.le (by omega), fun j hj => ?_⟩, hfz⟩
    · rw [if_pos (by omega), if_pos (by omega), show n - 1 - 1 = n - 2 by omega]; exact pa
    · by_cases c : j = n - 2
      · subst c; rw [show nx2 A (n - 1) (n - 2) = none from if_neg (by omega)]; exact pq
      · have e1 := hNa j (by omega)
        have e2 : A j ≠ A (n - 1) := fun z => by have := hL.2.1 j (n - 1) (by omega) (by omega) z; omega
        have e3 : A j ≠ A (n - 2) := fun z => by have := hL.2.1 j (n - 2) (by omega) (by omega) z; omega
        rw [nx2_t (by omega), ← hN j (by omega)]
        simp only [hset, if_neg e1, if_neg e2, if_neg e3]
theorem ct_LL_removeLast {G : GG} {l : Launch} {h : AH} {a mc n : Nat} {A V : Nat → Nat}  (hL : LLs h a mc n A V) (hn0 : 0 < n) : Ct G l yJ3_removeLast cJ3_removeLast 2 (some (.object "java/lang/Object")) 1 (0) (0) [.ref a] h (fun r h2 => r = some (.ref (V (n - 1))) ∧ LLs h2 a (mc + 1) (n - 1) A V ∧ Fr (mT a n A) h h2) := by
  refine Ct.of (by decide) (Nat.le_of_ble_eq_true rfl) (cat1 rfl) (fun X hXl F HN => ?_)
  subst hXl
  have ha : h a = some (.inr (19, [.int (nI mc), .int (nI n), .ref (A 0), .ref (A (n - 1))])) := by have z := hL.1; rw [LL.f0 hn0, LL.l0 hn0] at z; exact z
  refine V_aload_n (i := 0) F dJ3_removeLast_0 rfl rfl ?_
  refine V_getf F dJ3_removeLast_1 fc_J3_27_J3 (.inl ha) rfl ?_
  refine V_astore_n (i := 1) F dJ3_removeLast_4 rfl (Nat.le_of_ble_eq_true rfl) (Nat.le_of_ble_eq_true rfl) ?_
  refine V_aload_n (i := 1) F dJ3_removeLast_5 rfl rfl ?_
  refine V_ifnonnull (tgt := 17) F dJ3_removeLast_6 (by decide) ?_
  refine V_aload_n (i := 0) F dJ3_removeLast_17 rfl rfl ?_
  refine V_aload_n (i := 1) F dJ3_removeLast_18 rfl rfl ?_
  refine V_callV (st := []) F dJ3_removeLast_19 lk_J3_50 (ct_LL_unlinkLast hL hn0) ⟨19, _, _, _, rfl, (.inl ha)⟩ rfl rfl (Nat.le_of_ble_eq_true rfl) (Nat.le_of_ble_eq_true rfl) (Nat.le_of_ble_eq_true rfl) (by first | exact Nat.le_of_ble_eq_true rfl | omega) (by first | exact Nat.le_of_ble_eq_true rfl | omega) ?_
  rintro _ h2 ⟨rfl, hL2, hx2⟩
  refine VV.stk (st' := [.ref (V (n - 1))]) rfl ?_
  exact V_aret F dJ3_removeLast_22 (Or.inl ⟨_, rfl⟩) (Or.inr ⟨_, rfl⟩) (by first | exact Nat.le_of_ble_eq_true rfl | omega) (by first | exact Nat.le_of_ble_eq_true rfl | omega) ⟨rfl, hL2, hx2⟩
