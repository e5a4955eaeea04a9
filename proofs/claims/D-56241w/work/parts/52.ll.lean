theorem hset2 {h : AH} {a : Nat} {x y : va_E} : hset (hset h a x) a y = hset h a y := by
  funext b; unfold hset; split <;> rfl
def nx2 (A : Nat → Nat) (n i : Nat) : Option Nat := if i + 1 < n then some (A (i + 1)) else none
def pv2 (A : Nat → Nat) (i : Nat) : Option Nat := if i = 0 then none else some (A (i - 1))
/-- a LinkedList at a: nodes A 0 .. , items V 0 .. -/
def LLs (h : AH) (a mc n : Nat) (A V : Nat → Nat) : Prop := h a = some (.inr (19, [.int (nI mc), .int (nI n), va_rf (if 0 < n then some (A 0) else none), va_rf (if 0 < n then some (A (n - 1)) else none)])) ∧ AI n A ∧ ∀ i, i < n → h (A i) = some (.inr (20, [.ref (V i), va_rf (nx2 A n i), va_rf (pv2 A i)]))
theorem LL.f0 {A : Nat → Nat} {n : Nat} (hn : 0 < n) : va_rf (if 0 < n then some (A 0) else none) = .ref (A 0) := by rw [if_pos hn]; rfl
theorem LL.l0 {A : Nat → Nat} {n : Nat} (hn : 0 < n) : va_rf (if 0 < n then some (A (n - 1)) else none) = .ref (A (n - 1)) := by rw [if_pos hn]; rfl
theorem LL.fst {A : Nat → Nat} {n o : Nat} (hn : 0 < n) : va_rf (if 0 < n + 1 then some (upo A n o 0) else none) = .ref (A 0) := by rw [if_pos (Nat.succ_pos n), upo_n (by omega)]; rfl
theorem LL.lst {A : Nat → Nat} {n o : Nat} : va_rf (if 0 < n + 1 then some (upo A n o (n + 1 - 1)) else none) = .ref o := by rw [if_pos (Nat.succ_pos n), Nat.add_sub_cancel, upo_s]; rfl
theorem nx2_u {A : Nat → Nat} {n o j : Nat} (hj : j + 1 < n) : nx2 (upo A n o) (n + 1) j = nx2 A n j := by unfold nx2; rw [if_pos (by omega), if_pos hj, upo_n (by omega)]
theorem pv2_u {A : Nat → Nat} {n o j : Nat} (hj : j ≤ n) : pv2 (upo A n o) j = pv2 A j := by unfold pv2; split; rfl; rw [upo_n (by omega)]
theorem nx2_l {A : Nat → Nat} {n o : Nat} (hn : 0 < n) : nx2 (upo A n o) (n + 1) (n - 1) = some o := by unfold nx2; rw [if_pos (by omega), show n - 1 + 1 = n by omega, upo_s]
theorem nx2_e {A : Nat → Nat} {n o : Nat} : nx2 (upo A n o) (n + 1) n = none := by unfold nx2; rw [if_neg (by omega)]
theorem pv2_p {A : Nat → Nat} {n : Nat} (hn : 0 < n) : pv2 A n = some (A (n - 1)) := by unfold pv2; rw [if_neg (by omega)]
theorem AI.add {n o : Nat} {A : Nat → Nat} (hA : AI n A) (ho : ∀ i, i < n → A i ≠ o) : AI (n + 1) (upo A n o) := fun i j hi hj h => by
  by_cases c : i = n <;> by_cases d : j = n
  · omega
  · rw [c, upo_s, upo_n d] at h; exact absurd h.symm (ho j (by omega))
  · rw [d, upo_s, upo_n c] at h; exact absurd h (ho i (by omega))
  · rw [upo_n c, upo_n d] at h; exact hA i j (by omega) (by omega) h

theorem ct_Node_init {G : GG} {l : Launch} {h : AH} {o x p : Nat} (ho : h o = some (.inr (20, [.null, .null, .null]))) : Ct G l yJ24_init cJ24_init 4 none 1 (0) (0) [.ref o, .ref p, .ref x, .null] h (fun r h2 => r = none ∧ h2 = hset h o (.inr (20, [.ref x, .null, .ref p]))) := by
  refine Ct.of (by decide) (Nat.le_of_ble_eq_true rfl) (cat1 rfl) (fun X hXl F HN => ?_)
  subst hXl
  refine V_aload_n (i := 0) F dJ24_init_0 rfl rfl ?_
  refine V_objInit F dJ24_init_1 q1220 q180 q181 (Nat.le_of_ble_eq_true rfl) (Nat.le_of_ble_eq_true rfl) ?_
  refine V_aload_n (i := 0) F dJ24_init_4 rfl rfl ?_
  refine V_aload_n (i := 2) F dJ24_init_5 rfl rfl ?_
  refine V_putf F dJ24_init_6 fp_J24_7_J24 ho rfl rfl (Nat.le_of_ble_eq_true rfl) ?_
  refine VV.heap (h' := (hset h (o) (.inr (20, [.ref (x), .null, .null])))) rfl ?_
  refine V_aload_n (i := 0) F dJ24_init_9 rfl rfl ?_
  refine V_aload_nN (i := 3) F dJ24_init_10 rfl rfl ?_
  refine V_putf F dJ24_init_11 fp_J24_13_J24 (hset_self (e := .inr (20, [.ref (x), .null, .null]))) rfl rfl (Nat.le_of_ble_eq_true rfl) ?_
  refine VV.heap (h' := (hset (hset h (o) (.inr (20, [.ref (x), .null, .null]))) (o) (.inr (20, [.ref (x), .null, .null])))) rfl ?_
  refine V_aload_n (i := 0) F dJ24_init_14 rfl rfl ?_
  refine V_aload_n (i := 1) F dJ24_init_15 rfl rfl ?_
  refine V_putf F dJ24_init_16 fp_J24_17_J24 (hset_self (e := .inr (20, [.ref (x), .null, .null]))) rfl rfl (Nat.le_of_ble_eq_true rfl) ?_
  refine VV.heap (h' := (hset (hset (hset h (o) (.inr (20, [.ref (x), .null, .null]))) (o) (.inr (20, [.ref (x), .null, .null]))) (o) (.inr (20, [.ref (x), .null, .ref (p)])))) rfl ?_
  exact V_vret F dJ24_init_19 (by first | exact Nat.le_of_ble_eq_true rfl | omega) (by first | exact Nat.le_of_ble_eq_true rfl | omega) ⟨rfl, by rw [hset2, hset2]⟩
theorem ct_Node_init0 {G : GG} {l : Launch} {h : AH} {o x : Nat} (ho : h o = some (.inr (20, [.null, .null, .null]))) : Ct G l yJ24_init cJ24_init 4 none 1 (0) (0) [.ref o, .null, .ref x, .null] h (fun r h2 => r = none ∧ h2 = hset h o (.inr (20, [.ref x, .null, .null]))) := by
  refine Ct.of (by decide) (Nat.le_of_ble_eq_true rfl) (cat1 rfl) (fun X hXl F HN => ?_)
  subst hXl
  refine V_aload_n (i := 0) F dJ24_init_0 rfl rfl ?_
  refine V_objInit F dJ24_init_1 q1220 q180 q181 (Nat.le_of_ble_eq_true rfl) (Nat.le_of_ble_eq_true rfl) ?_
  refine V_aload_n (i := 0) F dJ24_init_4 rfl rfl ?_
  refine V_aload_n (i := 2) F dJ24_init_5 rfl rfl ?_
  refine V_putf F dJ24_init_6 fp_J24_7_J24 ho rfl rfl (Nat.le_of_ble_eq_true rfl) ?_
  refine VV.heap (h' := (hset h (o) (.inr (20, [.ref (x), .null, .null])))) rfl ?_
  refine V_aload_n (i := 0) F dJ24_init_9 rfl rfl ?_
  refine V_aload_nN (i := 3) F dJ24_init_10 rfl rfl ?_
  refine V_putf F dJ24_init_11 fp_J24_13_J24 (hset_self (e := .inr (20, [.ref (x), .null, .null]))) rfl rfl (Nat.le_of_ble_eq_true rfl) ?_
  refine VV.heap (h' := (hset (hset h (o) (.inr (20, [.ref (x), .null, .null]))) (o) (.inr (20, [.ref (x), .null, .null])))) rfl ?_
  refine V_aload_n (i := 0) F dJ24_init_14 rfl rfl ?_
  refine V_aload_nN (i := 1) F dJ24_init_15 rfl rfl ?_
  refine V_putf F dJ24_init_16 fp_J24_17_J24 (hset_self (e := .inr (20, [.ref (x), .null, .null]))) rfl rfl (Nat.le_of_ble_eq_true rfl) ?_
  refine VV.heap (h' := (hset (hset (hset h (o) (.inr (20, [.ref (x), .null, .null]))) (o) (.inr (20, [.ref (x), .null, .null]))) (o) (.inr (20, [.ref (x), .null, .null])))) rfl ?_
  exact V_vret F dJ24_init_19 (by first | exact Nat.le_of_ble_eq_true rfl | omega) (by first | exact Nat.le_of_ble_eq_true rfl | omega) ⟨rfl, by rw [hset2, hset2]⟩
theorem ct_LL_linkLast {G : GG} {l : Launch} {h : AH} {a mc n : Nat} {A V : Nat → Nat} {x : Nat} (hL : LLs h a mc n A V) : Ct G l yJ3_linkLast cJ3_linkLast 4 none 2 (1) (3) [.ref a, .ref x] h (fun r h2 => r = none ∧ ∃ o, h o = none ∧ LLs h2 a (mc + 1) (n + 1) (upo A n o) (upo V n x) ∧ Fr (mT a n A) h h2) := by
  refine Ct.of (by decide) (Nat.le_of_ble_eq_true rfl) (cat1 rfl) (fun X hXl F HN => ?_)
  subst hXl
  by_cases hn0 : 0 < n
  · have hN := hL.2.2
    have ha : h a = some (.inr (19, [.int (nI mc), .int (nI n), .ref (A 0), .ref (A (n - 1))])) := by have z := hL.1; rw [LL.f0 hn0, LL.l0 hn0] at z; exact z
    have hz : h (A (n - 1)) = some (.inr (20, [.ref (V (n - 1)), .null, va_rf (pv2 A (n - 1))])) := by have z := hN (n - 1) (by omega); rw [show nx2 A n (n - 1) = none from if_neg (by omega)] at z; exact z
    refine V_aload_n (i := 0) F dJ3_linkLast_0 rfl rfl ?_
    refine V_getf F dJ3_linkLast_1 fc_J3_27_J3 (.inl ha) rfl ?_
    refine V_astore_n (i := 2) F dJ3_linkLast_4 rfl (Nat.le_of_ble_eq_true rfl) (Nat.le_of_ble_eq_true rfl) ?_
    refine V_new F dJ3_linkLast_5 nw_J3_22 (by first | exact Nat.le_of_ble_eq_true rfl | omega) (by first | exact Nat.le_of_ble_eq_true rfl | omega) ?_
    intro o hfo hbo
    refine V_dup F dJ3_linkLast_8 rfl ?_
    refine V_aload_n (i := 2) F dJ3_linkLast_9 rfl rfl ?_
    refine V_aload_n (i := 1) F dJ3_linkLast_10 rfl rfl ?_
    refine V_null F dJ3_linkLast_11 ?_
    refine V_callI (st := [.ref (o)]) F dJ3_linkLast_12 lk_J3_24 (ct_Node_init (x := x) (hset_self (e := .inr (20, [.null, .null, .null])))) rfl rfl (Nat.le_of_ble_eq_true rfl) (Nat.le_of_ble_eq_true rfl) (Nat.le_of_ble_eq_true rfl) (by first | exact Nat.le_of_ble_eq_true rfl | omega) (by first | exact Nat.le_of_ble_eq_true rfl | omega) ?_
    rintro _ _ ⟨rfl, rfl⟩
    have p1 : (hset (hset h o (.inr (20, [.null, .null, .null]))) (o) (.inr (20, [.ref x, .null, .ref (A (n - 1))]))) a = some (.inr (19, [.int (nI mc), .int (nI n), .ref (A 0), .ref (A (n - 1))])) := ((hset_ne (ne_nw ha hfo)).trans ((hset_ne (ne_nw ha hfo)).trans ha))
    have p2 : (hset (hset h o (.inr (20, [.null, .null, .null]))) (o) (.inr (20, [.ref x, .null, .ref (A (n - 1))]))) (A (n - 1)) = some (.inr (20, [.ref (V (n - 1)), .null, va_rf (pv2 A (n - 1))])) := ((hset_ne (ne_nw hz hfo)).trans ((hset_ne (ne_nw hz hfo)).trans hz))
    have p3 : (hset (hset h o (.inr (20, [.null, .null, .null]))) (o) (.inr (20, [.ref x, .null, .ref (A (n - 1))]))) o = some (.inr (20, [.ref x, .null, .ref (A (n - 1))])) := (hset_self (e := .inr (20, [.ref x, .null, .ref (A (n - 1))])))
    refine V_astore_n (i := 3) F dJ3_linkLast_15 rfl (Nat.le_of_ble_eq_true rfl) (Nat.le_of_ble_eq_true rfl) ?_
    refine V_aload_n (i := 0) F dJ3_linkLast_16 rfl rfl ?_
    refine V_aload_n (i := 3) F dJ3_linkLast_17 rfl rfl ?_
    refine V_putf F dJ3_linkLast_18 fp_J3_27_J3 p1 rfl rfl (Nat.le_of_ble_eq_true rfl) ?_
    refine VV.heap (h' := (hset (hset (hset h o (.inr (20, [.null, .null, .null]))) (o) (.inr (20, [.ref x, .null, .ref (A (n - 1))]))) (a) (.inr (19, [.int (nI mc), .int (nI n), .ref (A 0), .ref (o)])))) rfl ?_
    have p4 : (hset (hset (hset h o (.inr (20, [.null, .null, .null]))) (o) (.inr (20, [.ref x, .null, .ref (A (n - 1))]))) (a) (.inr (19, [.int (nI mc), .int (nI n), .ref (A 0), .ref (o)]))) (A (n - 1)) = some (.inr (20, [.ref (V (n - 1)), .null, va_rf (pv2 A (n - 1))])) := ((hset_ne (ne_oo p2 p1 (by decide))).trans p2)
    have p5 : (hset (hset (hset h o (.inr (20, [.null, .null, .null]))) (o) (.inr (20, [.ref x, .null, .ref (A (n - 1))]))) (a) (.inr (19, [.int (nI mc), .int (nI n), .ref (A 0), .ref (o)]))) o = some (.inr (20, [.ref x, .null, .ref (A (n - 1))])) := ((hset_ne (Ne.symm (ne_nw ha hfo))).trans p3)
    have p6 : (hset (hset (hset h o (.inr (20, [.null, .null, .null]))) (o) (.inr (20, [.ref x, .null, .ref (A (n - 1))]))) (a) (.inr (19, [.int (nI mc), .int (nI n), .ref (A 0), .ref (o)]))) a = some (.inr (19, [.int (nI mc), .int (nI n), .ref (A 0), .ref (o)])) := (hset_self (e := .inr (19, [.int (nI mc), .int (nI n), .ref (A 0), .ref (o)])))
    refine V_aload_n (i := 2) F dJ3_linkLast_21 rfl rfl ?_
    refine V_ifnonnull (tgt := 33) F dJ3_linkLast_22 (by decide) ?_
    refine V_aload_n (i := 2) F dJ3_linkLast_33 rfl rfl ?_
    refine V_aload_n (i := 3) F dJ3_linkLast_34 rfl rfl ?_
    refine V_putf F dJ3_linkLast_35 fp_J3_36_J24 p4 rfl rfl (Nat.le_of_ble_eq_true rfl) ?_
    refine VV.heap (h' := (hset (hset (hset (hset h o (.inr (20, [.null, .null, .null]))) (o) (.inr (20, [.ref x, .null, .ref (A (n - 1))]))) (a) (.inr (19, [.int (nI mc), .int (nI n), .ref (A 0), .ref (o)]))) (A (n - 1)) (.inr (20, [.ref (V (n - 1)), .ref (o), va_rf (pv2 A (n - 1))])))) rfl ?_
    have p7 : (hset (hset (hset (hset h o (.inr (20, [.null, .null, .null]))) (o) (.inr (20, [.ref x, .null, .ref (A (n - 1))]))) (a) (.inr (19, [.int (nI mc), .int (nI n), .ref (A 0), .ref (o)]))) (A (n - 1)) (.inr (20, [.ref (V (n - 1)), .ref (o), va_rf (pv2 A (n - 1))]))) o = some (.inr (20, [.ref x, .null, .ref (A (n - 1))])) := ((hset_ne (Ne.symm (ne_nw hz hfo))).trans p5)
    have p8 : (hset (hset (hset (hset h o (.inr (20, [.null, .null, .null]))) (o) (.inr (20, [.ref x, .null, .ref (A (n - 1))]))) (a) (.inr (19, [.int (nI mc), .int (nI n), .ref (A 0), .ref (o)]))) (A (n - 1)) (.inr (20, [.ref (V (n - 1)), .ref (o), va_rf (pv2 A (n - 1))]))) a = some (.inr (19, [.int (nI mc), .int (nI n), .ref (A 0), .ref (o)])) := ((hset_ne (ne_oo p6 p4 (by decide))).trans p6)
    have p9 : (hset (hset (hset (hset h o (.inr (20, [.null, .null, .null]))) (o) (.inr (20, [.ref x, .null, .ref (A (n - 1))]))) (a) (.inr (19, [.int (nI mc), .int (nI n), .ref (A 0), .ref (o)]))) (A (n - 1)) (.inr (20, [.ref (V (n - 1)), .ref (o), va_rf (pv2 A (n - 1))]))) (A (n - 1)) = some (.inr (20, [.ref (V (n - 1)), .ref (o), va_rf (pv2 A (n - 1))])) := (hset_self (e := .inr (20, [.ref (V (n - 1)), .ref (o), va_rf (pv2 A (n - 1))])))
    refine V_aload_n (i := 0) F dJ3_linkLast_38 rfl rfl ?_
    refine V_dup F dJ3_linkLast_39 rfl ?_
    refine V_getf F dJ3_linkLast_40 fc_J3_7_J3 (.inl p8) rfl ?_
    refine V_iconst (v := nI 1) F dJ3_linkLast_43 rfl ?_
    refine V_iaddN F dJ3_linkLast_44 ?_
    refine V_putf F dJ3_linkLast_45 fp_J3_7_J3 p8 rfl rfl (Nat.le_of_ble_eq_true rfl) ?_
    refine VV.heap (h' := (hset (hset (hset (hset (hset h o (.inr (20, [.null, .null, .null]))) (o) (.inr (20, [.ref x, .null, .ref (A (n - 1))]))) (a) (.inr (19, [.int (nI mc), .int (nI n), .ref (A 0), .ref (o)]))) (A (n - 1)) (.inr (20, [.ref (V (n - 1)), .ref (o), va_rf (pv2 A (n - 1))]))) (a) (.inr (19, [.int (nI mc), .int (nI (n + 1)), .ref (A 0), .ref (o)])))) rfl ?_
    have p10 : (hset (hset (hset (hset (hset h o (.inr (20, [.null, .null, .null]))) (o) (.inr (20, [.ref x, .null, .ref (A (n - 1))]))) (a) (.inr (19, [.int (nI mc), .int (nI n), .ref (A 0), .ref (o)]))) (A (n - 1)) (.inr (20, [.ref (V (n - 1)), .ref (o), va_rf (pv2 A (n - 1))]))) (a) (.inr (19, [.int (nI mc), .int (nI (n + 1)), .ref (A 0), .ref (o)]))) o = some (.inr (20, [.ref x, .null, .ref (A (n - 1))])) := ((hset_ne (Ne.symm (ne_nw ha hfo))).trans p7)
    have p11 : (hset (hset (hset (hset (hset h o (.inr (20, [.null, .null, .null]))) (o) (.inr (20, [.ref x, .null, .ref (A (n - 1))]))) (a) (.inr (19, [.int (nI mc), .int (nI n), .ref (A 0), .ref (o)]))) (A (n - 1)) (.inr (20, [.ref (V (n - 1)), .ref (o), va_rf (pv2 A (n - 1))]))) (a) (.inr (19, [.int (nI mc), .int (nI (n + 1)), .ref (A 0), .ref (o)]))) (A (n - 1)) = some (.inr (20, [.ref (V (n - 1)), .ref (o), va_rf (pv2 A (n - 1))])) := ((hset_ne (ne_oo p9 p8 (by decide))).trans p9)
    have p12 : (hset (hset (hset (hset (hset h o (.inr (20, [.null, .null, .null]))) (o) (.inr (20, [.ref x, .null, .ref (A (n - 1))]))) (a) (.inr (19, [.int (nI mc), .int (nI n), .ref (A 0), .ref (o)]))) (A (n - 1)) (.inr (20, [.ref (V (n - 1)), .ref (o), va_rf (pv2 A (n - 1))]))) (a) (.inr (19, [.int (nI mc), .int (nI (n + 1)), .ref (A 0), .ref (o)]))) a = some (.inr (19, [.int (nI mc), .int (nI (n + 1)), .ref (A 0), .ref (o)])) := (hset_self (e := .inr (19, [.int (nI mc), .int (nI (n + 1)), .ref (A 0), .ref (o)])))
    refine V_aload_n (i := 0) F dJ3_linkLast_48 rfl rfl ?_
    refine V_dup F dJ3_linkLast_49 rfl ?_
    refine V_getf F dJ3_linkLast_50 fc_J3_33_J3 (.inl p12) rfl ?_
    refine V_iconst (v := nI 1) F dJ3_linkLast_53 rfl ?_
    refine V_iaddN F dJ3_linkLast_54 ?_
    refine V_putf F dJ3_linkLast_55 fp_J3_33_J3 p12 rfl rfl (Nat.le_of_ble_eq_true rfl) ?_
    refine VV.heap (h' := (hset (hset (hset (hset (hset (hset h o (.inr (20, [.null, .null, .null]))) (o) (.inr (20, [.ref x, .null, .ref (A (n - 1))]))) (a) (.inr (19, [.int (nI mc), .int (nI n), .ref (A 0), .ref (o)]))) (A (n - 1)) (.inr (20, [.ref (V (n - 1)), .ref (o), va_rf (pv2 A (n - 1))]))) (a) (.inr (19, [.int (nI mc), .int (nI (n + 1)), .ref (A 0), .ref (o)]))) (a) (.inr (19, [.int (nI (mc + 1)), .int (nI (n + 1)), .ref (A 0), .ref (o)])))) rfl ?_
    have hfz := (((((((Fr.rf (M := mT a n A) (h := h)).nw (x := .inr (20, [.null, .null, .null])) hfo).put (x := .inr (20, [.ref x, .null, .ref (A (n - 1))])) (hset_self (e := .inr (20, [.null, .null, .null]))) rfl rfl ((Fr.rf (M := mT a n A) (h := h)).yo hfo)).put (x := .inr (19, [.int (nI mc), .int (nI n), .ref (A 0), .ref (o)])) p1 rfl rfl (Or.inl (Or.inl rfl))).put (x := .inr (20, [.ref (V (n - 1)), .ref (o), va_rf (pv2 A (n - 1))])) p4 rfl rfl (Or.inl (Or.inr ⟨n - 1, by omega, rfl⟩))).put (x := .inr (19, [.int (nI mc), .int (nI (n + 1)), .ref (A 0), .ref (o)])) p8 rfl rfl (Or.inl (Or.inl rfl))).put (x := .inr (19, [.int (nI (mc + 1)), .int (nI (n + 1)), .ref (A 0), .ref (o)])) p12 rfl rfl (Or.inl (Or.inl rfl)))
    have pa : (hset (hset (hset (hset (hset (hset h o (.inr (20, [.null, .null, .null]))) (o) (.inr (20, [.ref x, .null, .ref (A (n - 1))]))) (a) (.inr (19, [.int (nI mc), .int (nI n), .ref (A 0), .ref (o)]))) (A (n - 1)) (.inr (20, [.ref (V (n - 1)), .ref (o), va_rf (pv2 A (n - 1))]))) (a) (.inr (19, [.int (nI mc), .int (nI (n + 1)), .ref (A 0), .ref (o)]))) (a) (.inr (19, [.int (nI (mc + 1)), .int (nI (n + 1)), .ref (A 0), .ref (o)]))) a = some (.inr (19, [.int (nI (mc + 1)), .int (nI (n + 1)), .ref (A 0), .ref (o)])) := (hset_self (e := .inr (19, [.int (nI (mc + 1)), .int (nI (n + 1)), .ref (A 0), .ref (o)])))
    have po : (hset (hset (hset (hset (hset (hset h o (.inr (20, [.null, .null, .null]))) (o) (.inr (20, [.ref x, .null, .ref (A (n - 1))]))) (a) (.inr (19, [.int (nI mc), .int (nI n), .ref (A 0), .ref (o)]))) (A (n - 1)) (.inr (20, [.ref (V (n - 1)), .ref (o), va_rf (pv2 A (n - 1))]))) (a) (.inr (19, [.int (nI mc), .int (nI (n + 1)), .ref (A 0), .ref (o)]))) (a) (.inr (19, [.int (nI (mc + 1)), .int (nI (n + 1)), .ref (A 0), .ref (o)]))) o = some (.inr (20, [.ref x, .null, .ref (A (n - 1))])) := ((hset_ne (Ne.symm (ne_nw ha hfo))).trans p10)
    have pz : (hset (hset (hset (hset (hset (hset h o (.inr (20, [.null, .null, .null]))) (o) (.inr (20, [.ref x, .null, .ref (A (n - 1))]))) (a) (.inr (19, [.int (nI mc), .int (nI n), .ref (A 0), .ref (o)]))) (A (n - 1)) (.inr (20, [.ref (V (n - 1)), .ref (o), va_rf (pv2 A (n - 1))]))) (a) (.inr (19, [.int (nI mc), .int (nI (n + 1)), .ref (A 0), .ref (o)]))) (a) (.inr (19, [.int (nI (mc + 1)), .int (nI (n + 1)), .ref (A 0), .ref (o)]))) (A (n - 1)) = some (.inr (20, [.ref (V (n - 1)), .ref (o), va_rf (pv2 A (n - 1))])) := ((hset_ne (ne_oo p11 p12 (by decide))).trans p11)
    have hoN : ∀ j, j < n → A j ≠ o := fun j hj => ne_nw (hN j hj) hfo
    have hNa : ∀ j, j < n → A j ≠ a := fun j hj => ne_oo (hN j hj) ha (by decide)
    refine V_vret F dJ3_linkLast_58 (by first | exact Nat.le_of_ble_eq_true rfl | omega) (by first | exact Nat.le_of_ble_eq_true rfl | omega) ⟨rfl, o, hfo, ⟨?_, hL.2.1.add hoN, fun j hj => ?_⟩, hfz⟩
    · rw [LL.fst hn0, LL.lst]; exact pa
    · by_cases c : j = n
      · rw [c, upo_s, upo_s, nx2_e, pv2_u (Nat.le_refl n), pv2_p hn0]; exact po
      · rw [upo_n c, upo_n c]
        by_cases d : j = n - 1
        · rw [d, nx2_l hn0, pv2_u (by omega)]; exact pz
        · have e1 := hoN j (by omega)
          have e2 := hNa j (by omega)
          have e3 : A j ≠ A (n - 1) := fun z => d (hL.2.1 j (n - 1) (by omega) (by omega) z)
          rw [nx2_u (by omega), pv2_u (by omega), ← hN j (by omega)]
          simp only [hset, if_neg e1, if_neg e2, if_neg e3]
  · have hN := hL.2.2
    have ha : h a = some (.inr (19, [.int (nI mc), .int (nI n), .null, .null])) := by have z := hL.1; rw [if_neg hn0, if_neg hn0] at z; exact z
    refine V_aload_n (i := 0) F dJ3_linkLast_0 rfl rfl ?_
    refine V_getf F dJ3_linkLast_1 fc_J3_27_J3 (.inl ha) rfl ?_
    refine V_astore_nN (i := 2) F dJ3_linkLast_4 rfl (Nat.le_of_ble_eq_true rfl) (Nat.le_of_ble_eq_true rfl) ?_
    refine V_new F dJ3_linkLast_5 nw_J3_22 (by first | exact Nat.le_of_ble_eq_true rfl | omega) (by first | exact Nat.le_of_ble_eq_true rfl | omega) ?_
    intro o hfo hbo
    refine V_dup F dJ3_linkLast_8 rfl ?_
    refine V_aload_nN (i := 2) F dJ3_linkLast_9 rfl rfl ?_
    refine V_aload_n (i := 1) F dJ3_linkLast_10 rfl rfl ?_
    refine V_null F dJ3_linkLast_11 ?_
    refine V_callI (st := [.ref (o)]) F dJ3_linkLast_12 lk_J3_24 (ct_Node_init0 (x := x) (hset_self (e := .inr (20, [.null, .null, .null])))) rfl rfl (Nat.le_of_ble_eq_true rfl) (Nat.le_of_ble_eq_true rfl) (Nat.le_of_ble_eq_true rfl) (by first | exact Nat.le_of_ble_eq_true rfl | omega) (by first | exact Nat.le_of_ble_eq_true rfl | omega) ?_
    rintro _ _ ⟨rfl, rfl⟩
    have p1 : (hset (hset h o (.inr (20, [.null, .null, .null]))) (o) (.inr (20, [.ref x, .null, .null]))) a = some (.inr (19, [.int (nI mc), .int (nI n), .null, .null])) := ((hset_ne (ne_nw ha hfo)).trans ((hset_ne (ne_nw ha hfo)).trans ha))
    have p2 : (hset (hset h o (.inr (20, [.null, .null, .null]))) (o) (.inr (20, [.ref x, .null, .null]))) o = some (.inr (20, [.ref x, .null, .null])) := (hset_self (e := .inr (20, [.ref x, .null, .null])))
    refine V_astore_n (i := 3) F dJ3_linkLast_15 rfl (Nat.le_of_ble_eq_true rfl) (Nat.le_of_ble_eq_true rfl) ?_
    refine V_aload_n (i := 0) F dJ3_linkLast_16 rfl rfl ?_
    refine V_aload_n (i := 3) F dJ3_linkLast_17 rfl rfl ?_
    refine V_putf F dJ3_linkLast_18 fp_J3_27_J3 p1 rfl rfl (Nat.le_of_ble_eq_true rfl) ?_
    refine VV.heap (h' := (hset (hset (hset h o (.inr (20, [.null, .null, .null]))) (o) (.inr (20, [.ref x, .null, .null]))) (a) (.inr (19, [.int (nI mc), .int (nI n), .null, .ref (o)])))) rfl ?_
    have p3 : (hset (hset (hset h o (.inr (20, [.null, .null, .null]))) (o) (.inr (20, [.ref x, .null, .null]))) (a) (.inr (19, [.int (nI mc), .int (nI n), .null, .ref (o)]))) o = some (.inr (20, [.ref x, .null, .null])) := ((hset_ne (Ne.symm (ne_nw ha hfo))).trans p2)
    have p4 : (hset (hset (hset h o (.inr (20, [.null, .null, .null]))) (o) (.inr (20, [.ref x, .null, .null]))) (a) (.inr (19, [.int (nI mc), .int (nI n), .null, .ref (o)]))) a = some (.inr (19, [.int (nI mc), .int (nI n), .null, .ref (o)])) := (hset_self (e := .inr (19, [.int (nI mc), .int (nI n), .null, .ref (o)])))
    refine V_aload_nN (i := 2) F dJ3_linkLast_21 rfl rfl ?_
    refine V_ifnonnullN F dJ3_linkLast_22 ?_
    refine V_aload_n (i := 0) F dJ3_linkLast_25 rfl rfl ?_
    refine V_aload_n (i := 3) F dJ3_linkLast_26 rfl rfl ?_
    refine V_putf F dJ3_linkLast_27 fp_J3_18_J3 p4 rfl rfl (Nat.le_of_ble_eq_true rfl) ?_
    refine VV.heap (h' := (hset (hset (hset (hset h o (.inr (20, [.null, .null, .null]))) (o) (.inr (20, [.ref x, .null, .null]))) (a) (.inr (19, [.int (nI mc), .int (nI n), .null, .ref (o)]))) (a) (.inr (19, [.int (nI mc), .int (nI n), .ref (o), .ref (o)])))) rfl ?_
    refine V_goto (tgt := 38) F dJ3_linkLast_30 (by decide) ?_
    have p5 : (hset (hset (hset (hset h o (.inr (20, [.null, .null, .null]))) (o) (.inr (20, [.ref x, .null, .null]))) (a) (.inr (19, [.int (nI mc), .int (nI n), .null, .ref (o)]))) (a) (.inr (19, [.int (nI mc), .int (nI n), .ref (o), .ref (o)]))) o = some (.inr (20, [.ref x, .null, .null])) := ((hset_ne (Ne.symm (ne_nw ha hfo))).trans p3)
    have p6 : (hset (hset (hset (hset h o (.inr (20, [.null, .null, .null]))) (o) (.inr (20, [.ref x, .null, .null]))) (a) (.inr (19, [.int (nI mc), .int (nI n), .null, .ref (o)]))) (a) (.inr (19, [.int (nI mc), .int (nI n), .ref (o), .ref (o)]))) a = some (.inr (19, [.int (nI mc), .int (nI n), .ref (o), .ref (o)])) := (hset_self (e := .inr (19, [.int (nI mc), .int (nI n), .ref (o), .ref (o)])))
    refine V_aload_n (i := 0) F dJ3_linkLast_38 rfl rfl ?_
    refine V_dup F dJ3_linkLast_39 rfl ?_
    refine V_getf F dJ3_linkLast_40 fc_J3_7_J3 (.inl p6) rfl ?_
    refine V_iconst (v := nI 1) F dJ3_linkLast_43 rfl ?_
    refine V_iaddN F dJ3_linkLast_44 ?_
    refine V_putf F dJ3_linkLast_45 fp_J3_7_J3 p6 rfl rfl (Nat.le_of_ble_eq_true rfl) ?_
    refine VV.heap (h' := (hset (hset (hset (hset (hset h o (.inr (20, [.null, .null, .null]))) (o) (.inr (20, [.ref x, .null, .null]))) (a) (.inr (19, [.int (nI mc), .int (nI n), .null, .ref (o)]))) (a) (.inr (19, [.int (nI mc), .int (nI n), .ref (o), .ref (o)]))) (a) (.inr (19, [.int (nI mc), .int (nI (n + 1)), .ref (o), .ref (o)])))) rfl ?_
    have p7 : (hset (hset (hset (hset (hset h o (.inr (20, [.null, .null, .null]))) (o) (.inr (20, [.ref x, .null, .null]))) (a) (.inr (19, [.int (nI mc), .int (nI n), .null, .ref (o)]))) (a) (.inr (19, [.int (nI mc), .int (nI n), .ref (o), .ref (o)]))) (a) (.inr (19, [.int (nI mc), .int (nI (n + 1)), .ref (o), .ref (o)]))) o = some (.inr (20, [.ref x, .null, .null])) := ((hset_ne (Ne.symm (ne_nw ha hfo))).trans p5)
    have p8 : (hset (hset (hset (hset (hset h o (.inr (20, [.null, .null, .null]))) (o) (.inr (20, [.ref x, .null, .null]))) (a) (.inr (19, [.int (nI mc), .int (nI n), .null, .ref (o)]))) (a) (.inr (19, [.int (nI mc), .int (nI n), .ref (o), .ref (o)]))) (a) (.inr (19, [.int (nI mc), .int (nI (n + 1)), .ref (o), .ref (o)]))) a = some (.inr (19, [.int (nI mc), .int (nI (n + 1)), .ref (o), .ref (o)])) := (hset_self (e := .inr (19, [.int (nI mc), .int (nI (n + 1)), .ref (o), .ref (o)])))
    refine V_aload_n (i := 0) F dJ3_linkLast_48 rfl rfl ?_
    refine V_dup F dJ3_linkLast_49 rfl ?_
    refine V_getf F dJ3_linkLast_50 fc_J3_33_J3 (.inl p8) rfl ?_
    refine V_iconst (v := nI 1) F dJ3_linkLast_53 rfl ?_
    refine V_iaddN F dJ3_linkLast_54 ?_
    refine V_putf F dJ3_linkLast_55 fp_J3_33_J3 p8 rfl rfl (Nat.le_of_ble_eq_true rfl) ?_
    refine VV.heap (h' := (hset (hset (hset (hset (hset (hset h o (.inr (20, [.null, .null, .null]))) (o) (.inr (20, [.ref x, .null, .null]))) (a) (.inr (19, [.int (nI mc), .int (nI n), .null, .ref (o)]))) (a) (.inr (19, [.int (nI mc), .int (nI n), .ref (o), .ref (o)]))) (a) (.inr (19, [.int (nI mc), .int (nI (n + 1)), .ref (o), .ref (o)]))) (a) (.inr (19, [.int (nI (mc + 1)), .int (nI (n + 1)), .ref (o), .ref (o)])))) rfl ?_
    have hfz := (((((((Fr.rf (M := mT a n A) (h := h)).nw (x := .inr (20, [.null, .null, .null])) hfo).put (x := .inr (20, [.ref x, .null, .null])) (hset_self (e := .inr (20, [.null, .null, .null]))) rfl rfl ((Fr.rf (M := mT a n A) (h := h)).yo hfo)).put (x := .inr (19, [.int (nI mc), .int (nI n), .null, .ref (o)])) p1 rfl rfl (Or.inl (Or.inl rfl))).put (x := .inr (19, [.int (nI mc), .int (nI n), .ref (o), .ref (o)])) p4 rfl rfl (Or.inl (Or.inl rfl))).put (x := .inr (19, [.int (nI mc), .int (nI (n + 1)), .ref (o), .ref (o)])) p6 rfl rfl (Or.inl (Or.inl rfl))).put (x := .inr (19, [.int (nI (mc + 1)), .int (nI (n + 1)), .ref (o), .ref (o)])) p8 rfl rfl (Or.inl (Or.inl rfl)))
    have pa : (hset (hset (hset (hset (hset (hset h o (.inr (20, [.null, .null, .null]))) (o) (.inr (20, [.ref x, .null, .null]))) (a) (.inr (19, [.int (nI mc), .int (nI n), .null, .ref (o)]))) (a) (.inr (19, [.int (nI mc), .int (nI n), .ref (o), .ref (o)]))) (a) (.inr (19, [.int (nI mc), .int (nI (n + 1)), .ref (o), .ref (o)]))) (a) (.inr (19, [.int (nI (mc + 1)), .int (nI (n + 1)), .ref (o), .ref (o)]))) a = some (.inr (19, [.int (nI (mc + 1)), .int (nI (n + 1)), .ref (o), .ref (o)])) := (hset_self (e := .inr (19, [.int (nI (mc + 1)), .int (nI (n + 1)), .ref (o), .ref (o)])))
    have po : (hset (hset (hset (hset (hset (hset h o (.inr (20, [.null, .null, .null]))) (o) (.inr (20, [.ref x, .null, .null]))) (a) (.inr (19, [.int (nI mc), .int (nI n), .null, .ref (o)]))) (a) (.inr (19, [.int (nI mc), .int (nI n), .ref (o), .ref (o)]))) (a) (.inr (19, [.int (nI mc), .int (nI (n + 1)), .ref (o), .ref (o)]))) (a) (.inr (19, [.int (nI (mc + 1)), .int (nI (n + 1)), .ref (o), .ref (o)]))) o = some (.inr (20, [.ref x, .null, .null])) := ((hset_ne (Ne.symm (ne_nw ha hfo))).trans p7)
    have hoN : ∀ j, j < n → A j ≠ o := fun j hj => ne_nw (hN j hj) hfo
    have hNa : ∀ j, j < n → A j ≠ a := fun j hj => ne_oo (hN j hj) ha (by decide)
    refine V_vret F dJ3_linkLast_58 (by first | exact Nat.le_of_ble_eq_true rfl | omega) (by first | exact Nat.le_of_ble_eq_true rfl | omega) ⟨rfl, o, hfo, ⟨?_, hL.2.1.add hoN, fun j hj => ?_⟩, hfz⟩
    · have e0 : n = 0 := by omega
      subst e0
      exact pa
    · by_cases c : j = n
      · have e0 : n = 0 := by omega
        rw [c, upo_s, upo_s, nx2_e, pv2_u (Nat.le_refl n), show pv2 A n = none from if_pos e0]; exact po
      · omega
theorem ct_LL_addLast {G : GG} {l : Launch} {h : AH} {a mc n : Nat} {A V : Nat → Nat} {x : Nat} (hL : LLs h a mc n A V) : Ct G l yJ3_addLast cJ3_addLast 2 none 3 (1) (3) [.ref a, .ref x] h (fun r h2 => r = none ∧ ∃ o, h o = none ∧ LLs h2 a (mc + 1) (n + 1) (upo A n o) (upo V n x) ∧ Fr (mT a n A) h h2) := by
  refine Ct.of (by decide) (Nat.le_of_ble_eq_true rfl) (cat1 rfl) (fun X hXl F HN => ?_)
  subst hXl
  refine V_aload_n (i := 0) F dJ3_addLast_0 rfl rfl ?_
  refine V_aload_n (i := 1) F dJ3_addLast_1 rfl rfl ?_
  refine V_callV (st := []) F dJ3_addLast_2 lk_J3_57 (ct_LL_linkLast hL) ⟨19, _, _, _, rfl, (.inl hL.1)⟩ rfl rfl (Nat.le_of_ble_eq_true rfl) (Nat.le_of_ble_eq_true rfl) (Nat.le_of_ble_eq_true rfl) (by first | exact Nat.le_of_ble_eq_true rfl | omega) (by first | exact Nat.le_of_ble_eq_true rfl | omega) ?_
  rintro _ h2 ⟨rfl, o, ho, hL2, hx2⟩
  exact V_vret F dJ3_addLast_5 (by first | exact Nat.le_of_ble_eq_true rfl | omega) (by first | exact Nat.le_of_ble_eq_true rfl | omega) ⟨rfl, o, ho, hL2, hx2⟩
theorem ct_LL_size {G : GG} {l : Launch} {h : AH} {a mc n : Nat} {A V : Nat → Nat}  (hL : LLs h a mc n A V) : Ct G l yJ3_size cJ3_size 1 (some .int) 0 (0) (0) [.ref a] h (PR (.int (nI n)) h) := by
  refine Ct.of (by decide) (Nat.le_of_ble_eq_true rfl) (cat1 rfl) (fun X hXl F HN => ?_)
  subst hXl
  refine V_aload_n (i := 0) F dJ3_size_0 rfl rfl ?_
  refine V_getf F dJ3_size_1 fc_J3_7_J3 (.inl hL.1) rfl ?_
  exact V_iret F dJ3_size_4 rfl (by first | exact Nat.le_of_ble_eq_true rfl | omega) (by first | exact Nat.le_of_ble_eq_true rfl | omega) ⟨rfl, rfl⟩
