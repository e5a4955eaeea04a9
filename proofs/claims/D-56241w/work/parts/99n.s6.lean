set_option maxRecDepth 100000
/-! ===== the class's own methods: how they throw ===== -/
/-- an exception with C of its class is thrown; nothing old has changed -/
def XF (h : AH) (C : String → Prop) : String → Nat → AH → Prop := fun E _ h2 => C E ∧ Fr nM h h2
theorem XF.of {h h1 h2 : AH} {C C2 : String → Prop} {E : String} {q : Nat} (hx : Fr nM h h1) (hp : XF h1 C E q h2) (hC : C E → C2 E) : XF h C2 E q h2 := ⟨hC hp.1, hx.cal0 hp.2⟩
abbrev eIX : String := "java/lang/IndexOutOfBoundsException"
abbrev eAR : String := "java/lang/IllegalArgumentException"
abbrev eST : String := "java/lang/IllegalStateException"
abbrev eEL : String := "java/util/NoSuchElementException"
abbrev eMA : String := "java/lang/ArithmeticException"
theorem b2_inj {p q : Prop} [Decidable p] [Decidable q] (h : p ↔ q) : b2 p = b2 q := b2_c h

theorem ct_X1_checkIndex {G : GG} {l : Launch} {h : AH} {v : Int32}  (hl0 : l.stackTraces = false) : CtX G l yX1_checkIndex cX1_checkIndex 1 none 6 (1) (6) [.int v] h (fun r h2 => r = none ∧ h = h2 ∧ v ≠ 0) (XF h (fun E => v = 0 ∧ E = eIX)) := by
  refine CtX.of (by decide) (Nat.le_of_ble_eq_true rfl) (cat1 rfl) (fun X hXl F HT => ?_)
  subst hXl
  refine V_iload_n (i := 0) F dX1_checkIndex_0 rfl rfl ?_
  refine V_if_ne (tgt := 12) F dX1_checkIndex_1 (by decide) (fun c_1 => ?_) (fun c_1 => ?_)
  · exact VV.rx (V_vret F dX1_checkIndex_12 (by first | exact Nat.le_of_ble_eq_true rfl | omega) (by first | exact Nat.le_of_ble_eq_true rfl | omega) ⟨rfl, rfl, c_1⟩)
  · refine V_make0 F hl0 e0_J16 (by decide +kernel) q121 (ci := 34) rfl dX1_checkIndex_4 dX1_checkIndex_7 dX1_checkIndex_8 q2816 q2817 (Nat.le_of_ble_eq_true rfl) (Nat.le_of_ble_eq_true rfl) (by omega) (by omega) ?_
    intro q hfq hbq
    have qq : (hset h q (.inr (34, []))) q = some (.inr (34, [])) := (hset_self (e := .inr (34, [])))
    have qf := ((Fr.rf (M := nM) (h := h)).nw (x := .inr (34, [])) hfq)
    refine V_athrow F dX1_checkIndex_11 ⟨34, _, _, _, rfl, (Or.inl qq)⟩ ?_
    exact V_xout F (HT _) (by omega) (by omega) ⟨⟨c_1, rfl⟩, qf⟩
theorem ct_X1_checkArgument {G : GG} {l : Launch} {h : AH} {v : Int32}  (hl0 : l.stackTraces = false) : CtX G l yX1_checkArgument cX1_checkArgument 1 none 6 (1) (6) [.int v] h (fun r h2 => r = none ∧ h = h2 ∧ v ≠ 0) (XF h (fun E => v = 0 ∧ E = eAR)) := by
  refine CtX.of (by decide) (Nat.le_of_ble_eq_true rfl) (cat1 rfl) (fun X hXl F HT => ?_)
  subst hXl
  refine V_iload_n (i := 0) F dX1_checkArgument_0 rfl rfl ?_
  refine V_if_ne (tgt := 12) F dX1_checkArgument_1 (by decide) (fun c_1 => ?_) (fun c_1 => ?_)
  · exact VV.rx (V_vret F dX1_checkArgument_12 (by first | exact Nat.le_of_ble_eq_true rfl | omega) (by first | exact Nat.le_of_ble_eq_true rfl | omega) ⟨rfl, rfl, c_1⟩)
  · refine V_make0 F hl0 e0_J23 (by decide +kernel) q129 (ci := 35) rfl dX1_checkArgument_4 dX1_checkArgument_7 dX1_checkArgument_8 q2836 q2837 (Nat.le_of_ble_eq_true rfl) (Nat.le_of_ble_eq_true rfl) (by omega) (by omega) ?_
    intro q hfq hbq
    have qq : (hset h q (.inr (35, []))) q = some (.inr (35, [])) := (hset_self (e := .inr (35, [])))
    have qf := ((Fr.rf (M := nM) (h := h)).nw (x := .inr (35, [])) hfq)
    refine V_athrow F dX1_checkArgument_11 ⟨35, _, _, _, rfl, (Or.inl qq)⟩ ?_
    exact V_xout F (HT _) (by omega) (by omega) ⟨⟨c_1, rfl⟩, qf⟩
theorem ct_X1_checkState {G : GG} {l : Launch} {h : AH} {v : Int32}  (hl0 : l.stackTraces = false) : CtX G l yX1_checkState cX1_checkState 1 none 6 (1) (6) [.int v] h (fun r h2 => r = none ∧ h = h2 ∧ v ≠ 0) (XF h (fun E => v = 0 ∧ E = eST)) := by
  refine CtX.of (by decide) (Nat.le_of_ble_eq_true rfl) (cat1 rfl) (fun X hXl F HT => ?_)
  subst hXl
  refine V_iload_n (i := 0) F dX1_checkState_0 rfl rfl ?_
  refine V_if_ne (tgt := 12) F dX1_checkState_1 (by decide) (fun c_1 => ?_) (fun c_1 => ?_)
  · exact VV.rx (V_vret F dX1_checkState_12 (by first | exact Nat.le_of_ble_eq_true rfl | omega) (by first | exact Nat.le_of_ble_eq_true rfl | omega) ⟨rfl, rfl, c_1⟩)
  · refine V_make0 F hl0 e0_J42 (by decide +kernel) q161 (ci := 36) rfl dX1_checkState_4 dX1_checkState_7 dX1_checkState_8 q3344 q3345 (Nat.le_of_ble_eq_true rfl) (Nat.le_of_ble_eq_true rfl) (by omega) (by omega) ?_
    intro q hfq hbq
    have qq : (hset h q (.inr (36, []))) q = some (.inr (36, [])) := (hset_self (e := .inr (36, [])))
    have qf := ((Fr.rf (M := nM) (h := h)).nw (x := .inr (36, [])) hfq)
    refine V_athrow F dX1_checkState_11 ⟨36, _, _, _, rfl, (Or.inl qq)⟩ ?_
    exact V_xout F (HT _) (by omega) (by omega) ⟨⟨c_1, rfl⟩, qf⟩
theorem ct_X1_checkElement {G : GG} {l : Launch} {h : AH} {v : Int32}  (hl0 : l.stackTraces = false) : CtX G l yX1_checkElement cX1_checkElement 1 none 6 (1) (6) [.int v] h (fun r h2 => r = none ∧ h = h2 ∧ v ≠ 0) (XF h (fun E => v = 0 ∧ E = eEL)) := by
  refine CtX.of (by decide) (Nat.le_of_ble_eq_true rfl) (cat1 rfl) (fun X hXl F HT => ?_)
  subst hXl
  refine V_iload_n (i := 0) F dX1_checkElement_0 rfl rfl ?_
  refine V_if_ne (tgt := 12) F dX1_checkElement_1 (by decide) (fun c_1 => ?_) (fun c_1 => ?_)
  · exact VV.rx (V_vret F dX1_checkElement_12 (by first | exact Nat.le_of_ble_eq_true rfl | omega) (by first | exact Nat.le_of_ble_eq_true rfl | omega) ⟨rfl, rfl, c_1⟩)
  · refine V_make0 F hl0 e0_J36 (by decide +kernel) q144 (ci := 38) rfl dX1_checkElement_4 dX1_checkElement_7 dX1_checkElement_8 q2851 q2852 (Nat.le_of_ble_eq_true rfl) (Nat.le_of_ble_eq_true rfl) (by omega) (by omega) ?_
    intro q hfq hbq
    have qq : (hset h q (.inr (38, []))) q = some (.inr (38, [])) := (hset_self (e := .inr (38, [])))
    have qf := ((Fr.rf (M := nM) (h := h)).nw (x := .inr (38, [])) hfq)
    refine V_athrow F dX1_checkElement_11 ⟨38, _, _, _, rfl, (Or.inl qq)⟩ ?_
    exact V_xout F (HT _) (by omega) (by omega) ⟨⟨c_1, rfl⟩, qf⟩
theorem ct_X1_checkMinute {G : GG} {l : Launch} {h : AH} {v : Int32}  (hl0 : l.stackTraces = false) : CtX G l yX1_checkMinute cX1_checkMinute 1 none 7 (1) (6) [.int v] h (fun r h2 => r = none ∧ h = h2 ∧ (nI 0 ≤ v ∧ v ≤ nI 9999)) (XF h (fun E => ¬ (nI 0 ≤ v ∧ v ≤ nI 9999) ∧ E = eAR)) := by
  refine CtX.of (by decide) (Nat.le_of_ble_eq_true rfl) (cat1 rfl) (fun X hXl F HT => ?_)
  subst hXl
  refine V_iload_n (i := 0) F dX1_checkMinute_0 rfl rfl ?_
  refine V_iconst (v := nI 0) F dX1_checkMinute_1 rfl ?_
  refine V_sipush (v := nI 9999) F dX1_checkMinute_2 rfl ?_
  refine V_callS (st := []) (nn := 3) F dX1_checkMinute_5 lk_X1_130 (ct_isBetween) rfl rfl (Nat.le_of_ble_eq_true rfl) (Nat.le_of_ble_eq_true rfl) (Nat.le_of_ble_eq_true rfl) (by omega) (by omega) ?_
  refine PRk ?_
  refine V_xcS (st := []) (nn := 1) F dX1_checkMinute_8 lk_X1_134 (ct_X1_checkArgument hl0) rfl rfl (Nat.le_of_ble_eq_true rfl) (Nat.le_of_ble_eq_true rfl) (Nat.le_of_ble_eq_true rfl) (by omega) (by omega) ?_ ?_
  · rintro _ _ ⟨rfl, rfl, hd⟩
    have hP_8 : nI 0 ≤ v ∧ v ≤ nI 9999 := b2_nz hd
    exact VV.rx (V_vret F dX1_checkMinute_11 (by first | exact Nat.le_of_ble_eq_true rfl | omega) (by first | exact Nat.le_of_ble_eq_true rfl | omega) ⟨rfl, rfl, hP_8⟩)
  · exact fun E q h2 hp => V_xout F (HT _) (by omega) (by omega) (XF.of Fr.rf hp (fun hc => ⟨b2_z hc.1, hc.2⟩))
theorem ct_X1_found {G : GG} {l : Launch} {h : AH} {v : Int32}  (hl0 : l.stackTraces = false) : CtX G l yX1_found cX1_found 1 (some .int) 7 (1) (6) [.int v] h (fun r h2 => r = some (.int v) ∧ h = h2 ∧ v ≠ -1) (XF h (fun E => v = -1 ∧ E = eEL)) := by
  refine CtX.of (by decide) (Nat.le_of_ble_eq_true rfl) (cat1 rfl) (fun X hXl F HT => ?_)
  subst hXl
  refine V_iload_n (i := 0) F dX1_found_0 rfl rfl ?_
  refine V_iconst (v := -1) F dX1_found_1 rfl ?_
  refine V_icmp_eq (tgt := 9) F dX1_found_2 (by decide) (fun c_2 => ?_) (fun c_2 => ?_)
  · refine V_iconst (v := nI 0) F dX1_found_9 rfl ?_
    refine V_xcS (st := []) (nn := 1) F dX1_found_10 lk_X1_119 (ct_X1_checkElement hl0) rfl rfl (Nat.le_of_ble_eq_true rfl) (Nat.le_of_ble_eq_true rfl) (Nat.le_of_ble_eq_true rfl) (by omega) (by omega) ?_ ?_
    · rintro _ _ ⟨rfl, rfl, hd⟩
      exact absurd rfl hd
    · exact fun E q h2 hp => V_xout F (HT _) (by omega) (by omega) (XF.of Fr.rf hp (fun hc => ⟨c_2, hc.2⟩))
  · refine V_iconst (v := nI 1) F dX1_found_5 rfl ?_
    refine V_goto (tgt := 10) F dX1_found_6 (by decide) ?_
    refine V_xcS (st := []) (nn := 1) F dX1_found_10 lk_X1_119 (ct_X1_checkElement hl0) rfl rfl (Nat.le_of_ble_eq_true rfl) (Nat.le_of_ble_eq_true rfl) (Nat.le_of_ble_eq_true rfl) (by omega) (by omega) ?_ ?_
    · rintro _ _ ⟨rfl, rfl, hd⟩
      refine V_iload_n (i := 0) F dX1_found_13 rfl rfl ?_
      exact VV.rx (V_iret F dX1_found_14 rfl (by first | exact Nat.le_of_ble_eq_true rfl | omega) (by first | exact Nat.le_of_ble_eq_true rfl | omega) ⟨rfl, rfl, c_2⟩)
    · exact fun E q h2 hp => absurd hp.1.1 (by decide)
theorem ct_X1_checkStation {G : GG} {l : Launch} {h : AH} {r ti tia : Nat} {tf : Nat → Nat} {tt tl ta : Nat} {x : Nat → Nat} {A : Nat → Nat → Nat} {sm smc : Nat} {sA sK sV : Nat → Nat} {bm bmc : Nat} {bA bK bV : Nat → Nat} {g : Nat → Nat} {xo hl sb o n : Nat} {so : Option Nat} {ep fc : Int32} {p : Int32}  (hl0 : l.stackTraces = false) (hx : h xo = some (.inr (1, [.ref r, va_rf so, .ref hl, .ref sb, .int ep, .int fc, .ref o]))) (hW : RW G h r ((ti, tia, tf), (tt, tl, ta, x, A), (sm, smc, sA, sK, sV), (bm, bmc, bA, bK, bV)) g) (hV : INV n g)  : CtX G l yX1_checkStation cX1_checkStation 2 none 7 (1) (6) [.ref xo, .int p] h (fun r0 h2 => r0 = none ∧ h = h2 ∧ iR p (g 0)) (XF h (fun E => ¬ iR p (g 0) ∧ E = eIX)) := by
  refine CtX.of (by decide) (Nat.le_of_ble_eq_true rfl) (cat1 rfl) (fun X hXl F HT => ?_)
  subst hXl
  obtain ⟨hr, hWt, hWr, hWs, hWb⟩ : h r = some (.inr (2, [.ref ti, .ref tt, .ref sm, .ref bm, .int (nI (g 4)), .int (nI (g 5)), .int (nI (g 6)), .int (nI (g 7))])) ∧ RWt G h (ti, tia, tf) g ∧ RWr G h (tt, tl, ta, x, A) g ∧ RWs G h (sm, smc, sA, sK, sV) g ∧ RWb G h (bm, bmc, bA, bK, bV) g := id hW
  have hI := hV.W
  have hg08 := hI.2.1
  refine V_aload_n (i := 0) F dX1_checkStation_0 rfl rfl ?_
  refine V_getf F dX1_checkStation_1 fc_X1_44_X1 (.inl hx) rfl ?_
  refine V_iload_n (i := 1) F dX1_checkStation_4 rfl rfl ?_
  refine V_callV (st := []) (nn := 1) F dX1_checkStation_5 lk_X1_123 (ct_RW_hasStation hW hI) ⟨2, _, _, _, rfl, .inl hW.1⟩ rfl rfl (Nat.le_of_ble_eq_true rfl) (Nat.le_of_ble_eq_true rfl) (Nat.le_of_ble_eq_true rfl) (by omega) (by omega) ?_
  refine PRk ?_
  refine V_xcS (st := []) (nn := 1) F dX1_checkStation_8 lk_X1_127 (ct_X1_checkIndex hl0) rfl rfl (Nat.le_of_ble_eq_true rfl) (Nat.le_of_ble_eq_true rfl) (Nat.le_of_ble_eq_true rfl) (by omega) (by omega) ?_ ?_
  · rintro _ _ ⟨rfl, rfl, hd⟩
    have hP_8 : iR p (g 0) := b2_nz hd
    exact VV.rx (V_vret F dX1_checkStation_11 (by first | exact Nat.le_of_ble_eq_true rfl | omega) (by first | exact Nat.le_of_ble_eq_true rfl | omega) ⟨rfl, rfl, hP_8⟩)
  · exact fun E q h2 hp => V_xout F (HT _) (by omega) (by omega) (XF.of Fr.rf hp (fun hc => ⟨b2_z hc.1, hc.2⟩))
theorem isC_iv {G : GG} {h : AH} {a : Nat} {v : Int32} (hv : IV G h a v) : isC G h a "java/lang/Integer" := ⟨27, _, _, _, rfl, hv⟩
theorem ct_X1_transferTime {G : GG} {l : Launch} {h : AH} {r ti tia : Nat} {tf : Nat → Nat} {tt tl ta : Nat} {x : Nat → Nat} {A : Nat → Nat → Nat} {sm smc : Nat} {sA sK sV : Nat → Nat} {bm bmc : Nat} {bA bK bV : Nat → Nat} {g : Nat → Nat} {xo hl sb o n : Nat} {so : Option Nat} {ep fc : Int32} {p : Int32}  (hl0 : l.stackTraces = false) (hx : h xo = some (.inr (1, [.ref r, va_rf so, .ref hl, .ref sb, .int ep, .int fc, .ref o]))) (hW : RW G h r ((ti, tia, tf), (tt, tl, ta, x, A), (sm, smc, sA, sK, sV), (bm, bmc, bA, bK, bV)) g) (hV : INV n g)  : CtX G l yX1_transferTime cX1_transferTime 2 (some .int) 8 (1) (6) [.ref xo, .int p] h (fun r0 h2 => iR p (g 0) ∧ r0 = some (.int (nI (g (8 + tn p)))) ∧ h = h2) (XF h (fun E => ¬ iR p (g 0) ∧ E = eIX)) := by
  refine CtX.of (by decide) (Nat.le_of_ble_eq_true rfl) (cat1 rfl) (fun X hXl F HT => ?_)
  subst hXl
  obtain ⟨hr, hWt, hWr, hWs, hWb⟩ : h r = some (.inr (2, [.ref ti, .ref tt, .ref sm, .ref bm, .int (nI (g 4)), .int (nI (g 5)), .int (nI (g 6)), .int (nI (g 7))])) ∧ RWt G h (ti, tia, tf) g ∧ RWr G h (tt, tl, ta, x, A) g ∧ RWs G h (sm, smc, sA, sK, sV) g ∧ RWb G h (bm, bmc, bA, bK, bV) g := id hW
  have hI := hV.W
  have hg08 := hI.2.1
  refine V_aload_n (i := 0) F dX1_transferTime_0 rfl rfl ?_
  refine V_iload_n (i := 1) F dX1_transferTime_1 rfl rfl ?_
  refine V_xcV (st := []) (nn := 1) F dX1_transferTime_2 lk_X1_168 (ct_X1_checkStation hl0 hx hW hV) ⟨1, _, _, _, rfl, .inl hx⟩ rfl rfl (Nat.le_of_ble_eq_true rfl) (Nat.le_of_ble_eq_true rfl) (Nat.le_of_ble_eq_true rfl) (by omega) (by omega) ?_ ?_
  · rintro _ _ ⟨rfl, rfl, hP1⟩
    obtain ⟨k, hk, rfl⟩ := iR_of hP1 (hI.b.lt)
    refine V_aload_n (i := 0) F dX1_transferTime_5 rfl rfl ?_
    refine V_getf F dX1_transferTime_6 fc_X1_44_X1 (.inl hx) rfl ?_
    refine V_getn F dX1_transferTime_9 fc_X1_161_X2 (.inl hr) rfl ?_
    refine V_iload_n (i := 1) F dX1_transferTime_12 rfl rfl ?_
    refine V_callF (st := []) (nn := 1) F dX1_transferTime_13 ⟨lw_F q2819 q473 q475 q111 q477, ⟨q472, List.mem_append_left _ q471, q476, q474, q387⟩, (by decide +kernel), (by decide +kernel)⟩ (ct_AL_get hWt.1 hk (by have := hI.2.1; omega)) hWt.1.isC rfl rfl (Nat.le_of_ble_eq_true rfl) (Nat.le_of_ble_eq_true rfl) (Nat.le_of_ble_eq_true rfl) (by omega) (by omega) ?_
    refine PRk ?_
    refine V_ckS F dX1_transferTime_18 q2820 ⟨27, _, _, _, rfl, (hWt.2 k hk)⟩ ?_
    refine V_callV (st := []) (nn := 0) F dX1_transferTime_21 lk_X1_177 (ct_intValue (hWt.2 k hk)) (isC_iv (hWt.2 k hk)) rfl rfl (Nat.le_of_ble_eq_true rfl) (Nat.le_of_ble_eq_true rfl) (Nat.le_of_ble_eq_true rfl) (by omega) (by omega) ?_
    refine PRk ?_
    exact VV.rx (V_iret F dX1_transferTime_24 rfl (by first | exact Nat.le_of_ble_eq_true rfl | omega) (by first | exact Nat.le_of_ble_eq_true rfl | omega) ⟨hP1, by rw [tn_nI (by have := hI.2.1; omega)], rfl⟩)
  · exact fun E q h2 hp => V_xout F (HT _) (by omega) (by omega) (XF.of Fr.rf hp (fun hc => hc))
theorem nI_rg {v : Int32} {m : Nat} (h : nI 0 ≤ v ∧ v ≤ nI m) (hm : m < 2 ^ 31 := by decide) : ∃ u : Nat, u ≤ m ∧ u < 2 ^ 31 ∧ v = nI u := by
  obtain ⟨h1, h2, h3⟩ := tn_in hm h (Nat.zero_le _)
  exact ⟨tn v, h3, by omega, h1.symm⟩
theorem ct_X1_nextTrain {G : GG} {l : Launch} {h : AH} {r ti tia : Nat} {tf : Nat → Nat} {tt tl ta : Nat} {x : Nat → Nat} {A : Nat → Nat → Nat} {sm smc : Nat} {sA sK sV : Nat → Nat} {bm bmc : Nat} {bA bK bV : Nat → Nat} {g : Nat → Nat} {xo hl sb o n : Nat} {so : Option Nat} {ep fc : Int32} {p v : Int32}  (hl0 : l.stackTraces = false) (hx : h xo = some (.inr (1, [.ref r, va_rf so, .ref hl, .ref sb, .int ep, .int fc, .ref o]))) (hW : RW G h r ((ti, tia, tf), (tt, tl, ta, x, A), (sm, smc, sA, sK, sV), (bm, bmc, bA, bK, bV)) g) (hV : INV n g)  : CtX G l yX1_nextTrain cX1_nextTrain 3 (some .int) 8 (60) (400) [.ref xo, .int p, .int v] h (fun r0 h2 => iR p (g 0) ∧ (nI 0 ≤ v ∧ v ≤ nI 9999) ∧ rP ((lgL g).foldl (fun (a : Nat × Nat) (x : Nat × Nat) => if plG g x.1 x.2 = tn p ∧ tn v ≤ LvG g x.1 x.2 ∧ LvG g x.1 x.2 < a.2 then (x.1 + 1, LvG g x.1 x.2) else a) (0, 1000000)).1 ≠ -1 ∧ r0 = some (.int (rP ((lgL g).foldl (fun (a : Nat × Nat) (x : Nat × Nat) => if plG g x.1 x.2 = tn p ∧ tn v ≤ LvG g x.1 x.2 ∧ LvG g x.1 x.2 < a.2 then (x.1 + 1, LvG g x.1 x.2) else a) (0, 1000000)).1)) ∧ Fr nM h h2) (XF h (fun E => (¬ iR p (g 0) ∧ E = eIX) ∨ (iR p (g 0) ∧ ¬ (nI 0 ≤ v ∧ v ≤ nI 9999) ∧ E = eAR) ∨ (iR p (g 0) ∧ (nI 0 ≤ v ∧ v ≤ nI 9999) ∧ rP ((lgL g).foldl (fun (a : Nat × Nat) (x : Nat × Nat) => if plG g x.1 x.2 = tn p ∧ tn v ≤ LvG g x.1 x.2 ∧ LvG g x.1 x.2 < a.2 then (x.1 + 1, LvG g x.1 x.2) else a) (0, 1000000)).1 = -1 ∧ E = eEL))) := by
  refine CtX.of (by decide) (Nat.le_of_ble_eq_true rfl) (cat1 rfl) (fun X hXl F HT => ?_)
  subst hXl
  obtain ⟨hr, hWt, hWr, hWs, hWb⟩ : h r = some (.inr (2, [.ref ti, .ref tt, .ref sm, .ref bm, .int (nI (g 4)), .int (nI (g 5)), .int (nI (g 6)), .int (nI (g 7))])) ∧ RWt G h (ti, tia, tf) g ∧ RWr G h (tt, tl, ta, x, A) g ∧ RWs G h (sm, smc, sA, sK, sV) g ∧ RWb G h (bm, bmc, bA, bK, bV) g := id hW
  have hI := hV.W
  have hg08 := hI.2.1
  refine V_aload_n (i := 0) F dX1_nextTrain_0 rfl rfl ?_
  refine V_iload_n (i := 1) F dX1_nextTrain_1 rfl rfl ?_
  refine V_xcV (st := []) (nn := 1) F dX1_nextTrain_2 lk_X1_168 (ct_X1_checkStation hl0 hx hW hV) ⟨1, _, _, _, rfl, .inl hx⟩ rfl rfl (Nat.le_of_ble_eq_true rfl) (Nat.le_of_ble_eq_true rfl) (Nat.le_of_ble_eq_true rfl) (by omega) (by omega) ?_ ?_
  · rintro _ _ ⟨rfl, rfl, hP1⟩
    obtain ⟨k, hk, rfl⟩ := iR_of hP1 (hI.b.lt)
    refine V_iload_n (i := 2) F dX1_nextTrain_5 rfl rfl ?_
    refine V_xcS (st := []) (nn := 1) F dX1_nextTrain_6 lk_X1_180 (ct_X1_checkMinute hl0) rfl rfl (Nat.le_of_ble_eq_true rfl) (Nat.le_of_ble_eq_true rfl) (Nat.le_of_ble_eq_true rfl) (by omega) (by omega) ?_ ?_
    · rintro _ _ ⟨rfl, rfl, hP2⟩
      obtain ⟨u, hu, hu2, rfl⟩ := nI_rg hP2
      refine V_aload_n (i := 0) F dX1_nextTrain_9 rfl rfl ?_
      refine V_getf F dX1_nextTrain_10 fc_X1_44_X1 (.inl hx) rfl ?_
      refine V_getn F dX1_nextTrain_13 fc_X1_137_X2 (.inl hr) rfl ?_
      refine V_iload_n (i := 1) F dX1_nextTrain_16 rfl rfl ?_
      refine V_iload_n (i := 2) F dX1_nextTrain_17 rfl rfl ?_
      refine V_callV (st := []) (nn := 2) F dX1_nextTrain_18 lk_X1_183 (ct_TT_nextTrain hWr hI (by omega) (by omega)) ⟨3, _, _, _, rfl, .inl hWr.1⟩ rfl rfl (Nat.le_of_ble_eq_true rfl) (Nat.le_of_ble_eq_true rfl) (Nat.le_of_ble_eq_true rfl) (by omega) (by omega) ?_
      rintro _ h3 ⟨rfl, hx3⟩
      have ek : tn (nI k) = k := tn_nI (by omega)
      have eu : tn (nI u) = u := tn_nI (by omega)
      refine V_xcS (st := []) (nn := 1) F dX1_nextTrain_21 lk_X1_187 (ct_X1_found hl0) rfl rfl (Nat.le_of_ble_eq_true rfl) (Nat.le_of_ble_eq_true rfl) (Nat.le_of_ble_eq_true rfl) (by omega) (by omega) ?_ ?_
      · rintro _ _ ⟨rfl, rfl, hne⟩
        exact VV.rx (V_iret F dX1_nextTrain_24 rfl (by first | exact Nat.le_of_ble_eq_true rfl | omega) (by first | exact Nat.le_of_ble_eq_true rfl | omega) ⟨hP1, hP2, by rw [ek, eu]; exact hne, by rw [ek, eu], hx3⟩)
      · exact fun E q h2 hp => V_xout F (HT _) (by omega) (by omega) (XF.of hx3 hp (fun hc => Or.inr (Or.inr ⟨hP1, hP2, by rw [ek, eu]; exact hc.1, hc.2⟩)))
    · exact fun E q h2 hp => V_xout F (HT _) (by omega) (by omega) (XF.of Fr.rf hp (fun hc => Or.inr (Or.inl ⟨hP1, hc⟩)))
  · exact fun E q h2 hp => V_xout F (HT _) (by omega) (by omega) (XF.of Fr.rf hp (fun hc => Or.inl hc))
theorem ct_X1_stationCount {G : GG} {l : Launch} {h : AH} {r ti tia : Nat} {tf : Nat → Nat} {tt tl ta : Nat} {x : Nat → Nat} {A : Nat → Nat → Nat} {sm smc : Nat} {sA sK sV : Nat → Nat} {bm bmc : Nat} {bA bK bV : Nat → Nat} {g : Nat → Nat} {xo hl sb o n : Nat} {so : Option Nat} {ep fc : Int32}  (hx : h xo = some (.inr (1, [.ref r, va_rf so, .ref hl, .ref sb, .int ep, .int fc, .ref o]))) (hW : RW G h r ((ti, tia, tf), (tt, tl, ta, x, A), (sm, smc, sA, sK, sV), (bm, bmc, bA, bK, bV)) g) (hV : INV n g)  : Ct G l yX1_stationCount cX1_stationCount 1 (some .int) 1 (0) (0) [.ref xo] h (fun r0 h2 => r0 = some (.int (nI (g 0))) ∧ h = h2) := by
  refine Ct.of (by decide) (Nat.le_of_ble_eq_true rfl) (cat1 rfl) (fun X hXl F HN => ?_)
  subst hXl
  obtain ⟨hr, hWt, hWr, hWs, hWb⟩ : h r = some (.inr (2, [.ref ti, .ref tt, .ref sm, .ref bm, .int (nI (g 4)), .int (nI (g 5)), .int (nI (g 6)), .int (nI (g 7))])) ∧ RWt G h (ti, tia, tf) g ∧ RWr G h (tt, tl, ta, x, A) g ∧ RWs G h (sm, smc, sA, sK, sV) g ∧ RWb G h (bm, bmc, bA, bK, bV) g := id hW
  have hI := hV.W
  have hg08 := hI.2.1
  refine V_aload_n (i := 0) F dX1_stationCount_0 rfl rfl ?_
  refine V_getf F dX1_stationCount_1 fc_X1_44_X1 (.inl hx) rfl ?_
  refine V_getn F dX1_stationCount_4 fc_X1_161_X2 (.inl hr) rfl ?_
  refine V_callF (st := []) (nn := 0) F dX1_stationCount_7 ⟨lw_F q384 q388 q390 q111 q392, ⟨q386, List.mem_append_left _ q385, q391, q389, q387⟩, (by decide +kernel), (by decide +kernel)⟩ (ct_AL_size hWt.1) hWt.1.isC rfl rfl (Nat.le_of_ble_eq_true rfl) (Nat.le_of_ble_eq_true rfl) (Nat.le_of_ble_eq_true rfl) (by omega) (by omega) ?_
  refine PRk ?_
  exact V_iret F dX1_stationCount_12 rfl (by first | exact Nat.le_of_ble_eq_true rfl | omega) (by first | exact Nat.le_of_ble_eq_true rfl | omega) ⟨rfl, rfl⟩
theorem ct_X1_trainCount {G : GG} {l : Launch} {h : AH} {r ti tia : Nat} {tf : Nat → Nat} {tt tl ta : Nat} {x : Nat → Nat} {A : Nat → Nat → Nat} {sm smc : Nat} {sA sK sV : Nat → Nat} {bm bmc : Nat} {bA bK bV : Nat → Nat} {g : Nat → Nat} {xo hl sb o n : Nat} {so : Option Nat} {ep fc : Int32}  (hx : h xo = some (.inr (1, [.ref r, va_rf so, .ref hl, .ref sb, .int ep, .int fc, .ref o]))) (hW : RW G h r ((ti, tia, tf), (tt, tl, ta, x, A), (sm, smc, sA, sK, sV), (bm, bmc, bA, bK, bV)) g) (hV : INV n g)  : Ct G l yX1_trainCount cX1_trainCount 1 (some .int) 2 (0) (0) [.ref xo] h (fun r0 h2 => r0 = some (.int (nI (g 1))) ∧ h = h2) := by
  refine Ct.of (by decide) (Nat.le_of_ble_eq_true rfl) (cat1 rfl) (fun X hXl F HN => ?_)
  subst hXl
  obtain ⟨hr, hWt, hWr, hWs, hWb⟩ : h r = some (.inr (2, [.ref ti, .ref tt, .ref sm, .ref bm, .int (nI (g 4)), .int (nI (g 5)), .int (nI (g 6)), .int (nI (g 7))])) ∧ RWt G h (ti, tia, tf) g ∧ RWr G h (tt, tl, ta, x, A) g ∧ RWs G h (sm, smc, sA, sK, sV) g ∧ RWb G h (bm, bmc, bA, bK, bV) g := id hW
  have hI := hV.W
  have hg08 := hI.2.1
  refine V_aload_n (i := 0) F dX1_trainCount_0 rfl rfl ?_
  refine V_getf F dX1_trainCount_1 fc_X1_44_X1 (.inl hx) rfl ?_
  refine V_getn F dX1_trainCount_4 fc_X1_137_X2 (.inl hr) rfl ?_
  refine V_callV (st := []) (nn := 0) F dX1_trainCount_7 lk_X1_191 (ct_TT_count hWr hI) ⟨3, _, _, _, rfl, .inl hWr.1⟩ rfl rfl (Nat.le_of_ble_eq_true rfl) (Nat.le_of_ble_eq_true rfl) (Nat.le_of_ble_eq_true rfl) (by omega) (by omega) ?_
  refine PRk ?_
  exact V_iret F dX1_trainCount_10 rfl (by first | exact Nat.le_of_ble_eq_true rfl | omega) (by first | exact Nat.le_of_ble_eq_true rfl | omega) ⟨rfl, rfl⟩
theorem ct_X1_suitcaseCount {G : GG} {l : Launch} {h : AH} {r ti tia : Nat} {tf : Nat → Nat} {tt tl ta : Nat} {x : Nat → Nat} {A : Nat → Nat → Nat} {sm smc : Nat} {sA sK sV : Nat → Nat} {bm bmc : Nat} {bA bK bV : Nat → Nat} {g : Nat → Nat} {xo hl sb o n : Nat} {so : Option Nat} {ep fc : Int32}  (hx : h xo = some (.inr (1, [.ref r, va_rf so, .ref hl, .ref sb, .int ep, .int fc, .ref o]))) (hW : RW G h r ((ti, tia, tf), (tt, tl, ta, x, A), (sm, smc, sA, sK, sV), (bm, bmc, bA, bK, bV)) g) (hV : INV n g)  : Ct G l yX1_suitcaseCount cX1_suitcaseCount 1 (some .int) 1 (0) (0) [.ref xo] h (fun r0 h2 => r0 = some (.int (nI (g 2))) ∧ h = h2) := by
  refine Ct.of (by decide) (Nat.le_of_ble_eq_true rfl) (cat1 rfl) (fun X hXl F HN => ?_)
  subst hXl
  obtain ⟨hr, hWt, hWr, hWs, hWb⟩ : h r = some (.inr (2, [.ref ti, .ref tt, .ref sm, .ref bm, .int (nI (g 4)), .int (nI (g 5)), .int (nI (g 6)), .int (nI (g 7))])) ∧ RWt G h (ti, tia, tf) g ∧ RWr G h (tt, tl, ta, x, A) g ∧ RWs G h (sm, smc, sA, sK, sV) g ∧ RWb G h (bm, bmc, bA, bK, bV) g := id hW
  have hI := hV.W
  have hg08 := hI.2.1
  refine V_aload_n (i := 0) F dX1_suitcaseCount_0 rfl rfl ?_
  refine V_getf F dX1_suitcaseCount_1 fc_X1_44_X1 (.inl hx) rfl ?_
  refine V_getn F dX1_suitcaseCount_4 fc_X1_248_X2 (.inl hr) rfl ?_
  refine V_callV (st := []) (nn := 0) F dX1_suitcaseCount_7 lk_X1_267 (ct_TM_size hWs.1) hWs.1.isC rfl rfl (Nat.le_of_ble_eq_true rfl) (Nat.le_of_ble_eq_true rfl) (Nat.le_of_ble_eq_true rfl) (by omega) (by omega) ?_
  refine PRk ?_
  exact V_iret F dX1_suitcaseCount_10 rfl (by first | exact Nat.le_of_ble_eq_true rfl | omega) (by first | exact Nat.le_of_ble_eq_true rfl | omega) ⟨rfl, rfl⟩
theorem ct_X1_bookingCount {G : GG} {l : Launch} {h : AH} {r ti tia : Nat} {tf : Nat → Nat} {tt tl ta : Nat} {x : Nat → Nat} {A : Nat → Nat → Nat} {sm smc : Nat} {sA sK sV : Nat → Nat} {bm bmc : Nat} {bA bK bV : Nat → Nat} {g : Nat → Nat} {xo hl sb o n : Nat} {so : Option Nat} {ep fc : Int32}  (hx : h xo = some (.inr (1, [.ref r, va_rf so, .ref hl, .ref sb, .int ep, .int fc, .ref o]))) (hW : RW G h r ((ti, tia, tf), (tt, tl, ta, x, A), (sm, smc, sA, sK, sV), (bm, bmc, bA, bK, bV)) g) (hV : INV n g)  : Ct G l yX1_bookingCount cX1_bookingCount 1 (some .int) 1 (0) (0) [.ref xo] h (fun r0 h2 => r0 = some (.int (nI (g 3))) ∧ h = h2) := by
  refine Ct.of (by decide) (Nat.le_of_ble_eq_true rfl) (cat1 rfl) (fun X hXl F HN => ?_)
  subst hXl
  obtain ⟨hr, hWt, hWr, hWs, hWb⟩ : h r = some (.inr (2, [.ref ti, .ref tt, .ref sm, .ref bm, .int (nI (g 4)), .int (nI (g 5)), .int (nI (g 6)), .int (nI (g 7))])) ∧ RWt G h (ti, tia, tf) g ∧ RWr G h (tt, tl, ta, x, A) g ∧ RWs G h (sm, smc, sA, sK, sV) g ∧ RWb G h (bm, bmc, bA, bK, bV) g := id hW
  have hI := hV.W
  have hg08 := hI.2.1
  refine V_aload_n (i := 0) F dX1_bookingCount_0 rfl rfl ?_
  refine V_getf F dX1_bookingCount_1 fc_X1_44_X1 (.inl hx) rfl ?_
  refine V_getn F dX1_bookingCount_4 fc_X1_303_X2 (.inl hr) rfl ?_
  refine V_callV (st := []) (nn := 0) F dX1_bookingCount_7 lk_X1_267 (ct_TM_size hWb.1) hWb.1.isC rfl rfl (Nat.le_of_ble_eq_true rfl) (Nat.le_of_ble_eq_true rfl) (Nat.le_of_ble_eq_true rfl) (by omega) (by omega) ?_
  refine PRk ?_
  exact V_iret F dX1_bookingCount_10 rfl (by first | exact Nat.le_of_ble_eq_true rfl | omega) (by first | exact Nat.le_of_ble_eq_true rfl | omega) ⟨rfl, rfl⟩
theorem ct_X1_coins {G : GG} {l : Launch} {h : AH} {r ti tia : Nat} {tf : Nat → Nat} {tt tl ta : Nat} {x : Nat → Nat} {A : Nat → Nat → Nat} {sm smc : Nat} {sA sK sV : Nat → Nat} {bm bmc : Nat} {bA bK bV : Nat → Nat} {g : Nat → Nat} {xo hl sb o n : Nat} {so : Option Nat} {ep fc : Int32}  (hx : h xo = some (.inr (1, [.ref r, va_rf so, .ref hl, .ref sb, .int ep, .int fc, .ref o]))) (hW : RW G h r ((ti, tia, tf), (tt, tl, ta, x, A), (sm, smc, sA, sK, sV), (bm, bmc, bA, bK, bV)) g) (hV : INV n g)  : Ct G l yX1_coins cX1_coins 1 (some .int) 0 (0) (0) [.ref xo] h (fun r0 h2 => r0 = some (.int (nI (g 6))) ∧ h = h2) := by
  refine Ct.of (by decide) (Nat.le_of_ble_eq_true rfl) (cat1 rfl) (fun X hXl F HN => ?_)
  subst hXl
  obtain ⟨hr, hWt, hWr, hWs, hWb⟩ : h r = some (.inr (2, [.ref ti, .ref tt, .ref sm, .ref bm, .int (nI (g 4)), .int (nI (g 5)), .int (nI (g 6)), .int (nI (g 7))])) ∧ RWt G h (ti, tia, tf) g ∧ RWr G h (tt, tl, ta, x, A) g ∧ RWs G h (sm, smc, sA, sK, sV) g ∧ RWb G h (bm, bmc, bA, bK, bV) g := id hW
  have hI := hV.W
  have hg08 := hI.2.1
  refine V_aload_n (i := 0) F dX1_coins_0 rfl rfl ?_
  refine V_getf F dX1_coins_1 fc_X1_44_X1 (.inl hx) rfl ?_
  refine V_getn F dX1_coins_4 fc_X1_335_X2 (.inl hr) rfl ?_
  exact V_iret F dX1_coins_7 rfl (by first | exact Nat.le_of_ble_eq_true rfl | omega) (by first | exact Nat.le_of_ble_eq_true rfl | omega) ⟨rfl, rfl⟩
theorem ct_X1_collectedTotal {G : GG} {l : Launch} {h : AH} {r ti tia : Nat} {tf : Nat → Nat} {tt tl ta : Nat} {x : Nat → Nat} {A : Nat → Nat → Nat} {sm smc : Nat} {sA sK sV : Nat → Nat} {bm bmc : Nat} {bA bK bV : Nat → Nat} {g : Nat → Nat} {xo hl sb o n : Nat} {so : Option Nat} {ep fc : Int32}  (hx : h xo = some (.inr (1, [.ref r, va_rf so, .ref hl, .ref sb, .int ep, .int fc, .ref o]))) (hW : RW G h r ((ti, tia, tf), (tt, tl, ta, x, A), (sm, smc, sA, sK, sV), (bm, bmc, bA, bK, bV)) g) (hV : INV n g)  : Ct G l yX1_collectedTotal cX1_collectedTotal 1 (some .int) 0 (0) (0) [.ref xo] h (fun r0 h2 => r0 = some (.int (nI (g 7))) ∧ h = h2) := by
  refine Ct.of (by decide) (Nat.le_of_ble_eq_true rfl) (cat1 rfl) (fun X hXl F HN => ?_)
  subst hXl
  obtain ⟨hr, hWt, hWr, hWs, hWb⟩ : h r = some (.inr (2, [.ref ti, .ref tt, .ref sm, .ref bm, .int (nI (g 4)), .int (nI (g 5)), .int (nI (g 6)), .int (nI (g 7))])) ∧ RWt G h (ti, tia, tf) g ∧ RWr G h (tt, tl, ta, x, A) g ∧ RWs G h (sm, smc, sA, sK, sV) g ∧ RWb G h (bm, bmc, bA, bK, bV) g := id hW
  have hI := hV.W
  have hg08 := hI.2.1
  refine V_aload_n (i := 0) F dX1_collectedTotal_0 rfl rfl ?_
  refine V_getf F dX1_collectedTotal_1 fc_X1_44_X1 (.inl hx) rfl ?_
  refine V_getn F dX1_collectedTotal_4 fc_X1_341_X2 (.inl hr) rfl ?_
  exact V_iret F dX1_collectedTotal_7 rfl (by first | exact Nat.le_of_ble_eq_true rfl | omega) (by first | exact Nat.le_of_ble_eq_true rfl | omega) ⟨rfl, rfl⟩
theorem ct_X1_coinsByLoads {G : GG} {l : Launch} {h : AH} {r ti tia : Nat} {tf : Nat → Nat} {tt tl ta : Nat} {x : Nat → Nat} {A : Nat → Nat → Nat} {sm smc : Nat} {sA sK sV : Nat → Nat} {bm bmc : Nat} {bA bK bV : Nat → Nat} {g : Nat → Nat} {xo hl sb o n : Nat} {so : Option Nat} {ep fc : Int32}  (hx : h xo = some (.inr (1, [.ref r, va_rf so, .ref hl, .ref sb, .int ep, .int fc, .ref o]))) (hW : RW G h r ((ti, tia, tf), (tt, tl, ta, x, A), (sm, smc, sA, sK, sV), (bm, bmc, bA, bK, bV)) g) (hV : INV n g)  : Ct G l yX1_coinsByLoads cX1_coinsByLoads 1 (some .int) 8 (50) (300) [.ref xo] h (fun r0 h2 => r0 = some (.int (nI (2 * ((lgL g).foldl (fun (a : Nat) (x : Nat × Nat) => a + (g (16 + 36 * x.1 + (28 + x.2)))) 0)))) ∧ Fr nM h h2) := by
  refine Ct.of (by decide) (Nat.le_of_ble_eq_true rfl) (cat1 rfl) (fun X hXl F HN => ?_)
  subst hXl
  obtain ⟨hr, hWt, hWr, hWs, hWb⟩ : h r = some (.inr (2, [.ref ti, .ref tt, .ref sm, .ref bm, .int (nI (g 4)), .int (nI (g 5)), .int (nI (g 6)), .int (nI (g 7))])) ∧ RWt G h (ti, tia, tf) g ∧ RWr G h (tt, tl, ta, x, A) g ∧ RWs G h (sm, smc, sA, sK, sV) g ∧ RWb G h (bm, bmc, bA, bK, bV) g := id hW
  have hI := hV.W
  have hg08 := hI.2.1
  refine V_aload_n (i := 0) F dX1_coinsByLoads_0 rfl rfl ?_
  refine V_getf F dX1_coinsByLoads_1 fc_X1_44_X1 (.inl hx) rfl ?_
  refine V_callV (st := []) (nn := 0) F dX1_coinsByLoads_4 lk_X1_338 (ct_RW_coinsByLoads hW hI) ⟨2, _, _, _, rfl, .inl hW.1⟩ rfl rfl (Nat.le_of_ble_eq_true rfl) (Nat.le_of_ble_eq_true rfl) (Nat.le_of_ble_eq_true rfl) (by omega) (by omega) ?_
  rintro _ h3 ⟨rfl, hx3⟩
  exact V_iret F dX1_coinsByLoads_7 rfl (by first | exact Nat.le_of_ble_eq_true rfl | omega) (by first | exact Nat.le_of_ble_eq_true rfl | omega) ⟨rfl, hx3⟩
theorem ct_X1_isConsistent {G : GG} {l : Launch} {h : AH} {r ti tia : Nat} {tf : Nat → Nat} {tt tl ta : Nat} {x : Nat → Nat} {A : Nat → Nat → Nat} {sm smc : Nat} {sA sK sV : Nat → Nat} {bm bmc : Nat} {bA bK bV : Nat → Nat} {g : Nat → Nat} {xo hl sb o n : Nat} {so : Option Nat} {ep fc : Int32}  (hx : h xo = some (.inr (1, [.ref r, va_rf so, .ref hl, .ref sb, .int ep, .int fc, .ref o]))) (hW : RW G h r ((ti, tia, tf), (tt, tl, ta, x, A), (sm, smc, sA, sK, sV), (bm, bmc, bA, bK, bV)) g) (hV : INV n g) (hCs : ∀ t, t < g 1 → ∀ S N nd, BGV g t S N nd → nd = bmN g t (g (16 + 36 * t + 3) - 1))  : Ct G l yX1_isConsistent cX1_isConsistent 1 (some .boolean) 15 (7800) (207000) [.ref xo] h (fun r0 h2 => r0 = some (.int (nI 1)) ∧ Fr nM h h2) := by
  refine Ct.of (by decide) (Nat.le_of_ble_eq_true rfl) (cat1 rfl) (fun X hXl F HN => ?_)
  subst hXl
  obtain ⟨hr, hWt, hWr, hWs, hWb⟩ : h r = some (.inr (2, [.ref ti, .ref tt, .ref sm, .ref bm, .int (nI (g 4)), .int (nI (g 5)), .int (nI (g 6)), .int (nI (g 7))])) ∧ RWt G h (ti, tia, tf) g ∧ RWr G h (tt, tl, ta, x, A) g ∧ RWs G h (sm, smc, sA, sK, sV) g ∧ RWb G h (bm, bmc, bA, bK, bV) g := id hW
  have hI := hV.W
  have hg08 := hI.2.1
  refine V_aload_n (i := 0) F dX1_isConsistent_0 rfl rfl ?_
  refine V_getf F dX1_isConsistent_1 fc_X1_44_X1 (.inl hx) rfl ?_
  refine V_callV (st := []) (nn := 0) F dX1_isConsistent_4 lk_X1_359 (ct_RW_isConsistent hW hI hV.T hV.L hCs hV.co) ⟨2, _, _, _, rfl, .inl hW.1⟩ rfl rfl (Nat.le_of_ble_eq_true rfl) (Nat.le_of_ble_eq_true rfl) (Nat.le_of_ble_eq_true rfl) (by omega) (by omega) ?_
  rintro _ h3 ⟨rfl, hx3⟩
  exact V_iret F dX1_isConsistent_7 rfl (by first | exact Nat.le_of_ble_eq_true rfl | omega) (by first | exact Nat.le_of_ble_eq_true rfl | omega) ⟨rfl, hx3⟩
theorem ct_X1_trainWith {G : GG} {l : Launch} {h : AH} {r ti tia : Nat} {tf : Nat → Nat} {tt tl ta : Nat} {x : Nat → Nat} {A : Nat → Nat → Nat} {sm smc : Nat} {sA sK sV : Nat → Nat} {bm bmc : Nat} {bA bK bV : Nat → Nat} {g : Nat → Nat} {xo hl sb o n : Nat} {so : Option Nat} {ep fc : Int32} {p : Int32}  (hl0 : l.stackTraces = false) (hx : h xo = some (.inr (1, [.ref r, va_rf so, .ref hl, .ref sb, .int ep, .int fc, .ref o]))) (hW : RW G h r ((ti, tia, tf), (tt, tl, ta, x, A), (sm, smc, sA, sK, sV), (bm, bmc, bA, bK, bV)) g) (hV : INV n g)  : CtX G l yX1_trainWith cX1_trainWith 2 (some (.object "SleeperRailway$Train")) 7 (1) (6) [.ref xo, .int p] h (fun r0 h2 => ∃ t, t < g 1 ∧ p = nI t ∧ r0 = some (.ref (x t)) ∧ h = h2) (XF h (fun E => ¬ iR p (g 1) ∧ E = eIX)) := by
  refine CtX.of (by decide) (Nat.le_of_ble_eq_true rfl) (cat1 rfl) (fun X hXl F HT => ?_)
  subst hXl
  obtain ⟨hr, hWt, hWr, hWs, hWb⟩ : h r = some (.inr (2, [.ref ti, .ref tt, .ref sm, .ref bm, .int (nI (g 4)), .int (nI (g 5)), .int (nI (g 6)), .int (nI (g 7))])) ∧ RWt G h (ti, tia, tf) g ∧ RWr G h (tt, tl, ta, x, A) g ∧ RWs G h (sm, smc, sA, sK, sV) g ∧ RWb G h (bm, bmc, bA, bK, bV) g := id hW
  have hI := hV.W
  have hg08 := hI.2.1
  refine V_aload_n (i := 0) F dX1_trainWith_0 rfl rfl ?_
  refine V_getf F dX1_trainWith_1 fc_X1_44_X1 (.inl hx) rfl ?_
  refine V_getn F dX1_trainWith_4 fc_X1_137_X2 (.inl hr) rfl ?_
  refine V_iload_n (i := 1) F dX1_trainWith_7 rfl rfl ?_
  refine V_callV (st := []) (nn := 1) F dX1_trainWith_8 lk_X1_141 (ct_TT_has hWr hI) ⟨3, _, _, _, rfl, .inl hWr.1⟩ rfl rfl (Nat.le_of_ble_eq_true rfl) (Nat.le_of_ble_eq_true rfl) (Nat.le_of_ble_eq_true rfl) (by omega) (by omega) ?_
  refine PRk ?_
  refine V_xcS (st := []) (nn := 1) F dX1_trainWith_11 lk_X1_127 (ct_X1_checkIndex hl0) rfl rfl (Nat.le_of_ble_eq_true rfl) (Nat.le_of_ble_eq_true rfl) (Nat.le_of_ble_eq_true rfl) (by omega) (by omega) ?_ ?_
  · rintro _ _ ⟨rfl, rfl, hd⟩
    have hP_11 : iR p (g 1) := b2_nz hd
    obtain ⟨t, ht, rfl⟩ := iR_of hP_11 (hI.b.lt)
    refine V_aload_n (i := 0) F dX1_trainWith_14 rfl rfl ?_
    refine V_getf F dX1_trainWith_15 fc_X1_44_X1 (.inl hx) rfl ?_
    refine V_getn F dX1_trainWith_18 fc_X1_137_X2 (.inl hr) rfl ?_
    refine V_iload_n (i := 1) F dX1_trainWith_21 rfl rfl ?_
    refine V_callV (st := []) (nn := 1) F dX1_trainWith_22 lk_X1_146 (ct_TT_get hWr hI ht) ⟨3, _, _, _, rfl, .inl hWr.1⟩ rfl rfl (Nat.le_of_ble_eq_true rfl) (Nat.le_of_ble_eq_true rfl) (Nat.le_of_ble_eq_true rfl) (by omega) (by omega) ?_
    refine PRk ?_
    exact VV.rx (V_aret F dX1_trainWith_25 (Or.inl ⟨_, rfl⟩) (Or.inr ⟨_, rfl⟩) (by first | exact Nat.le_of_ble_eq_true rfl | omega) (by first | exact Nat.le_of_ble_eq_true rfl | omega) ⟨t, ht, rfl, rfl, rfl⟩)
  · exact fun E q h2 hp => V_xout F (HT _) (by omega) (by omega) (XF.of Fr.rf hp (fun hc => ⟨b2_z hc.1, hc.2⟩))
theorem ct_X1_trainWithStop {G : GG} {l : Launch} {h : AH} {r ti tia : Nat} {tf : Nat → Nat} {tt tl ta : Nat} {x : Nat → Nat} {A : Nat → Nat → Nat} {sm smc : Nat} {sA sK sV : Nat → Nat} {bm bmc : Nat} {bA bK bV : Nat → Nat} {g : Nat → Nat} {xo hl sb o n : Nat} {so : Option Nat} {ep fc : Int32} {p q0 : Int32}  (hl0 : l.stackTraces = false) (hx : h xo = some (.inr (1, [.ref r, va_rf so, .ref hl, .ref sb, .int ep, .int fc, .ref o]))) (hW : RW G h r ((ti, tia, tf), (tt, tl, ta, x, A), (sm, smc, sA, sK, sV), (bm, bmc, bA, bK, bV)) g) (hV : INV n g)  : CtX G l yX1_trainWithStop cX1_trainWithStop 4 (some (.object "SleeperRailway$Train")) 8 (2) (12) [.ref xo, .int p, .int q0] h (fun r0 h2 => ∃ t k, t < g 1 ∧ p = nI t ∧ k < g (16 + 36 * t + 3) ∧ q0 = nI k ∧ r0 = some (.ref (x t)) ∧ h = h2) (XF h (fun E => ¬ (iR p (g 1) ∧ iR q0 (g (16 + 36 * tn p + 3))) ∧ E = eIX)) := by
  refine CtX.of (by decide) (Nat.le_of_ble_eq_true rfl) (cat1 rfl) (fun X hXl F HT => ?_)
  subst hXl
  obtain ⟨hr, hWt, hWr, hWs, hWb⟩ : h r = some (.inr (2, [.ref ti, .ref tt, .ref sm, .ref bm, .int (nI (g 4)), .int (nI (g 5)), .int (nI (g 6)), .int (nI (g 7))])) ∧ RWt G h (ti, tia, tf) g ∧ RWr G h (tt, tl, ta, x, A) g ∧ RWs G h (sm, smc, sA, sK, sV) g ∧ RWb G h (bm, bmc, bA, bK, bV) g := id hW
  have hI := hV.W
  have hg08 := hI.2.1
  refine V_aload_n (i := 0) F dX1_trainWithStop_0 rfl rfl ?_
  refine V_iload_n (i := 1) F dX1_trainWithStop_1 rfl rfl ?_
  refine V_xcV (st := []) (nn := 1) F dX1_trainWithStop_2 lk_X1_150 (ct_X1_trainWith hl0 hx hW hV) ⟨1, _, _, _, rfl, .inl hx⟩ rfl rfl (Nat.le_of_ble_eq_true rfl) (Nat.le_of_ble_eq_true rfl) (Nat.le_of_ble_eq_true rfl) (by omega) (by omega) ?_ ?_
  · rintro _ _ ⟨t, ht, rfl, rfl, rfl⟩
    have hTx := hWr.2.2 t ht
    have hT6 := hI.t6 ht
    have htn : tn (nI t) = t := tn_nI (by omega)
    have hiR : iR (nI t) (g 1) := (iR_nI (by omega)).mpr ht
    have hS8 := (hI.2.2.2.2.2.1 t ht).2
    refine V_astore_n (i := 3) F dX1_trainWithStop_5 rfl (Nat.le_of_ble_eq_true rfl) (Nat.le_of_ble_eq_true rfl) ?_
    refine V_aload_n (i := 3) F dX1_trainWithStop_6 rfl rfl ?_
    refine V_iload_n (i := 2) F dX1_trainWithStop_7 rfl rfl ?_
    refine V_callV (st := []) (nn := 1) F dX1_trainWithStop_8 lk_X1_153 (ct_TR_hasStop hTx (by omega)) ⟨4, _, _, _, rfl, .inl hTx.1⟩ rfl rfl (Nat.le_of_ble_eq_true rfl) (Nat.le_of_ble_eq_true rfl) (Nat.le_of_ble_eq_true rfl) (by omega) (by omega) ?_
    refine PRk ?_
    refine V_xcS (st := []) (nn := 1) F dX1_trainWithStop_11 lk_X1_127 (ct_X1_checkIndex hl0) rfl rfl (Nat.le_of_ble_eq_true rfl) (Nat.le_of_ble_eq_true rfl) (Nat.le_of_ble_eq_true rfl) (by omega) (by omega) ?_ ?_
    · rintro _ _ ⟨rfl, rfl, hd⟩
      have hP_11 : iR q0 (g (16 + 36 * t + 3)) := b2_nz hd
      obtain ⟨k, hk, rfl⟩ := iR_of hP_11 (by omega)
      refine V_aload_n (i := 3) F dX1_trainWithStop_14 rfl rfl ?_
      exact VV.rx (V_aret F dX1_trainWithStop_15 (Or.inl ⟨_, rfl⟩) (Or.inr ⟨_, rfl⟩) (by first | exact Nat.le_of_ble_eq_true rfl | omega) (by first | exact Nat.le_of_ble_eq_true rfl | omega) ⟨t, k, ht, rfl, hk, rfl, rfl, rfl⟩)
    · exact fun E q h2 hp => V_xout F (HT _) (by omega) (by omega) (XF.of Fr.rf hp (fun hc => ⟨fun z => b2_z hc.1 (by have := z.2; rw [htn] at this; exact this), hc.2⟩))
  · exact fun E q h2 hp => V_xout F (HT _) (by omega) (by omega) (XF.of Fr.rf hp (fun hc => ⟨fun z => hc.1 z.1, hc.2⟩))
theorem ct_X1_trainWithLeg {G : GG} {l : Launch} {h : AH} {r ti tia : Nat} {tf : Nat → Nat} {tt tl ta : Nat} {x : Nat → Nat} {A : Nat → Nat → Nat} {sm smc : Nat} {sA sK sV : Nat → Nat} {bm bmc : Nat} {bA bK bV : Nat → Nat} {g : Nat → Nat} {xo hl sb o n : Nat} {so : Option Nat} {ep fc : Int32} {p q0 : Int32}  (hl0 : l.stackTraces = false) (hx : h xo = some (.inr (1, [.ref r, va_rf so, .ref hl, .ref sb, .int ep, .int fc, .ref o]))) (hW : RW G h r ((ti, tia, tf), (tt, tl, ta, x, A), (sm, smc, sA, sK, sV), (bm, bmc, bA, bK, bV)) g) (hV : INV n g)  : CtX G l yX1_trainWithLeg cX1_trainWithLeg 4 (some (.object "SleeperRailway$Train")) 8 (2) (12) [.ref xo, .int p, .int q0] h (fun r0 h2 => ∃ t k, t < g 1 ∧ p = nI t ∧ k < g (16 + 36 * t + 3) - 1 ∧ q0 = nI k ∧ r0 = some (.ref (x t)) ∧ h = h2) (XF h (fun E => ¬ (iR p (g 1) ∧ iR q0 (g (16 + 36 * tn p + 3) - 1)) ∧ E = eIX)) := by
  refine CtX.of (by decide) (Nat.le_of_ble_eq_true rfl) (cat1 rfl) (fun X hXl F HT => ?_)
  subst hXl
  obtain ⟨hr, hWt, hWr, hWs, hWb⟩ : h r = some (.inr (2, [.ref ti, .ref tt, .ref sm, .ref bm, .int (nI (g 4)), .int (nI (g 5)), .int (nI (g 6)), .int (nI (g 7))])) ∧ RWt G h (ti, tia, tf) g ∧ RWr G h (tt, tl, ta, x, A) g ∧ RWs G h (sm, smc, sA, sK, sV) g ∧ RWb G h (bm, bmc, bA, bK, bV) g := id hW
  have hI := hV.W
  have hg08 := hI.2.1
  refine V_aload_n (i := 0) F dX1_trainWithLeg_0 rfl rfl ?_
  refine V_iload_n (i := 1) F dX1_trainWithLeg_1 rfl rfl ?_
  refine V_xcV (st := []) (nn := 1) F dX1_trainWithLeg_2 lk_X1_150 (ct_X1_trainWith hl0 hx hW hV) ⟨1, _, _, _, rfl, .inl hx⟩ rfl rfl (Nat.le_of_ble_eq_true rfl) (Nat.le_of_ble_eq_true rfl) (Nat.le_of_ble_eq_true rfl) (by omega) (by omega) ?_ ?_
  · rintro _ _ ⟨t, ht, rfl, rfl, rfl⟩
    have hTx := hWr.2.2 t ht
    have hT6 := hI.t6 ht
    have htn : tn (nI t) = t := tn_nI (by omega)
    have hiR : iR (nI t) (g 1) := (iR_nI (by omega)).mpr ht
    have hS8 := (hI.2.2.2.2.2.1 t ht).2
    refine V_astore_n (i := 3) F dX1_trainWithLeg_5 rfl (Nat.le_of_ble_eq_true rfl) (Nat.le_of_ble_eq_true rfl) ?_
    refine V_aload_n (i := 3) F dX1_trainWithLeg_6 rfl rfl ?_
    refine V_iload_n (i := 2) F dX1_trainWithLeg_7 rfl rfl ?_
    refine V_callV (st := []) (nn := 1) F dX1_trainWithLeg_8 lk_X1_158 (ct_TR_hasLeg hTx (by omega)) ⟨4, _, _, _, rfl, .inl hTx.1⟩ rfl rfl (Nat.le_of_ble_eq_true rfl) (Nat.le_of_ble_eq_true rfl) (Nat.le_of_ble_eq_true rfl) (by omega) (by omega) ?_
    refine PRk ?_
    refine V_xcS (st := []) (nn := 1) F dX1_trainWithLeg_11 lk_X1_127 (ct_X1_checkIndex hl0) rfl rfl (Nat.le_of_ble_eq_true rfl) (Nat.le_of_ble_eq_true rfl) (Nat.le_of_ble_eq_true rfl) (by omega) (by omega) ?_ ?_
    · rintro _ _ ⟨rfl, rfl, hd⟩
      have hP_11 : iR q0 (g (16 + 36 * t + 3) - 1) := b2_nz hd
      obtain ⟨k, hk, rfl⟩ := iR_of hP_11 (by omega)
      refine V_aload_n (i := 3) F dX1_trainWithLeg_14 rfl rfl ?_
      exact VV.rx (V_aret F dX1_trainWithLeg_15 (Or.inl ⟨_, rfl⟩) (Or.inr ⟨_, rfl⟩) (by first | exact Nat.le_of_ble_eq_true rfl | omega) (by first | exact Nat.le_of_ble_eq_true rfl | omega) ⟨t, k, ht, rfl, hk, rfl, rfl, rfl⟩)
    · exact fun E q h2 hp => V_xout F (HT _) (by omega) (by omega) (XF.of Fr.rf hp (fun hc => ⟨fun z => b2_z hc.1 (by have := z.2; rw [htn] at this; exact this), hc.2⟩))
  · exact fun E q h2 hp => V_xout F (HT _) (by omega) (by omega) (XF.of Fr.rf hp (fun hc => ⟨fun z => hc.1 z.1, hc.2⟩))
theorem ct_X1_stopCount {G : GG} {l : Launch} {h : AH} {r ti tia : Nat} {tf : Nat → Nat} {tt tl ta : Nat} {x : Nat → Nat} {A : Nat → Nat → Nat} {sm smc : Nat} {sA sK sV : Nat → Nat} {bm bmc : Nat} {bA bK bV : Nat → Nat} {g : Nat → Nat} {xo hl sb o n : Nat} {so : Option Nat} {ep fc : Int32} {p : Int32}  (hl0 : l.stackTraces = false) (hx : h xo = some (.inr (1, [.ref r, va_rf so, .ref hl, .ref sb, .int ep, .int fc, .ref o]))) (hW : RW G h r ((ti, tia, tf), (tt, tl, ta, x, A), (sm, smc, sA, sK, sV), (bm, bmc, bA, bK, bV)) g) (hV : INV n g)  : CtX G l yX1_stopCount cX1_stopCount 2 (some .int) 8 (1) (6) [.ref xo, .int p] h (fun r0 h2 => iR p (g 1) ∧ r0 = some (.int (nI (g (16 + 36 * tn p + 3)))) ∧ h = h2) (XF h (fun E => ¬ iR p (g 1) ∧ E = eIX)) := by
  refine CtX.of (by decide) (Nat.le_of_ble_eq_true rfl) (cat1 rfl) (fun X hXl F HT => ?_)
  subst hXl
  obtain ⟨hr, hWt, hWr, hWs, hWb⟩ : h r = some (.inr (2, [.ref ti, .ref tt, .ref sm, .ref bm, .int (nI (g 4)), .int (nI (g 5)), .int (nI (g 6)), .int (nI (g 7))])) ∧ RWt G h (ti, tia, tf) g ∧ RWr G h (tt, tl, ta, x, A) g ∧ RWs G h (sm, smc, sA, sK, sV) g ∧ RWb G h (bm, bmc, bA, bK, bV) g := id hW
  have hI := hV.W
  have hg08 := hI.2.1
  refine V_aload_n (i := 0) F dX1_stopCount_0 rfl rfl ?_
  refine V_iload_n (i := 1) F dX1_stopCount_1 rfl rfl ?_
  refine V_xcV (st := []) (nn := 1) F dX1_stopCount_2 lk_X1_150 (ct_X1_trainWith hl0 hx hW hV) ⟨1, _, _, _, rfl, .inl hx⟩ rfl rfl (Nat.le_of_ble_eq_true rfl) (Nat.le_of_ble_eq_true rfl) (Nat.le_of_ble_eq_true rfl) (by omega) (by omega) ?_ ?_
  · rintro _ _ ⟨t, ht, rfl, rfl, rfl⟩
    have hTx := hWr.2.2 t ht
    have hT6 := hI.t6 ht
    have htn : tn (nI t) = t := tn_nI (by omega)
    have hiR : iR (nI t) (g 1) := (iR_nI (by omega)).mpr ht
    have hS8 := (hI.2.2.2.2.2.1 t ht).2
    obtain ⟨hTx0, f, hTA, e0, e1, e2, e3, e4⟩ := id hTx
    refine V_getn F dX1_stopCount_5 fc_X1_194_X5 (.inl hTx0) rfl ?_
    exact VV.rx (V_iret F dX1_stopCount_8 rfl (by first | exact Nat.le_of_ble_eq_true rfl | omega) (by first | exact Nat.le_of_ble_eq_true rfl | omega) ⟨hiR, by rw [htn], rfl⟩)
  · exact fun E q h2 hp => V_xout F (HT _) (by omega) (by omega) (XF.of Fr.rf hp (fun hc => hc))
theorem ct_X1_capacity {G : GG} {l : Launch} {h : AH} {r ti tia : Nat} {tf : Nat → Nat} {tt tl ta : Nat} {x : Nat → Nat} {A : Nat → Nat → Nat} {sm smc : Nat} {sA sK sV : Nat → Nat} {bm bmc : Nat} {bA bK bV : Nat → Nat} {g : Nat → Nat} {xo hl sb o n : Nat} {so : Option Nat} {ep fc : Int32} {p : Int32}  (hl0 : l.stackTraces = false) (hx : h xo = some (.inr (1, [.ref r, va_rf so, .ref hl, .ref sb, .int ep, .int fc, .ref o]))) (hW : RW G h r ((ti, tia, tf), (tt, tl, ta, x, A), (sm, smc, sA, sK, sV), (bm, bmc, bA, bK, bV)) g) (hV : INV n g)  : CtX G l yX1_capacity cX1_capacity 2 (some .int) 8 (1) (6) [.ref xo, .int p] h (fun r0 h2 => iR p (g 1) ∧ r0 = some (.int (nI (g (16 + 36 * tn p + 0)))) ∧ h = h2) (XF h (fun E => ¬ iR p (g 1) ∧ E = eIX)) := by
  refine CtX.of (by decide) (Nat.le_of_ble_eq_true rfl) (cat1 rfl) (fun X hXl F HT => ?_)
  subst hXl
  obtain ⟨hr, hWt, hWr, hWs, hWb⟩ : h r = some (.inr (2, [.ref ti, .ref tt, .ref sm, .ref bm, .int (nI (g 4)), .int (nI (g 5)), .int (nI (g 6)), .int (nI (g 7))])) ∧ RWt G h (ti, tia, tf) g ∧ RWr G h (tt, tl, ta, x, A) g ∧ RWs G h (sm, smc, sA, sK, sV) g ∧ RWb G h (bm, bmc, bA, bK, bV) g := id hW
  have hI := hV.W
  have hg08 := hI.2.1
  refine V_aload_n (i := 0) F dX1_capacity_0 rfl rfl ?_
  refine V_iload_n (i := 1) F dX1_capacity_1 rfl rfl ?_
  refine V_xcV (st := []) (nn := 1) F dX1_capacity_2 lk_X1_150 (ct_X1_trainWith hl0 hx hW hV) ⟨1, _, _, _, rfl, .inl hx⟩ rfl rfl (Nat.le_of_ble_eq_true rfl) (Nat.le_of_ble_eq_true rfl) (Nat.le_of_ble_eq_true rfl) (by omega) (by omega) ?_ ?_
  · rintro _ _ ⟨t, ht, rfl, rfl, rfl⟩
    have hTx := hWr.2.2 t ht
    have hT6 := hI.t6 ht
    have htn : tn (nI t) = t := tn_nI (by omega)
    have hiR : iR (nI t) (g 1) := (iR_nI (by omega)).mpr ht
    have hS8 := (hI.2.2.2.2.2.1 t ht).2
    obtain ⟨hTx0, f, hTA, e0, e1, e2, e3, e4⟩ := id hTx
    refine V_getn F dX1_capacity_5 fc_X1_211_X5 (.inl hTx0) rfl ?_
    exact VV.rx (V_iret F dX1_capacity_8 rfl (by first | exact Nat.le_of_ble_eq_true rfl | omega) (by first | exact Nat.le_of_ble_eq_true rfl | omega) ⟨hiR, by rw [htn], rfl⟩)
  · exact fun E q h2 hp => V_xout F (HT _) (by omega) (by omega) (XF.of Fr.rf hp (fun hc => hc))
theorem ct_X1_delayOf {G : GG} {l : Launch} {h : AH} {r ti tia : Nat} {tf : Nat → Nat} {tt tl ta : Nat} {x : Nat → Nat} {A : Nat → Nat → Nat} {sm smc : Nat} {sA sK sV : Nat → Nat} {bm bmc : Nat} {bA bK bV : Nat → Nat} {g : Nat → Nat} {xo hl sb o n : Nat} {so : Option Nat} {ep fc : Int32} {p : Int32}  (hl0 : l.stackTraces = false) (hx : h xo = some (.inr (1, [.ref r, va_rf so, .ref hl, .ref sb, .int ep, .int fc, .ref o]))) (hW : RW G h r ((ti, tia, tf), (tt, tl, ta, x, A), (sm, smc, sA, sK, sV), (bm, bmc, bA, bK, bV)) g) (hV : INV n g)  : CtX G l yX1_delayOf cX1_delayOf 2 (some .int) 8 (1) (6) [.ref xo, .int p] h (fun r0 h2 => iR p (g 1) ∧ r0 = some (.int (nI (g (16 + 36 * tn p + 2)))) ∧ h = h2) (XF h (fun E => ¬ iR p (g 1) ∧ E = eIX)) := by
  refine CtX.of (by decide) (Nat.le_of_ble_eq_true rfl) (cat1 rfl) (fun X hXl F HT => ?_)
  subst hXl
  obtain ⟨hr, hWt, hWr, hWs, hWb⟩ : h r = some (.inr (2, [.ref ti, .ref tt, .ref sm, .ref bm, .int (nI (g 4)), .int (nI (g 5)), .int (nI (g 6)), .int (nI (g 7))])) ∧ RWt G h (ti, tia, tf) g ∧ RWr G h (tt, tl, ta, x, A) g ∧ RWs G h (sm, smc, sA, sK, sV) g ∧ RWb G h (bm, bmc, bA, bK, bV) g := id hW
  have hI := hV.W
  have hg08 := hI.2.1
  refine V_aload_n (i := 0) F dX1_delayOf_0 rfl rfl ?_
  refine V_iload_n (i := 1) F dX1_delayOf_1 rfl rfl ?_
  refine V_xcV (st := []) (nn := 1) F dX1_delayOf_2 lk_X1_150 (ct_X1_trainWith hl0 hx hW hV) ⟨1, _, _, _, rfl, .inl hx⟩ rfl rfl (Nat.le_of_ble_eq_true rfl) (Nat.le_of_ble_eq_true rfl) (Nat.le_of_ble_eq_true rfl) (by omega) (by omega) ?_ ?_
  · rintro _ _ ⟨t, ht, rfl, rfl, rfl⟩
    have hTx := hWr.2.2 t ht
    have hT6 := hI.t6 ht
    have htn : tn (nI t) = t := tn_nI (by omega)
    have hiR : iR (nI t) (g 1) := (iR_nI (by omega)).mpr ht
    have hS8 := (hI.2.2.2.2.2.1 t ht).2
    obtain ⟨hTx0, f, hTA, e0, e1, e2, e3, e4⟩ := id hTx
    refine V_getn F dX1_delayOf_5 fc_X1_214_X5 (.inl hTx0) rfl ?_
    exact VV.rx (V_iret F dX1_delayOf_8 rfl (by first | exact Nat.le_of_ble_eq_true rfl | omega) (by first | exact Nat.le_of_ble_eq_true rfl | omega) ⟨hiR, by rw [htn], rfl⟩)
  · exact fun E q h2 hp => V_xout F (HT _) (by omega) (by omega) (XF.of Fr.rf hp (fun hc => hc))
theorem ct_X1_stationAt {G : GG} {l : Launch} {h : AH} {r ti tia : Nat} {tf : Nat → Nat} {tt tl ta : Nat} {x : Nat → Nat} {A : Nat → Nat → Nat} {sm smc : Nat} {sA sK sV : Nat → Nat} {bm bmc : Nat} {bA bK bV : Nat → Nat} {g : Nat → Nat} {xo hl sb o n : Nat} {so : Option Nat} {ep fc : Int32} {p q0 : Int32}  (hl0 : l.stackTraces = false) (hx : h xo = some (.inr (1, [.ref r, va_rf so, .ref hl, .ref sb, .int ep, .int fc, .ref o]))) (hW : RW G h r ((ti, tia, tf), (tt, tl, ta, x, A), (sm, smc, sA, sK, sV), (bm, bmc, bA, bK, bV)) g) (hV : INV n g)  : CtX G l yX1_stationAt cX1_stationAt 3 (some .int) 9 (4) (24) [.ref xo, .int p, .int q0] h (fun r0 h2 => (iR p (g 1) ∧ iR q0 (g (16 + 36 * tn p + 3))) ∧ r0 = some (.int (nI (plG g (tn p) (tn q0)))) ∧ h = h2) (XF h (fun E => ¬ (iR p (g 1) ∧ iR q0 (g (16 + 36 * tn p + 3))) ∧ E = eIX)) := by
  refine CtX.of (by decide) (Nat.le_of_ble_eq_true rfl) (cat1 rfl) (fun X hXl F HT => ?_)
  subst hXl
  obtain ⟨hr, hWt, hWr, hWs, hWb⟩ : h r = some (.inr (2, [.ref ti, .ref tt, .ref sm, .ref bm, .int (nI (g 4)), .int (nI (g 5)), .int (nI (g 6)), .int (nI (g 7))])) ∧ RWt G h (ti, tia, tf) g ∧ RWr G h (tt, tl, ta, x, A) g ∧ RWs G h (sm, smc, sA, sK, sV) g ∧ RWb G h (bm, bmc, bA, bK, bV) g := id hW
  have hI := hV.W
  have hg08 := hI.2.1
  refine V_aload_n (i := 0) F dX1_stationAt_0 rfl rfl ?_
  refine V_iload_n (i := 1) F dX1_stationAt_1 rfl rfl ?_
  refine V_iload_n (i := 2) F dX1_stationAt_2 rfl rfl ?_
  refine V_xcV (st := []) (nn := 2) F dX1_stationAt_3 lk_X1_197 (ct_X1_trainWithStop hl0 hx hW hV) ⟨1, _, _, _, rfl, .inl hx⟩ rfl rfl (Nat.le_of_ble_eq_true rfl) (Nat.le_of_ble_eq_true rfl) (Nat.le_of_ble_eq_true rfl) (by omega) (by omega) ?_ ?_
  · rintro _ _ ⟨t, k, ht, rfl, hk, rfl, rfl, rfl⟩
    have hTx := hWr.2.2 t ht
    have hT6 := hI.t6 ht
    have htn : tn (nI t) = t := tn_nI (by omega)
    have hiR : iR (nI t) (g 1) := (iR_nI (by omega)).mpr ht
    have hS8 := (hI.2.2.2.2.2.1 t ht).2
    have hkn : tn (nI k) = k := tn_nI (by omega)
    have hiK : iR (nI k) (g (16 + 36 * tn (nI t) + 3)) := by rw [htn]; exact (iR_nI (by omega)).mpr hk
    obtain ⟨hTx0, f, hTA, e0, e1, e2, e3, e4⟩ := id hTx
    refine V_getn F dX1_stationAt_6 fc_X1_201_X5 (.inl hTx0) rfl ?_
    refine V_iload_n (i := 2) F dX1_stationAt_9 rfl rfl ?_
    refine V_ialdG F dX1_stationAt_10 (.inl (hTA 0 (by decide))) (by omega) (by decide) (e0 k hk) ?_
    exact VV.rx (V_iret F dX1_stationAt_11 rfl (by first | exact Nat.le_of_ble_eq_true rfl | omega) (by first | exact Nat.le_of_ble_eq_true rfl | omega) ⟨⟨hiR, hiK⟩, by rw [htn, hkn], rfl⟩)
  · exact fun E q h2 hp => V_xout F (HT _) (by omega) (by omega) (XF.of Fr.rf hp (fun hc => hc))
theorem ct_X1_arrivalAt {G : GG} {l : Launch} {h : AH} {r ti tia : Nat} {tf : Nat → Nat} {tt tl ta : Nat} {x : Nat → Nat} {A : Nat → Nat → Nat} {sm smc : Nat} {sA sK sV : Nat → Nat} {bm bmc : Nat} {bA bK bV : Nat → Nat} {g : Nat → Nat} {xo hl sb o n : Nat} {so : Option Nat} {ep fc : Int32} {p q0 : Int32}  (hl0 : l.stackTraces = false) (hx : h xo = some (.inr (1, [.ref r, va_rf so, .ref hl, .ref sb, .int ep, .int fc, .ref o]))) (hW : RW G h r ((ti, tia, tf), (tt, tl, ta, x, A), (sm, smc, sA, sK, sV), (bm, bmc, bA, bK, bV)) g) (hV : INV n g)  : CtX G l yX1_arrivalAt cX1_arrivalAt 4 (some .int) 9 (4) (24) [.ref xo, .int p, .int q0] h (fun r0 h2 => (iR p (g 1) ∧ iR q0 (g (16 + 36 * tn p + 3))) ∧ tn q0 ≠ 0 ∧ r0 = some (.int (nI (CmG g (tn p) (tn q0)))) ∧ h = h2) (XF h (fun E => (¬ (iR p (g 1) ∧ iR q0 (g (16 + 36 * tn p + 3))) ∧ E = eIX) ∨ ((iR p (g 1) ∧ iR q0 (g (16 + 36 * tn p + 3))) ∧ tn q0 = 0 ∧ E = eEL))) := by
  refine CtX.of (by decide) (Nat.le_of_ble_eq_true rfl) (cat1 rfl) (fun X hXl F HT => ?_)
  subst hXl
  obtain ⟨hr, hWt, hWr, hWs, hWb⟩ : h r = some (.inr (2, [.ref ti, .ref tt, .ref sm, .ref bm, .int (nI (g 4)), .int (nI (g 5)), .int (nI (g 6)), .int (nI (g 7))])) ∧ RWt G h (ti, tia, tf) g ∧ RWr G h (tt, tl, ta, x, A) g ∧ RWs G h (sm, smc, sA, sK, sV) g ∧ RWb G h (bm, bmc, bA, bK, bV) g := id hW
  have hI := hV.W
  have hg08 := hI.2.1
  refine V_aload_n (i := 0) F dX1_arrivalAt_0 rfl rfl ?_
  refine V_iload_n (i := 1) F dX1_arrivalAt_1 rfl rfl ?_
  refine V_iload_n (i := 2) F dX1_arrivalAt_2 rfl rfl ?_
  refine V_xcV (st := []) (nn := 2) F dX1_arrivalAt_3 lk_X1_197 (ct_X1_trainWithStop hl0 hx hW hV) ⟨1, _, _, _, rfl, .inl hx⟩ rfl rfl (Nat.le_of_ble_eq_true rfl) (Nat.le_of_ble_eq_true rfl) (Nat.le_of_ble_eq_true rfl) (by omega) (by omega) ?_ ?_
  · rintro _ _ ⟨t, k, ht, rfl, hk, rfl, rfl, rfl⟩
    have hTx := hWr.2.2 t ht
    have hT6 := hI.t6 ht
    have htn : tn (nI t) = t := tn_nI (by omega)
    have hiR : iR (nI t) (g 1) := (iR_nI (by omega)).mpr ht
    have hS8 := (hI.2.2.2.2.2.1 t ht).2
    have hkn : tn (nI k) = k := tn_nI (by omega)
    have hiK : iR (nI k) (g (16 + 36 * tn (nI t) + 3)) := by rw [htn]; exact (iR_nI (by omega)).mpr hk
    refine V_astore_n (i := 3) F dX1_arrivalAt_6 rfl (Nat.le_of_ble_eq_true rfl) (Nat.le_of_ble_eq_true rfl) ?_
    refine V_iload_n (i := 2) F dX1_arrivalAt_7 rfl rfl ?_
    refine V_if_leN (tgt := 15) F dX1_arrivalAt_8 (by decide) (by omega) (fun c_8 => ?_) (fun c_8 => ?_)
    · have hz : k = 0 := by omega
      refine V_iconst (v := nI 0) F dX1_arrivalAt_15 rfl ?_
      refine V_xcS (st := []) (nn := 1) F dX1_arrivalAt_16 lk_X1_119 (ct_X1_checkElement hl0) rfl rfl (Nat.le_of_ble_eq_true rfl) (Nat.le_of_ble_eq_true rfl) (Nat.le_of_ble_eq_true rfl) (by omega) (by omega) ?_ ?_
      · rintro _ _ ⟨rfl, rfl, hd⟩
        exact absurd rfl hd
      · exact fun E q h2 hp => V_xout F (HT _) (by omega) (by omega) (XF.of Fr.rf hp (fun hc => Or.inr ⟨⟨hiR, hiK⟩, by rw [hkn]; exact hz, hc.2⟩))
    · have hz : 0 < k := by omega
      refine V_iconst (v := nI 1) F dX1_arrivalAt_11 rfl ?_
      refine V_goto (tgt := 16) F dX1_arrivalAt_12 (by decide) ?_
      refine V_xcS (st := []) (nn := 1) F dX1_arrivalAt_16 lk_X1_119 (ct_X1_checkElement hl0) rfl rfl (Nat.le_of_ble_eq_true rfl) (Nat.le_of_ble_eq_true rfl) (Nat.le_of_ble_eq_true rfl) (by omega) (by omega) ?_ ?_
      · rintro _ _ ⟨rfl, rfl, hd⟩
        refine V_aload_n (i := 3) F dX1_arrivalAt_19 rfl rfl ?_
        refine V_iload_n (i := 2) F dX1_arrivalAt_20 rfl rfl ?_
        refine V_callV (st := []) (nn := 1) F dX1_arrivalAt_21 lk_X1_205 (ct_TR_arrival hTx hS8 hz hk) ⟨4, _, _, _, rfl, .inl hTx.1⟩ rfl rfl (Nat.le_of_ble_eq_true rfl) (Nat.le_of_ble_eq_true rfl) (Nat.le_of_ble_eq_true rfl) (by omega) (by omega) ?_
        refine PRk ?_
        exact VV.rx (V_iret F dX1_arrivalAt_24 rfl (by first | exact Nat.le_of_ble_eq_true rfl | omega) (by first | exact Nat.le_of_ble_eq_true rfl | omega) ⟨⟨hiR, hiK⟩, by rw [hkn]; omega, by rw [htn, hkn], rfl⟩)
      · exact fun E q h2 hp => absurd hp.1.1 (by decide)
  · exact fun E q h2 hp => V_xout F (HT _) (by omega) (by omega) (XF.of Fr.rf hp (fun hc => Or.inl hc))
theorem ct_X1_departureAt {G : GG} {l : Launch} {h : AH} {r ti tia : Nat} {tf : Nat → Nat} {tt tl ta : Nat} {x : Nat → Nat} {A : Nat → Nat → Nat} {sm smc : Nat} {sA sK sV : Nat → Nat} {bm bmc : Nat} {bA bK bV : Nat → Nat} {g : Nat → Nat} {xo hl sb o n : Nat} {so : Option Nat} {ep fc : Int32} {p q0 : Int32}  (hl0 : l.stackTraces = false) (hx : h xo = some (.inr (1, [.ref r, va_rf so, .ref hl, .ref sb, .int ep, .int fc, .ref o]))) (hW : RW G h r ((ti, tia, tf), (tt, tl, ta, x, A), (sm, smc, sA, sK, sV), (bm, bmc, bA, bK, bV)) g) (hV : INV n g)  : CtX G l yX1_departureAt cX1_departureAt 4 (some .int) 9 (4) (24) [.ref xo, .int p, .int q0] h (fun r0 h2 => (iR p (g 1) ∧ iR q0 (g (16 + 36 * tn p + 3))) ∧ tn q0 ≠ g (16 + 36 * tn p + 3) - 1 ∧ r0 = some (.int (nI (LvG g (tn p) (tn q0)))) ∧ h = h2) (XF h (fun E => (¬ (iR p (g 1) ∧ iR q0 (g (16 + 36 * tn p + 3))) ∧ E = eIX) ∨ ((iR p (g 1) ∧ iR q0 (g (16 + 36 * tn p + 3))) ∧ tn q0 = g (16 + 36 * tn p + 3) - 1 ∧ E = eEL))) := by
  refine CtX.of (by decide) (Nat.le_of_ble_eq_true rfl) (cat1 rfl) (fun X hXl F HT => ?_)
  subst hXl
  obtain ⟨hr, hWt, hWr, hWs, hWb⟩ : h r = some (.inr (2, [.ref ti, .ref tt, .ref sm, .ref bm, .int (nI (g 4)), .int (nI (g 5)), .int (nI (g 6)), .int (nI (g 7))])) ∧ RWt G h (ti, tia, tf) g ∧ RWr G h (tt, tl, ta, x, A) g ∧ RWs G h (sm, smc, sA, sK, sV) g ∧ RWb G h (bm, bmc, bA, bK, bV) g := id hW
  have hI := hV.W
  have hg08 := hI.2.1
  refine V_aload_n (i := 0) F dX1_departureAt_0 rfl rfl ?_
  refine V_iload_n (i := 1) F dX1_departureAt_1 rfl rfl ?_
  refine V_iload_n (i := 2) F dX1_departureAt_2 rfl rfl ?_
  refine V_xcV (st := []) (nn := 2) F dX1_departureAt_3 lk_X1_197 (ct_X1_trainWithStop hl0 hx hW hV) ⟨1, _, _, _, rfl, .inl hx⟩ rfl rfl (Nat.le_of_ble_eq_true rfl) (Nat.le_of_ble_eq_true rfl) (Nat.le_of_ble_eq_true rfl) (by omega) (by omega) ?_ ?_
  · rintro _ _ ⟨t, k, ht, rfl, hk, rfl, rfl, rfl⟩
    have hTx := hWr.2.2 t ht
    have hT6 := hI.t6 ht
    have htn : tn (nI t) = t := tn_nI (by omega)
    have hiR : iR (nI t) (g 1) := (iR_nI (by omega)).mpr ht
    have hS8 := (hI.2.2.2.2.2.1 t ht).2
    have hkn : tn (nI k) = k := tn_nI (by omega)
    have hiK : iR (nI k) (g (16 + 36 * tn (nI t) + 3)) := by rw [htn]; exact (iR_nI (by omega)).mpr hk
    refine V_astore_n (i := 3) F dX1_departureAt_6 rfl (Nat.le_of_ble_eq_true rfl) (Nat.le_of_ble_eq_true rfl) ?_
    refine V_aload_n (i := 3) F dX1_departureAt_7 rfl rfl ?_
    refine V_iload_n (i := 2) F dX1_departureAt_8 rfl rfl ?_
    refine V_callV (st := []) (nn := 1) F dX1_departureAt_9 lk_X1_158 (ct_TR_hasLeg hTx (by omega)) ⟨4, _, _, _, rfl, .inl hTx.1⟩ rfl rfl (Nat.le_of_ble_eq_true rfl) (Nat.le_of_ble_eq_true rfl) (Nat.le_of_ble_eq_true rfl) (by omega) (by omega) ?_
    refine PRk ?_
    refine V_xcS (st := []) (nn := 1) F dX1_departureAt_12 lk_X1_119 (ct_X1_checkElement hl0) rfl rfl (Nat.le_of_ble_eq_true rfl) (Nat.le_of_ble_eq_true rfl) (Nat.le_of_ble_eq_true rfl) (by omega) (by omega) ?_ ?_
    · rintro _ _ ⟨rfl, rfl, hd⟩
      have hP_12 : iR (nI k) (g (16 + 36 * t + 3) - 1) := b2_nz hd
      refine V_aload_n (i := 3) F dX1_departureAt_15 rfl rfl ?_
      refine V_iload_n (i := 2) F dX1_departureAt_16 rfl rfl ?_
      refine V_callV (st := []) (nn := 1) F dX1_departureAt_17 lk_X1_208 (ct_TR_departure hTx hS8 hk) ⟨4, _, _, _, rfl, .inl hTx.1⟩ rfl rfl (Nat.le_of_ble_eq_true rfl) (Nat.le_of_ble_eq_true rfl) (Nat.le_of_ble_eq_true rfl) (by omega) (by omega) ?_
      refine PRk ?_
      exact VV.rx (V_iret F dX1_departureAt_20 rfl (by first | exact Nat.le_of_ble_eq_true rfl | omega) (by first | exact Nat.le_of_ble_eq_true rfl | omega) ⟨⟨hiR, hiK⟩, by rw [htn, hkn]; have := (iR_nI (by omega)).mp hP_12; omega, by rw [htn, hkn], rfl⟩)
    · exact fun E q h2 hp => V_xout F (HT _) (by omega) (by omega) (XF.of Fr.rf hp (fun hc => Or.inr ⟨⟨hiR, hiK⟩, by rw [htn, hkn]; have := b2_z hc.1; rw [iR_nI (by omega)] at this; omega, hc.2⟩))
  · exact fun E q h2 hp => V_xout F (HT _) (by omega) (by omega) (XF.of Fr.rf hp (fun hc => Or.inl hc))
theorem ct_X1_load {G : GG} {l : Launch} {h : AH} {r ti tia : Nat} {tf : Nat → Nat} {tt tl ta : Nat} {x : Nat → Nat} {A : Nat → Nat → Nat} {sm smc : Nat} {sA sK sV : Nat → Nat} {bm bmc : Nat} {bA bK bV : Nat → Nat} {g : Nat → Nat} {xo hl sb o n : Nat} {so : Option Nat} {ep fc : Int32} {p q0 : Int32}  (hl0 : l.stackTraces = false) (hx : h xo = some (.inr (1, [.ref r, va_rf so, .ref hl, .ref sb, .int ep, .int fc, .ref o]))) (hW : RW G h r ((ti, tia, tf), (tt, tl, ta, x, A), (sm, smc, sA, sK, sV), (bm, bmc, bA, bK, bV)) g) (hV : INV n g)  : CtX G l yX1_load cX1_load 3 (some .int) 9 (4) (24) [.ref xo, .int p, .int q0] h (fun r0 h2 => (iR p (g 1) ∧ iR q0 (g (16 + 36 * tn p + 3) - 1)) ∧ r0 = some (.int (nI (ldG g (tn p) (tn q0)))) ∧ h = h2) (XF h (fun E => ¬ (iR p (g 1) ∧ iR q0 (g (16 + 36 * tn p + 3) - 1)) ∧ E = eIX)) := by
  refine CtX.of (by decide) (Nat.le_of_ble_eq_true rfl) (cat1 rfl) (fun X hXl F HT => ?_)
  subst hXl
  obtain ⟨hr, hWt, hWr, hWs, hWb⟩ : h r = some (.inr (2, [.ref ti, .ref tt, .ref sm, .ref bm, .int (nI (g 4)), .int (nI (g 5)), .int (nI (g 6)), .int (nI (g 7))])) ∧ RWt G h (ti, tia, tf) g ∧ RWr G h (tt, tl, ta, x, A) g ∧ RWs G h (sm, smc, sA, sK, sV) g ∧ RWb G h (bm, bmc, bA, bK, bV) g := id hW
  have hI := hV.W
  have hg08 := hI.2.1
  refine V_aload_n (i := 0) F dX1_load_0 rfl rfl ?_
  refine V_iload_n (i := 1) F dX1_load_1 rfl rfl ?_
  refine V_iload_n (i := 2) F dX1_load_2 rfl rfl ?_
  refine V_xcV (st := []) (nn := 2) F dX1_load_3 lk_X1_217 (ct_X1_trainWithLeg hl0 hx hW hV) ⟨1, _, _, _, rfl, .inl hx⟩ rfl rfl (Nat.le_of_ble_eq_true rfl) (Nat.le_of_ble_eq_true rfl) (Nat.le_of_ble_eq_true rfl) (by omega) (by omega) ?_ ?_
  · rintro _ _ ⟨t, k, ht, rfl, hk, rfl, rfl, rfl⟩
    have hTx := hWr.2.2 t ht
    have hT6 := hI.t6 ht
    have htn : tn (nI t) = t := tn_nI (by omega)
    have hiR : iR (nI t) (g 1) := (iR_nI (by omega)).mpr ht
    have hS8 := (hI.2.2.2.2.2.1 t ht).2
    have hkn : tn (nI k) = k := tn_nI (by omega)
    have hiK : iR (nI k) (g (16 + 36 * tn (nI t) + 3) - 1) := by rw [htn]; exact (iR_nI (by omega)).mpr hk
    refine V_iload_n (i := 2) F dX1_load_6 rfl rfl ?_
    refine V_callV (st := []) (nn := 1) F dX1_load_7 lk_X1_220 (ct_TR_load hTx (by omega)) ⟨4, _, _, _, rfl, .inl hTx.1⟩ rfl rfl (Nat.le_of_ble_eq_true rfl) (Nat.le_of_ble_eq_true rfl) (Nat.le_of_ble_eq_true rfl) (by omega) (by omega) ?_
    refine PRk ?_
    exact VV.rx (V_iret F dX1_load_10 rfl (by first | exact Nat.le_of_ble_eq_true rfl | omega) (by first | exact Nat.le_of_ble_eq_true rfl | omega) ⟨⟨hiR, hiK⟩, by rw [htn, hkn], rfl⟩)
  · exact fun E q h2 hp => V_xout F (HT _) (by omega) (by omega) (XF.of Fr.rf hp (fun hc => hc))
theorem ct_X1_isFull {G : GG} {l : Launch} {h : AH} {r ti tia : Nat} {tf : Nat → Nat} {tt tl ta : Nat} {x : Nat → Nat} {A : Nat → Nat → Nat} {sm smc : Nat} {sA sK sV : Nat → Nat} {bm bmc : Nat} {bA bK bV : Nat → Nat} {g : Nat → Nat} {xo hl sb o n : Nat} {so : Option Nat} {ep fc : Int32} {p q0 : Int32}  (hl0 : l.stackTraces = false) (hx : h xo = some (.inr (1, [.ref r, va_rf so, .ref hl, .ref sb, .int ep, .int fc, .ref o]))) (hW : RW G h r ((ti, tia, tf), (tt, tl, ta, x, A), (sm, smc, sA, sK, sV), (bm, bmc, bA, bK, bV)) g) (hV : INV n g)  : CtX G l yX1_isFull cX1_isFull 3 (some .boolean) 9 (4) (24) [.ref xo, .int p, .int q0] h (fun r0 h2 => (iR p (g 1) ∧ iR q0 (g (16 + 36 * tn p + 3) - 1)) ∧ r0 = some (.int (b2 (ldG g (tn p) (tn q0) = g (16 + 36 * tn p + 0)))) ∧ h = h2) (XF h (fun E => ¬ (iR p (g 1) ∧ iR q0 (g (16 + 36 * tn p + 3) - 1)) ∧ E = eIX)) := by
  refine CtX.of (by decide) (Nat.le_of_ble_eq_true rfl) (cat1 rfl) (fun X hXl F HT => ?_)
  subst hXl
  obtain ⟨hr, hWt, hWr, hWs, hWb⟩ : h r = some (.inr (2, [.ref ti, .ref tt, .ref sm, .ref bm, .int (nI (g 4)), .int (nI (g 5)), .int (nI (g 6)), .int (nI (g 7))])) ∧ RWt G h (ti, tia, tf) g ∧ RWr G h (tt, tl, ta, x, A) g ∧ RWs G h (sm, smc, sA, sK, sV) g ∧ RWb G h (bm, bmc, bA, bK, bV) g := id hW
  have hI := hV.W
  have hg08 := hI.2.1
  refine V_aload_n (i := 0) F dX1_isFull_0 rfl rfl ?_
  refine V_iload_n (i := 1) F dX1_isFull_1 rfl rfl ?_
  refine V_iload_n (i := 2) F dX1_isFull_2 rfl rfl ?_
  refine V_xcV (st := []) (nn := 2) F dX1_isFull_3 lk_X1_217 (ct_X1_trainWithLeg hl0 hx hW hV) ⟨1, _, _, _, rfl, .inl hx⟩ rfl rfl (Nat.le_of_ble_eq_true rfl) (Nat.le_of_ble_eq_true rfl) (Nat.le_of_ble_eq_true rfl) (by omega) (by omega) ?_ ?_
  · rintro _ _ ⟨t, k, ht, rfl, hk, rfl, rfl, rfl⟩
    have hTx := hWr.2.2 t ht
    have hT6 := hI.t6 ht
    have htn : tn (nI t) = t := tn_nI (by omega)
    have hiR : iR (nI t) (g 1) := (iR_nI (by omega)).mpr ht
    have hS8 := (hI.2.2.2.2.2.1 t ht).2
    have hkn : tn (nI k) = k := tn_nI (by omega)
    have hiK : iR (nI k) (g (16 + 36 * tn (nI t) + 3) - 1) := by rw [htn]; exact (iR_nI (by omega)).mpr hk
    refine V_iload_n (i := 2) F dX1_isFull_6 rfl rfl ?_
    refine V_callV (st := []) (nn := 1) F dX1_isFull_7 lk_X1_223 (ct_TR_isFull hTx (by omega) hI.2.2.2.2.1 hI.b) ⟨4, _, _, _, rfl, .inl hTx.1⟩ rfl rfl (Nat.le_of_ble_eq_true rfl) (Nat.le_of_ble_eq_true rfl) (Nat.le_of_ble_eq_true rfl) (by omega) (by omega) ?_
    refine PRk ?_
    exact VV.rx (V_iret F dX1_isFull_10 nar_b2 (by first | exact Nat.le_of_ble_eq_true rfl | omega) (by first | exact Nat.le_of_ble_eq_true rfl | omega) ⟨⟨hiR, hiK⟩, by rw [htn, hkn], rfl⟩)
  · exact fun E q h2 hp => V_xout F (HT _) (by omega) (by omega) (XF.of Fr.rf hp (fun hc => hc))
