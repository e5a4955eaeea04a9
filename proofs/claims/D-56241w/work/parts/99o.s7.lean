theorem eI_iff {x : Nat} : (if x < 1000000 then nI x else (-1 : Int32)) = -1 ↔ ¬ x < 1000000 := by
  by_cases h : x < 1000000
  · rw [if_pos h]
    refine ⟨fun y => ?_, fun y => absurd h y⟩
    have h9 := congrArg Int32.toInt y
    rw [nI_toInt (by omega), show (-1 : Int32).toInt = -1 from rfl] at h9
    omega
  · rw [if_neg h]; exact ⟨fun _ => h, fun _ => rfl⟩
theorem nI_m1 {x : Nat} (h : x < 2 ^ 31) : nI x ≠ -1 := fun y => by
  have h9 := congrArg Int32.toInt y
  rw [nI_toInt h, show (-1 : Int32).toInt = -1 from rfl] at h9
  omega
/-- the boardings' rounds of the class -/
abbrev BWv (g : Nat → Nat) (a b v : Nat) : Nat × (Nat → Nat) := bwN g a b 49 0 (bgP a v (bgP a v (fun _ => 0) (g 0)) (g 0))
theorem ct_X1_journeys {G : GG} {l : Launch} {h : AH} {r ti tia : Nat} {tf : Nat → Nat} {tt tl ta : Nat} {x : Nat → Nat} {A : Nat → Nat → Nat} {sm smc : Nat} {sA sK sV : Nat → Nat} {bm bmc : Nat} {bA bK bV : Nat → Nat} {g : Nat → Nat} {xo hl sb o n : Nat} {so : Option Nat} {ep fc : Int32} {p q0 u : Int32}  (hl0 : l.stackTraces = false) (hx : h xo = some (.inr (1, [.ref r, va_rf so, .ref hl, .ref sb, .int ep, .int fc, .ref o]))) (hW : RW G h r ((ti, tia, tf), (tt, tl, ta, x, A), (sm, smc, sA, sK, sV), (bm, bmc, bA, bK, bV)) g) (hV : INV n g)  : CtX G l yX1_journeys cX1_journeys 4 (some (.object "SleeperRailway$Journeys")) 10 (160) (6110) [.ref xo, .int p, .int q0, .int u] h (fun r0 h2 => ∃ a b v j eA rA, (a < g 0 ∧ b < g 0 ∧ v ≤ 9999 ∧ p = nI a ∧ q0 = nI b ∧ u = nI v) ∧ r0 = some (.ref j) ∧ h j = none ∧ h eA = none ∧ h rA = none ∧ JS G h h2 j g a v eA rA (bgP a v (fun _ => 0) (g 0)) (fun _ => 0) ∧ Fr nM h h2) (XF h (fun E => (¬ (iR p (g 0) ∧ iR q0 (g 0)) ∧ E = eIX) ∨ ((iR p (g 0) ∧ iR q0 (g 0)) ∧ ¬ (nI 0 ≤ u ∧ u ≤ nI 9999) ∧ E = eAR))) := by
  refine CtX.of (by decide) (Nat.le_of_ble_eq_true rfl) (cat1 rfl) (fun X hXl F HT => ?_)
  subst hXl
  obtain ⟨hr, hWt, hWr, hWs, hWb⟩ : h r = some (.inr (2, [.ref ti, .ref tt, .ref sm, .ref bm, .int (nI (g 4)), .int (nI (g 5)), .int (nI (g 6)), .int (nI (g 7))])) ∧ RWt G h (ti, tia, tf) g ∧ RWr G h (tt, tl, ta, x, A) g ∧ RWs G h (sm, smc, sA, sK, sV) g ∧ RWb G h (bm, bmc, bA, bK, bV) g := id hW
  have hI := hV.W
  have hg08 := hI.2.1
  refine V_aload_n (i := 0) F dX1_journeys_0 rfl rfl ?_
  refine V_getf F dX1_journeys_1 fc_X1_44_X1 (.inl hx) rfl ?_
  refine V_iload_n (i := 1) F dX1_journeys_4 rfl rfl ?_
  refine V_callV (st := []) (nn := 1) F dX1_journeys_5 lk_X1_123 (ct_RW_hasStation hW hI) ⟨2, _, _, _, rfl, .inl hW.1⟩ rfl rfl (Nat.le_of_ble_eq_true rfl) (Nat.le_of_ble_eq_true rfl) (Nat.le_of_ble_eq_true rfl) (by omega) (by omega) ?_
  refine PRk ?_
  refine V_if_eqB (tgt := 26) F dX1_journeys_8 (by decide) (fun c_8 => ?_) (fun c_8 => ?_)
  · refine V_iconst (v := nI 0) F dX1_journeys_26 rfl ?_
    refine V_xcS (st := []) (nn := 1) F dX1_journeys_27 lk_X1_127 (ct_X1_checkIndex hl0) rfl rfl (Nat.le_of_ble_eq_true rfl) (Nat.le_of_ble_eq_true rfl) (Nat.le_of_ble_eq_true rfl) (by omega) (by omega) ?_ ?_
    · rintro _ _ ⟨rfl, rfl, hd⟩
      exact absurd rfl hd
    · exact fun E q h2 hp => V_xout F (HT _) (by omega) (by omega) (XF.of Fr.rf hp (fun hc => Or.inl ⟨by first | exact fun z => c_8 z.1 | exact fun z => c_19 z.2, hc.2⟩))
  · refine V_aload_n (i := 0) F dX1_journeys_11 rfl rfl ?_
    refine V_getf F dX1_journeys_12 fc_X1_44_X1 (.inl hx) rfl ?_
    refine V_iload_n (i := 2) F dX1_journeys_15 rfl rfl ?_
    refine V_callV (st := []) (nn := 1) F dX1_journeys_16 lk_X1_123 (ct_RW_hasStation hW hI) ⟨2, _, _, _, rfl, .inl hW.1⟩ rfl rfl (Nat.le_of_ble_eq_true rfl) (Nat.le_of_ble_eq_true rfl) (Nat.le_of_ble_eq_true rfl) (by omega) (by omega) ?_
    refine PRk ?_
    refine V_if_eqB (tgt := 26) F dX1_journeys_19 (by decide) (fun c_19 => ?_) (fun c_19 => ?_)
    · refine V_iconst (v := nI 0) F dX1_journeys_26 rfl ?_
      refine V_xcS (st := []) (nn := 1) F dX1_journeys_27 lk_X1_127 (ct_X1_checkIndex hl0) rfl rfl (Nat.le_of_ble_eq_true rfl) (Nat.le_of_ble_eq_true rfl) (Nat.le_of_ble_eq_true rfl) (by omega) (by omega) ?_ ?_
      · rintro _ _ ⟨rfl, rfl, hd⟩
        exact absurd rfl hd
      · exact fun E q h2 hp => V_xout F (HT _) (by omega) (by omega) (XF.of Fr.rf hp (fun hc => Or.inl ⟨by first | exact fun z => c_8 z.1 | exact fun z => c_19 z.2, hc.2⟩))
    · refine V_iconst (v := nI 1) F dX1_journeys_22 rfl ?_
      refine V_goto (tgt := 27) F dX1_journeys_23 (by decide) ?_
      refine V_xcS (st := []) (nn := 1) F dX1_journeys_27 lk_X1_127 (ct_X1_checkIndex hl0) rfl rfl (Nat.le_of_ble_eq_true rfl) (Nat.le_of_ble_eq_true rfl) (Nat.le_of_ble_eq_true rfl) (by omega) (by omega) ?_ ?_
      · rintro _ _ ⟨rfl, rfl, hd⟩
        refine V_iload_n (i := 3) F dX1_journeys_30 rfl rfl ?_
        refine V_xcS (st := []) (nn := 1) F dX1_journeys_31 lk_X1_180 (ct_X1_checkMinute hl0) rfl rfl (Nat.le_of_ble_eq_true rfl) (Nat.le_of_ble_eq_true rfl) (Nat.le_of_ble_eq_true rfl) (by omega) (by omega) ?_ ?_
        · rintro _ _ ⟨rfl, rfl, hP2⟩
          obtain ⟨v, hv, hv2, rfl⟩ := nI_rg hP2
          obtain ⟨a, ha, rfl⟩ := iR_of c_8 hI.b.lt
          obtain ⟨b, hb, rfl⟩ := iR_of c_19 hI.b.lt
          refine V_aload_n (i := 0) F dX1_journeys_34 rfl rfl ?_
          refine V_getf F dX1_journeys_35 fc_X1_44_X1 (.inl hx) rfl ?_
          refine V_iload_n (i := 1) F dX1_journeys_38 rfl rfl ?_
          refine V_iload_n (i := 3) F dX1_journeys_39 rfl rfl ?_
          refine V_callV (st := []) (nn := 2) F dX1_journeys_40 lk_X1_226 (ct_RW_journeys2 hW hI (by omega) hv) ⟨2, _, _, _, rfl, .inl hW.1⟩ rfl rfl (Nat.le_of_ble_eq_true rfl) (Nat.le_of_ble_eq_true rfl) (Nat.le_of_ble_eq_true rfl) (by omega) (by omega) ?_
          rintro _ h3 ⟨j, eA, rA, rfl, hj0, he0, hr0, hJ3, hx3⟩
          exact VV.rx (V_aret F dX1_journeys_43 (Or.inl ⟨_, rfl⟩) (Or.inr ⟨_, rfl⟩) (by first | exact Nat.le_of_ble_eq_true rfl | omega) (by first | exact Nat.le_of_ble_eq_true rfl | omega) ⟨a, b, v, j, eA, rA, ⟨ha, hb, hv, rfl, rfl, rfl⟩, rfl, hj0, he0, hr0, hJ3, hx3⟩)
        · exact fun E q h2 hp => V_xout F (HT _) (by omega) (by omega) (XF.of Fr.rf hp (fun hc => Or.inr ⟨⟨c_8, c_19⟩, hc⟩))
      · exact fun E q h2 hp => absurd hp.1.1 (by decide)
theorem ct_X1_canReach {G : GG} {l : Launch} {h : AH} {r ti tia : Nat} {tf : Nat → Nat} {tt tl ta : Nat} {x : Nat → Nat} {A : Nat → Nat → Nat} {sm smc : Nat} {sA sK sV : Nat → Nat} {bm bmc : Nat} {bA bK bV : Nat → Nat} {g : Nat → Nat} {xo hl sb o n : Nat} {so : Option Nat} {ep fc : Int32} {p q0 u : Int32}  (hl0 : l.stackTraces = false) (hx : h xo = some (.inr (1, [.ref r, va_rf so, .ref hl, .ref sb, .int ep, .int fc, .ref o]))) (hW : RW G h r ((ti, tia, tf), (tt, tl, ta, x, A), (sm, smc, sA, sK, sV), (bm, bmc, bA, bK, bV)) g) (hV : INV n g)  : CtX G l yX1_canReach cX1_canReach 4 (some .boolean) 12 (400) (13000) [.ref xo, .int p, .int q0, .int u] h (fun r0 h2 => ∃ a b v e R, (a < g 0 ∧ b < g 0 ∧ v ≤ 9999 ∧ p = nI a ∧ q0 = nI b ∧ u = nI v) ∧ ARR g a v e R ∧ r0 = some (.int (b2 (e b < 1000000))) ∧ Fr nM h h2) (XF h (fun E => (¬ (iR p (g 0) ∧ iR q0 (g 0)) ∧ E = eIX) ∨ ((iR p (g 0) ∧ iR q0 (g 0)) ∧ ¬ (nI 0 ≤ u ∧ u ≤ nI 9999) ∧ E = eAR))) := by
  refine CtX.of (by decide) (Nat.le_of_ble_eq_true rfl) (cat1 rfl) (fun X hXl F HT => ?_)
  subst hXl
  obtain ⟨hr, hWt, hWr, hWs, hWb⟩ : h r = some (.inr (2, [.ref ti, .ref tt, .ref sm, .ref bm, .int (nI (g 4)), .int (nI (g 5)), .int (nI (g 6)), .int (nI (g 7))])) ∧ RWt G h (ti, tia, tf) g ∧ RWr G h (tt, tl, ta, x, A) g ∧ RWs G h (sm, smc, sA, sK, sV) g ∧ RWb G h (bm, bmc, bA, bK, bV) g := id hW
  have hI := hV.W
  have hg08 := hI.2.1
  refine V_aload_n (i := 0) F dX1_canReach_0 rfl rfl ?_
  refine V_iload_n (i := 1) F dX1_canReach_1 rfl rfl ?_
  refine V_iload_n (i := 2) F dX1_canReach_2 rfl rfl ?_
  refine V_iload_n (i := 3) F dX1_canReach_3 rfl rfl ?_
  refine V_xcV (st := []) (nn := 3) F dX1_canReach_4 lk_X1_230 (ct_X1_journeys hl0 hx hW hV) ⟨1, _, _, _, rfl, .inl hx⟩ rfl rfl (Nat.le_of_ble_eq_true rfl) (Nat.le_of_ble_eq_true rfl) (Nat.le_of_ble_eq_true rfl) (by omega) (by omega) ?_ ?_
  · rintro _ h3 ⟨a, b, v, j, eA, rA, ⟨ha, hb, hv, rfl, rfl, rfl⟩, rfl, hj0, he0, hr0, hJ3, hx3⟩
    refine V_callV (st := []) (nn := 0) F dX1_canReach_7 lk_X1_233 (ct_J_searchA hJ3 hI hV.T hV.L (by omega) hv) hJ3.isC rfl rfl (Nat.le_of_ble_eq_true rfl) (Nat.le_of_ble_eq_true rfl) (Nat.le_of_ble_eq_true rfl) (by omega) (by omega) ?_
    rintro _ h4 ⟨e2, R2, hS4, rfl, hJ4, hx4⟩
    have hF4 : Fr nM h h4 := hx3.cal hx4 (Yo.m2 (Or.inr he0) (Or.inr hr0))
    have hAR := SRI.end_ hI hV.L hS4
    refine V_iload_n (i := 2) F dX1_canReach_10 rfl rfl ?_
    refine V_callV (st := []) (nn := 1) F dX1_canReach_11 lk_X1_239 (ct_J_earl hJ4 hb (by omega)) hJ4.isC rfl rfl (Nat.le_of_ble_eq_true rfl) (Nat.le_of_ble_eq_true rfl) (Nat.le_of_ble_eq_true rfl) (by omega) (by omega) ?_
    refine PRk ?_
    refine V_iconst (v := -1) F dX1_canReach_14 rfl ?_
    refine V_icmp_eq (tgt := 22) F dX1_canReach_15 (by decide) (fun c_15 => ?_) (fun c_15 => ?_)
    · refine V_iconst (v := nI 0) F dX1_canReach_22 rfl ?_
      exact VV.rx (V_iret F dX1_canReach_23 rfl (by first | exact Nat.le_of_ble_eq_true rfl | omega) (by first | exact Nat.le_of_ble_eq_true rfl | omega) ⟨a, b, v, e2, R2, ⟨ha, hb, hv, rfl, rfl, rfl⟩, hAR, by rw [b2_f (eI_iff.mp c_15)] <;> rfl, hF4⟩)
    · refine V_iconst (v := nI 1) F dX1_canReach_18 rfl ?_
      refine V_goto (tgt := 23) F dX1_canReach_19 (by decide) ?_
      exact VV.rx (V_iret F dX1_canReach_23 rfl (by first | exact Nat.le_of_ble_eq_true rfl | omega) (by first | exact Nat.le_of_ble_eq_true rfl | omega) ⟨a, b, v, e2, R2, ⟨ha, hb, hv, rfl, rfl, rfl⟩, hAR, by rw [b2_t (Decidable.not_not.mp (fun z => c_15 (eI_iff.mpr z)))] <;> rfl, hF4⟩)
  · exact fun E q h2 hp => V_xout F (HT _) (by omega) (by omega) (XF.of Fr.rf hp (fun hc => hc))
theorem ct_X1_arrival {G : GG} {l : Launch} {h : AH} {r ti tia : Nat} {tf : Nat → Nat} {tt tl ta : Nat} {x : Nat → Nat} {A : Nat → Nat → Nat} {sm smc : Nat} {sA sK sV : Nat → Nat} {bm bmc : Nat} {bA bK bV : Nat → Nat} {g : Nat → Nat} {xo hl sb o n : Nat} {so : Option Nat} {ep fc : Int32} {p q0 u : Int32}  (hl0 : l.stackTraces = false) (hx : h xo = some (.inr (1, [.ref r, va_rf so, .ref hl, .ref sb, .int ep, .int fc, .ref o]))) (hW : RW G h r ((ti, tia, tf), (tt, tl, ta, x, A), (sm, smc, sA, sK, sV), (bm, bmc, bA, bK, bV)) g) (hV : INV n g)  : CtX G l yX1_arrival cX1_arrival 4 (some .int) 12 (400) (13000) [.ref xo, .int p, .int q0, .int u] h (fun r0 h2 => ∃ a b v e R, (a < g 0 ∧ b < g 0 ∧ v ≤ 9999 ∧ p = nI a ∧ q0 = nI b ∧ u = nI v) ∧ ARR g a v e R ∧ e b < 1000000 ∧ r0 = some (.int (nI (e b))) ∧ Fr nM h h2) (XF h (fun E => (¬ (iR p (g 0) ∧ iR q0 (g 0)) ∧ E = eIX) ∨ ((iR p (g 0) ∧ iR q0 (g 0)) ∧ ¬ (nI 0 ≤ u ∧ u ≤ nI 9999) ∧ E = eAR) ∨ (∃ a b v e R, (a < g 0 ∧ b < g 0 ∧ v ≤ 9999 ∧ p = nI a ∧ q0 = nI b ∧ u = nI v) ∧ ARR g a v e R ∧ ¬ e b < 1000000 ∧ E = eEL))) := by
  refine CtX.of (by decide) (Nat.le_of_ble_eq_true rfl) (cat1 rfl) (fun X hXl F HT => ?_)
  subst hXl
  obtain ⟨hr, hWt, hWr, hWs, hWb⟩ : h r = some (.inr (2, [.ref ti, .ref tt, .ref sm, .ref bm, .int (nI (g 4)), .int (nI (g 5)), .int (nI (g 6)), .int (nI (g 7))])) ∧ RWt G h (ti, tia, tf) g ∧ RWr G h (tt, tl, ta, x, A) g ∧ RWs G h (sm, smc, sA, sK, sV) g ∧ RWb G h (bm, bmc, bA, bK, bV) g := id hW
  have hI := hV.W
  have hg08 := hI.2.1
  refine V_aload_n (i := 0) F dX1_arrival_0 rfl rfl ?_
  refine V_iload_n (i := 1) F dX1_arrival_1 rfl rfl ?_
  refine V_iload_n (i := 2) F dX1_arrival_2 rfl rfl ?_
  refine V_iload_n (i := 3) F dX1_arrival_3 rfl rfl ?_
  refine V_xcV (st := []) (nn := 3) F dX1_arrival_4 lk_X1_230 (ct_X1_journeys hl0 hx hW hV) ⟨1, _, _, _, rfl, .inl hx⟩ rfl rfl (Nat.le_of_ble_eq_true rfl) (Nat.le_of_ble_eq_true rfl) (Nat.le_of_ble_eq_true rfl) (by omega) (by omega) ?_ ?_
  · rintro _ h3 ⟨a, b, v, j, eA, rA, ⟨ha, hb, hv, rfl, rfl, rfl⟩, rfl, hj0, he0, hr0, hJ3, hx3⟩
    refine V_callV (st := []) (nn := 0) F dX1_arrival_7 lk_X1_233 (ct_J_searchA hJ3 hI hV.T hV.L (by omega) hv) hJ3.isC rfl rfl (Nat.le_of_ble_eq_true rfl) (Nat.le_of_ble_eq_true rfl) (Nat.le_of_ble_eq_true rfl) (by omega) (by omega) ?_
    rintro _ h4 ⟨e2, R2, hS4, rfl, hJ4, hx4⟩
    have hF4 : Fr nM h h4 := hx3.cal hx4 (Yo.m2 (Or.inr he0) (Or.inr hr0))
    have hAR := SRI.end_ hI hV.L hS4
    refine V_iload_n (i := 2) F dX1_arrival_10 rfl rfl ?_
    refine V_callV (st := []) (nn := 1) F dX1_arrival_11 lk_X1_239 (ct_J_earl hJ4 hb (by omega)) hJ4.isC rfl rfl (Nat.le_of_ble_eq_true rfl) (Nat.le_of_ble_eq_true rfl) (Nat.le_of_ble_eq_true rfl) (by omega) (by omega) ?_
    refine PRk ?_
    refine V_xcS (st := []) (nn := 1) F dX1_arrival_14 lk_X1_187 (ct_X1_found hl0) rfl rfl (Nat.le_of_ble_eq_true rfl) (Nat.le_of_ble_eq_true rfl) (Nat.le_of_ble_eq_true rfl) (by omega) (by omega) ?_ ?_
    · rintro _ _ ⟨rfl, rfl, hne⟩
      have hlt : e2 b < 1000000 := Decidable.not_not.mp (fun z => hne (eI_iff.mpr z))
      refine VV.stk (st' := [.int (nI (e2 b))]) (by rw [if_pos hlt]; rfl) ?_
      exact VV.rx (V_iret F dX1_arrival_17 rfl (by omega) (by omega) ⟨a, b, v, e2, R2, ⟨ha, hb, hv, rfl, rfl, rfl⟩, hAR, hlt, rfl, hF4⟩)
    · exact fun E q h2 hp => V_xout F (HT _) (by omega) (by omega) (XF.of hF4 hp (fun hc => Or.inr (Or.inr ⟨a, b, v, e2, R2, ⟨ha, hb, hv, rfl, rfl, rfl⟩, hAR, eI_iff.mp hc.1, hc.2⟩)))
  · exact fun E q h2 hp => V_xout F (HT _) (by omega) (by omega) (XF.of Fr.rf hp (fun hc => hc.elim Or.inl (fun z => Or.inr (Or.inl z))))
theorem ct_X1_arrivalByScanning {G : GG} {l : Launch} {h : AH} {r ti tia : Nat} {tf : Nat → Nat} {tt tl ta : Nat} {x : Nat → Nat} {A : Nat → Nat → Nat} {sm smc : Nat} {sA sK sV : Nat → Nat} {bm bmc : Nat} {bA bK bV : Nat → Nat} {g : Nat → Nat} {xo hl sb o n : Nat} {so : Option Nat} {ep fc : Int32} {p q0 u : Int32}  (hl0 : l.stackTraces = false) (hx : h xo = some (.inr (1, [.ref r, va_rf so, .ref hl, .ref sb, .int ep, .int fc, .ref o]))) (hW : RW G h r ((ti, tia, tf), (tt, tl, ta, x, A), (sm, smc, sA, sK, sV), (bm, bmc, bA, bK, bV)) g) (hV : INV n g)  : CtX G l yX1_arrivalByScanning cX1_arrivalByScanning 4 (some .int) 11 (400) (13000) [.ref xo, .int p, .int q0, .int u] h (fun r0 h2 => ∃ a b v e R, (a < g 0 ∧ b < g 0 ∧ v ≤ 9999 ∧ p = nI a ∧ q0 = nI b ∧ u = nI v) ∧ ARR g a v e R ∧ e b < 1000000 ∧ r0 = some (.int (nI (e b))) ∧ Fr nM h h2) (XF h (fun E => (¬ (iR p (g 0) ∧ iR q0 (g 0)) ∧ E = eIX) ∨ ((iR p (g 0) ∧ iR q0 (g 0)) ∧ ¬ (nI 0 ≤ u ∧ u ≤ nI 9999) ∧ E = eAR) ∨ (∃ a b v e R, (a < g 0 ∧ b < g 0 ∧ v ≤ 9999 ∧ p = nI a ∧ q0 = nI b ∧ u = nI v) ∧ ARR g a v e R ∧ ¬ e b < 1000000 ∧ E = eEL))) := by
  refine CtX.of (by decide) (Nat.le_of_ble_eq_true rfl) (cat1 rfl) (fun X hXl F HT => ?_)
  subst hXl
  obtain ⟨hr, hWt, hWr, hWs, hWb⟩ : h r = some (.inr (2, [.ref ti, .ref tt, .ref sm, .ref bm, .int (nI (g 4)), .int (nI (g 5)), .int (nI (g 6)), .int (nI (g 7))])) ∧ RWt G h (ti, tia, tf) g ∧ RWr G h (tt, tl, ta, x, A) g ∧ RWs G h (sm, smc, sA, sK, sV) g ∧ RWb G h (bm, bmc, bA, bK, bV) g := id hW
  have hI := hV.W
  have hg08 := hI.2.1
  refine V_aload_n (i := 0) F dX1_arrivalByScanning_0 rfl rfl ?_
  refine V_iload_n (i := 1) F dX1_arrivalByScanning_1 rfl rfl ?_
  refine V_iload_n (i := 2) F dX1_arrivalByScanning_2 rfl rfl ?_
  refine V_iload_n (i := 3) F dX1_arrivalByScanning_3 rfl rfl ?_
  refine V_xcV (st := []) (nn := 3) F dX1_arrivalByScanning_4 lk_X1_230 (ct_X1_journeys hl0 hx hW hV) ⟨1, _, _, _, rfl, .inl hx⟩ rfl rfl (Nat.le_of_ble_eq_true rfl) (Nat.le_of_ble_eq_true rfl) (Nat.le_of_ble_eq_true rfl) (by omega) (by omega) ?_ ?_
  · rintro _ h3 ⟨a, b, v, j, eA, rA, ⟨ha, hb, hv, rfl, rfl, rfl⟩, rfl, hj0, he0, hr0, hJ3, hx3⟩
    refine V_callV (st := []) (nn := 0) F dX1_arrivalByScanning_7 lk_X1_242 (ct_J_scan hJ3 hI (by omega) hv) hJ3.isC rfl rfl (Nat.le_of_ble_eq_true rfl) (Nat.le_of_ble_eq_true rfl) (Nat.le_of_ble_eq_true rfl) (by omega) (by omega) ?_
    rintro _ h4 ⟨S, hSp, hSs, rfl, hJ4, hx4⟩
    have hF4 : Fr nM h h4 := hx3.cal hx4 (Yo.m2 (Or.inr he0) (Or.inr hr0))
    have hAR := scan_arr (a := a) (v := v) (e := bgP a v (fun _ => 0) (g 0)) hI hV.T hV.L hSp hSs bgP_ini
    generalize (S.foldl (scS g a v) (bgP a v (fun _ => 0) (g 0), fun _ => 0)).1 = e2 at hJ4 hAR
    generalize (S.foldl (scS g a v) (bgP a v (fun _ => 0) (g 0), fun _ => 0)).2 = R2 at hJ4 hAR
    refine V_iload_n (i := 2) F dX1_arrivalByScanning_10 rfl rfl ?_
    refine V_callV (st := []) (nn := 1) F dX1_arrivalByScanning_11 lk_X1_239 (ct_J_earl hJ4 hb (by omega)) hJ4.isC rfl rfl (Nat.le_of_ble_eq_true rfl) (Nat.le_of_ble_eq_true rfl) (Nat.le_of_ble_eq_true rfl) (by omega) (by omega) ?_
    refine PRk ?_
    refine V_xcS (st := []) (nn := 1) F dX1_arrivalByScanning_14 lk_X1_187 (ct_X1_found hl0) rfl rfl (Nat.le_of_ble_eq_true rfl) (Nat.le_of_ble_eq_true rfl) (Nat.le_of_ble_eq_true rfl) (by omega) (by omega) ?_ ?_
    · rintro _ _ ⟨rfl, rfl, hne⟩
      have hlt : e2 b < 1000000 := Decidable.not_not.mp (fun z => hne (eI_iff.mpr z))
      refine VV.stk (st' := [.int (nI (e2 b))]) (by rw [if_pos hlt]; rfl) ?_
      exact VV.rx (V_iret F dX1_arrivalByScanning_17 rfl (by omega) (by omega) ⟨a, b, v, e2, R2, ⟨ha, hb, hv, rfl, rfl, rfl⟩, hAR, hlt, rfl, hF4⟩)
    · exact fun E q h2 hp => V_xout F (HT _) (by omega) (by omega) (XF.of hF4 hp (fun hc => Or.inr (Or.inr ⟨a, b, v, e2, R2, ⟨ha, hb, hv, rfl, rfl, rfl⟩, hAR, eI_iff.mp hc.1, hc.2⟩)))
  · exact fun E q h2 hp => V_xout F (HT _) (by omega) (by omega) (XF.of Fr.rf hp (fun hc => hc.elim Or.inl (fun z => Or.inr (Or.inl z))))
theorem ct_X1_boardings {G : GG} {l : Launch} {h : AH} {r ti tia : Nat} {tf : Nat → Nat} {tt tl ta : Nat} {x : Nat → Nat} {A : Nat → Nat → Nat} {sm smc : Nat} {sA sK sV : Nat → Nat} {bm bmc : Nat} {bA bK bV : Nat → Nat} {g : Nat → Nat} {xo hl sb o n : Nat} {so : Option Nat} {ep fc : Int32} {p q0 u : Int32}  (hl0 : l.stackTraces = false) (hx : h xo = some (.inr (1, [.ref r, va_rf so, .ref hl, .ref sb, .int ep, .int fc, .ref o]))) (hW : RW G h r ((ti, tia, tf), (tt, tl, ta, x, A), (sm, smc, sA, sK, sV), (bm, bmc, bA, bK, bV)) g) (hV : INV n g)  : CtX G l yX1_boardings cX1_boardings 4 (some .int) 11 (300) (7000) [.ref xo, .int p, .int q0, .int u] h (fun r0 h2 => ∃ a b v, (a < g 0 ∧ b < g 0 ∧ v ≤ 9999 ∧ p = nI a ∧ q0 = nI b ∧ u = nI v) ∧ (if (BWv g a b v).2 b = 1000000 then -1 else nI (BWv g a b v).1) ≠ -1 ∧ r0 = some (.int (if (BWv g a b v).2 b = 1000000 then -1 else nI (BWv g a b v).1)) ∧ Fr nM h h2) (XF h (fun E => (¬ (iR p (g 0) ∧ iR q0 (g 0)) ∧ E = eIX) ∨ ((iR p (g 0) ∧ iR q0 (g 0)) ∧ ¬ (nI 0 ≤ u ∧ u ≤ nI 9999) ∧ E = eAR) ∨ (∃ a b v, (a < g 0 ∧ b < g 0 ∧ v ≤ 9999 ∧ p = nI a ∧ q0 = nI b ∧ u = nI v) ∧ (if (BWv g a b v).2 b = 1000000 then -1 else nI (BWv g a b v).1) = -1 ∧ E = eEL))) := by
  refine CtX.of (by decide) (Nat.le_of_ble_eq_true rfl) (cat1 rfl) (fun X hXl F HT => ?_)
  subst hXl
  obtain ⟨hr, hWt, hWr, hWs, hWb⟩ : h r = some (.inr (2, [.ref ti, .ref tt, .ref sm, .ref bm, .int (nI (g 4)), .int (nI (g 5)), .int (nI (g 6)), .int (nI (g 7))])) ∧ RWt G h (ti, tia, tf) g ∧ RWr G h (tt, tl, ta, x, A) g ∧ RWs G h (sm, smc, sA, sK, sV) g ∧ RWb G h (bm, bmc, bA, bK, bV) g := id hW
  have hI := hV.W
  have hg08 := hI.2.1
  refine V_aload_n (i := 0) F dX1_boardings_0 rfl rfl ?_
  refine V_iload_n (i := 1) F dX1_boardings_1 rfl rfl ?_
  refine V_iload_n (i := 2) F dX1_boardings_2 rfl rfl ?_
  refine V_iload_n (i := 3) F dX1_boardings_3 rfl rfl ?_
  refine V_xcV (st := []) (nn := 3) F dX1_boardings_4 lk_X1_230 (ct_X1_journeys hl0 hx hW hV) ⟨1, _, _, _, rfl, .inl hx⟩ rfl rfl (Nat.le_of_ble_eq_true rfl) (Nat.le_of_ble_eq_true rfl) (Nat.le_of_ble_eq_true rfl) (by omega) (by omega) ?_ ?_
  · rintro _ h3 ⟨a, b, v, j, eA, rA, ⟨ha, hb, hv, rfl, rfl, rfl⟩, rfl, hj0, he0, hr0, hJ3, hx3⟩
    obtain ⟨⟨tt2, tl2, ta2, x2, A2, lg, lar, tr, fl, jR, jF, jn1, jn2, jn3, jn4, jn5, hjj, hjl, hjt⟩, hje, hjr, heM, hRM⟩ := id hJ3
    refine V_iload_n (i := 2) F dX1_boardings_7 rfl rfl ?_
    refine V_callV (st := []) (nn := 1) F dX1_boardings_8 lk_X1_245 (ct_J_boardings jR jF hjj hjl hjt hI (by omega) hje heM (by omega) hb) hJ3.isC rfl rfl (Nat.le_of_ble_eq_true rfl) (Nat.le_of_ble_eq_true rfl) (Nat.le_of_ble_eq_true rfl) (by omega) (by omega) ?_
    rintro _ h4 ⟨rfl, hx4⟩
    have hF4 : Fr nM h h4 := hx3.cal0 hx4
    refine V_xcS (st := []) (nn := 1) F dX1_boardings_11 lk_X1_187 (ct_X1_found hl0) rfl rfl (Nat.le_of_ble_eq_true rfl) (Nat.le_of_ble_eq_true rfl) (Nat.le_of_ble_eq_true rfl) (by omega) (by omega) ?_ ?_
    · rintro _ _ ⟨rfl, rfl, hne⟩
      exact VV.rx (V_iret F dX1_boardings_14 rfl (by first | exact Nat.le_of_ble_eq_true rfl | omega) (by first | exact Nat.le_of_ble_eq_true rfl | omega) ⟨a, b, v, ⟨ha, hb, hv, rfl, rfl, rfl⟩, hne, rfl, hF4⟩)
    · exact fun E q h2 hp => V_xout F (HT _) (by omega) (by omega) (XF.of hF4 hp (fun hc => Or.inr (Or.inr ⟨a, b, v, ⟨ha, hb, hv, rfl, rfl, rfl⟩, hc.1, hc.2⟩)))
  · exact fun E q h2 hp => V_xout F (HT _) (by omega) (by omega) (XF.of Fr.rf hp (fun hc => hc.elim Or.inl (fun z => Or.inr (Or.inl z))))
theorem ct_X1_suitcaseWith {G : GG} {l : Launch} {h : AH} {r ti tia : Nat} {tf : Nat → Nat} {tt tl ta : Nat} {x : Nat → Nat} {A : Nat → Nat → Nat} {sm smc : Nat} {sA sK sV : Nat → Nat} {bm bmc : Nat} {bA bK bV : Nat → Nat} {g : Nat → Nat} {xo hl sb o n : Nat} {so : Option Nat} {ep fc : Int32} {p : Int32}  (hl0 : l.stackTraces = false) (hx : h xo = some (.inr (1, [.ref r, va_rf so, .ref hl, .ref sb, .int ep, .int fc, .ref o]))) (hW : RW G h r ((ti, tia, tf), (tt, tl, ta, x, A), (sm, smc, sA, sK, sV), (bm, bmc, bA, bK, bV)) g) (hV : INV n g)  : CtX G l yX1_suitcaseWith cX1_suitcaseWith 2 (some (.object "SleeperRailway$Suitcase")) 8 (4) (12) [.ref xo, .int p] h (fun r0 h2 => ∃ k, k < g 2 ∧ fdO g 232 p (g 2) = some k ∧ r0 = some (.ref (sV k)) ∧ Fr nM h h2) (XF h (fun E => fdO g 232 p (g 2) = none ∧ E = eEL)) := by
  refine CtX.of (by decide) (Nat.le_of_ble_eq_true rfl) (cat1 rfl) (fun X hXl F HT => ?_)
  subst hXl
  obtain ⟨hr, hWt, hWr, hWs, hWb⟩ : h r = some (.inr (2, [.ref ti, .ref tt, .ref sm, .ref bm, .int (nI (g 4)), .int (nI (g 5)), .int (nI (g 6)), .int (nI (g 7))])) ∧ RWt G h (ti, tia, tf) g ∧ RWr G h (tt, tl, ta, x, A) g ∧ RWs G h (sm, smc, sA, sK, sV) g ∧ RWb G h (bm, bmc, bA, bK, bV) g := id hW
  have hI := hV.W
  have hg08 := hI.2.1
  refine V_aload_n (i := 0) F dX1_suitcaseWith_0 rfl rfl ?_
  have hasc : ∀ i j, i < j → j < g 2 → nI (g (232 + 4 * i + 0)) < nI (g (232 + 4 * j + 0)) := fun i j hij hj => (nI_ltI (Nat.lt_trans (hI.b _) (by decide)) (Nat.lt_trans (hI.b _) (by decide))).mpr (hV.id i j hij hj)
  refine V_getf F dX1_suitcaseWith_1 fc_X1_44_X1 (.inl hx) rfl ?_
  refine V_getn F dX1_suitcaseWith_4 fc_X1_248_X2 (.inl hr) rfl ?_
  refine V_iload_n (i := 1) F dX1_suitcaseWith_7 rfl rfl ?_
  refine V_callS (st := [.ref (sm)]) (nn := 1) F dX1_suitcaseWith_8 lk_X1_252 (ct_I_valueOf (x := p)) rfl rfl (Nat.le_of_ble_eq_true rfl) (Nat.le_of_ble_eq_true rfl) (Nat.le_of_ble_eq_true rfl) (by omega) (by omega) ?_
  rintro _ h1 ⟨q1, rfl, hq1, hx1⟩
  have hF1 : Fr nM h h1 := hx1
  have hK1 : ∀ i, i < g 2 → IV G h1 (sK i) (nI (g (232 + 4 * i + 0))) := fun i hi => ((hWs.fr0 hF1).2.2 i hi).1
  obtain ⟨pos, fd, hcm, hp1, hp2, hp3, -, -⟩ := cmp_asc (l := xl X) hq1 hK1 hasc
  refine V_callV (st := []) (nn := 1) F dX1_suitcaseWith_11 lk_X1_256 (ct_TM_has (hWs.fr0 hF1).1 hcm) (hWs.fr0 hF1).1.isC rfl rfl (Nat.le_of_ble_eq_true rfl) (Nat.le_of_ble_eq_true rfl) (Nat.le_of_ble_eq_true rfl) (by omega) (by omega) ?_
  refine PRk ?_
  refine V_xcS (st := []) (nn := 1) F dX1_suitcaseWith_14 lk_X1_119 (ct_X1_checkElement hl0) rfl rfl (Nat.le_of_ble_eq_true rfl) (Nat.le_of_ble_eq_true rfl) (Nat.le_of_ble_eq_true rfl) (by omega) (by omega) ?_ ?_
  · rintro _ _ ⟨rfl, rfl, hd⟩
    have hP_14 : fd = true := cB_nz hd
    obtain ⟨hk, hkv⟩ := hp2 hP_14
    subst hkv
    have hfo : fdO g 232 (nI (g (232 + 4 * pos + 0))) (g 2) = some pos := fdO_some hk rfl (fun i hi e => by have := hasc i pos hi hk; rw [e] at this; exact Int32.lt_irrefl this)
    refine V_aload_n (i := 0) F dX1_suitcaseWith_17 rfl rfl ?_
    refine V_getf F dX1_suitcaseWith_18 fc_X1_44_X1 (.inl (hF1.get hx id rfl)) rfl ?_
    refine V_getn F dX1_suitcaseWith_21 fc_X1_248_X2 (.inl (hF1.get hr id rfl)) rfl ?_
    refine V_iload_n (i := 1) F dX1_suitcaseWith_24 rfl rfl ?_
    refine V_callS (st := [.ref (sm)]) (nn := 1) F dX1_suitcaseWith_25 lk_X1_252 (ct_I_valueOf (x := nI (g (232 + 4 * pos + 0)))) rfl rfl (Nat.le_of_ble_eq_true rfl) (Nat.le_of_ble_eq_true rfl) (Nat.le_of_ble_eq_true rfl) (by omega) (by omega) ?_
    rintro _ h2 ⟨q2, rfl, hq2, hx2⟩
    have hF2 : Fr nM h h2 := hF1.cal0 hx2
    have hK2 : ∀ i, i < g 2 → IV G h2 (sK i) (nI (g (232 + 4 * i + 0))) := fun i hi => ((hWs.fr0 hF2).2.2 i hi).1
    refine V_callV (st := []) (nn := 1) F dX1_suitcaseWith_28 lk_X1_262 (ct_TM_get (hWs.fr0 hF2).1 (cmp_at (kv := fun i => nI (g (232 + 4 * i + 0))) hq2 hK2 hasc hk) rfl) (hWs.fr0 hF2).1.isC rfl rfl (Nat.le_of_ble_eq_true rfl) (Nat.le_of_ble_eq_true rfl) (Nat.le_of_ble_eq_true rfl) (by omega) (by omega) ?_
    refine PRk ?_
    refine V_ckS F dX1_suitcaseWith_31 q3052 ⟨8, _, _, _, rfl, (.inl ((hWs.fr0 hF2).2.2 pos hk).2)⟩ ?_
    exact VV.rx (V_aret F dX1_suitcaseWith_34 (Or.inl ⟨_, rfl⟩) (Or.inr ⟨_, rfl⟩) (by first | exact Nat.le_of_ble_eq_true rfl | omega) (by first | exact Nat.le_of_ble_eq_true rfl | omega) ⟨pos, hk, hfo, rfl, hF2⟩)
  · exact fun E q h2 hp => V_xout F (HT _) (by omega) (by omega) (XF.of hF1 hp (fun hc => ⟨fdO_none (hp3 (cB_z hc.1)), hc.2⟩))
theorem ct_X1_bookingWith {G : GG} {l : Launch} {h : AH} {r ti tia : Nat} {tf : Nat → Nat} {tt tl ta : Nat} {x : Nat → Nat} {A : Nat → Nat → Nat} {sm smc : Nat} {sA sK sV : Nat → Nat} {bm bmc : Nat} {bA bK bV : Nat → Nat} {g : Nat → Nat} {xo hl sb o n : Nat} {so : Option Nat} {ep fc : Int32} {p : Int32}  (hl0 : l.stackTraces = false) (hx : h xo = some (.inr (1, [.ref r, va_rf so, .ref hl, .ref sb, .int ep, .int fc, .ref o]))) (hW : RW G h r ((ti, tia, tf), (tt, tl, ta, x, A), (sm, smc, sA, sK, sV), (bm, bmc, bA, bK, bV)) g) (hV : INV n g)  : CtX G l yX1_bookingWith cX1_bookingWith 2 (some (.object "SleeperRailway$Booking")) 8 (4) (12) [.ref xo, .int p] h (fun r0 h2 => ∃ k, k < g 3 ∧ fdO g 264 p (g 3) = some k ∧ r0 = some (.ref (bV k)) ∧ Fr nM h h2) (XF h (fun E => fdO g 264 p (g 3) = none ∧ E = eEL)) := by
  refine CtX.of (by decide) (Nat.le_of_ble_eq_true rfl) (cat1 rfl) (fun X hXl F HT => ?_)
  subst hXl
  obtain ⟨hr, hWt, hWr, hWs, hWb⟩ : h r = some (.inr (2, [.ref ti, .ref tt, .ref sm, .ref bm, .int (nI (g 4)), .int (nI (g 5)), .int (nI (g 6)), .int (nI (g 7))])) ∧ RWt G h (ti, tia, tf) g ∧ RWr G h (tt, tl, ta, x, A) g ∧ RWs G h (sm, smc, sA, sK, sV) g ∧ RWb G h (bm, bmc, bA, bK, bV) g := id hW
  have hI := hV.W
  have hg08 := hI.2.1
  refine V_aload_n (i := 0) F dX1_bookingWith_0 rfl rfl ?_
  have hasc : ∀ i j, i < j → j < g 3 → nI (g (264 + 4 * i + 0)) < nI (g (264 + 4 * j + 0)) := fun i j hij hj => (nI_ltI (Nat.lt_trans (hI.b _) (by decide)) (Nat.lt_trans (hI.b _) (by decide))).mpr (hV.bd i j hij hj)
  refine V_getf F dX1_bookingWith_1 fc_X1_44_X1 (.inl hx) rfl ?_
  refine V_getn F dX1_bookingWith_4 fc_X1_303_X2 (.inl hr) rfl ?_
  refine V_iload_n (i := 1) F dX1_bookingWith_7 rfl rfl ?_
  refine V_callS (st := [.ref (bm)]) (nn := 1) F dX1_bookingWith_8 lk_X1_252 (ct_I_valueOf (x := p)) rfl rfl (Nat.le_of_ble_eq_true rfl) (Nat.le_of_ble_eq_true rfl) (Nat.le_of_ble_eq_true rfl) (by omega) (by omega) ?_
  rintro _ h1 ⟨q1, rfl, hq1, hx1⟩
  have hF1 : Fr nM h h1 := hx1
  have hK1 : ∀ i, i < g 3 → IV G h1 (bK i) (nI (g (264 + 4 * i + 0))) := fun i hi => ((hWb.fr0 hF1).2.2 i hi).1
  obtain ⟨pos, fd, hcm, hp1, hp2, hp3, -, -⟩ := cmp_asc (l := xl X) hq1 hK1 hasc
  refine V_callV (st := []) (nn := 1) F dX1_bookingWith_11 lk_X1_256 (ct_TM_has (hWb.fr0 hF1).1 hcm) (hWb.fr0 hF1).1.isC rfl rfl (Nat.le_of_ble_eq_true rfl) (Nat.le_of_ble_eq_true rfl) (Nat.le_of_ble_eq_true rfl) (by omega) (by omega) ?_
  refine PRk ?_
  refine V_xcS (st := []) (nn := 1) F dX1_bookingWith_14 lk_X1_119 (ct_X1_checkElement hl0) rfl rfl (Nat.le_of_ble_eq_true rfl) (Nat.le_of_ble_eq_true rfl) (Nat.le_of_ble_eq_true rfl) (by omega) (by omega) ?_ ?_
  · rintro _ _ ⟨rfl, rfl, hd⟩
    have hP_14 : fd = true := cB_nz hd
    obtain ⟨hk, hkv⟩ := hp2 hP_14
    subst hkv
    have hfo : fdO g 264 (nI (g (264 + 4 * pos + 0))) (g 3) = some pos := fdO_some hk rfl (fun i hi e => by have := hasc i pos hi hk; rw [e] at this; exact Int32.lt_irrefl this)
    refine V_aload_n (i := 0) F dX1_bookingWith_17 rfl rfl ?_
    refine V_getf F dX1_bookingWith_18 fc_X1_44_X1 (.inl (hF1.get hx id rfl)) rfl ?_
    refine V_getn F dX1_bookingWith_21 fc_X1_303_X2 (.inl (hF1.get hr id rfl)) rfl ?_
    refine V_iload_n (i := 1) F dX1_bookingWith_24 rfl rfl ?_
    refine V_callS (st := [.ref (bm)]) (nn := 1) F dX1_bookingWith_25 lk_X1_252 (ct_I_valueOf (x := nI (g (264 + 4 * pos + 0)))) rfl rfl (Nat.le_of_ble_eq_true rfl) (Nat.le_of_ble_eq_true rfl) (Nat.le_of_ble_eq_true rfl) (by omega) (by omega) ?_
    rintro _ h2 ⟨q2, rfl, hq2, hx2⟩
    have hF2 : Fr nM h h2 := hF1.cal0 hx2
    have hK2 : ∀ i, i < g 3 → IV G h2 (bK i) (nI (g (264 + 4 * i + 0))) := fun i hi => ((hWb.fr0 hF2).2.2 i hi).1
    refine V_callV (st := []) (nn := 1) F dX1_bookingWith_28 lk_X1_262 (ct_TM_get (hWb.fr0 hF2).1 (cmp_at (kv := fun i => nI (g (264 + 4 * i + 0))) hq2 hK2 hasc hk) rfl) (hWb.fr0 hF2).1.isC rfl rfl (Nat.le_of_ble_eq_true rfl) (Nat.le_of_ble_eq_true rfl) (Nat.le_of_ble_eq_true rfl) (by omega) (by omega) ?_
    refine PRk ?_
    refine V_ckS F dX1_bookingWith_31 q3116 ⟨11, _, _, _, rfl, (.inl ((hWb.fr0 hF2).2.2 pos hk).2)⟩ ?_
    exact VV.rx (V_aret F dX1_bookingWith_34 (Or.inl ⟨_, rfl⟩) (Or.inr ⟨_, rfl⟩) (by first | exact Nat.le_of_ble_eq_true rfl | omega) (by first | exact Nat.le_of_ble_eq_true rfl | omega) ⟨pos, hk, hfo, rfl, hF2⟩)
  · exact fun E q h2 hp => V_xout F (HT _) (by omega) (by omega) (XF.of hF1 hp (fun hc => ⟨fdO_none (hp3 (cB_z hc.1)), hc.2⟩))
theorem ct_X1_stationOf {G : GG} {l : Launch} {h : AH} {r ti tia : Nat} {tf : Nat → Nat} {tt tl ta : Nat} {x : Nat → Nat} {A : Nat → Nat → Nat} {sm smc : Nat} {sA sK sV : Nat → Nat} {bm bmc : Nat} {bA bK bV : Nat → Nat} {g : Nat → Nat} {xo hl sb o n : Nat} {so : Option Nat} {ep fc : Int32} {p : Int32}  (hl0 : l.stackTraces = false) (hx : h xo = some (.inr (1, [.ref r, va_rf so, .ref hl, .ref sb, .int ep, .int fc, .ref o]))) (hW : RW G h r ((ti, tia, tf), (tt, tl, ta, x, A), (sm, smc, sA, sK, sV), (bm, bmc, bA, bK, bV)) g) (hV : INV n g)  : CtX G l yX1_stationOf cX1_stationOf 2 (some .int) 9 (4) (12) [.ref xo, .int p] h (fun r0 h2 => ∃ k, k < g 2 ∧ fdO g 232 p (g 2) = some k ∧ r0 = some (.int (nI (g (232 + 4 * k + 1)))) ∧ Fr nM h h2) (XF h (fun E => fdO g 232 p (g 2) = none ∧ E = eEL)) := by
  refine CtX.of (by decide) (Nat.le_of_ble_eq_true rfl) (cat1 rfl) (fun X hXl F HT => ?_)
  subst hXl
  obtain ⟨hr, hWt, hWr, hWs, hWb⟩ : h r = some (.inr (2, [.ref ti, .ref tt, .ref sm, .ref bm, .int (nI (g 4)), .int (nI (g 5)), .int (nI (g 6)), .int (nI (g 7))])) ∧ RWt G h (ti, tia, tf) g ∧ RWr G h (tt, tl, ta, x, A) g ∧ RWs G h (sm, smc, sA, sK, sV) g ∧ RWb G h (bm, bmc, bA, bK, bV) g := id hW
  have hI := hV.W
  have hg08 := hI.2.1
  refine V_aload_n (i := 0) F dX1_stationOf_0 rfl rfl ?_
  refine V_iload_n (i := 1) F dX1_stationOf_1 rfl rfl ?_
  refine V_xcV (st := []) (nn := 1) F dX1_stationOf_2 lk_X1_284 (ct_X1_suitcaseWith hl0 hx hW hV) ⟨1, _, _, _, rfl, .inl hx⟩ rfl rfl (Nat.le_of_ble_eq_true rfl) (Nat.le_of_ble_eq_true rfl) (Nat.le_of_ble_eq_true rfl) (by omega) (by omega) ?_ ?_
  · rintro _ h3 ⟨k, hk, hfo, rfl, hF3⟩
    refine V_callV (st := []) (nn := 0) F dX1_stationOf_5 lk_X1_288 (ct_Su_station ((hWs.fr0 hF3).2.2 k hk).2) ⟨8, _, _, _, rfl, (.inl ((hWs.fr0 hF3).2.2 k hk).2)⟩ rfl rfl (Nat.le_of_ble_eq_true rfl) (Nat.le_of_ble_eq_true rfl) (Nat.le_of_ble_eq_true rfl) (by omega) (by omega) ?_
    refine PRk ?_
    exact VV.rx (V_iret F dX1_stationOf_8 rfl (by first | exact Nat.le_of_ble_eq_true rfl | omega) (by first | exact Nat.le_of_ble_eq_true rfl | omega) ⟨k, hk, hfo, rfl, hF3⟩)
  · exact fun E q h2 hp => V_xout F (HT _) (by omega) (by omega) (XF.of Fr.rf hp (fun hc => hc))
theorem ct_X1_destinationOf {G : GG} {l : Launch} {h : AH} {r ti tia : Nat} {tf : Nat → Nat} {tt tl ta : Nat} {x : Nat → Nat} {A : Nat → Nat → Nat} {sm smc : Nat} {sA sK sV : Nat → Nat} {bm bmc : Nat} {bA bK bV : Nat → Nat} {g : Nat → Nat} {xo hl sb o n : Nat} {so : Option Nat} {ep fc : Int32} {p : Int32}  (hl0 : l.stackTraces = false) (hx : h xo = some (.inr (1, [.ref r, va_rf so, .ref hl, .ref sb, .int ep, .int fc, .ref o]))) (hW : RW G h r ((ti, tia, tf), (tt, tl, ta, x, A), (sm, smc, sA, sK, sV), (bm, bmc, bA, bK, bV)) g) (hV : INV n g)  : CtX G l yX1_destinationOf cX1_destinationOf 2 (some .int) 9 (4) (12) [.ref xo, .int p] h (fun r0 h2 => ∃ k, k < g 2 ∧ fdO g 232 p (g 2) = some k ∧ r0 = some (.int (nI (g (232 + 4 * k + 2)))) ∧ Fr nM h h2) (XF h (fun E => fdO g 232 p (g 2) = none ∧ E = eEL)) := by
  refine CtX.of (by decide) (Nat.le_of_ble_eq_true rfl) (cat1 rfl) (fun X hXl F HT => ?_)
  subst hXl
  obtain ⟨hr, hWt, hWr, hWs, hWb⟩ : h r = some (.inr (2, [.ref ti, .ref tt, .ref sm, .ref bm, .int (nI (g 4)), .int (nI (g 5)), .int (nI (g 6)), .int (nI (g 7))])) ∧ RWt G h (ti, tia, tf) g ∧ RWr G h (tt, tl, ta, x, A) g ∧ RWs G h (sm, smc, sA, sK, sV) g ∧ RWb G h (bm, bmc, bA, bK, bV) g := id hW
  have hI := hV.W
  have hg08 := hI.2.1
  refine V_aload_n (i := 0) F dX1_destinationOf_0 rfl rfl ?_
  refine V_iload_n (i := 1) F dX1_destinationOf_1 rfl rfl ?_
  refine V_xcV (st := []) (nn := 1) F dX1_destinationOf_2 lk_X1_284 (ct_X1_suitcaseWith hl0 hx hW hV) ⟨1, _, _, _, rfl, .inl hx⟩ rfl rfl (Nat.le_of_ble_eq_true rfl) (Nat.le_of_ble_eq_true rfl) (Nat.le_of_ble_eq_true rfl) (by omega) (by omega) ?_ ?_
  · rintro _ h3 ⟨k, hk, hfo, rfl, hF3⟩
    refine V_callV (st := []) (nn := 0) F dX1_destinationOf_5 lk_X1_290 (ct_Su_destination ((hWs.fr0 hF3).2.2 k hk).2) ⟨8, _, _, _, rfl, (.inl ((hWs.fr0 hF3).2.2 k hk).2)⟩ rfl rfl (Nat.le_of_ble_eq_true rfl) (Nat.le_of_ble_eq_true rfl) (Nat.le_of_ble_eq_true rfl) (by omega) (by omega) ?_
    refine PRk ?_
    exact VV.rx (V_iret F dX1_destinationOf_8 rfl (by first | exact Nat.le_of_ble_eq_true rfl | omega) (by first | exact Nat.le_of_ble_eq_true rfl | omega) ⟨k, hk, hfo, rfl, hF3⟩)
  · exact fun E q h2 hp => V_xout F (HT _) (by omega) (by omega) (XF.of Fr.rf hp (fun hc => hc))
theorem ct_X1_readyAt {G : GG} {l : Launch} {h : AH} {r ti tia : Nat} {tf : Nat → Nat} {tt tl ta : Nat} {x : Nat → Nat} {A : Nat → Nat → Nat} {sm smc : Nat} {sA sK sV : Nat → Nat} {bm bmc : Nat} {bA bK bV : Nat → Nat} {g : Nat → Nat} {xo hl sb o n : Nat} {so : Option Nat} {ep fc : Int32} {p : Int32}  (hl0 : l.stackTraces = false) (hx : h xo = some (.inr (1, [.ref r, va_rf so, .ref hl, .ref sb, .int ep, .int fc, .ref o]))) (hW : RW G h r ((ti, tia, tf), (tt, tl, ta, x, A), (sm, smc, sA, sK, sV), (bm, bmc, bA, bK, bV)) g) (hV : INV n g)  : CtX G l yX1_readyAt cX1_readyAt 2 (some .int) 9 (4) (12) [.ref xo, .int p] h (fun r0 h2 => ∃ k, k < g 2 ∧ fdO g 232 p (g 2) = some k ∧ r0 = some (.int (nI (g (232 + 4 * k + 3)))) ∧ Fr nM h h2) (XF h (fun E => fdO g 232 p (g 2) = none ∧ E = eEL)) := by
  refine CtX.of (by decide) (Nat.le_of_ble_eq_true rfl) (cat1 rfl) (fun X hXl F HT => ?_)
  subst hXl
  obtain ⟨hr, hWt, hWr, hWs, hWb⟩ : h r = some (.inr (2, [.ref ti, .ref tt, .ref sm, .ref bm, .int (nI (g 4)), .int (nI (g 5)), .int (nI (g 6)), .int (nI (g 7))])) ∧ RWt G h (ti, tia, tf) g ∧ RWr G h (tt, tl, ta, x, A) g ∧ RWs G h (sm, smc, sA, sK, sV) g ∧ RWb G h (bm, bmc, bA, bK, bV) g := id hW
  have hI := hV.W
  have hg08 := hI.2.1
  refine V_aload_n (i := 0) F dX1_readyAt_0 rfl rfl ?_
  refine V_iload_n (i := 1) F dX1_readyAt_1 rfl rfl ?_
  refine V_xcV (st := []) (nn := 1) F dX1_readyAt_2 lk_X1_284 (ct_X1_suitcaseWith hl0 hx hW hV) ⟨1, _, _, _, rfl, .inl hx⟩ rfl rfl (Nat.le_of_ble_eq_true rfl) (Nat.le_of_ble_eq_true rfl) (Nat.le_of_ble_eq_true rfl) (by omega) (by omega) ?_ ?_
  · rintro _ h3 ⟨k, hk, hfo, rfl, hF3⟩
    refine V_callV (st := []) (nn := 0) F dX1_readyAt_5 lk_X1_293 (ct_Su_ready ((hWs.fr0 hF3).2.2 k hk).2) ⟨8, _, _, _, rfl, (.inl ((hWs.fr0 hF3).2.2 k hk).2)⟩ rfl rfl (Nat.le_of_ble_eq_true rfl) (Nat.le_of_ble_eq_true rfl) (Nat.le_of_ble_eq_true rfl) (by omega) (by omega) ?_
    refine PRk ?_
    exact VV.rx (V_iret F dX1_readyAt_8 rfl (by first | exact Nat.le_of_ble_eq_true rfl | omega) (by first | exact Nat.le_of_ble_eq_true rfl | omega) ⟨k, hk, hfo, rfl, hF3⟩)
  · exact fun E q h2 hp => V_xout F (HT _) (by omega) (by omega) (XF.of Fr.rf hp (fun hc => hc))
theorem ct_X1_isThere {G : GG} {l : Launch} {h : AH} {r ti tia : Nat} {tf : Nat → Nat} {tt tl ta : Nat} {x : Nat → Nat} {A : Nat → Nat → Nat} {sm smc : Nat} {sA sK sV : Nat → Nat} {bm bmc : Nat} {bA bK bV : Nat → Nat} {g : Nat → Nat} {xo hl sb o n : Nat} {so : Option Nat} {ep fc : Int32} {p : Int32}  (hl0 : l.stackTraces = false) (hx : h xo = some (.inr (1, [.ref r, va_rf so, .ref hl, .ref sb, .int ep, .int fc, .ref o]))) (hW : RW G h r ((ti, tia, tf), (tt, tl, ta, x, A), (sm, smc, sA, sK, sV), (bm, bmc, bA, bK, bV)) g) (hV : INV n g)  : CtX G l yX1_isThere cX1_isThere 2 (some .boolean) 9 (4) (12) [.ref xo, .int p] h (fun r0 h2 => ∃ k, k < g 2 ∧ fdO g 232 p (g 2) = some k ∧ r0 = some (.int (b2 (g (232 + 4 * k + 1) = g (232 + 4 * k + 2)))) ∧ Fr nM h h2) (XF h (fun E => fdO g 232 p (g 2) = none ∧ E = eEL)) := by
  refine CtX.of (by decide) (Nat.le_of_ble_eq_true rfl) (cat1 rfl) (fun X hXl F HT => ?_)
  subst hXl
  obtain ⟨hr, hWt, hWr, hWs, hWb⟩ : h r = some (.inr (2, [.ref ti, .ref tt, .ref sm, .ref bm, .int (nI (g 4)), .int (nI (g 5)), .int (nI (g 6)), .int (nI (g 7))])) ∧ RWt G h (ti, tia, tf) g ∧ RWr G h (tt, tl, ta, x, A) g ∧ RWs G h (sm, smc, sA, sK, sV) g ∧ RWb G h (bm, bmc, bA, bK, bV) g := id hW
  have hI := hV.W
  have hg08 := hI.2.1
  refine V_aload_n (i := 0) F dX1_isThere_0 rfl rfl ?_
  refine V_iload_n (i := 1) F dX1_isThere_1 rfl rfl ?_
  refine V_xcV (st := []) (nn := 1) F dX1_isThere_2 lk_X1_284 (ct_X1_suitcaseWith hl0 hx hW hV) ⟨1, _, _, _, rfl, .inl hx⟩ rfl rfl (Nat.le_of_ble_eq_true rfl) (Nat.le_of_ble_eq_true rfl) (Nat.le_of_ble_eq_true rfl) (by omega) (by omega) ?_ ?_
  · rintro _ h3 ⟨k, hk, hfo, rfl, hF3⟩
    refine V_callV (st := []) (nn := 0) F dX1_isThere_5 lk_X1_296 (ct_Su_isThere ((hWs.fr0 hF3).2.2 k hk).2 (Nat.lt_trans (hI.b _) (by decide)) (Nat.lt_trans (hI.b _) (by decide))) ⟨8, _, _, _, rfl, (.inl ((hWs.fr0 hF3).2.2 k hk).2)⟩ rfl rfl (Nat.le_of_ble_eq_true rfl) (Nat.le_of_ble_eq_true rfl) (Nat.le_of_ble_eq_true rfl) (by omega) (by omega) ?_
    refine PRk ?_
    exact VV.rx (V_iret F dX1_isThere_8 nar_b2 (by first | exact Nat.le_of_ble_eq_true rfl | omega) (by first | exact Nat.le_of_ble_eq_true rfl | omega) ⟨k, hk, hfo, rfl, hF3⟩)
  · exact fun E q h2 hp => V_xout F (HT _) (by omega) (by omega) (XF.of Fr.rf hp (fun hc => hc))
theorem ct_X1_suitcaseByReady {G : GG} {l : Launch} {h : AH} {r ti tia : Nat} {tf : Nat → Nat} {tt tl ta : Nat} {x : Nat → Nat} {A : Nat → Nat → Nat} {sm smc : Nat} {sA sK sV : Nat → Nat} {bm bmc : Nat} {bA bK bV : Nat → Nat} {g : Nat → Nat} {xo hl sb o n : Nat} {so : Option Nat} {ep fc : Int32} {p : Int32}  (hl0 : l.stackTraces = false) (hx : h xo = some (.inr (1, [.ref r, va_rf so, .ref hl, .ref sb, .int ep, .int fc, .ref o]))) (hW : RW G h r ((ti, tia, tf), (tt, tl, ta, x, A), (sm, smc, sA, sK, sV), (bm, bmc, bA, bK, bV)) g) (hV : INV n g)  : CtX G l yX1_suitcaseByReady cX1_suitcaseByReady 2 (some .int) 11 (70) (400) [.ref xo, .int p] h (fun r0 h2 => (∃ S, SUS g S ∧ ∃ k, k < g 2 ∧ nI k = p ∧ r0 = some (.int (nI (g (232 + 4 * S.getD k 0 + 0))))) ∧ Fr nM h h2) (XF h (fun E => (∀ k, k < g 2 → nI k ≠ p) ∧ E = eEL)) := by
  refine CtX.of (by decide) (Nat.le_of_ble_eq_true rfl) (cat1 rfl) (fun X hXl F HT => ?_)
  subst hXl
  obtain ⟨hr, hWt, hWr, hWs, hWb⟩ : h r = some (.inr (2, [.ref ti, .ref tt, .ref sm, .ref bm, .int (nI (g 4)), .int (nI (g 5)), .int (nI (g 6)), .int (nI (g 7))])) ∧ RWt G h (ti, tia, tf) g ∧ RWr G h (tt, tl, ta, x, A) g ∧ RWs G h (sm, smc, sA, sK, sV) g ∧ RWb G h (bm, bmc, bA, bK, bV) g := id hW
  have hI := hV.W
  have hg08 := hI.2.1
  refine V_aload_n (i := 0) F dX1_suitcaseByReady_0 rfl rfl ?_
  refine V_getf F dX1_suitcaseByReady_1 fc_X1_44_X1 (.inl hx) rfl ?_
  refine V_iload_n (i := 1) F dX1_suitcaseByReady_4 rfl rfl ?_
  refine V_callV (st := []) (nn := 1) F dX1_suitcaseByReady_5 lk_X1_300 (ct_RW_suitcaseAt hW hI hV.id) ⟨2, _, _, _, rfl, .inl hW.1⟩ rfl rfl (Nat.le_of_ble_eq_true rfl) (Nat.le_of_ble_eq_true rfl) (Nat.le_of_ble_eq_true rfl) (by omega) (by omega) ?_
  rintro r9 h3 ⟨⟨S, hSU, hor⟩, hx3⟩
  obtain ⟨v9, rfl, hv9⟩ : ∃ v, r9 = some (.int v) ∧ ((∃ k, k < g 2 ∧ nI k = p ∧ v = nI (g (232 + 4 * S.getD k 0 + 0))) ∨ ((∀ k, k < g 2 → nI k ≠ p) ∧ v = -1)) := by
    rcases hor with ⟨k, h1, h3, rfl⟩ | ⟨h1, rfl⟩
    · exact ⟨_, rfl, Or.inl ⟨k, h1, h3, rfl⟩⟩
    · exact ⟨_, rfl, Or.inr ⟨h1, rfl⟩⟩
  refine V_xcS (st := []) (nn := 1) F dX1_suitcaseByReady_8 lk_X1_187 (ct_X1_found hl0) rfl rfl (Nat.le_of_ble_eq_true rfl) (Nat.le_of_ble_eq_true rfl) (Nat.le_of_ble_eq_true rfl) (by omega) (by omega) ?_ ?_
  · rintro _ _ ⟨rfl, rfl, hne⟩
    rcases hv9 with ⟨k, z1, z2, z3⟩ | ⟨-, z⟩
    · exact VV.rx (V_iret F dX1_suitcaseByReady_11 rfl (by first | exact Nat.le_of_ble_eq_true rfl | omega) (by first | exact Nat.le_of_ble_eq_true rfl | omega) ⟨⟨S, hSU, k, z1, z2, by rw [z3]⟩, hx3⟩)
    · exact absurd z hne
  · exact fun E q h2 hp => V_xout F (HT _) (by omega) (by omega) (XF.of hx3 hp (fun hc => ⟨hv9.elim (fun ⟨k, z1, z2, z3⟩ => absurd (z3.symm.trans hc.1) (nI_m1 (Nat.lt_trans (hI.b _) (by decide)))) (fun z => z.1), hc.2⟩))
theorem ct_X1_berthsNeeded {G : GG} {l : Launch} {h : AH} {r ti tia : Nat} {tf : Nat → Nat} {tt tl ta : Nat} {x : Nat → Nat} {A : Nat → Nat → Nat} {sm smc : Nat} {sA sK sV : Nat → Nat} {bm bmc : Nat} {bA bK bV : Nat → Nat} {g : Nat → Nat} {xo hl sb o n : Nat} {so : Option Nat} {ep fc : Int32} {p : Int32}  (hl0 : l.stackTraces = false) (hx : h xo = some (.inr (1, [.ref r, va_rf so, .ref hl, .ref sb, .int ep, .int fc, .ref o]))) (hW : RW G h r ((ti, tia, tf), (tt, tl, ta, x, A), (sm, smc, sA, sK, sV), (bm, bmc, bA, bK, bV)) g) (hV : INV n g)  : CtX G l yX1_berthsNeeded cX1_berthsNeeded 2 (some .int) 13 (380) (2200) [.ref xo, .int p] h (fun r0 h2 => iR p (g 1) ∧ (∃ S N nd, BGV g (tn p) S N nd ∧ r0 = some (.int (nI nd))) ∧ Fr nM h h2) (XF h (fun E => ¬ iR p (g 1) ∧ E = eIX)) := by
  refine CtX.of (by decide) (Nat.le_of_ble_eq_true rfl) (cat1 rfl) (fun X hXl F HT => ?_)
  subst hXl
  obtain ⟨hr, hWt, hWr, hWs, hWb⟩ : h r = some (.inr (2, [.ref ti, .ref tt, .ref sm, .ref bm, .int (nI (g 4)), .int (nI (g 5)), .int (nI (g 6)), .int (nI (g 7))])) ∧ RWt G h (ti, tia, tf) g ∧ RWr G h (tt, tl, ta, x, A) g ∧ RWs G h (sm, smc, sA, sK, sV) g ∧ RWb G h (bm, bmc, bA, bK, bV) g := id hW
  have hI := hV.W
  have hg08 := hI.2.1
  refine V_aload_n (i := 0) F dX1_berthsNeeded_0 rfl rfl ?_
  refine V_iload_n (i := 1) F dX1_berthsNeeded_1 rfl rfl ?_
  refine V_xcV (st := []) (nn := 1) F dX1_berthsNeeded_2 lk_X1_150 (ct_X1_trainWith hl0 hx hW hV) ⟨1, _, _, _, rfl, .inl hx⟩ rfl rfl (Nat.le_of_ble_eq_true rfl) (Nat.le_of_ble_eq_true rfl) (Nat.le_of_ble_eq_true rfl) (by omega) (by omega) ?_ ?_
  · rintro _ _ ⟨t, ht, rfl, rfl, rfl⟩
    have hT6 := hI.t6 ht
    have htn : tn (nI t) = t := tn_nI (by omega)
    have hiR : iR (nI t) (g 1) := (iR_nI (by omega)).mpr ht
    refine V_pop F dX1_berthsNeeded_5 rfl ?_
    refine V_aload_n (i := 0) F dX1_berthsNeeded_6 rfl rfl ?_
    refine V_getf F dX1_berthsNeeded_7 fc_X1_44_X1 (.inl hx) rfl ?_
    refine V_iload_n (i := 1) F dX1_berthsNeeded_10 rfl rfl ?_
    refine V_callV (st := []) (nn := 1) F dX1_berthsNeeded_11 lk_X1_313 (ct_RW_berths hW hI ht) ⟨2, _, _, _, rfl, .inl hW.1⟩ rfl rfl (Nat.le_of_ble_eq_true rfl) (Nat.le_of_ble_eq_true rfl) (Nat.le_of_ble_eq_true rfl) (by omega) (by omega) ?_
    rintro _ h4 ⟨b9, so9, nu, ar9, nar, S, f9, N9, fN, nd, rfl, hb0, hb4, hBG, hBK, hNu, hIN, hfb, hx4⟩
    have hF4 : Fr nM h h4 := hx4
    refine V_getn F dX1_berthsNeeded_14 fc_X1_317_X16 (.inl hb4) rfl ?_
    exact VV.rx (V_iret F dX1_berthsNeeded_17 rfl (by first | exact Nat.le_of_ble_eq_true rfl | omega) (by first | exact Nat.le_of_ble_eq_true rfl | omega) ⟨hiR, ⟨S, N9, nd, by rw [htn]; exact hBG, rfl⟩, hF4⟩)
  · exact fun E q h2 hp => V_xout F (HT _) (by omega) (by omega) (XF.of Fr.rf hp (fun hc => hc))
theorem ct_X1_berthsNeededByLegs {G : GG} {l : Launch} {h : AH} {r ti tia : Nat} {tf : Nat → Nat} {tt tl ta : Nat} {x : Nat → Nat} {A : Nat → Nat → Nat} {sm smc : Nat} {sA sK sV : Nat → Nat} {bm bmc : Nat} {bA bK bV : Nat → Nat} {g : Nat → Nat} {xo hl sb o n : Nat} {so : Option Nat} {ep fc : Int32} {p : Int32}  (hl0 : l.stackTraces = false) (hx : h xo = some (.inr (1, [.ref r, va_rf so, .ref hl, .ref sb, .int ep, .int fc, .ref o]))) (hW : RW G h r ((ti, tia, tf), (tt, tl, ta, x, A), (sm, smc, sA, sK, sV), (bm, bmc, bA, bK, bV)) g) (hV : INV n g)  : CtX G l yX1_berthsNeededByLegs cX1_berthsNeededByLegs 2 (some .int) 8 (2) (12) [.ref xo, .int p] h (fun r0 h2 => iR p (g 1) ∧ r0 = some (.int (nI (bmN g (tn p) (g (16 + 36 * tn p + 3) - 1)))) ∧ h = h2) (XF h (fun E => ¬ iR p (g 1) ∧ E = eIX)) := by
  refine CtX.of (by decide) (Nat.le_of_ble_eq_true rfl) (cat1 rfl) (fun X hXl F HT => ?_)
  subst hXl
  obtain ⟨hr, hWt, hWr, hWs, hWb⟩ : h r = some (.inr (2, [.ref ti, .ref tt, .ref sm, .ref bm, .int (nI (g 4)), .int (nI (g 5)), .int (nI (g 6)), .int (nI (g 7))])) ∧ RWt G h (ti, tia, tf) g ∧ RWr G h (tt, tl, ta, x, A) g ∧ RWs G h (sm, smc, sA, sK, sV) g ∧ RWb G h (bm, bmc, bA, bK, bV) g := id hW
  have hI := hV.W
  have hg08 := hI.2.1
  refine V_aload_n (i := 0) F dX1_berthsNeededByLegs_0 rfl rfl ?_
  refine V_iload_n (i := 1) F dX1_berthsNeededByLegs_1 rfl rfl ?_
  refine V_xcV (st := []) (nn := 1) F dX1_berthsNeededByLegs_2 lk_X1_150 (ct_X1_trainWith hl0 hx hW hV) ⟨1, _, _, _, rfl, .inl hx⟩ rfl rfl (Nat.le_of_ble_eq_true rfl) (Nat.le_of_ble_eq_true rfl) (Nat.le_of_ble_eq_true rfl) (by omega) (by omega) ?_ ?_
  · rintro _ _ ⟨t, ht, rfl, rfl, rfl⟩
    have hT6 := hI.t6 ht
    have htn : tn (nI t) = t := tn_nI (by omega)
    have hiR : iR (nI t) (g 1) := (iR_nI (by omega)).mpr ht
    refine V_pop F dX1_berthsNeededByLegs_5 rfl ?_
    refine V_aload_n (i := 0) F dX1_berthsNeededByLegs_6 rfl rfl ?_
    refine V_getf F dX1_berthsNeededByLegs_7 fc_X1_44_X1 (.inl hx) rfl ?_
    refine V_iload_n (i := 1) F dX1_berthsNeededByLegs_10 rfl rfl ?_
    refine V_callV (st := []) (nn := 1) F dX1_berthsNeededByLegs_11 lk_X1_322 (ct_RW_berthsByLegs hW hI ht) ⟨2, _, _, _, rfl, .inl hW.1⟩ rfl rfl (Nat.le_of_ble_eq_true rfl) (Nat.le_of_ble_eq_true rfl) (Nat.le_of_ble_eq_true rfl) (by omega) (by omega) ?_
    refine PRk ?_
    exact VV.rx (V_iret F dX1_berthsNeededByLegs_14 rfl (by first | exact Nat.le_of_ble_eq_true rfl | omega) (by first | exact Nat.le_of_ble_eq_true rfl | omega) ⟨hiR, by rw [htn], rfl⟩)
  · exact fun E q h2 hp => V_xout F (HT _) (by omega) (by omega) (XF.of Fr.rf hp (fun hc => hc))
theorem ct_X1_legsAsDivisor {G : GG} {l : Launch} {h : AH} {r ti tia : Nat} {tf : Nat → Nat} {tt tl ta : Nat} {x : Nat → Nat} {A : Nat → Nat → Nat} {sm smc : Nat} {sA sK sV : Nat → Nat} {bm bmc : Nat} {bA bK bV : Nat → Nat} {g : Nat → Nat} {xo hl sb o n : Nat} {so : Option Nat} {ep fc : Int32}  (hl0 : l.stackTraces = false) (hx : h xo = some (.inr (1, [.ref r, va_rf so, .ref hl, .ref sb, .int ep, .int fc, .ref o]))) (hW : RW G h r ((ti, tia, tf), (tt, tl, ta, x, A), (sm, smc, sA, sK, sV), (bm, bmc, bA, bK, bV)) g) (hV : INV n g)  : CtX G l yX1_legsAsDivisor cX1_legsAsDivisor 2 (some .int) 6 (3) (20) [.ref xo] h (fun r0 h2 => (lgL g).length ≠ 0 ∧ r0 = some (.int (nI (lgL g).length)) ∧ Fr nM h h2) (XF h (fun E => (lgL g).length = 0 ∧ E = eMA)) := by
  refine CtX.of (by decide) (Nat.le_of_ble_eq_true rfl) (cat1 rfl) (fun X hXl F HT => ?_)
  subst hXl
  obtain ⟨hr, hWt, hWr, hWs, hWb⟩ : h r = some (.inr (2, [.ref ti, .ref tt, .ref sm, .ref bm, .int (nI (g 4)), .int (nI (g 5)), .int (nI (g 6)), .int (nI (g 7))])) ∧ RWt G h (ti, tia, tf) g ∧ RWr G h (tt, tl, ta, x, A) g ∧ RWs G h (sm, smc, sA, sK, sV) g ∧ RWb G h (bm, bmc, bA, bK, bV) g := id hW
  have hI := hV.W
  have hg08 := hI.2.1
  refine V_aload_n (i := 0) F dX1_legsAsDivisor_0 rfl rfl ?_
  refine V_getf F dX1_legsAsDivisor_1 fc_X1_44_X1 (.inl hx) rfl ?_
  refine V_getn F dX1_legsAsDivisor_4 fc_X1_137_X2 (.inl hr) rfl ?_
  refine V_callV (st := []) (nn := 0) F dX1_legsAsDivisor_7 lk_X1_344 (ct_TT_legCount hWr hI) ⟨3, _, _, _, rfl, .inl hWr.1⟩ rfl rfl (Nat.le_of_ble_eq_true rfl) (Nat.le_of_ble_eq_true rfl) (Nat.le_of_ble_eq_true rfl) (by omega) (by omega) ?_
  rintro _ h3 ⟨rfl, hx3⟩
  have hl42 := lgL_len hI
  refine V_istore_n (i := 1) F dX1_legsAsDivisor_10 rfl (Nat.le_of_ble_eq_true rfl) (Nat.le_of_ble_eq_true rfl) ?_
  refine V_iload_n (i := 1) F dX1_legsAsDivisor_11 rfl rfl ?_
  refine V_if_neN (tgt := 23) F dX1_legsAsDivisor_12 (by decide) (by omega) (fun c_12 => ?_) (fun c_12 => ?_)
  · refine V_iload_n (i := 1) F dX1_legsAsDivisor_23 rfl rfl ?_
    exact VV.rx (V_iret F dX1_legsAsDivisor_24 rfl (by first | exact Nat.le_of_ble_eq_true rfl | omega) (by first | exact Nat.le_of_ble_eq_true rfl | omega) ⟨by omega, rfl, hx3⟩)
  · have p1 : h3 xo = some (.inr (1, [.ref (r), va_rf (so), .ref (hl), .ref (sb), .int (ep), .int (fc), .ref (o)])) := (hx3.get hx id rfl)
    have p2 : h3 r = some (.inr (2, [.ref (ti), .ref (tt), .ref (sm), .ref (bm), .int (nI (g 4)), .int (nI (g 5)), .int (nI (g 6)), .int (nI (g 7))])) := (hx3.get hr id rfl)
    refine V_make0 F hl0 e0_J48 (by decide +kernel) q169 (ci := 39) rfl dX1_legsAsDivisor_15 dX1_legsAsDivisor_18 dX1_legsAsDivisor_19 q3240 q3241 (Nat.le_of_ble_eq_true rfl) (Nat.le_of_ble_eq_true rfl) (by omega) (by omega) ?_
    intro q hfq hbq
    have qq : (hset h3 q (.inr (39, []))) q = some (.inr (39, [])) := (hset_self (e := .inr (39, [])))
    have qf := (hx3.nw (x := .inr (39, [])) hfq)
    refine V_athrow F dX1_legsAsDivisor_22 ⟨39, _, _, _, rfl, (Or.inl qq)⟩ ?_
    exact V_xout F (HT _) (by omega) (by omega) ⟨⟨by omega, rfl⟩, qf⟩
theorem ct_X1_meanLoad {G : GG} {l : Launch} {h : AH} {r ti tia : Nat} {tf : Nat → Nat} {tt tl ta : Nat} {x : Nat → Nat} {A : Nat → Nat → Nat} {sm smc : Nat} {sA sK sV : Nat → Nat} {bm bmc : Nat} {bA bK bV : Nat → Nat} {g : Nat → Nat} {xo hl sb o n : Nat} {so : Option Nat} {ep fc : Int32}  (hl0 : l.stackTraces = false) (hx : h xo = some (.inr (1, [.ref r, va_rf so, .ref hl, .ref sb, .int ep, .int fc, .ref o]))) (hW : RW G h r ((ti, tia, tf), (tt, tl, ta, x, A), (sm, smc, sA, sK, sV), (bm, bmc, bA, bK, bV)) g) (hV : INV n g) (hsm : ((lgL g).foldl (fun (a : Nat) (x : Nat × Nat) => a + (ldG g x.1 x.2)) 0) ≤ 210)  : CtX G l yX1_meanLoad cX1_meanLoad 2 (some .double) 7 (60) (400) [.ref xo] h (fun r0 h2 => (lgL g).length ≠ 0 ∧ r0 = some (.double (FP.ddiv (FP.i2d (nI ((lgL g).foldl (fun (a : Nat) (x : Nat × Nat) => a + (ldG g x.1 x.2)) 0))) (FP.i2d (nI (lgL g).length)))) ∧ Fr nM h h2) (XF h (fun E => (lgL g).length = 0 ∧ E = eMA)) := by
  refine CtX.of (by decide) (Nat.le_of_ble_eq_true rfl) (cat1 rfl) (fun X hXl F HT => ?_)
  subst hXl
  obtain ⟨hr, hWt, hWr, hWs, hWb⟩ : h r = some (.inr (2, [.ref ti, .ref tt, .ref sm, .ref bm, .int (nI (g 4)), .int (nI (g 5)), .int (nI (g 6)), .int (nI (g 7))])) ∧ RWt G h (ti, tia, tf) g ∧ RWr G h (tt, tl, ta, x, A) g ∧ RWs G h (sm, smc, sA, sK, sV) g ∧ RWb G h (bm, bmc, bA, bK, bV) g := id hW
  have hI := hV.W
  have hg08 := hI.2.1
  refine V_aload_n (i := 0) F dX1_meanLoad_0 rfl rfl ?_
  refine V_xcV (st := []) (nn := 0) F dX1_meanLoad_1 lk_X1_350 (ct_X1_legsAsDivisor hl0 hx hW hV) ⟨1, _, _, _, rfl, .inl hx⟩ rfl rfl (Nat.le_of_ble_eq_true rfl) (Nat.le_of_ble_eq_true rfl) (Nat.le_of_ble_eq_true rfl) (by omega) (by omega) ?_ ?_
  · rintro _ h3 ⟨hne, rfl, hx3⟩
    have hl42 := lgL_len hI
    refine V_istore_n (i := 1) F dX1_meanLoad_4 rfl (Nat.le_of_ble_eq_true rfl) (Nat.le_of_ble_eq_true rfl) ?_
    refine V_aload_n (i := 0) F dX1_meanLoad_5 rfl rfl ?_
    refine V_getf F dX1_meanLoad_6 fc_X1_44_X1 (.inl (hx3.get hx id rfl)) rfl ?_
    refine V_getn F dX1_meanLoad_9 fc_X1_137_X2 (.inl (hx3.get hr id rfl)) rfl ?_
    refine V_callV (st := []) (nn := 0) F dX1_meanLoad_12 lk_X1_353 (ct_TT_loadTotal (hWr.fr0 hx3) hI) ⟨3, _, _, _, rfl, .inl (hWr.fr0 hx3).1⟩ rfl rfl (Nat.le_of_ble_eq_true rfl) (Nat.le_of_ble_eq_true rfl) (Nat.le_of_ble_eq_true rfl) (by omega) (by omega) ?_
    rintro _ h4 ⟨rfl, hx4⟩
    have hF4 : Fr nM h h4 := hx3.cal0 hx4
    refine V_i2d F dX1_meanLoad_15 ?_
    refine V_iload_n (i := 1) F dX1_meanLoad_16 rfl rfl ?_
    refine V_i2d F dX1_meanLoad_17 ?_
    refine V_ddiv F dX1_meanLoad_18 (n64_i2d hsm (by omega) (by omega)) ?_
    exact VV.rx (V_dret F dX1_meanLoad_19 (by omega) (by omega) ⟨hne, rfl, hF4⟩)
  · exact fun E q h2 hp => V_xout F (HT _) (by omega) (by omega) (XF.of Fr.rf hp (fun hc => hc))
theorem ct_X1_fullShare {G : GG} {l : Launch} {h : AH} {r ti tia : Nat} {tf : Nat → Nat} {tt tl ta : Nat} {x : Nat → Nat} {A : Nat → Nat → Nat} {sm smc : Nat} {sA sK sV : Nat → Nat} {bm bmc : Nat} {bA bK bV : Nat → Nat} {g : Nat → Nat} {xo hl sb o n : Nat} {so : Option Nat} {ep fc : Int32}  (hl0 : l.stackTraces = false) (hx : h xo = some (.inr (1, [.ref r, va_rf so, .ref hl, .ref sb, .int ep, .int fc, .ref o]))) (hW : RW G h r ((ti, tia, tf), (tt, tl, ta, x, A), (sm, smc, sA, sK, sV), (bm, bmc, bA, bK, bV)) g) (hV : INV n g) (hsm : ((lgL g).foldl (fun (a : Nat) (x : Nat × Nat) => a + (if ldG g x.1 x.2 = g (16 + 36 * x.1 + 0) then 1 else 0)) 0) ≤ 42)  : CtX G l yX1_fullShare cX1_fullShare 2 (some .float) 7 (60) (400) [.ref xo] h (fun r0 h2 => (lgL g).length ≠ 0 ∧ r0 = some (.float (FP.fdiv (FP.i2f (nI ((lgL g).foldl (fun (a : Nat) (x : Nat × Nat) => a + (if ldG g x.1 x.2 = g (16 + 36 * x.1 + 0) then 1 else 0)) 0))) (FP.i2f (nI (lgL g).length)))) ∧ Fr nM h h2) (XF h (fun E => (lgL g).length = 0 ∧ E = eMA)) := by
  refine CtX.of (by decide) (Nat.le_of_ble_eq_true rfl) (cat1 rfl) (fun X hXl F HT => ?_)
  subst hXl
  obtain ⟨hr, hWt, hWr, hWs, hWb⟩ : h r = some (.inr (2, [.ref ti, .ref tt, .ref sm, .ref bm, .int (nI (g 4)), .int (nI (g 5)), .int (nI (g 6)), .int (nI (g 7))])) ∧ RWt G h (ti, tia, tf) g ∧ RWr G h (tt, tl, ta, x, A) g ∧ RWs G h (sm, smc, sA, sK, sV) g ∧ RWb G h (bm, bmc, bA, bK, bV) g := id hW
  have hI := hV.W
  have hg08 := hI.2.1
  refine V_aload_n (i := 0) F dX1_fullShare_0 rfl rfl ?_
  refine V_xcV (st := []) (nn := 0) F dX1_fullShare_1 lk_X1_350 (ct_X1_legsAsDivisor hl0 hx hW hV) ⟨1, _, _, _, rfl, .inl hx⟩ rfl rfl (Nat.le_of_ble_eq_true rfl) (Nat.le_of_ble_eq_true rfl) (Nat.le_of_ble_eq_true rfl) (by omega) (by omega) ?_ ?_
  · rintro _ h3 ⟨hne, rfl, hx3⟩
    have hl42 := lgL_len hI
    refine V_istore_n (i := 1) F dX1_fullShare_4 rfl (Nat.le_of_ble_eq_true rfl) (Nat.le_of_ble_eq_true rfl) ?_
    refine V_aload_n (i := 0) F dX1_fullShare_5 rfl rfl ?_
    refine V_getf F dX1_fullShare_6 fc_X1_44_X1 (.inl (hx3.get hx id rfl)) rfl ?_
    refine V_getn F dX1_fullShare_9 fc_X1_137_X2 (.inl (hx3.get hr id rfl)) rfl ?_
    refine V_callV (st := []) (nn := 0) F dX1_fullShare_12 lk_X1_356 (ct_TT_fullCount (hWr.fr0 hx3) hI) ⟨3, _, _, _, rfl, .inl (hWr.fr0 hx3).1⟩ rfl rfl (Nat.le_of_ble_eq_true rfl) (Nat.le_of_ble_eq_true rfl) (Nat.le_of_ble_eq_true rfl) (by omega) (by omega) ?_
    rintro _ h4 ⟨rfl, hx4⟩
    have hF4 : Fr nM h h4 := hx3.cal0 hx4
    refine V_i2f F dX1_fullShare_15 ?_
    refine V_iload_n (i := 1) F dX1_fullShare_16 rfl rfl ?_
    refine V_i2f F dX1_fullShare_17 ?_
    refine V_fdiv F dX1_fullShare_18 (n32_i2f hsm (by omega) (by omega)) ?_
    exact VV.rx (V_fret F dX1_fullShare_19 (by omega) (by omega) ⟨hne, rfl, hF4⟩)
  · exact fun E q h2 hp => V_xout F (HT _) (by omega) (by omega) (XF.of Fr.rf hp (fun hc => hc))
theorem ct_X1_errorPosition {G : GG} {l : Launch} {h : AH} {r ti tia : Nat} {tf : Nat → Nat} {tt tl ta : Nat} {x : Nat → Nat} {A : Nat → Nat → Nat} {sm smc : Nat} {sA sK sV : Nat → Nat} {bm bmc : Nat} {bA bK bV : Nat → Nat} {g : Nat → Nat} {xo hl sb o n : Nat} {so : Option Nat} {ep fc : Int32}  (hl0 : l.stackTraces = false) (hx : h xo = some (.inr (1, [.ref r, va_rf so, .ref hl, .ref sb, .int ep, .int fc, .ref o]))) (hW : RW G h r ((ti, tia, tf), (tt, tl, ta, x, A), (sm, smc, sA, sK, sV), (bm, bmc, bA, bK, bV)) g) (hV : INV n g)  : CtX G l yX1_errorPosition cX1_errorPosition 1 (some .int) 8 (1) (6) [.ref xo] h (fun r0 h2 => ep ≠ -1 ∧ r0 = some (.int ep) ∧ h = h2) (XF h (fun E => ep = -1 ∧ E = eEL)) := by
  refine CtX.of (by decide) (Nat.le_of_ble_eq_true rfl) (cat1 rfl) (fun X hXl F HT => ?_)
  subst hXl
  obtain ⟨hr, hWt, hWr, hWs, hWb⟩ : h r = some (.inr (2, [.ref ti, .ref tt, .ref sm, .ref bm, .int (nI (g 4)), .int (nI (g 5)), .int (nI (g 6)), .int (nI (g 7))])) ∧ RWt G h (ti, tia, tf) g ∧ RWr G h (tt, tl, ta, x, A) g ∧ RWs G h (sm, smc, sA, sK, sV) g ∧ RWb G h (bm, bmc, bA, bK, bV) g := id hW
  have hI := hV.W
  have hg08 := hI.2.1
  refine V_aload_n (i := 0) F dX1_errorPosition_0 rfl rfl ?_
  refine V_getf F dX1_errorPosition_1 fc_X1_28_X1 (.inl hx) rfl ?_
  refine V_xcS (st := []) (nn := 1) F dX1_errorPosition_4 lk_X1_187 (ct_X1_found hl0) rfl rfl (Nat.le_of_ble_eq_true rfl) (Nat.le_of_ble_eq_true rfl) (Nat.le_of_ble_eq_true rfl) (by omega) (by omega) ?_ ?_
  · rintro _ _ ⟨rfl, rfl, hne⟩
    exact VV.rx (V_iret F dX1_errorPosition_7 rfl (by first | exact Nat.le_of_ble_eq_true rfl | omega) (by first | exact Nat.le_of_ble_eq_true rfl | omega) ⟨hne, rfl, rfl⟩)
  · exact fun E q h2 hp => V_xout F (HT _) (by omega) (by omega) (XF.of Fr.rf hp (fun hc => hc))
theorem ct_X1_failedCommand {G : GG} {l : Launch} {h : AH} {r ti tia : Nat} {tf : Nat → Nat} {tt tl ta : Nat} {x : Nat → Nat} {A : Nat → Nat → Nat} {sm smc : Nat} {sA sK sV : Nat → Nat} {bm bmc : Nat} {bA bK bV : Nat → Nat} {g : Nat → Nat} {xo hl sb o n : Nat} {so : Option Nat} {ep fc : Int32}  (hl0 : l.stackTraces = false) (hx : h xo = some (.inr (1, [.ref r, va_rf so, .ref hl, .ref sb, .int ep, .int fc, .ref o]))) (hW : RW G h r ((ti, tia, tf), (tt, tl, ta, x, A), (sm, smc, sA, sK, sV), (bm, bmc, bA, bK, bV)) g) (hV : INV n g)  : CtX G l yX1_failedCommand cX1_failedCommand 1 (some .int) 8 (1) (6) [.ref xo] h (fun r0 h2 => fc ≠ -1 ∧ r0 = some (.int fc) ∧ h = h2) (XF h (fun E => fc = -1 ∧ E = eEL)) := by
  refine CtX.of (by decide) (Nat.le_of_ble_eq_true rfl) (cat1 rfl) (fun X hXl F HT => ?_)
  subst hXl
  obtain ⟨hr, hWt, hWr, hWs, hWb⟩ : h r = some (.inr (2, [.ref ti, .ref tt, .ref sm, .ref bm, .int (nI (g 4)), .int (nI (g 5)), .int (nI (g 6)), .int (nI (g 7))])) ∧ RWt G h (ti, tia, tf) g ∧ RWr G h (tt, tl, ta, x, A) g ∧ RWs G h (sm, smc, sA, sK, sV) g ∧ RWb G h (bm, bmc, bA, bK, bV) g := id hW
  have hI := hV.W
  have hg08 := hI.2.1
  refine V_aload_n (i := 0) F dX1_failedCommand_0 rfl rfl ?_
  refine V_getf F dX1_failedCommand_1 fc_X1_32_X1 (.inl hx) rfl ?_
  refine V_xcS (st := []) (nn := 1) F dX1_failedCommand_4 lk_X1_187 (ct_X1_found hl0) rfl rfl (Nat.le_of_ble_eq_true rfl) (Nat.le_of_ble_eq_true rfl) (Nat.le_of_ble_eq_true rfl) (by omega) (by omega) ?_ ?_
  · rintro _ _ ⟨rfl, rfl, hne⟩
    exact VV.rx (V_iret F dX1_failedCommand_7 rfl (by first | exact Nat.le_of_ble_eq_true rfl | omega) (by first | exact Nat.le_of_ble_eq_true rfl | omega) ⟨hne, rfl, rfl⟩)
  · exact fun E q h2 hp => V_xout F (HT _) (by omega) (by omega) (XF.of Fr.rf hp (fun hc => hc))
