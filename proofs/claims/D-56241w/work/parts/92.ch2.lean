theorem RWs.fr1 {G : GG} {h h2 : AH} {a c : Nat} {fs : List Value} {d : DM} {g : Nat → Nat} (hR : RWs G h d g) (hx : Fr (m1 a) h h2) (ha : h a = some (.inr (c, fs))) (hc : c ≠ 23 ∧ c ≠ 24 ∧ c ≠ 27 ∧ c ≠ 8) : RWs G h2 d g :=
  ⟨hR.1.fr1 hx ha hc.1 hc.2.1, hR.2.1, fun i hi => ⟨(hR.2.2 i hi).1.fr hx (offK.m1 ha (kO_ne hc.2.2.1)), hx.get (hR.2.2 i hi).2 ((offK.m1 (S := kO 8) ha (kO_ne hc.2.2.2)).o (hR.2.2 i hi).2) rfl⟩⟩
theorem RWb.fr1 {G : GG} {h h2 : AH} {a c : Nat} {fs : List Value} {d : DM} {g : Nat → Nat} (hR : RWb G h d g) (hx : Fr (m1 a) h h2) (ha : h a = some (.inr (c, fs))) (hc : c ≠ 23 ∧ c ≠ 24 ∧ c ≠ 27 ∧ c ≠ 11) : RWb G h2 d g :=
  ⟨hR.1.fr1 hx ha hc.1 hc.2.1, hR.2.1, fun i hi => ⟨(hR.2.2 i hi).1.fr hx (offK.m1 ha (kO_ne hc.2.2.1)), hx.get (hR.2.2 i hi).2 ((offK.m1 (S := kO 11) ha (kO_ne hc.2.2.2)).o (hR.2.2 i hi).2) rfl⟩⟩
def kdDT (c : Nat) : String := if c = 1 then "index" else "argument"
theorem nxDT_o {g : Nat → Nat} {t v i : Nat} (h : i ≠ 16 + 36 * t + 2) : nxDT g t v i = g i := by unfold nxDT; rw [up_n h]
theorem nxDT_s {g : Nat → Nat} {t v : Nat} : nxDT g t v (16 + 36 * t + 2) = v := by unfold nxDT; rw [up_s]
theorem ct_RW_delayTrain {G : GG} {l : Launch} {h : AH} {h0 : AH} {r ti tia : Nat} {tf : Nat → Nat} {tt tl ta : Nat} {x : Nat → Nat} {A : Nat → Nat → Nat} {sm smc : Nat} {sA sK sV : Nat → Nat} {bm bmc : Nat} {bA bK bV : Nat → Nat} {g : Nat → Nat} {p v : Int32}  (hdem : DEM G l) (hW : RW G h r ((ti, tia, tf), (tt, tl, ta, x, A), (sm, smc, sA, sK, sV), (bm, bmc, bA, bK, bV)) g) (hO : RO G h0 r ((ti, tia, tf), (tt, tl, ta, x, A), (sm, smc, sA, sK, sV), (bm, bmc, bA, bK, bV)) g) (hI : GW g)  : CtX G l yX2_delayTrain cX2_delayTrain 4 (some .int) 13 (3) (24) [.ref r, .int p, .int v] h (fun r0 h2 => r0 = some (.int (nI (g (16 + 36 * tn p + 2)))) ∧ cdDT g p v = 0 ∧ (∃ D2, RW G h2 r D2 (nxDT g (tn p) (tn v)) ∧ RO G h0 r D2 (nxDT g (tn p) (tn v))) ∧ Fr (fH h0) h h2) (CFx G h (cdDT g p v) kdDT) := by
  refine CtX.of (by decide) (Nat.le_of_ble_eq_true rfl) (cat1 rfl) (fun X hXl F HT => ?_)
  subst hXl
  obtain ⟨hr, hWt, hWr, hWs, hWb⟩ : h r = some (.inr (2, [.ref ti, .ref tt, .ref sm, .ref bm, .int (nI (g 4)), .int (nI (g 5)), .int (nI (g 6)), .int (nI (g 7))])) ∧ RWt G h (ti, tia, tf) g ∧ RWr G h (tt, tl, ta, x, A) g ∧ RWs G h (sm, smc, sA, sK, sV) g ∧ RWb G h (bm, bmc, bA, bK, bV) g := id hW
  refine V_aload_n (i := 0) F dX2_delayTrain_0 rfl rfl ?_
  refine V_getf F dX2_delayTrain_1 fc_X2_21_X2 (.inl hr) rfl ?_
  refine V_iload_n (i := 1) F dX2_delayTrain_4 rfl rfl ?_
  refine V_callV (st := []) (nn := 1) F dX2_delayTrain_5 lk_X2_151 (ct_TT_has hWr hI) ⟨3, _, _, _, rfl, .inl hWr.1⟩ rfl rfl (Nat.le_of_ble_eq_true rfl) (Nat.le_of_ble_eq_true rfl) (Nat.le_of_ble_eq_true rfl) (by omega) (by omega) ?_
  refine PRk ?_
  refine V_ldcS F dX2_delayTrain_8 q2485 ?_
  intro w1 hGw1
  refine V_xcSN (st := []) (nn := 2) F dX2_delayTrain_10 lk_X2_128 q2448 (hdem ((b2 (iR p (g 1)))) w1 (h)) rfl rfl (Nat.le_of_ble_eq_true rfl) (Nat.le_of_ble_eq_true rfl) (Nat.le_of_ble_eq_true rfl) (by omega) (by omega) ?_ ?_
  · rintro _ _ ⟨rfl, rfl, hd_10⟩
    have hP_10 : iR p (g 1) := b2_nz hd_10
    refine V_iload_n (i := 2) F dX2_delayTrain_13 rfl rfl ?_
    refine V_iconst (v := nI 0) F dX2_delayTrain_14 rfl ?_
    refine V_bipush (v := nI 120) F dX2_delayTrain_15 rfl ?_
    refine V_callSN (st := []) (nn := 3) F dX2_delayTrain_17 lk_X2_106 q1796 (ct_isBetween) rfl rfl (Nat.le_of_ble_eq_true rfl) (Nat.le_of_ble_eq_true rfl) (Nat.le_of_ble_eq_true rfl) (by omega) (by omega) ?_
    refine PRk ?_
    refine V_ldcS F dX2_delayTrain_20 q2446 ?_
    intro w2 hGw2
    refine V_xcSN (st := []) (nn := 2) F dX2_delayTrain_22 lk_X2_128 q2448 (hdem ((b2 (nI 0 ≤ v ∧ v ≤ nI 120))) w2 (h)) rfl rfl (Nat.le_of_ble_eq_true rfl) (Nat.le_of_ble_eq_true rfl) (Nat.le_of_ble_eq_true rfl) (by omega) (by omega) ?_ ?_
    · rintro _ _ ⟨rfl, rfl, hd_22⟩
      have hP_22 : nI 0 ≤ v ∧ v ≤ nI 120 := b2_nz hd_22
      obtain ⟨k, hk, rfl⟩ := iR_of hP_10 hI.b.lt
      obtain ⟨hxk, f, hA, e0, e1, e2, e3, e4⟩ := id (hWr.2.2 k hk)
      refine V_aload_n (i := 0) F dX2_delayTrain_25 rfl rfl ?_
      refine V_getf F dX2_delayTrain_26 fc_X2_21_X2 (.inl hr) rfl ?_
      refine V_iload_n (i := 1) F dX2_delayTrain_29 rfl rfl ?_
      refine V_callV (st := []) (nn := 1) F dX2_delayTrain_30 lk_X2_154 (ct_TT_get hWr hI hk) ⟨3, _, _, _, rfl, .inl hWr.1⟩ rfl rfl (Nat.le_of_ble_eq_true rfl) (Nat.le_of_ble_eq_true rfl) (Nat.le_of_ble_eq_true rfl) (by omega) (by omega) ?_
      refine PRk ?_
      refine V_getn F dX2_delayTrain_33 fc_X2_168_X5 (.inl hxk) rfl ?_
      refine V_istore_n (i := 3) F dX2_delayTrain_36 rfl (Nat.le_of_ble_eq_true rfl) (Nat.le_of_ble_eq_true rfl) ?_
      refine V_aload_n (i := 0) F dX2_delayTrain_37 rfl rfl ?_
      refine V_getf F dX2_delayTrain_38 fc_X2_21_X2 (.inl hr) rfl ?_
      refine V_iload_n (i := 1) F dX2_delayTrain_41 rfl rfl ?_
      refine V_callV (st := []) (nn := 1) F dX2_delayTrain_42 lk_X2_154 (ct_TT_get hWr hI hk) ⟨3, _, _, _, rfl, .inl hWr.1⟩ rfl rfl (Nat.le_of_ble_eq_true rfl) (Nat.le_of_ble_eq_true rfl) (Nat.le_of_ble_eq_true rfl) (by omega) (by omega) ?_
      refine PRk ?_
      refine V_iload_n (i := 2) F dX2_delayTrain_45 rfl rfl ?_
      refine V_putn F dX2_delayTrain_46 fp_X2_168_X5 hxk rfl rfl (Nat.le_of_ble_eq_true rfl) ?_
      refine VV.heap (h' := (hset h ((x k)) (.inr (4, [.int (nI (g (16 + 36 * k + 0))), .ref ((A k 0)), .ref ((A k 1)), .ref ((A k 2)), .ref ((A k 3)), .ref ((A k 4)), .int (nI (g (16 + 36 * k + 3))), .int (v)])))) rfl ?_
      refine V_iload_n (i := 3) F dX2_delayTrain_49 rfl rfl ?_
      have hpx : (hset h ((x k)) (.inr (4, [.int (nI (g (16 + 36 * k + 0))), .ref ((A k 0)), .ref ((A k 1)), .ref ((A k 2)), .ref ((A k 3)), .ref ((A k 4)), .int (nI (g (16 + 36 * k + 3))), .int (v)]))) (x k) = some (.inr (4, [.int (nI (g (16 + 36 * k + 0))), .ref ((A k 0)), .ref ((A k 1)), .ref ((A k 2)), .ref ((A k 3)), .ref ((A k 4)), .int (nI (g (16 + 36 * k + 3))), .int (v)])) := (hset_self (e := .inr (4, [.int (nI (g (16 + 36 * k + 0))), .ref ((A k 0)), .ref ((A k 1)), .ref ((A k 2)), .ref ((A k 3)), .ref ((A k 4)), .int (nI (g (16 + 36 * k + 3))), .int (v)])))
      have hfz : Fr (fH h0) h ((hset h ((x k)) (.inr (4, [.int (nI (g (16 + 36 * k + 0))), .ref ((A k 0)), .ref ((A k 1)), .ref ((A k 2)), .ref ((A k 3)), .ref ((A k 4)), .int (nI (g (16 + 36 * k + 3))), .int (v)])))) := ((Fr.rf (M := fH h0) (h := h)).put (x := .inr (4, [.int (nI (g (16 + 36 * k + 0))), .ref ((A k 0)), .ref ((A k 1)), .ref ((A k 2)), .ref ((A k 3)), .ref ((A k 4)), .int (nI (g (16 + 36 * k + 3))), .int (v)])) hxk rfl rfl (Or.inl (hO.x k hk)))
      have hx2 : Fr (m1 (x k)) h ((hset h ((x k)) (.inr (4, [.int (nI (g (16 + 36 * k + 0))), .ref ((A k 0)), .ref ((A k 1)), .ref ((A k 2)), .ref ((A k 3)), .ref ((A k 4)), .int (nI (g (16 + 36 * k + 3))), .int (v)])))) := Fr.rf.put hxk rfl rfl (Or.inl rfl)
      obtain ⟨hv1, hv2, hv3⟩ := tn_in (by decide) hP_22 (by decide)
      have ek : tn (nI k) = k := tn_nI (by have := hI.t6 hk; omega)
      generalize (hset h ((x k)) (.inr (4, [.int (nI (g (16 + 36 * k + 0))), .ref ((A k 0)), .ref ((A k 1)), .ref ((A k 2)), .ref ((A k 3)), .ref ((A k 4)), .int (nI (g (16 + 36 * k + 3))), .int (v)]))) = h4 at hpx hfz hx2 ⊢
      have hne : ∀ u, u < g 1 → u ≠ k → x u ≠ x k := fun u hu he z => he (hO.xi u k hu hk z)
      have hR4 : RWr G h4 (tt, tl, ta, x, A) (nxDT g k (tn v)) := by
        refine ⟨hx2.get hWr.1 (fun z => ne_oo hWr.1 hxk (by decide) z) rfl, ?_, fun u hu => ?_⟩
        · rw [nxDT_o (by omega)]; exact hWr.2.1.fr1 hx2 hxk (by decide)
        · rw [nxDT_o (by omega)] at hu
          by_cases e : u = k
          · subst e
            have ht : ∀ j, j < 36 → j ≠ 2 → nxDT g u (tn v) (16 + 36 * u + j) = g (16 + 36 * u + j) := fun j hj h2 => nxDT_o (by omega)
            have hs8 := (hI.st hk).2
            refine ⟨by rw [nxDT_s, hv1, ht 0 (by omega) (by omega), ht 3 (by omega) (by omega)]; exact hpx, f, fun i hi => hx2.get (hA i hi) (fun z => ne_ao (hA i hi) hxk z) rfl, ?_, ?_, ?_, ?_, ?_⟩
            · intro j hj; rw [ht 3 (by omega) (by omega)] at hj; rw [plG_cg ht (by omega)]; exact e0 j hj
            · intro j hj0 hj; rw [ht 3 (by omega) (by omega)] at hj; rw [avG_cg ht (by omega)]; exact e1 j hj0 hj
            · intro j hj; rw [ht 3 (by omega) (by omega)] at hj; rw [dpG_cg ht j (by omega)]; exact e2 j hj
            · intro j hj; rw [ht (28 + j) (by omega) (by omega)]; exact e3 j hj
            · intro j hj; rw [bkG_cg (nxDT_o (by omega)) (fun o ho i2 hi2 => nxDT_o (by have := hI.t6 hk; omega))]; exact e4 j hj
          · have hTu := hWr.2.2 u hu
            have hTu2 : TRs G h4 (x u) (A u) g u := hTu.fr hx2 (hne u hu e) (fun i hi z => by obtain ⟨-, f2, hA2, -⟩ := hTu; exact ne_ao (hA2 i hi) hxk z)
            exact hTu2.cg (hI.st hu).2 (fun j hj => nxDT_o (by omega)) (fun j hj => bkG_cg (nxDT_o (by omega)) (fun o ho i2 hi2 => nxDT_o (by have := hI.t6 hk; omega)))
      have ht6 := hI.t6 hk
      have hi8 := hI.2.1
      have hg4 := hI.2.2.2.1
      have hg5 := hI.2.2.2.2.1
      have hT4 := (hWt.fr1 hx2 hxk (by decide)).cg (g2 := nxDT g k (tn v)) (nxDT_o (by omega)) (fun j hj => nxDT_o (by omega))
      have hS4 := (hWs.fr1 hx2 hxk (by decide)).cg (g2 := nxDT g k (tn v)) (nxDT_o (by omega)) (nxDT_o (by omega)) (fun i hi j hj => nxDT_o (by omega))
      have hM4 := (hWb.fr1 hx2 hxk (by decide)).cg (g2 := nxDT g k (tn v)) (nxDT_o (by omega)) (nxDT_o (by omega)) (fun i hi j hj => nxDT_o (by omega))
      have hr4 := hx2.get hr (fun z => ne_oo hr hxk (by decide) z) rfl
      have d1 : nxDT g k (tn v) 1 = g 1 := nxDT_o (by omega)
      have d2 : nxDT g k (tn v) 2 = g 2 := nxDT_o (by omega)
      have d3 : nxDT g k (tn v) 3 = g 3 := nxDT_o (by omega)
      exact VV.rx (V_iret F dX2_delayTrain_50 rfl (by omega) (by omega) (by rw [ek]; exact ⟨rfl, (if_neg (fun z => z hP_10)).trans (if_neg (fun z => z hP_22)), ⟨((ti, tia, tf), (tt, tl, ta, x, A), (sm, smc, sA, sK, sV), (bm, bmc, bA, bK, bV)), ⟨by rw [nxDT_o (by omega), nxDT_o (by omega), nxDT_o (by omega), nxDT_o (by omega)]; exact hr4, hT4, hR4, hS4, hM4⟩, hO.r, hO.ti, hO.tia, hO.tt, hO.tl, hO.ta, hO.sm, hO.bm, d1 ▸ hO.x, d1 ▸ hO.A, d2 ▸ hO.sA, d3 ▸ hO.bA, hO.til, hO.tia2, hO.sb, d2 ▸ d3 ▸ hO.sbA, d1 ▸ hO.xi, d1 ▸ hO.Ai⟩, hfz⟩))
    · exact fun E q h2 hp => V_xout F (HT _) (by omega) (by omega) (CFx.of (k := 2) (by have hz := b2_z hp.1; exact (if_neg (fun z => z hP_10)).trans (if_pos hz)) (by decide) hGw2 hp.2)
  · exact fun E q h2 hp => V_xout F (HT _) (by omega) (by omega) (CFx.of (k := 1) (by have hz := b2_z hp.1; exact if_pos hz) (by decide) hGw1 hp.2)
