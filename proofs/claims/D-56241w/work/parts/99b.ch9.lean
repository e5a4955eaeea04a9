def kdCB (_ : Nat) : String := "element"
/-- the code of a cancellation, as the class has it -/
def ccCB (g : Nat → Nat) (p : Int32) : Nat := (fdO g 264 p (g 3)).elim 1 (fun _ => 0)
theorem ct_RW_cancelBooking {G : GG} {l : Launch} {h : AH} {h0 : AH} {r ti tia : Nat} {tf : Nat → Nat} {tt tl ta : Nat} {x : Nat → Nat} {A : Nat → Nat → Nat} {sm smc : Nat} {sA sK sV : Nat → Nat} {bm bmc : Nat} {bA bK bV : Nat → Nat} {g : Nat → Nat} {p : Int32}  (hdem : DEM G l) (hW : RW G h r ((ti, tia, tf), (tt, tl, ta, x, A), (sm, smc, sA, sK, sV), (bm, bmc, bA, bK, bV)) g) (hO : RO G h0 r ((ti, tia, tf), (tt, tl, ta, x, A), (sm, smc, sA, sK, sV), (bm, bmc, bA, bK, bV)) g) (hI : GW g) (hbd : ∀ i j, i < j → j < g 3 → g (264 + 4 * i + 0) < g (264 + 4 * j + 0)) (hbv : ∀ o, o < g 3 → g (264 + 4 * o + 1) < g 1 ∧ g (264 + 4 * o + 2) < g (264 + 4 * o + 3) ∧ g (264 + 4 * o + 3) < g (16 + 36 * g (264 + 4 * o + 1) + 3)) : CtX G l yX2_cancelBooking cX2_cancelBooking 3 (some .int) 13 (8) (60) [.ref r, .int p] h (fun r0 h2 => ccCB g p = 0 ∧ ∃ k, fdO g 264 p (g 3) = some k ∧ r0 = some (.int (nI (g 3 - 1))) ∧ (∃ D2, RW G h2 r D2 (nxCB g k) ∧ RO G h0 r D2 (nxCB g k)) ∧ Fr (fH h0) h h2) (CFx G h (ccCB g p) kdCB) := by
  refine CtX.of (by decide) (Nat.le_of_ble_eq_true rfl) (cat1 rfl) (fun X hXl F HT => ?_)
  subst hXl
  obtain ⟨hr, hWt, hWr, hWs, hWb⟩ : h r = some (.inr (2, [.ref ti, .ref tt, .ref sm, .ref bm, .int (nI (g 4)), .int (nI (g 5)), .int (nI (g 6)), .int (nI (g 7))])) ∧ RWt G h (ti, tia, tf) g ∧ RWr G h (tt, tl, ta, x, A) g ∧ RWs G h (sm, smc, sA, sK, sV) g ∧ RWb G h (bm, bmc, bA, bK, bV) g := id hW
  have hasc : ∀ i j, i < j → j < g 3 → nI (g (264 + 4 * i + 0)) < nI (g (264 + 4 * j + 0)) := fun i j hij hj => (nI_ltI (Nat.lt_trans (hI.b _) (by decide)) (Nat.lt_trans (hI.b _) (by decide))).mpr (hbd i j hij hj)
  refine V_aload_n (i := 0) F dX2_cancelBooking_0 rfl rfl ?_
  refine V_getf F dX2_cancelBooking_1 fc_X2_32_X2 (.inl hr) rfl ?_
  refine V_iload_n (i := 1) F dX2_cancelBooking_4 rfl rfl ?_
  refine V_callS (st := [.ref (bm)]) (nn := 1) F dX2_cancelBooking_5 lk_X2_81 (ct_I_valueOf (x := p)) rfl rfl (Nat.le_of_ble_eq_true rfl) (Nat.le_of_ble_eq_true rfl) (Nat.le_of_ble_eq_true rfl) (by omega) (by omega) ?_
  rintro _ h1 ⟨q1, rfl, hq1, hx1⟩
  have hF1 : Fr nM h h1 := hx1
  have hK1 : ∀ i, i < g 3 → IV G h1 (bK i) (nI (g (264 + 4 * i + 0))) := fun i hi => ((hWb.fr0 hF1).2.2 i hi).1
  obtain ⟨pos, fd, hcm, hp1, hp2, hp3, -, -⟩ := cmp_asc (l := xl X) hq1 hK1 hasc
  refine V_callV (st := []) (nn := 1) F dX2_cancelBooking_8 lk_X2_175 (ct_TM_has (hWb.fr0 hF1).1 hcm) (hWb.fr0 hF1).1.isC rfl rfl (Nat.le_of_ble_eq_true rfl) (Nat.le_of_ble_eq_true rfl) (Nat.le_of_ble_eq_true rfl) (by omega) (by omega) ?_
  refine PRk ?_
  refine V_ldcS F dX2_cancelBooking_11 q2538 ?_
  intro w1 hGw1
  refine V_xcSN (st := []) (nn := 2) F dX2_cancelBooking_13 lk_X2_128 q2448 (hdem ((cB (fd))) w1 (h1)) rfl rfl (Nat.le_of_ble_eq_true rfl) (Nat.le_of_ble_eq_true rfl) (Nat.le_of_ble_eq_true rfl) (by omega) (by omega) ?_ ?_
  · rintro _ _ ⟨rfl, rfl, hd_13⟩
    have hP_13 : fd = true := cB_nz hd_13
    obtain ⟨hk, hkv⟩ := hp2 hP_13
    subst hkv
    have hfo : fdO g 264 (nI (g (264 + 4 * pos + 0))) (g 3) = some pos := fdO_some hk rfl (fun i hi e => by have := hasc i pos hi hk; rw [e] at this; exact Int32.lt_irrefl this)
    obtain ⟨hu, hab, hbs⟩ := hbv pos hk
    have hs8 := (hI.st hu).2
    refine V_aload_n (i := 0) F dX2_cancelBooking_16 rfl rfl ?_
    refine V_getf F dX2_cancelBooking_17 fc_X2_32_X2 (.inl (hF1.get hr id rfl)) rfl ?_
    refine V_iload_n (i := 1) F dX2_cancelBooking_20 rfl rfl ?_
    refine V_callS (st := [.ref (bm)]) (nn := 1) F dX2_cancelBooking_21 lk_X2_81 (ct_I_valueOf (x := nI (g (264 + 4 * pos + 0)))) rfl rfl (Nat.le_of_ble_eq_true rfl) (Nat.le_of_ble_eq_true rfl) (Nat.le_of_ble_eq_true rfl) (by omega) (by omega) ?_
    rintro _ h2 ⟨q2, rfl, hq2, hx2⟩
    have hF2 : Fr nM h h2 := hF1.cal0 hx2
    have hK2 : ∀ i, i < g 3 → IV G h2 (bK i) (nI (g (264 + 4 * i + 0))) := fun i hi => ((hWb.fr0 hF2).2.2 i hi).1
    obtain ⟨hr5, hWt5, hWr5, hWs5, hWb5⟩ : h2 r = some (.inr (2, [.ref ti, .ref tt, .ref sm, .ref bm, .int (nI (g 4)), .int (nI (g 5)), .int (nI (g 6)), .int (nI (g 7))])) ∧ RWt G h2 (ti, tia, tf) g ∧ RWr G h2 (tt, tl, ta, x, A) g ∧ RWs G h2 (sm, smc, sA, sK, sV) g ∧ RWb G h2 (bm, bmc, bA, bK, bV) g := hW.fr0 hF2
    refine V_callV (st := []) (nn := 1) F dX2_cancelBooking_24 lk_X2_223 (ct_TM_remove hWb5.1 (cmp_at (kv := fun i => nI (g (264 + 4 * i + 0))) hq2 hK2 hasc hk) rfl) hWb5.1.isC rfl rfl (Nat.le_of_ble_eq_true rfl) (Nat.le_of_ble_eq_true rfl) (Nat.le_of_ble_eq_true rfl) (by omega) (by omega) ?_
    rintro _ h6 ⟨rfl, A6, hM6, hNS, hx6⟩
    have hof := fun k (h1 : k ≠ 23) (h2 : k ≠ 24) => offK.mT (k := k) hWb5.1 h1 h2
    have hr6 := hx6.get hr5 ((hof 2 (by decide) (by decide)).o hr5) rfl
    have hR6 := hWr5.frT hWb5.1 hx6
    have hbk6 := hx6.get (hWb5.2.2 pos hk).2 ((hof 11 (by decide) (by decide)).o (hWb5.2.2 pos hk).2) rfl
    obtain ⟨hxu, f, hA, e0, e1, e2, e3, e4⟩ := id (hR6.2.2 (g (264 + 4 * pos + 1)) hu)
    have hC1 : ∀ j, g (264 + 4 * pos + 2) ≤ j → j < g (264 + 4 * pos + 3) → bkC g (g (264 + 4 * pos + 1)) j pos = 1 := fun j h1 h2 => by unfold bkC byG; exact if_pos ⟨rfl, h1, h2⟩
    refine V_ckS F dX2_cancelBooking_27 q2031 ⟨11, _, _, _, rfl, (.inl hbk6)⟩ ?_
    refine V_astore_n (i := 2) F dX2_cancelBooking_30 rfl (Nat.le_of_ble_eq_true rfl) (Nat.le_of_ble_eq_true rfl) ?_
    refine V_aload_n (i := 0) F dX2_cancelBooking_31 rfl rfl ?_
    refine V_getf F dX2_cancelBooking_32 fc_X2_21_X2 (.inl hr6) rfl ?_
    refine V_aload_n (i := 2) F dX2_cancelBooking_35 rfl rfl ?_
    refine V_getn F dX2_cancelBooking_36 fc_X2_239_X14 (.inl hbk6) rfl ?_
    refine V_callV (st := []) (nn := 1) F dX2_cancelBooking_39 lk_X2_154 (ct_TT_get hR6 hI hu) ⟨3, _, _, _, rfl, .inl hR6.1⟩ rfl rfl (Nat.le_of_ble_eq_true rfl) (Nat.le_of_ble_eq_true rfl) (Nat.le_of_ble_eq_true rfl) (by omega) (by omega) ?_
    refine PRk ?_
    refine V_aload_n (i := 2) F dX2_cancelBooking_42 rfl rfl ?_
    refine V_getn F dX2_cancelBooking_43 fc_X2_241_X14 (.inl hbk6) rfl ?_
    refine V_aload_n (i := 2) F dX2_cancelBooking_46 rfl rfl ?_
    refine V_getn F dX2_cancelBooking_47 fc_X2_244_X14 (.inl hbk6) rfl ?_
    refine V_iconst (v := -1) F dX2_cancelBooking_50 rfl ?_
    refine V_callS (st := []) (nn := 4) F dX2_cancelBooking_51 lk_X2_232 (ct_RW_takeD hxu (hA 4 (by decide)) (Nat.le_of_lt hab) (by omega) (fun j h1 h2 => by have z := bkG_cb (t := g (264 + 4 * pos + 1)) (j := j) hk; rw [hC1 j h1 h2] at z; rw [e4 j (by omega)]; omega)) rfl rfl (Nat.le_of_ble_eq_true rfl) (Nat.le_of_ble_eq_true rfl) (Nat.le_of_ble_eq_true rfl) (by omega) (by omega) ?_
    rintro _ h7 ⟨rfl, hb7, hx7⟩
    have hA4 := hA 4 (by decide)
    have ho7 := fun k => offK.m1 (S := kO k) hA4 rfl
    have hr7 := hx7.get hr6 ((ho7 2).o hr6) rfl
    have hM7 := hM6.frk hx7 (ho7 23) (ho7 24)
    refine V_aload_n (i := 0) F dX2_cancelBooking_54 rfl rfl ?_
    refine V_getf F dX2_cancelBooking_55 fc_X2_32_X2 (.inl hr7) rfl ?_
    refine V_callV (st := []) (nn := 0) F dX2_cancelBooking_58 lk_X2_171 (ct_TM_size hM7) hM7.isC rfl rfl (Nat.le_of_ble_eq_true rfl) (Nat.le_of_ble_eq_true rfl) (Nat.le_of_ble_eq_true rfl) (by omega) (by omega) ?_
    refine PRk ?_
    have h28 := hI.2.2.2.1
    have h310 := hI.2.2.2.2.1
    have h1 : 1 ≤ g 3 := by omega
    have hbmc : bmc + g 3 ≤ 2 * g 5 := hWb.2.1
    have hT6 := hWt5.frT hWb5.1 hx6
    have hT7 := (hT6.fr hx7 ((ho7 18).o hT6.1.1) (fun c f9 z => ne_qi z hA4) (ho7 27)).cg (g2 := nxCB g pos) (nxCB_lo (by omega) (by omega)) (fun j hj => nxCB_lo (by have := hI.2.1; omega) (by omega))
    have hS6 := hWs5.frT hWb5.1 hx6 hO.sb hO.sbA
    have hS7 := (hS6.frk hx7 (ho7 23) (ho7 24) (ho7 27) (ho7 8)).cg (g2 := nxCB g pos) (nxCB_lo (by omega) (by omega)) (nxCB_lo (by omega) (by omega)) (fun i hi j hj => nxCB_lo (by omega) (by omega))
    have hR7 : RWr G h7 (tt, tl, ta, x, A) (nxCB g pos) := by
      refine ⟨hx7.get hR6.1 ((ho7 3).o hR6.1) rfl, ?_, fun t ht => ?_⟩
      · rw [nxCB_lo (by omega) (by omega)]; exact hR6.2.1.frQ hx7 ((ho7 18).o hR6.2.1.1) (fun c f9 z => ne_qi z hA4)
      · rw [nxCB_lo (by omega) (by omega)] at ht
        have ht6 := hI.t6 ht
        have hgt : ∀ j, j < 36 → nxCB g pos (16 + 36 * t + j) = g (16 + 36 * t + j) := fun j hj => nxCB_lo (by omega) (by omega)
        by_cases e : t = g (264 + 4 * pos + 1)
        · rw [← e] at hxu hA e0 e1 e2 e3 e4 hb7 hx7 hu hs8 hC1
          refine ⟨by rw [hgt 0 (by omega), hgt 3 (by omega), hgt 2 (by omega)]; exact hx7.get hxu (fun z => ne_oa hxu (hA 4 (by decide)) z) rfl, fun i => if i = 4 then tkD (f 4) (g (264 + 4 * pos + 2)) (g (264 + 4 * pos + 3)) else f i, ?_, ?_, ?_, ?_, ?_, ?_⟩
          · intro i hi
            by_cases e5 : i = 4
            · subst e5; exact hb7
            · show h7 (A t i) = some (iA G 8 (fun k => nI ((if i = 4 then _ else f i) k)))
              rw [if_neg e5]; exact hx7.get (hA i hi) (fun z => e5 (hO.Ai t t i 4 ht ht hi (by decide) z).2) rfl
          · intro j hj; rw [hgt 3 (by omega)] at hj; rw [plG_cg (fun j hj _ => hgt j hj) (by omega)]; exact e0 j hj
          · intro j hj0 hj; rw [hgt 3 (by omega)] at hj; rw [avG_cg (fun j hj _ => hgt j hj) (by omega)]; exact e1 j hj0 hj
          · intro j hj; rw [hgt 3 (by omega)] at hj; rw [dpG_cg (fun j hj _ => hgt j hj) j (by omega)]; exact e2 j hj
          · intro j hj; rw [hgt (28 + j) (by omega)]; exact e3 j hj
          · intro j hj
            have z := bkG_cb (t := t) (j := j) hk
            have z4 := e4 j hj
            show tkD (f 4) (g (264 + 4 * pos + 2)) (g (264 + 4 * pos + 3)) j = _
            unfold tkD
            by_cases c : g (264 + 4 * pos + 2) ≤ j ∧ j < g (264 + 4 * pos + 3)
            · rw [if_pos c]; rw [hC1 j c.1 c.2] at z; omega
            · rw [if_neg c]; have z0 : bkC g t j pos = 0 := by unfold bkC byG; exact if_neg (fun y => c y.2)
              omega
        · have hTt := hR6.2.2 t ht
          have hTt2 : TRs G h7 (x t) (A t) g t := by
            have hTt0 := hTt
            obtain ⟨pt, ft, hAt, -⟩ := hTt0
            exact hTt.fr hx7 (fun z => ne_oa pt hA4 z) (fun i hi z => e (hO.Ai t _ i 4 ht hu hi (by decide) z).1)
          exact hTt2.cg (hI.st ht).2 hgt (fun j hj => by have z := bkG_cb (t := t) (j := j) hk; have z0 : bkC g t j pos = 0 := by unfold bkC byG; exact if_neg (fun y => e y.1.symm)
                                                         omega)
    have hB7 : RWb G h7 (bm, bmc + 1, A6, fun j => bK (sk pos j), fun j => bV (sk pos j)) (nxCB g pos) := by
      refine ⟨by rw [nxCB_3]; exact hM7, by rw [nxCB_3, nxCB_lo (by omega) (by omega)]; show bmc + 1 + (g 3 - 1) ≤ _; omega, fun i hi => ?_⟩
      rw [nxCB_3] at hi
      have hsk : sk pos i < g 3 := sk_lt hi
      have hc := hWb5.2.2 _ hsk
      have hc6 := hx6.get hc.2 ((hof 11 (by decide) (by decide)).o hc.2) rfl
      refine ⟨by rw [nxCB_e hi (by omega)]; exact (hc.1.fr hx6 (hof 27 (by decide) (by decide))).fr hx7 (ho7 27), ?_⟩
      unfold BoE; rw [nxCB_e hi (by omega), nxCB_e hi (by omega), nxCB_e hi (by omega), nxCB_e hi (by omega)]
      exact hx7.get hc6 ((ho7 11).o hc6) rfl
    have hF7 : Fr (fH h0) h h7 := ((hF2.mono (fun _ z => z.elim)).cal hx6 (fun b z => z.elim (fun z => Or.inl (by rw [z]; exact hO.bm)) (fun z => by obtain ⟨i, hi, z⟩ := z; exact Or.inl (by rw [z]; exact hO.bA i hi)))).cal hx7 (Yo.m1 (Or.inl (hO.A _ hu 4 (by decide))))
    have hA6 : ∀ i, i < g 3 - 1 → h0 (A6 i) = none := fun i hi => by obtain ⟨i3, hi3, z⟩ := hNS i hi; rw [z]; exact hO.bA i3 hi3
    have hd6 : ∀ i j, i < g 2 → j < g 3 - 1 → sA i ≠ A6 j := fun i j hi hj => by obtain ⟨i3, hi3, z⟩ := hNS j hj; rw [z]; exact hO.sbA i i3 hi hi3
    have d1 : nxCB g pos 1 = g 1 := nxCB_lo (by omega) (by omega)
    have d2 : nxCB g pos 2 = g 2 := nxCB_lo (by omega) (by omega)
    have hcc : ccCB g (nI (g (264 + 4 * pos + 0))) = 0 := by unfold ccCB; rw [hfo]; rfl
    exact VV.rx (V_iret F dX2_cancelBooking_61 rfl (by omega) (by omega) ⟨hcc, pos, hfo, rfl, ⟨((ti, tia, tf), (tt, tl, ta, x, A), (sm, smc, sA, sK, sV), (bm, bmc + 1, A6, fun j => bK (sk pos j), fun j => bV (sk pos j))), ⟨by rw [nxCB_lo (by omega) (by omega), nxCB_lo (by omega) (by omega), nxCB_lo (by omega) (by omega), nxCB_lo (by omega) (by omega)]; exact hr7, hT7, hR7, hS7, hB7⟩, hO.r, hO.ti, hO.tia, hO.tt, hO.tl, hO.ta, hO.sm, hO.bm, d1 ▸ hO.x, d1 ▸ hO.A, d2 ▸ hO.sA, (by rw [nxCB_3]; exact hA6), hO.til, hO.tia2, hO.sb, (by rw [nxCB_3, d2]; exact hd6), d1 ▸ hO.xi, d1 ▸ hO.Ai⟩, hF7⟩)
  · exact fun E q h2 hp => V_xout F (HT _) (by omega) (by omega) (CFx.of (k := 1) (by have hz := cB_z hp.1; unfold ccCB; rw [fdO_none (hp3 hz)]; rfl) (by decide) hGw1 (TH.fr hF1 hp.2))
