def kdAC (c : Nat) : String := if c = 1 then "index" else if c = 2 then "argument" else "state"
section AC
variable {g : Nat → Nat} {s d v i : Nat}
theorem nxAC_o (h1 : i ≠ 232 + 4 * g 2 + 0) (h2 : i ≠ 232 + 4 * g 2 + 1) (h3 : i ≠ 232 + 4 * g 2 + 2) (h4 : i ≠ 232 + 4 * g 2 + 3) (h5 : i ≠ 2) (h6 : i ≠ 4) : nxAC g s d v i = g i := by
  unfold nxAC; rw [up_n h6, up_n h5, up_n h4, up_n h3, up_n h2, up_n h1]
theorem nxAC_2 : nxAC g s d v 2 = g 2 + 1 := by unfold nxAC; rw [up_n (by omega), up_s]
theorem nxAC_4 : nxAC g s d v 4 = g 4 + 1 := by unfold nxAC; rw [up_s]
theorem nxAC_i : nxAC g s d v (232 + 4 * g 2 + 0) = g 4 := by unfold nxAC; rw [up_n (by omega), up_n (by omega), up_n (by omega), up_n (by omega), up_n (by omega), up_s]
theorem nxAC_s : nxAC g s d v (232 + 4 * g 2 + 1) = s := by unfold nxAC; rw [up_n (by omega), up_n (by omega), up_n (by omega), up_n (by omega), up_s]
theorem nxAC_d : nxAC g s d v (232 + 4 * g 2 + 2) = d := by unfold nxAC; rw [up_n (by omega), up_n (by omega), up_n (by omega), up_s]
theorem nxAC_v : nxAC g s d v (232 + 4 * g 2 + 3) = v := by unfold nxAC; rw [up_n (by omega), up_n (by omega), up_s]
end AC
theorem ct_RW_addSuitcase {G : GG} {l : Launch} {h : AH} {h0 : AH} {r ti tia : Nat} {tf : Nat → Nat} {tt tl ta : Nat} {x : Nat → Nat} {A : Nat → Nat → Nat} {sm smc : Nat} {sA sK sV : Nat → Nat} {bm bmc : Nat} {bA bK bV : Nat → Nat} {g : Nat → Nat} {s0 d v : Int32}  (hdem : DEM G l) (hW : RW G h r ((ti, tia, tf), (tt, tl, ta, x, A), (sm, smc, sA, sK, sV), (bm, bmc, bA, bK, bV)) g) (hO : RO G h0 r ((ti, tia, tf), (tt, tl, ta, x, A), (sm, smc, sA, sK, sV), (bm, bmc, bA, bK, bV)) g) (hI : GW g) (hF0 : Fr nM h0 h) (hnx : ∀ i, i < g 2 → g (232 + 4 * i + 0) < g 4) : CtX G l yX2_addSuitcase cX2_addSuitcase 4 (some .int) 13 (8) (60) [.ref r, .int s0, .int d, .int v] h (fun r0 h2 => r0 = some (.int (nI (g 4))) ∧ cdAC g s0 d v = 0 ∧ (∃ D2, RW G h2 r D2 (nxAC g (tn s0) (tn d) (tn v)) ∧ RO G h0 r D2 (nxAC g (tn s0) (tn d) (tn v))) ∧ Fr (fH h0) h h2) (CFx G h (cdAC g s0 d v) kdAC) := by
  refine CtX.of (by decide) (Nat.le_of_ble_eq_true rfl) (cat1 rfl) (fun X hXl F HT => ?_)
  subst hXl
  obtain ⟨hr, hWt, hWr, hWs, hWb⟩ : h r = some (.inr (2, [.ref ti, .ref tt, .ref sm, .ref bm, .int (nI (g 4)), .int (nI (g 5)), .int (nI (g 6)), .int (nI (g 7))])) ∧ RWt G h (ti, tia, tf) g ∧ RWr G h (tt, tl, ta, x, A) g ∧ RWs G h (sm, smc, sA, sK, sV) g ∧ RWb G h (bm, bmc, bA, bK, bV) g := id hW
  refine V_aload_n (i := 0) F dX2_addSuitcase_0 rfl rfl ?_
  refine V_iload_n (i := 1) F dX2_addSuitcase_1 rfl rfl ?_
  refine V_callV (st := []) (nn := 1) F dX2_addSuitcase_2 lk_X2_134 (ct_RW_hasStation hW hI) ⟨2, _, _, _, rfl, (.inl hr)⟩ rfl rfl (Nat.le_of_ble_eq_true rfl) (Nat.le_of_ble_eq_true rfl) (Nat.le_of_ble_eq_true rfl) (by omega) (by omega) ?_
  refine PRk ?_
  refine V_if_eqB (tgt := 20) F dX2_addSuitcase_5 (by decide) (fun c_5 => ?_) (fun c_5 => ?_)
  · refine V_iconst (v := nI 0) F dX2_addSuitcase_20 rfl ?_
    refine V_ldcS F dX2_addSuitcase_21 q2485 ?_
    intro w1 hGw1
    refine V_xcSN (st := []) (nn := 2) F dX2_addSuitcase_23 lk_X2_128 q2448 (hdem ((nI (0))) w1 (h)) rfl rfl (Nat.le_of_ble_eq_true rfl) (Nat.le_of_ble_eq_true rfl) (Nat.le_of_ble_eq_true rfl) (by omega) (by omega) ?_ ?_
    · exact fun _ _ hp => absurd rfl hp.2.2
    · exact fun E q h2 hp => V_xout F (HT _) (by omega) (by omega) (CFx.of (k := 1) (by first | exact if_pos (Or.inl c_5) | exact if_pos (Or.inr c_13)) (by decide) hGw1 hp.2)
  · refine V_aload_n (i := 0) F dX2_addSuitcase_8 rfl rfl ?_
    refine V_iload_n (i := 2) F dX2_addSuitcase_9 rfl rfl ?_
    refine V_callV (st := []) (nn := 1) F dX2_addSuitcase_10 lk_X2_134 (ct_RW_hasStation hW hI) ⟨2, _, _, _, rfl, (.inl hr)⟩ rfl rfl (Nat.le_of_ble_eq_true rfl) (Nat.le_of_ble_eq_true rfl) (Nat.le_of_ble_eq_true rfl) (by omega) (by omega) ?_
    refine PRk ?_
    refine V_if_eqB (tgt := 20) F dX2_addSuitcase_13 (by decide) (fun c_13 => ?_) (fun c_13 => ?_)
    · refine V_iconst (v := nI 0) F dX2_addSuitcase_20 rfl ?_
      refine V_ldcS F dX2_addSuitcase_21 q2485 ?_
      intro w2 hGw2
      refine V_xcSN (st := []) (nn := 2) F dX2_addSuitcase_23 lk_X2_128 q2448 (hdem ((nI (0))) w2 (h)) rfl rfl (Nat.le_of_ble_eq_true rfl) (Nat.le_of_ble_eq_true rfl) (Nat.le_of_ble_eq_true rfl) (by omega) (by omega) ?_ ?_
      · exact fun _ _ hp => absurd rfl hp.2.2
      · exact fun E q h2 hp => V_xout F (HT _) (by omega) (by omega) (CFx.of (k := 1) (by first | exact if_pos (Or.inl c_5) | exact if_pos (Or.inr c_13)) (by decide) hGw2 hp.2)
    · refine V_iconst (v := nI 1) F dX2_addSuitcase_16 rfl ?_
      refine V_goto (tgt := 21) F dX2_addSuitcase_17 (by decide) ?_
      refine V_ldcS F dX2_addSuitcase_21 q2485 ?_
      intro w3 hGw3
      refine V_xcSN (st := []) (nn := 2) F dX2_addSuitcase_23 lk_X2_128 q2448 (hdem ((nI (1))) w3 (h)) rfl rfl (Nat.le_of_ble_eq_true rfl) (Nat.le_of_ble_eq_true rfl) (Nat.le_of_ble_eq_true rfl) (by omega) (by omega) ?_ ?_
      · rintro _ _ ⟨rfl, rfl, hd_23⟩
        refine V_iload_n (i := 3) F dX2_addSuitcase_26 rfl rfl ?_
        refine V_iconst (v := nI 0) F dX2_addSuitcase_27 rfl ?_
        refine V_sipush (v := nI 9999) F dX2_addSuitcase_28 rfl ?_
        refine V_callSN (st := []) (nn := 3) F dX2_addSuitcase_31 lk_X2_106 q1796 (ct_isBetween) rfl rfl (Nat.le_of_ble_eq_true rfl) (Nat.le_of_ble_eq_true rfl) (Nat.le_of_ble_eq_true rfl) (by omega) (by omega) ?_
        refine PRk ?_
        refine V_ldcS F dX2_addSuitcase_34 q2446 ?_
        intro w4 hGw4
        refine V_xcSN (st := []) (nn := 2) F dX2_addSuitcase_36 lk_X2_128 q2448 (hdem ((b2 (nI 0 ≤ v ∧ v ≤ nI 9999))) w4 (h)) rfl rfl (Nat.le_of_ble_eq_true rfl) (Nat.le_of_ble_eq_true rfl) (Nat.le_of_ble_eq_true rfl) (by omega) (by omega) ?_ ?_
        · rintro _ _ ⟨rfl, rfl, hd_36⟩
          have hP_36 : nI 0 ≤ v ∧ v ≤ nI 9999 := b2_nz hd_36
          refine V_aload_n (i := 0) F dX2_addSuitcase_39 rfl rfl ?_
          refine V_getf F dX2_addSuitcase_40 fc_X2_28_X2 (.inl hr) rfl ?_
          have h28 := hI.2.2.2.1
          refine V_callV (st := []) (nn := 0) F dX2_addSuitcase_43 lk_X2_171 (ct_TM_size hWs.1) hWs.1.isC rfl rfl (Nat.le_of_ble_eq_true rfl) (Nat.le_of_ble_eq_true rfl) (Nat.le_of_ble_eq_true rfl) (by omega) (by omega) ?_
          refine PRk ?_
          refine V_bipush (v := nI 8) F dX2_addSuitcase_46 rfl ?_
          refine V_icmp_geN (tgt := 55) F dX2_addSuitcase_48 (by decide) (by omega) (by decide) (fun c_48 => ?_) (fun c_48 => ?_)
          · refine V_iconst (v := nI 0) F dX2_addSuitcase_55 rfl ?_
            refine V_ldcS F dX2_addSuitcase_56 q2476 ?_
            intro w5 hGw5
            refine V_xcSN (st := []) (nn := 2) F dX2_addSuitcase_58 lk_X2_128 q2448 (hdem ((nI (0))) w5 (h)) rfl rfl (Nat.le_of_ble_eq_true rfl) (Nat.le_of_ble_eq_true rfl) (Nat.le_of_ble_eq_true rfl) (by omega) (by omega) ?_ ?_
            · exact fun _ _ hp => absurd rfl hp.2.2
            · exact fun E q h2 hp => V_xout F (HT _) (by omega) (by omega) (CFx.of (k := 3) (by exact ((if_neg (fun z => z.elim (fun z => z c_5) (fun z => z c_13))).trans (if_neg (fun z => z hP_36))).trans (if_pos (by omega))) (by decide) hGw5 hp.2)
          · refine V_iconst (v := nI 1) F dX2_addSuitcase_51 rfl ?_
            refine V_goto (tgt := 56) F dX2_addSuitcase_52 (by decide) ?_
            refine V_ldcS F dX2_addSuitcase_56 q2476 ?_
            intro w6 hGw6
            refine V_xcSN (st := []) (nn := 2) F dX2_addSuitcase_58 lk_X2_128 q2448 (hdem ((nI (1))) w6 (h)) rfl rfl (Nat.le_of_ble_eq_true rfl) (Nat.le_of_ble_eq_true rfl) (Nat.le_of_ble_eq_true rfl) (by omega) (by omega) ?_ ?_
            · rintro _ _ ⟨rfl, rfl, hd_58⟩
              obtain ⟨s2, hs2, rfl⟩ := iR_of c_5 hI.b.lt
              obtain ⟨d2, hd2, rfl⟩ := iR_of c_13 hI.b.lt
              have h8 := hI.2.1
              have es : tn (nI s2) = s2 := tn_nI (by omega)
              have ed : tn (nI d2) = d2 := tn_nI (by omega)
              obtain ⟨hv1, hv2, hv3⟩ := tn_in (by decide) hP_36 (by decide)
              have hg4 := hI.b 4
              have hbmc := hWs.2.1
              refine VV.loc (L' := [some (.ref (r)), some (.int (nI (s2))), some (.int (nI (d2))), some (.int (nI (tn v)))]) (by rw [hv1]; rfl) ?_
              refine V_aload_n (i := 0) F dX2_addSuitcase_61 rfl rfl ?_
              refine V_getf F dX2_addSuitcase_62 fc_X2_28_X2 (.inl hr) rfl ?_
              refine V_aload_n (i := 0) F dX2_addSuitcase_65 rfl rfl ?_
              refine V_getf F dX2_addSuitcase_66 fc_X2_94_X2 (.inl hr) rfl ?_
              refine V_callS (st := [.ref (sm)]) (nn := 1) F dX2_addSuitcase_69 lk_X2_81 (ct_I_valueOf (x := nI (g 4))) rfl rfl (Nat.le_of_ble_eq_true rfl) (Nat.le_of_ble_eq_true rfl) (Nat.le_of_ble_eq_true rfl) (by omega) (by omega) ?_
              rintro _ h3 ⟨q3, rfl, hq3, hx3⟩
              have hF3 : Fr nM h h3 := hx3
              refine V_new F dX2_addSuitcase_72 nw_X2_76 (by omega) (by omega) ?_
              intro su hfsu hbsu
              have p7 : h3 r = some (.inr (2, [.ref (ti), .ref (tt), .ref (sm), .ref (bm), .int (nI (g 4)), .int (nI (g 5)), .int (nI (g 6)), .int (nI (g 7))])) := (hF3.get hr id rfl)
              refine V_dup F dX2_addSuitcase_75 rfl ?_
              refine V_aload_n (i := 0) F dX2_addSuitcase_76 rfl rfl ?_
              refine V_getf F dX2_addSuitcase_77 fc_X2_94_X2 (.inl ((hset_ne (ne_nw p7 hfsu)).trans p7)) rfl ?_
              refine V_iload_n (i := 1) F dX2_addSuitcase_80 rfl rfl ?_
              refine V_iload_n (i := 2) F dX2_addSuitcase_81 rfl rfl ?_
              refine V_iload_n (i := 3) F dX2_addSuitcase_82 rfl rfl ?_
              refine V_callIN (st := [.ref (su), .ref (q3), .ref (sm)]) (nn := 4) F dX2_addSuitcase_83 lk_X2_172 q2514 rfl (ct_Su_init (hset_self (e := .inr (8, [.int 0, .int 0, .int 0, .int 0])))) rfl rfl (Nat.le_of_ble_eq_true rfl) (Nat.le_of_ble_eq_true rfl) (Nat.le_of_ble_eq_true rfl) (by omega) (by omega) ?_
              rintro _ h5 ⟨rfl, hsu, hx5⟩
              have hfq := (hF3.nw (x := .inr (8, [.int 0, .int 0, .int 0, .int 0])) hfsu)
              have hF5 : Fr nM h h5 := hfq.cal hx5 (Yo.m1 (Or.inr (hF3.none hfsu)))
              have hW5 := hW.fr0 hF5
              obtain ⟨hr5, hWt5, hWr5, hWs5, hWb5⟩ : h5 r = some (.inr (2, [.ref ti, .ref tt, .ref sm, .ref bm, .int (nI (g 4)), .int (nI (g 5)), .int (nI (g 6)), .int (nI (g 7))])) ∧ RWt G h5 (ti, tia, tf) g ∧ RWr G h5 (tt, tl, ta, x, A) g ∧ RWs G h5 (sm, smc, sA, sK, sV) g ∧ RWb G h5 (bm, bmc, bA, bK, bV) g := id hW5
              have hq5 := hq3.fr ((Fr.rf (M := nM) (h := h3)).nw (x := .inr (8, [.int 0, .int 0, .int 0, .int 0])) hfsu) offK.nM
              have hq6 := hq5.fr hx5 (offK.m1 hset_self (kO_ne (by decide)))
              refine V_callV (st := []) (nn := 2) F dX2_addSuitcase_86 lk_X2_85 (ct_TM_add (v := su) hWs5.1 (fd := false) (pos := g 2) (cmp_int hq6 (fun i hi => (hWs5.2.2 i hi).1) (Nat.le_refl (g 2)) (fun z => by cases z) (fun j hj _ => (nI_ltI (Nat.lt_trans (hI.b _) (by decide)) (Nat.lt_trans (hI.b _) (by decide))).mpr (hnx j hj)) (fun j hj hp _ => absurd hj (by omega))) rfl (ckk_int hq6)) hWs5.1.isC rfl rfl (Nat.le_of_ble_eq_true rfl) (Nat.le_of_ble_eq_true rfl) (Nat.le_of_ble_eq_true rfl) (by omega) (by omega) ?_
              rintro _ h6 ⟨rfl, A6, hM6, hNF, hx6⟩
              have hof := fun k (h1 : k ≠ 23) (h2 : k ≠ 24) => offK.mT (k := k) hWs5.1 h1 h2
              have hr6 := hx6.get hr5 ((hof 2 (by decide) (by decide)).o hr5) rfl
              refine V_pop F dX2_addSuitcase_89 rfl ?_
              refine V_aload_n (i := 0) F dX2_addSuitcase_90 rfl rfl ?_
              refine V_dup F dX2_addSuitcase_91 rfl ?_
              refine V_getf F dX2_addSuitcase_92 fc_X2_94_X2 (.inl hr6) rfl ?_
              refine V_iconst (v := nI 1) F dX2_addSuitcase_95 rfl ?_
              refine V_iaddN F dX2_addSuitcase_96 ?_
              refine V_putf F dX2_addSuitcase_97 fp_X2_94_X2 hr6 rfl rfl (Nat.le_of_ble_eq_true rfl) ?_
              refine VV.heap (h' := (hset h6 (r) (.inr (2, [.ref (ti), .ref (tt), .ref (sm), .ref (bm), .int (nI ((g 4) + 1)), .int (nI (g 5)), .int (nI (g 6)), .int (nI (g 7))])))) rfl ?_
              refine V_aload_n (i := 0) F dX2_addSuitcase_100 rfl rfl ?_
              refine V_getf F dX2_addSuitcase_101 fc_X2_94_X2 (.inl (hset_self (e := .inr (2, [.ref (ti), .ref (tt), .ref (sm), .ref (bm), .int (nI ((g 4) + 1)), .int (nI (g 5)), .int (nI (g 6)), .int (nI (g 7))])))) rfl ?_
              refine V_iconst (v := nI 1) F dX2_addSuitcase_104 rfl ?_
              refine V_isubN F dX2_addSuitcase_105 (by omega) ?_
              have hr7 : (hset h6 (r) (.inr (2, [.ref (ti), .ref (tt), .ref (sm), .ref (bm), .int (nI ((g 4) + 1)), .int (nI (g 5)), .int (nI (g 6)), .int (nI (g 7))]))) r = some (.inr (2, [.ref (ti), .ref (tt), .ref (sm), .ref (bm), .int (nI ((g 4) + 1)), .int (nI (g 5)), .int (nI (g 6)), .int (nI (g 7))])) := (hset_self (e := .inr (2, [.ref (ti), .ref (tt), .ref (sm), .ref (bm), .int (nI ((g 4) + 1)), .int (nI (g 5)), .int (nI (g 6)), .int (nI (g 7))])))
              have hx7 : Fr (m1 r) h6 ((hset h6 (r) (.inr (2, [.ref (ti), .ref (tt), .ref (sm), .ref (bm), .int (nI ((g 4) + 1)), .int (nI (g 5)), .int (nI (g 6)), .int (nI (g 7))])))) := ((Fr.rf (M := m1 r) (h := h6)).put (x := .inr (2, [.ref (ti), .ref (tt), .ref (sm), .ref (bm), .int (nI ((g 4) + 1)), .int (nI (g 5)), .int (nI (g 6)), .int (nI (g 7))])) hr6 rfl rfl (Or.inl rfl))
              generalize (hset h6 (r) (.inr (2, [.ref (ti), .ref (tt), .ref (sm), .ref (bm), .int (nI ((g 4) + 1)), .int (nI (g 5)), .int (nI (g 6)), .int (nI (g 7))]))) = h7 at hr7 hx7 ⊢
              have h310 := hI.2.2.2.2.1
              have hlo : ∀ i, i ≠ 232 + 4 * g 2 + 0 → i ≠ 232 + 4 * g 2 + 1 → i ≠ 232 + 4 * g 2 + 2 → i ≠ 232 + 4 * g 2 + 3 → i ≠ 2 → i ≠ 4 → nxAC g s2 d2 (tn v) i = g i := fun i h1 h2 h3 h4 h5 h6 => nxAC_o h1 h2 h3 h4 h5 h6
              have hT7 := ((hWt5.frT hWs5.1 hx6).fr1 hx7 hr6 (by decide)).cg (g2 := nxAC g s2 d2 (tn v)) (hlo _ (by omega) (by omega) (by omega) (by omega) (by omega) (by omega)) (fun j hj => hlo _ (by omega) (by omega) (by omega) (by omega) (by omega) (by omega))
              have hR7 := ((hWr5.frT hWs5.1 hx6).fr1 hx7 hr6 (by decide)).cg (g2 := nxAC g s2 d2 (tn v)) hI (hlo _ (by omega) (by omega) (by omega) (by omega) (by omega) (by omega)) (fun t ht j hj => by have := hI.t6 ht; exact hlo _ (by omega) (by omega) (by omega) (by omega) (by omega) (by omega)) (fun t k ht hk => bkG_cg (hlo _ (by omega) (by omega) (by omega) (by omega) (by omega) (by omega)) (fun o ho j hj => hlo _ (by omega) (by omega) (by omega) (by omega) (by omega) (by omega)))
              have hB7 := ((hWb5.frT hWs5.1 hx6 (Ne.symm hO.sb) (fun i j hi hj => Ne.symm (hO.sbA j i hj hi))).fr1 hx7 hr6 (by decide)).cg (g2 := nxAC g s2 d2 (tn v)) (hlo _ (by omega) (by omega) (by omega) (by omega) (by omega) (by omega)) (hlo _ (by omega) (by omega) (by omega) (by omega) (by omega) (by omega)) (fun i hi j hj => hlo _ (by omega) (by omega) (by omega) (by omega) (by omega) (by omega))
              have d1 : nxAC g s2 d2 (tn v) 1 = g 1 := hlo _ (by omega) (by omega) (by omega) (by omega) (by omega) (by omega)
              have d3 : nxAC g s2 d2 (tn v) 3 = g 3 := hlo _ (by omega) (by omega) (by omega) (by omega) (by omega) (by omega)
              have hoz := fun k (hk : 2 ≠ k) => offK.m1 (S := kO k) hr6 (kO_ne hk)
              have hS7 : RWs G h7 (sm, smc + 1, A6, insF sK (g 2) q3, insF sV (g 2) su) (nxAC g s2 d2 (tn v)) := by
                refine ⟨by rw [nxAC_2]; exact hM6.fr1 hx7 hr6 (by decide) (by decide), by rw [nxAC_2, nxAC_4]; show smc + 1 + (g 2 + 1) ≤ _; have : smc + g 2 ≤ 2 * g 4 := hbmc; omega, fun i hi => ?_⟩
                rw [nxAC_2] at hi
                by_cases e : i = g 2
                · subst e
                  refine ⟨?_, ?_⟩
                  · show IV G h7 (insF sK (g 2) q3 (g 2)) _
                    rw [insF_e, nxAC_i]; exact (hq6.fr hx6 (hof 27 (by decide) (by decide))).fr hx7 (hoz 27 (by decide))
                  · show h7 (insF sV (g 2) su (g 2)) = _
                    rw [insF_e]; unfold SuE; rw [nxAC_i, nxAC_s, nxAC_d, nxAC_v]; exact hx7.get (hx6.get hsu ((hof 8 (by decide) (by decide)).o hsu) rfl) ((hoz 8 (by decide)).o (hx6.get hsu ((hof 8 (by decide) (by decide)).o hsu) rfl)) rfl
                · have hi2 : i < g 2 := by omega
                  have hc := hWs5.2.2 i hi2
                  have hc6 := hx6.get hc.2 ((hof 8 (by decide) (by decide)).o hc.2) rfl
                  refine ⟨?_, ?_⟩
                  · show IV G h7 (insF sK (g 2) q3 i) _
                    rw [insF_l hi2, hlo _ (by omega) (by omega) (by omega) (by omega) (by omega) (by omega)]; exact (hc.1.fr hx6 (hof 27 (by decide) (by decide))).fr hx7 (hoz 27 (by decide))
                  · show h7 (insF sV (g 2) su i) = _
                    rw [insF_l hi2]; unfold SuE
                    rw [hlo (232 + 4 * i + 0) (by omega) (by omega) (by omega) (by omega) (by omega) (by omega), hlo (232 + 4 * i + 1) (by omega) (by omega) (by omega) (by omega) (by omega) (by omega), hlo (232 + 4 * i + 2) (by omega) (by omega) (by omega) (by omega) (by omega) (by omega), hlo (232 + 4 * i + 3) (by omega) (by omega) (by omega) (by omega) (by omega) (by omega)]
                    exact hx7.get hc6 ((hoz 8 (by decide)).o hc6) rfl
              have hF7 : Fr (fH h0) h h7 := ((hF5.mono (fun _ z => z.elim)).cal hx6 (fun b z => z.elim (fun z => Or.inl (by rw [z]; exact hO.sm)) (fun z => by obtain ⟨i, hi, z⟩ := z; exact Or.inl (by rw [z]; exact hO.sA i hi)))).cal hx7 (Yo.m1 (Or.inl hO.r))
              have hA6 : ∀ i, i < g 2 + 1 → h0 (A6 i) = none := fun i hi => (hNF i hi).elim (fun z => by obtain ⟨i3, hi3, z⟩ := z; rw [z]; exact hO.sA i3 hi3) (fun z => hF0.none (hF5.none z))
              have hd6 : ∀ i j, i < g 2 + 1 → j < g 3 → A6 i ≠ bA j := fun i j hi hj => (hNF i hi).elim (fun z => by obtain ⟨i3, hi3, z⟩ := z; rw [z]; exact hO.sbA i3 j hi3 hj) (fun z => by obtain ⟨f0, hf0⟩ := hWb5.1.nod j hj; exact Ne.symm (ne_nw hf0 z))
              exact VV.rx (V_iret F dX2_addSuitcase_106 rfl (by omega) (by omega) (by rw [es, ed]; exact ⟨by rw [Nat.add_sub_cancel], ((if_neg (fun z => z.elim (fun z => z c_5) (fun z => z c_13))).trans (if_neg (fun z => z hP_36))).trans (if_neg (by omega)), ⟨((ti, tia, tf), (tt, tl, ta, x, A), (sm, smc + 1, A6, insF sK (g 2) q3, insF sV (g 2) su), (bm, bmc, bA, bK, bV)), ⟨by rw [nxAC_4, hlo 5 (by omega) (by omega) (by omega) (by omega) (by omega) (by omega), hlo 6 (by omega) (by omega) (by omega) (by omega) (by omega) (by omega), hlo 7 (by omega) (by omega) (by omega) (by omega) (by omega) (by omega)]; exact hr7, hT7, hR7, hS7, hB7⟩, hO.r, hO.ti, hO.tia, hO.tt, hO.tl, hO.ta, hO.sm, hO.bm, d1 ▸ hO.x, d1 ▸ hO.A, (by rw [nxAC_2]; exact hA6), d3 ▸ hO.bA, hO.til, hO.tia2, hO.sb, (by rw [nxAC_2, d3]; exact hd6), d1 ▸ hO.xi, d1 ▸ hO.Ai⟩, hF7⟩))
            · exact fun E q h2 hp => absurd hp.1 (by decide)
        · exact fun E q h2 hp => V_xout F (HT _) (by omega) (by omega) (CFx.of (k := 2) (by have hz := b2_z hp.1; exact (if_neg (fun z => z.elim (fun z => z c_5) (fun z => z c_13))).trans (if_pos hz)) (by decide) hGw4 hp.2)
      · exact fun E q h2 hp => absurd hp.1 (by decide)
