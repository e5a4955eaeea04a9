theorem nI_inj9 {a b : Nat} (ha : a < 2 ^ 31) (hb : b < 2 ^ 31) (h : nI a = nI b) : a = b := by
  have h9 := congrArg Int32.toInt h
  rw [nI_toInt ha, nI_toInt hb] at h9
  omega
theorem rcT_len {g : Nat → Nat} {k : Nat} (h0 : g (232 + 4 * k + 0) < 10000) (h1 : g (232 + 4 * k + 1) < 10000) (h2 : g (232 + 4 * k + 2) < 10000) (h3 : g (232 + 4 * k + 3) < 10000) : (rcT g k).length ≤ 19 := by
  have l1 := (dgL_asc h0).2.2
  have l2 := (dgL_asc h1).2.2
  have l3 := (dgL_asc h2).2.2
  have l4 := (dgL_asc h3).2.2
  unfold rcT
  simp only [List.length_append, List.length_cons]
  omega
theorem ct_X1_renderSuitcase {G : GG} {l : Launch} {h : AH} {P : Nat → Prop} {xo n : Nat} {g : Nat → Nat} {sn : Option (Nat → Nat)} {hs : List (Nat → Nat)} {l0 : List Nat} {ep fc : Int32} {ot : List Nat} {p : Int32}  (hl0 : l.stackTraces = false) (hC : CW G P h xo g sn hs l0 ep fc ot) (hP : ∀ z, h z = none → P z) (hV : INV n g) (hn4 : n < 10000)  : CtX G l yX1_renderSuitcase cX1_renderSuitcase 2 (some .int) 9 (30) (3000) [.ref xo, .int p] h (fun r0 h2 => (∃ k, k < g 2 ∧ fdO g 232 p (g 2) = some k ∧ r0 = some (.int (nI (rcT g k).length)) ∧ CW G P h2 xo g sn hs l0 ep fc (rcT g k)) ∧ Fr P h h2) (XF h (fun E => fdO g 232 p (g 2) = none ∧ E = eEL)) := by
  refine CtX.of (by decide) (Nat.le_of_ble_eq_true rfl) (cat1 rfl) (fun X hXl F HT => ?_)
  subst hXl
  obtain ⟨r, so, hl, sb, o, mc, A, V, b, N, hx, hRG, hSN, hLL, hHR, hSB, hOU, hPx, hPl, hPA, hPs, hPb⟩ := id hC
  obtain ⟨⟨⟨ti, tia, tf⟩, ⟨tt, tl, ta, x, A9⟩, ⟨sm, smc, sA, sK, sV⟩, ⟨bm, bmc, bA, bK, bV⟩⟩, hW, -⟩ := id hRG
  refine V_aload_n (i := 0) F dX1_renderSuitcase_0 rfl rfl ?_
  refine V_aload_n (i := 0) F dX1_renderSuitcase_1 rfl rfl ?_
  refine V_iload_n (i := 1) F dX1_renderSuitcase_2 rfl rfl ?_
  refine V_xcV (st := [.ref (xo)]) (nn := 1) F dX1_renderSuitcase_3 lk_X1_284 (ct_X1_suitcaseWith hl0 hx hW hV) ⟨1, _, _, _, rfl, .inl hx⟩ rfl rfl (Nat.le_of_ble_eq_true rfl) (Nat.le_of_ble_eq_true rfl) (Nat.le_of_ble_eq_true rfl) (by omega) (by omega) ?_ ?_
  · rintro _ h3 ⟨k, hk, hfo, rfl, hF3⟩
    have hsk := hF3.get ((hW.2.2.2.1.2.2 k hk).2) id rfl
    obtain ⟨hs1, hs2, hs3⟩ := hV.cs k hk
    have hid := hV.nx k hk
    have hcn := hV.cn
    have hg8 := hV.W.2.1
    refine V_callV (st := [.ref (xo)]) (nn := 0) F dX1_renderSuitcase_6 lk_X1_385 (ct_X10_toString hsk (by omega) (by omega) (by omega) (by omega)) ⟨8, _, _, _, rfl, .inl hsk⟩ rfl rfl (Nat.le_of_ble_eq_true rfl) (Nat.le_of_ble_eq_true rfl) (Nat.le_of_ble_eq_true rfl) (by omega) (by omega) ?_
    rintro _ h4 ⟨o4, rfl, ho4, hT4, ⟨v4, hv40, hv4⟩, hx4⟩
    have hF4 : Fr nM h h4 := hF3.cal0 hx4
    refine V_callV (st := []) (nn := 1) F dX1_renderSuitcase_9 lk_X1_381 (ct_X1_write (n := n) hC hF4 hP (lt := rcT g k) (Nat.le_trans (rcT_len (by omega) (by omega) (by omega) (by omega)) (by decide)) ⟨v4, hF3.none hv40, hv4⟩) ⟨1, _, _, _, rfl, .inl (hF4.get hx id rfl)⟩ rfl rfl (Nat.le_of_ble_eq_true rfl) (Nat.le_of_ble_eq_true rfl) (Nat.le_of_ble_eq_true rfl) (by omega) (by omega) ?_
    rintro _ h5 ⟨rfl, hC5, hx5⟩
    exact VV.rx (V_iret F dX1_renderSuitcase_12 rfl (by first | exact Nat.le_of_ble_eq_true rfl | omega) (by first | exact Nat.le_of_ble_eq_true rfl | omega) ⟨⟨k, hk, hfo, rfl, hC5⟩, (hF4.mono (fun _ z => z.elim) : Fr P h h4).cal hx5 (fun z q => Or.inl q)⟩)
  · exact fun E q h2 hp => V_xout F (HT _) (by omega) (by omega) (XF.of Fr.rf hp (fun hc => hc))
theorem ct_X1_renderTrainV {G : GG} {l : Launch} {h : AH} {P : Nat → Prop} {xo n : Nat} {g : Nat → Nat} {sn : Option (Nat → Nat)} {hs : List (Nat → Nat)} {l0 : List Nat} {ep fc : Int32} {ot : List Nat} {t : Nat}  (hl0 : l.stackTraces = false) (hC : CW G P h xo g sn hs l0 ep fc ot) (hP : ∀ z, h z = none → P z) (hV : INV n g) (ht : t < g 1)  : CtX G l yX1_renderTrain cX1_renderTrain 2 (some .int) 8 (300) (18000) [.ref xo, .int (nI t)] h (fun r0 h2 => r0 = some (.int (nI (rtT g t).length)) ∧ CW G P h2 xo g sn hs l0 ep fc (rtT g t) ∧ Fr P h h2) (XF h (fun E => False)) := by
  refine CtX.of (by decide) (Nat.le_of_ble_eq_true rfl) (cat1 rfl) (fun X hXl F HT => ?_)
  subst hXl
  obtain ⟨r, so, hl, sb, o, mc, A, V, b, N, hx, hRG, hSN, hLL, hHR, hSB, hOU, hPx, hPl, hPA, hPs, hPb⟩ := id hC
  obtain ⟨⟨⟨ti, tia, tf⟩, ⟨tt, tl, ta, x, A9⟩, ⟨sm, smc, sA, sK, sV⟩, ⟨bm, bmc, bA, bK, bV⟩⟩, hW, -⟩ := id hRG
  have hI := hV.W
  have hWr : RWr G h (tt, tl, ta, x, A9) g := hW.2.2.1
  have ht6 := hI.t6 ht
  have hS8 := (hI.2.2.2.2.2.1 t ht).2
  have hst1 := (hI.2.2.2.2.2.1 t ht).1
  have hd9 := (hV.tm t ht).2.2.1
  have hpl : ∀ k, k < g (16 + 36 * t + 3) → plG g t k < 10 := fun k hk => by have := hI.2.2.2.2.2.2 t k ht hk; have := hI.2.1; omega
  have hld : ∀ k, k < g (16 + 36 * t + 3) - 1 → ldG g t k < 10 := fun k hk => by have := hV.L t k ⟨ht, hk⟩; have := (hV.tm t ht).1.2; omega
  have htd := dgl1 (x := t) (by omega)
  have htl : (trT g t).length ≤ 60 := by
    have := rsT_len hpl hld (g (16 + 36 * t + 3)) (Nat.le_refl _)
    have := (dgL_asc (n := g (16 + 36 * t + 2)) (by omega)).2.2
    unfold trT
    split <;> simp only [List.length_append, List.length_cons, List.length_nil] <;> omega
  refine V_aload_n (i := 0) F dX1_renderTrain_0 rfl rfl ?_
  refine V_new F dX1_renderTrain_1 nw_X1_21 (by omega) (by omega) ?_
  intro s1 hfs1 hbs1
  refine V_dup F dX1_renderTrain_4 rfl ?_
  refine V_callI (st := [.ref (s1), .ref (xo)]) (nn := 0) F dX1_renderTrain_5 lk_X1_23 (ct_J5_init (hset_self (e := .inr (21, [.null, .int 0, .int 0, .int 0])))) rfl rfl (Nat.le_of_ble_eq_true rfl) (Nat.le_of_ble_eq_true rfl) (Nat.le_of_ble_eq_true rfl) (by omega) (by omega) ?_
  rintro _ hh1 ⟨rfl, b1, hb1, hS1, hx1⟩
  have hF1 : Fr nM h hh1 := ((Fr.rf (M := nM) (h := h)).nw (x := .inr (21, [.null, .int 0, .int 0, .int 0])) hfs1).cal hx1 (Yo.m1 (Or.inr hfs1))
  have hB1 : h b1 = none := ((Fr.rf (M := nM) (h := h)).nw (x := .inr (21, [.null, .int 0, .int 0, .int 0])) hfs1).none hb1
  refine V_iload_n (i := 1) F dX1_renderTrain_8 rfl rfl ?_
  refine V_callV (st := [.ref (xo)]) (nn := 1) F dX1_renderTrain_9 lk_X1_367 (ct_J5_appendI hS1 (by omega) (by simp only [List.length_append, List.length_nil, List.length_cons, txc_0, txc_45, txc_43, txc_64, txc_62, txc_116, txc_58, txc_32]; omega)) hS1.isC rfl rfl (Nat.le_of_ble_eq_true rfl) (Nat.le_of_ble_eq_true rfl) (Nat.le_of_ble_eq_true rfl) (by omega) (by omega) ?_
  rintro _ hh2 ⟨rfl, b2, N2, hS2, hbb2, hx2⟩
  have hF2 : Fr nM h hh2 := hF1.cal hx2 (Yo.m2 (Or.inr hfs1) (Or.inr hB1))
  have hB2 : h b2 = none := hbb2.elim (fun z => z.1 ▸ hB1) hF1.none
  refine V_ldcwS F dX1_renderTrain_12 q3269 ?_
  intro w3 hGw3
  refine V_callV (st := [.ref (xo)]) (nn := 1) F dX1_renderTrain_15 lk_X1_373 (ct_J5_append hS2 (hGw3.str (asc_of (by decide +kernel)) (by decide +kernel)) (by simp only [List.length_append, List.length_nil, List.length_cons, txc_0, txc_45, txc_43, txc_64, txc_62, txc_116, txc_58, txc_32]; omega)) hS2.isC rfl rfl (Nat.le_of_ble_eq_true rfl) (Nat.le_of_ble_eq_true rfl) (Nat.le_of_ble_eq_true rfl) (by omega) (by omega) ?_
  rintro _ hh4 ⟨rfl, b4, N4, hS4, hbb4, hx4⟩
  have hF4 : Fr nM h hh4 := hF2.cal hx4 (Yo.m2 (Or.inr hfs1) (Or.inr hB2))
  have hB4 : h b4 = none := hbb4.elim (fun z => z.1 ▸ hB2) hF2.none
  refine V_aload_n (i := 0) F dX1_renderTrain_18 rfl rfl ?_
  refine V_iload_n (i := 1) F dX1_renderTrain_19 rfl rfl ?_
  refine V_xcV (st := [.ref (s1), .ref (xo)]) (nn := 1) F dX1_renderTrain_20 lk_X1_150 (ct_X1_trainWith hl0 (hF4.get hx id rfl) (hW.fr0 hF4) hV) ⟨1, _, _, _, rfl, .inl (hF4.get hx id rfl)⟩ rfl rfl (Nat.le_of_ble_eq_true rfl) (Nat.le_of_ble_eq_true rfl) (Nat.le_of_ble_eq_true rfl) (by omega) (by omega) ?_ ?_
  · rintro _ _ ⟨t9, ht9, et9, rfl, rfl⟩
    have et9 : t = t9 := nI_inj9 (by omega) (by have := hI.t6 ht9; omega) et9
    subst et9
    have hTx := (hWr.2.2 t ht).fr0 hF4
    refine V_callV (st := [.ref (s1), .ref (xo)]) (nn := 0) F dX1_renderTrain_23 lk_X1_376 (ct_X5_toString hTx hS8 hpl hld (by omega)) ⟨4, _, _, _, rfl, .inl hTx.1⟩ rfl rfl (Nat.le_of_ble_eq_true rfl) (Nat.le_of_ble_eq_true rfl) (Nat.le_of_ble_eq_true rfl) (by omega) (by omega) ?_
    rintro _ hh5 ⟨o5, rfl, ho5, hT5, hv5, hx5⟩
    have hF5 : Fr nM h hh5 := hF4.cal0 hx5
    have hSu5 := hS4.fr0 hx5
    refine V_callV (st := [.ref (xo)]) (nn := 1) F dX1_renderTrain_26 lk_X1_373 (ct_J5_append hSu5 hT5 (by simp only [List.length_append, List.length_nil, List.length_cons, txc_0, txc_45, txc_43, txc_64, txc_62, txc_116, txc_58, txc_32]; omega)) hSu5.isC rfl rfl (Nat.le_of_ble_eq_true rfl) (Nat.le_of_ble_eq_true rfl) (Nat.le_of_ble_eq_true rfl) (by omega) (by omega) ?_
    rintro _ hh6 ⟨rfl, b6, N6, hS6, hbb6, hx6⟩
    have hF6 : Fr nM h hh6 := hF5.cal hx6 (Yo.m2 (Or.inr hfs1) (Or.inr hB4))
    have hB6 : h b6 = none := hbb6.elim (fun z => z.1 ▸ hB4) hF5.none
    refine V_callV (st := [.ref (xo)]) (nn := 0) F dX1_renderTrain_29 lk_X1_380 (ct_J5_toString hS6 (by simp only [List.length_append, List.length_nil, List.length_cons, txc_0, txc_45, txc_43, txc_64, txc_62, txc_116, txc_58, txc_32]; omega)) hS6.isC rfl rfl (Nat.le_of_ble_eq_true rfl) (Nat.le_of_ble_eq_true rfl) (Nat.le_of_ble_eq_true rfl) (by omega) (by omega) ?_
    rintro _ hh7 ⟨o7, rfl, ho7, hT7, hv7, hx7⟩
    have hF7 : Fr nM h hh7 := hF6.cal0 hx7
    have et : (((([] : List Nat) ++ dgL t) ++ txl ":") ++ (trT g t)) = rtT g t := by rw [← trT_rtT hst1]; simp only [txc_58, List.nil_append]
    rw [et] at hv7
    obtain ⟨vv, hv0, hv1⟩ := hv7
    refine V_callV (st := []) (nn := 1) F dX1_renderTrain_32 lk_X1_381 (ct_X1_write (n := n) hC hF7 hP (lt := rtT g t) (by rw [← trT_rtT hst1]; simp only [List.length_append, List.length_nil, List.length_cons, txc_0, txc_45, txc_43, txc_64, txc_62, txc_116, txc_58, txc_32]; omega) ⟨vv, hF6.none hv0, hv1⟩) ⟨1, _, _, _, rfl, .inl (hF7.get hx id rfl)⟩ rfl rfl (Nat.le_of_ble_eq_true rfl) (Nat.le_of_ble_eq_true rfl) (Nat.le_of_ble_eq_true rfl) (by omega) (by omega) ?_
    rintro _ h5 ⟨rfl, hC5, hx5⟩
    exact VV.rx (V_iret F dX1_renderTrain_35 rfl (by first | exact Nat.le_of_ble_eq_true rfl | omega) (by first | exact Nat.le_of_ble_eq_true rfl | omega) ⟨rfl, hC5, (hF7.mono (fun _ z => z.elim) : Fr P h _).cal hx5 (fun z q => Or.inl q)⟩)
  · exact fun E q h2 hp => absurd ((iR_nI (by omega)).mpr ht) hp.1.1
theorem bos_len {g : Nat → Nat} {t : Nat} {S : List Nat} (hI : GW g) (h : BOS g t S) : S.length ≤ 10 := by
  rw [h.1.length_eq]
  refine Nat.le_trans (List.length_filter_le _ _) ?_
  rw [List.length_range]; exact hI.2.2.2.2.1
theorem bos_ne {g : Nat → Nat} {t : Nat} {S : List Nat} (h : BOS g t S) {i j : Nat} (hi : i < j) (hj : j < S.length) : S.getD i 0 ≠ S.getD j 0 := by
  have hn : S.Nodup := h.1.symm.nodup (List.nodup_range.sublist List.filter_sublist)
  rw [List.getD_eq_getElem?_getD, List.getD_eq_getElem?_getD, List.getElem?_eq_getElem hj, List.getElem?_eq_getElem (Nat.lt_trans hi hj)]
  exact fun e => absurd ((List.getElem_inj hn).mp e) (Nat.ne_of_lt hi)
theorem ct_X1_berthOf {G : GG} {l : Launch} {h : AH} {r ti tia : Nat} {tf : Nat → Nat} {tt tl ta : Nat} {x : Nat → Nat} {A : Nat → Nat → Nat} {sm smc : Nat} {sA sK sV : Nat → Nat} {bm bmc : Nat} {bA bK bV : Nat → Nat} {g : Nat → Nat} {xo hl sb o n : Nat} {so : Option Nat} {ep fc : Int32} {p : Int32}  (hl0 : l.stackTraces = false) (hx : h xo = some (.inr (1, [.ref r, va_rf so, .ref hl, .ref sb, .int ep, .int fc, .ref o]))) (hW : RW G h r ((ti, tia, tf), (tt, tl, ta, x, A), (sm, smc, sA, sK, sV), (bm, bmc, bA, bK, bV)) g) (hV : INV n g)  : CtX G l yX1_berthOf cX1_berthOf 3 (some .int) 13 (390) (2300) [.ref xo, .int p] h (fun r0 h2 => (∃ k, k < g 3 ∧ fdO g 264 p (g 3) = some k ∧ ∃ S N nd pp, BGV g (g (264 + 4 * k + 1)) S N nd ∧ pp < S.length ∧ S.getD pp 0 = k ∧ r0 = some (.int (nI (N pp)))) ∧ Fr nM h h2) (XF h (fun E => fdO g 264 p (g 3) = none ∧ E = eEL)) := by
  refine CtX.of (by decide) (Nat.le_of_ble_eq_true rfl) (cat1 rfl) (fun X hXl F HT => ?_)
  subst hXl
  obtain ⟨hr, hWt, hWr, hWs, hWb⟩ : h r = some (.inr (2, [.ref ti, .ref tt, .ref sm, .ref bm, .int (nI (g 4)), .int (nI (g 5)), .int (nI (g 6)), .int (nI (g 7))])) ∧ RWt G h (ti, tia, tf) g ∧ RWr G h (tt, tl, ta, x, A) g ∧ RWs G h (sm, smc, sA, sK, sV) g ∧ RWb G h (bm, bmc, bA, bK, bV) g := id hW
  have hI := hV.W
  have hg08 := hI.2.1
  refine V_aload_n (i := 0) F dX1_berthOf_0 rfl rfl ?_
  refine V_iload_n (i := 1) F dX1_berthOf_1 rfl rfl ?_
  refine V_xcV (st := []) (nn := 1) F dX1_berthOf_2 lk_X1_325 (ct_X1_bookingWith hl0 hx hW hV) ⟨1, _, _, _, rfl, .inl hx⟩ rfl rfl (Nat.le_of_ble_eq_true rfl) (Nat.le_of_ble_eq_true rfl) (Nat.le_of_ble_eq_true rfl) (by omega) (by omega) ?_ ?_
  · rintro _ h3 ⟨k, hk, hfo, rfl, hF3⟩
    have hbt := (hV.bv k hk).1
    refine V_astore_n (i := 2) F dX1_berthOf_5 rfl (Nat.le_of_ble_eq_true rfl) (Nat.le_of_ble_eq_true rfl) ?_
    refine V_aload_n (i := 0) F dX1_berthOf_6 rfl rfl ?_
    refine V_getf F dX1_berthOf_7 fc_X1_44_X1 (.inl (hF3.get hx id rfl)) rfl ?_
    refine V_aload_n (i := 2) F dX1_berthOf_10 rfl rfl ?_
    refine V_getn F dX1_berthOf_11 fc_X1_329_X14 (.inl ((hWb.fr0 hF3).2.2 k hk).2) rfl ?_
    refine V_callV (st := []) (nn := 1) F dX1_berthOf_14 lk_X1_313 (ct_RW_berths (hW.fr0 hF3) hI hbt) ⟨2, _, _, _, rfl, .inl (hW.fr0 hF3).1⟩ rfl rfl (Nat.le_of_ble_eq_true rfl) (Nat.le_of_ble_eq_true rfl) (Nat.le_of_ble_eq_true rfl) (by omega) (by omega) ?_
    rintro _ h4 ⟨b9, so9, nu, ar9, nar, S, f9, N9, fN, nd, rfl, hb0, hb4, hBG, hBK, hNu, hIN, hfb, hx4⟩
    have hF4 : Fr nM h h4 := hF3.cal0 hx4
    have hkS : k ∈ S := hBG.1.1.symm.subset (List.mem_filter.mpr ⟨List.mem_range.mpr hk, by simp⟩)
    obtain ⟨pp, hpp, hpk⟩ := List.getElem_of_mem hkS
    have hgd : S.getD pp 0 = k := by rw [List.getD_eq_getElem?_getD, List.getElem?_eq_getElem hpp, hpk]; rfl
    have hSn : S.length ≤ 10 := bos_len hI hBG.1
    have hfp : f9 pp = bV k := by rw [hfb pp hpp, hgd]
    have hinj : ∀ i, i < pp → f9 i ≠ f9 pp := fun i hi e => by
      have h1 := hBK.2 i (by omega)
      have h2 := hBK.2 pp hpp
      rw [e, h2] at h1
      have hlt : S.getD i 0 ≠ S.getD pp 0 := bos_ne hBG.1 hi hpp
      have hm1 := (hBG.1.lt (getD_mem (d := 0) (show i < S.length by omega))).1
      have hm2 := (hBG.1.lt (getD_mem (d := 0) hpp)).1
      injection h1 with h1
      injection h1 with h1
      injection h1 with _ h1
      injection h1 with h1 _
      injection h1 with h1
      have h1 := nI_inj9 (Nat.lt_trans (hI.b _) (by decide)) (Nat.lt_trans (hI.b _) (by decide)) h1
      rcases Nat.lt_or_gt_of_ne hlt with z | z
      · have := hV.bd _ _ z hm2; omega
      · have := hV.bd _ _ z hm1; omega
    refine V_aload_n (i := 2) F dX1_berthOf_17 rfl rfl ?_
    refine VV.stk (st' := [.ref (f9 pp), .ref (b9)]) (by rw [hfp]; rfl) ?_
    refine V_callV (st := []) (nn := 1) F dX1_berthOf_18 lk_X1_331 (ct_BE_berthOf hb4 hBK hNu hIN hpp hSn hinj) ⟨13, _, _, _, rfl, (.inl hb4)⟩ rfl rfl (Nat.le_of_ble_eq_true rfl) (Nat.le_of_ble_eq_true rfl) (Nat.le_of_ble_eq_true rfl) (by omega) (by omega) ?_
    refine PRk ?_
    exact VV.rx (V_iret F dX1_berthOf_21 rfl (by first | exact Nat.le_of_ble_eq_true rfl | omega) (by first | exact Nat.le_of_ble_eq_true rfl | omega) ⟨⟨k, hk, hfo, S, N9, nd, pp, hBG, hpp, hgd, rfl⟩, hF4⟩)
  · exact fun E q h2 hp => V_xout F (HT _) (by omega) (by omega) (XF.of Fr.rf hp (fun hc => hc))
