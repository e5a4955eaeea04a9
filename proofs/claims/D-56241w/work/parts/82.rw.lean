theorem arrV_ext {c : ClassId} {n : Nat} {f f2 : Nat → Value} (he : ∀ i, i < n → f i = f2 i) : arrV c n f = arrV c n f2 := by
  unfold arrV
  congr 1
  exact congrArg _ (funext (fun i => he _ i.2))
theorem VV.iext {G : GG} {X : CX} {nL : Nat} {Q : State → Prop} {h : AH} {kc n : Nat} {L : LV} {st : List Value} {pc c m a : Nat} {f f2 : Nat → Int32} (ha : h a = some (.inl (c, m, .inl f))) (he : ∀ i, i < m → f i = f2 i) (k : VV G X nL Q (hset h a (.inl (c, m, .inl f2))) kc n L st pc) : VV G X nL Q h kc n L st pc := by
  refine fun H locs ls hS hL hl => k H locs ls ⟨fun b e hb => ?_, hS.2⟩ hL hl
  by_cases q : b = a
  · subst q
    rw [hset_self] at hb
    cases hb
    refine ⟨(hS.1 b _ ha).1, ?_⟩
    have z := (hS.1 b _ ha).2
    exact z.trans (congrArg some (arrV_ext (fun i hi => congrArg Value.int (he i hi))))
  · rw [hset_ne q] at hb
    exact hS.1 b e hb
theorem Fr.putx {M : Nat → Prop} {h h2 : AH} {a c n : Nat} {f f2 : Nat → Int32} (hF : Fr M h h2) (ha : h2 a = some (.inl (c, n, .inl f))) (h0 : h a = Option.none) : Fr M h (hset h2 a (.inl (c, n, .inl f2))) := hF.put ha ⟨rfl, rfl⟩ rfl (Or.inr h0)
theorem bgP_M {a v n : Nat} (hv : v ≤ 9999) : ∀ i, bgP a v (fun _ => 0) n i ≤ 1000000 := by
  intro i
  unfold bgP
  split
  · split <;> omega
  · exact Nat.zero_le _
/-- the legs of the first n trains -/
def lcN (g : Nat → Nat) : Nat → Nat
  | 0 => 0
  | n + 1 => lcN g n + (g (16 + 36 * n + 3) - 1)
theorem lgL_lc {g : Nat → Nat} : (lgL g).length = lcN g (g 1) := by
  have hz : ∀ n, ((List.range n).flatMap (lgT g)).length = lcN g n := by
    intro n
    induction n with
    | zero => rfl
    | succ n ih =>
      rw [List.range_succ, List.flatMap_append, List.length_append, ih, List.flatMap_cons, List.flatMap_nil, List.append_nil]
      unfold lgT
      rw [List.length_map, List.length_range]
      rfl
  exact hz (g 1)
/-- the most bookings on one of the first n legs -/
def bmN (g : Nat → Nat) (t : Nat) : Nat → Nat
  | 0 => 0
  | k + 1 => max (bmN g t k) (bkG g t k (g 3))
theorem bmN_le {g : Nat → Nat} {t : Nat} : ∀ k, bmN g t k ≤ g 3 := by
  intro k
  induction k with
  | zero => exact Nat.zero_le _
  | succ k ih => exact Nat.max_le.mpr ⟨ih, bkG_le⟩
theorem ct_TT_legCount {G : GG} {l : Launch} {h : AH} {tt tl ta : Nat} {x : Nat → Nat} {A : Nat → Nat → Nat} {g : Nat → Nat}  (hR : RWr G h (tt, tl, ta, x, A) g) (hI : GW g)  : Ct G l yX3_legCount cX3_legCount 4 (some .int) 3 (1) (4) [.ref tt] h (fun r h2 => r = some (.int (nI (lgL g).length)) ∧ Fr nM h h2) := by
  refine Ct.of (by decide) (Nat.le_of_ble_eq_true rfl) (cat1 rfl) (fun X hXl F HN => ?_)
  subst hXl
  refine V_iconst (v := nI 0) F dX3_legCount_0 rfl ?_
  refine V_istore_n (i := 1) F dX3_legCount_1 rfl (Nat.le_of_ble_eq_true rfl) (Nat.le_of_ble_eq_true rfl) ?_
  refine V_aload_n (i := 0) F dX3_legCount_2 rfl rfl ?_
  refine V_getf F dX3_legCount_3 fc_X3_12_X3 (.inl hR.1) rfl ?_
  refine V_callF (st := []) (nn := 0) F dX3_legCount_6 ⟨lw_F q1820 q1326 q1328 q111 q1330, ⟨q1325, List.mem_append_left _ q1324, q1329, q1327, q387⟩, (by decide +kernel), (by decide +kernel)⟩ (ct_AL_iterator (hR.2.1.fr0 (Fr.rf (M := nM) (h := h)))) ((hR.2.1.fr0 (Fr.rf (M := nM) (h := h)))).isC rfl rfl (Nat.le_of_ble_eq_true rfl) (Nat.le_of_ble_eq_true rfl) (Nat.le_of_ble_eq_true rfl) (by first | exact Nat.le_of_ble_eq_true rfl | omega) (by first | exact Nat.le_of_ble_eq_true rfl | omega) ?_
  rintro _ hY1 ⟨it, rfl, hit1, hbit, hIt, hx2⟩
  have hit0 := (Fr.rf (M := nM) (h := h)).none hit1
  have p3 := hx2.get hR.1 id rfl
  have f4 : Fr nM h hY1 := (Fr.rf (M := nM) (h := h)).cal0 hx2
  refine V_astore_n (i := 2) F dX3_legCount_11 rfl (Nat.le_of_ble_eq_true rfl) (Nat.le_of_ble_eq_true rfl) ?_
  have loop_12 : ∀ (nn : Nat) (i : Nat) (hh : AH), g 1 - i < nn → i ≤ g 1 → ITR hh it tl i (g 1) → Fr nM h hh → VV G X 4 ((EQ G X (1) (4) (fun r h2 => r = some (.int (nI (lgL g).length)) ∧ Fr nM h h2))) hh (1) (4) [some (.ref (tt)), some (.int (nI (lcN g i))), some (.ref (it)), none] [] 12 := by
    intro nn
    induction nn with
    | zero => intro i hh hm hi9 hI3 hF; exact absurd hm (by omega)
    | succ nn ih_12 =>
      intro i hh hm hi9 hI3 hF
      have h6 := hI.2.2.1
      refine V_aload_n (i := 2) F dX3_legCount_12 rfl rfl ?_
      refine V_callF (st := []) (nn := 0) F dX3_legCount_13 ⟨lw_F q458 q832 q834 q133 q836, ⟨q460, List.mem_append_left _ q459, q835, q833, q831⟩, (by decide +kernel), (by decide +kernel)⟩ (ct_Itr_hasNext (hR.2.1.fr0 hF) hI3 (by omega) (by omega)) hI3.isC rfl rfl (Nat.le_of_ble_eq_true rfl) (Nat.le_of_ble_eq_true rfl) (Nat.le_of_ble_eq_true rfl) (by first | exact Nat.le_of_ble_eq_true rfl | omega) (by first | exact Nat.le_of_ble_eq_true rfl | omega) ?_
      refine PRk ?_
      refine V_if_eqB (tgt := 41) F dX3_legCount_18 (by decide) (fun c_18 => ?_) (fun c_18 => ?_)
      · refine V_iload_n (i := 1) F dX3_legCount_41 rfl rfl ?_
        have hie : i = g 1 := by omega
        subst hie
        exact V_iret F dX3_legCount_42 rfl (by first | exact Nat.le_of_ble_eq_true rfl | omega) (by first | exact Nat.le_of_ble_eq_true rfl | omega) ⟨by rw [lgL_lc], hF⟩
      · have hi : i < g 1 := c_18
        refine V_aload_n (i := 2) F dX3_legCount_21 rfl rfl ?_
        refine V_callF (st := []) (nn := 0) F dX3_legCount_22 ⟨lw_F q866 q1072 q1074 q133 q1076, ⟨q868, List.mem_append_left _ q867, q1075, q1073, q831⟩, (by decide +kernel), (by decide +kernel)⟩ (ct_Itr_next (hR.2.1.fr0 hF) hI3 (by omega) (by omega) hi) hI3.isC rfl rfl (Nat.le_of_ble_eq_true rfl) (Nat.le_of_ble_eq_true rfl) (Nat.le_of_ble_eq_true rfl) (by first | exact Nat.le_of_ble_eq_true rfl | omega) (by first | exact Nat.le_of_ble_eq_true rfl | omega) ?_
        rintro _ h3 ⟨rfl, hI4, hx3⟩
        have hF3 : Fr nM h h3 := hF.cal hx3 (Yo.m1 (Or.inr hit0))
        refine V_ckS F dX3_legCount_27 q906 ⟨4, _, _, _, rfl, (.inl ((hR.fr0 hF3).2.2 i hi).1)⟩ ?_
        refine V_astore_n (i := 3) F dX3_legCount_30 rfl (Nat.le_of_ble_eq_true rfl) (Nat.le_of_ble_eq_true rfl) ?_
        refine V_iload_n (i := 1) F dX3_legCount_31 rfl rfl ?_
        refine V_aload_n (i := 3) F dX3_legCount_32 rfl rfl ?_
        refine V_callV (st := [.int (nI (lcN g i))]) (nn := 0) F dX3_legCount_33 lk_X3_99 (ct_TR_legs ((hR.fr0 hF3).2.2 i hi) (hI.st hi).1) ⟨4, _, _, _, rfl, (.inl ((hR.fr0 hF3).2.2 i hi).1)⟩ rfl rfl (Nat.le_of_ble_eq_true rfl) (Nat.le_of_ble_eq_true rfl) (Nat.le_of_ble_eq_true rfl) (by first | exact Nat.le_of_ble_eq_true rfl | omega) (by first | exact Nat.le_of_ble_eq_true rfl | omega) ?_
        refine PRk ?_
        refine V_iaddN F dX3_legCount_36 ?_
        refine V_istore_n (i := 1) F dX3_legCount_37 rfl (Nat.le_of_ble_eq_true rfl) (Nat.le_of_ble_eq_true rfl) ?_
        refine V_goto (tgt := 12) F dX3_legCount_38 (by decide) ?_
        refine VV.weak (L' := [some (.ref (tt)), some (.int (nI ((lcN g i) + (g (16 + 36 * i + 3) - 1)))), some (.ref (it)), none]) (LW.c1 (LW.c1 (LW.c1 (LW.c0 LW.nil)))) ?_
        exact ih_12 (i + 1) _ (by omega) (by omega) hI4 hF3
  refine VV.weak (L' := [some (.ref (tt)), some (.int (nI (0))), some (.ref (it)), none]) (LW.c1 (LW.c1 (LW.c1 (LW.c0 LW.nil)))) ?_
  exact VV.wide (by omega) (by omega) (loop_12 (g 1 + 1) 0 _ (by omega) (Nat.zero_le _) hIt f4)
theorem ct_RW_hasStation {G : GG} {l : Launch} {h : AH} {r ti tia : Nat} {tf : Nat → Nat} {tt tl ta : Nat} {x : Nat → Nat} {A : Nat → Nat → Nat} {sm smc : Nat} {sA sK sV : Nat → Nat} {bm bmc : Nat} {bA bK bV : Nat → Nat} {g : Nat → Nat} {p : Int32}  (hW : RW G h r ((ti, tia, tf), (tt, tl, ta, x, A), (sm, smc, sA, sK, sV), (bm, bmc, bA, bK, bV)) g) (hI : GW g)  : Ct G l yX2_hasStation cX2_hasStation 2 (some .boolean) 1 (0) (0) [.ref r, .int p] h (PR (.int (b2 (iR p (g 0)))) h) := by
  refine Ct.of (by decide) (Nat.le_of_ble_eq_true rfl) (cat1 rfl) (fun X hXl F HN => ?_)
  subst hXl
  obtain ⟨hr, hWt, hWr, hWs, hWb⟩ : h r = some (.inr (2, [.ref ti, .ref tt, .ref sm, .ref bm, .int (nI (g 4)), .int (nI (g 5)), .int (nI (g 6)), .int (nI (g 7))])) ∧ RWt G h (ti, tia, tf) g ∧ RWr G h (tt, tl, ta, x, A) g ∧ RWs G h (sm, smc, sA, sK, sV) g ∧ RWb G h (bm, bmc, bA, bK, bV) g := id hW
  refine V_iload_n (i := 1) F dX2_hasStation_0 rfl rfl ?_
  refine V_iconst (v := nI 0) F dX2_hasStation_1 rfl ?_
  refine V_aload_n (i := 0) F dX2_hasStation_2 rfl rfl ?_
  refine V_getf F dX2_hasStation_3 fc_X2_12_X2 (.inl hr) rfl ?_
  refine V_callF (st := [.int (nI (0)), .int (p)]) (nn := 0) F dX2_hasStation_6 ⟨lw_F q1237 q388 q390 q111 q392, ⟨q386, List.mem_append_left _ q385, q391, q389, q387⟩, (by decide +kernel), (by decide +kernel)⟩ (ct_AL_size hWt.1) hWt.1.isC rfl rfl (Nat.le_of_ble_eq_true rfl) (Nat.le_of_ble_eq_true rfl) (Nat.le_of_ble_eq_true rfl) (by first | exact Nat.le_of_ble_eq_true rfl | omega) (by first | exact Nat.le_of_ble_eq_true rfl | omega) ?_
  refine PRk ?_
  refine V_iconst (v := nI 1) F dX2_hasStation_11 rfl ?_
  refine V_isub F dX2_hasStation_12 ?_
  refine V_callSN (st := []) (nn := 3) F dX2_hasStation_13 lk_X2_106 q1796 (ct_isBetween) rfl rfl (Nat.le_of_ble_eq_true rfl) (Nat.le_of_ble_eq_true rfl) (Nat.le_of_ble_eq_true rfl) (by first | exact Nat.le_of_ble_eq_true rfl | omega) (by first | exact Nat.le_of_ble_eq_true rfl | omega) ?_
  refine PRk ?_
  exact V_iret F dX2_hasStation_16 nar_b2 (by first | exact Nat.le_of_ble_eq_true rfl | omega) (by first | exact Nat.le_of_ble_eq_true rfl | omega) ⟨by rw [b2_c (iR_in hI.b.lt)], rfl⟩
theorem ct_RW_coinsByLoads {G : GG} {l : Launch} {h : AH} {r ti tia : Nat} {tf : Nat → Nat} {tt tl ta : Nat} {x : Nat → Nat} {A : Nat → Nat → Nat} {sm smc : Nat} {sA sK sV : Nat → Nat} {bm bmc : Nat} {bA bK bV : Nat → Nat} {g : Nat → Nat}  (hW : RW G h r ((ti, tia, tf), (tt, tl, ta, x, A), (sm, smc, sA, sK, sV), (bm, bmc, bA, bK, bV)) g) (hI : GW g)  : Ct G l yX2_coinsByLoads cX2_coinsByLoads 1 (some .int) 7 (50) (300) [.ref r] h (fun r h2 => r = some (.int (nI (2 * ((lgL g).foldl (fun (a : Nat) (x : Nat × Nat) => a + (g (16 + 36 * x.1 + (28 + x.2)))) 0)))) ∧ Fr nM h h2) := by
  refine Ct.of (by decide) (Nat.le_of_ble_eq_true rfl) (cat1 rfl) (fun X hXl F HN => ?_)
  subst hXl
  obtain ⟨hr, hWt, hWr, hWs, hWb⟩ : h r = some (.inr (2, [.ref ti, .ref tt, .ref sm, .ref bm, .int (nI (g 4)), .int (nI (g 5)), .int (nI (g 6)), .int (nI (g 7))])) ∧ RWt G h (ti, tia, tf) g ∧ RWr G h (tt, tl, ta, x, A) g ∧ RWs G h (sm, smc, sA, sK, sV) g ∧ RWb G h (bm, bmc, bA, bK, bV) g := id hW
  refine V_iconst (v := nI 2) F dX2_coinsByLoads_0 rfl ?_
  refine V_aload_n (i := 0) F dX2_coinsByLoads_1 rfl rfl ?_
  refine V_getf F dX2_coinsByLoads_2 fc_X2_21_X2 (.inl hr) rfl ?_
  refine V_callV (st := [.int (nI (2))]) (nn := 0) F dX2_coinsByLoads_5 lk_X2_270 (ct_TT_suitcaseLegs hWr hI) ⟨3, _, _, _, rfl, .inl hWr.1⟩ rfl rfl (Nat.le_of_ble_eq_true rfl) (Nat.le_of_ble_eq_true rfl) (Nat.le_of_ble_eq_true rfl) (by first | exact Nat.le_of_ble_eq_true rfl | omega) (by first | exact Nat.le_of_ble_eq_true rfl | omega) ?_
  rintro _ h2 ⟨rfl, hx2⟩
  refine V_imulN F dX2_coinsByLoads_8 ?_
  exact V_iret F dX2_coinsByLoads_9 rfl (by first | exact Nat.le_of_ble_eq_true rfl | omega) (by first | exact Nat.le_of_ble_eq_true rfl | omega) ⟨rfl, hx2⟩
theorem ct_RW_berthsByLegs {G : GG} {l : Launch} {h : AH} {r ti tia : Nat} {tf : Nat → Nat} {tt tl ta : Nat} {x : Nat → Nat} {A : Nat → Nat → Nat} {sm smc : Nat} {sA sK sV : Nat → Nat} {bm bmc : Nat} {bA bK bV : Nat → Nat} {g : Nat → Nat} {t : Nat}  (hW : RW G h r ((ti, tia, tf), (tt, tl, ta, x, A), (sm, smc, sA, sK, sV), (bm, bmc, bA, bK, bV)) g) (hI : GW g) (ht : t < g 1) : Ct G l yX2_berthsByLegs cX2_berthsByLegs 5 (some .int) 4 (0) (0) [.ref r, .int (nI t)] h (PR (.int (nI (bmN g t (g (16 + 36 * t + 3) - 1)))) h) := by
  refine Ct.of (by decide) (Nat.le_of_ble_eq_true rfl) (cat1 rfl) (fun X hXl F HN => ?_)
  subst hXl
  obtain ⟨hr, hWt, hWr, hWs, hWb⟩ : h r = some (.inr (2, [.ref ti, .ref tt, .ref sm, .ref bm, .int (nI (g 4)), .int (nI (g 5)), .int (nI (g 6)), .int (nI (g 7))])) ∧ RWt G h (ti, tia, tf) g ∧ RWr G h (tt, tl, ta, x, A) g ∧ RWs G h (sm, smc, sA, sK, sV) g ∧ RWb G h (bm, bmc, bA, bK, bV) g := id hW
  obtain ⟨hxt, f, hA, -, -, -, -, hb4⟩ := id (hWr.2.2 t ht)
  have hs8 := (hI.st ht).2
  refine V_aload_n (i := 0) F dX2_berthsByLegs_0 rfl rfl ?_
  refine V_getf F dX2_berthsByLegs_1 fc_X2_21_X2 (.inl hr) rfl ?_
  refine V_iload_n (i := 1) F dX2_berthsByLegs_4 rfl rfl ?_
  refine V_callV (st := []) (nn := 1) F dX2_berthsByLegs_5 lk_X2_154 (ct_TT_get hWr hI ht) ⟨3, _, _, _, rfl, .inl hWr.1⟩ rfl rfl (Nat.le_of_ble_eq_true rfl) (Nat.le_of_ble_eq_true rfl) (Nat.le_of_ble_eq_true rfl) (by first | exact Nat.le_of_ble_eq_true rfl | omega) (by first | exact Nat.le_of_ble_eq_true rfl | omega) ?_
  refine PRk ?_
  refine V_astore_n (i := 2) F dX2_berthsByLegs_8 rfl (Nat.le_of_ble_eq_true rfl) (Nat.le_of_ble_eq_true rfl) ?_
  refine V_iconst (v := nI 0) F dX2_berthsByLegs_9 rfl ?_
  refine V_istore_n (i := 3) F dX2_berthsByLegs_10 rfl (Nat.le_of_ble_eq_true rfl) (Nat.le_of_ble_eq_true rfl) ?_
  refine V_iconst (v := nI 0) F dX2_berthsByLegs_11 rfl ?_
  refine V_istore (i := 4) F dX2_berthsByLegs_12 (Nat.le_of_ble_eq_true rfl) (Nat.le_of_ble_eq_true rfl) ?_
  have loop_14 : ∀ (nn : Nat) (k : Nat), g (16 + 36 * t + 3) - k < nn → k ≤ g (16 + 36 * t + 3) - 1 → VV G X 5 ((EQ G X (0) (0) (PR (.int (nI (bmN g t (g (16 + 36 * t + 3) - 1)))) h))) h (0) (0) [some (.ref (r)), none, some (.ref ((x t))), some (.int (nI (bmN g t k))), some (.int (nI (k)))] [] 14 := by
    intro nn
    induction nn with
    | zero => intro k hm hk; exact absurd hm (by omega)
    | succ nn ih_14 =>
      intro k hm hk
      refine V_iload (i := 4) F dX2_berthsByLegs_14 rfl ?_
      refine V_aload_n (i := 2) F dX2_berthsByLegs_16 rfl rfl ?_
      refine V_callV (st := [.int (nI (k))]) (nn := 0) F dX2_berthsByLegs_17 lk_X2_257 (ct_TR_legs (hWr.2.2 t ht) (hI.st ht).1) ⟨4, _, _, _, rfl, (.inl hxt)⟩ rfl rfl (Nat.le_of_ble_eq_true rfl) (Nat.le_of_ble_eq_true rfl) (Nat.le_of_ble_eq_true rfl) (by first | exact Nat.le_of_ble_eq_true rfl | omega) (by first | exact Nat.le_of_ble_eq_true rfl | omega) ?_
      refine PRk ?_
      refine V_icmp_geN (tgt := 41) F dX2_berthsByLegs_20 (by decide) (by omega) (by omega) (fun c_20 => ?_) (fun c_20 => ?_)
      · refine V_iload_n (i := 3) F dX2_berthsByLegs_41 rfl rfl ?_
        have hke : k = g (16 + 36 * t + 3) - 1 := by omega
        subst hke
        exact V_iret F dX2_berthsByLegs_42 rfl (by first | exact Nat.le_of_ble_eq_true rfl | omega) (by first | exact Nat.le_of_ble_eq_true rfl | omega) ⟨rfl, rfl⟩
      · refine V_iload_n (i := 3) F dX2_berthsByLegs_23 rfl rfl ?_
        refine V_aload_n (i := 2) F dX2_berthsByLegs_24 rfl rfl ?_
        refine V_getn F dX2_berthsByLegs_25 fc_X2_237_X5 (.inl hxt) rfl ?_
        refine V_iload (i := 4) F dX2_berthsByLegs_28 rfl ?_
        refine V_ialdG F dX2_berthsByLegs_30 (.inl (hA 4 (by decide))) (by omega) (by decide) (hb4 k (by omega)) ?_
        refine V_mmaxN (a := (bmN g t k)) (b := (bkG g t k (g 3))) F dX2_berthsByLegs_31 q2242 (Nat.lt_of_le_of_lt (bmN_le k) hI.b.lt) (Nat.lt_of_le_of_lt bkG_le hI.b.lt) (Nat.le_of_ble_eq_true rfl) (Nat.le_of_ble_eq_true rfl) (by first | exact Nat.le_of_ble_eq_true rfl | omega) (by first | exact Nat.le_of_ble_eq_true rfl | omega) ?_
        refine V_istore_n (i := 3) F dX2_berthsByLegs_34 rfl (Nat.le_of_ble_eq_true rfl) (Nat.le_of_ble_eq_true rfl) ?_
        refine V_iinc (i := 4) (v := nI (k + 1)) F dX2_berthsByLegs_35 rfl (nI_add (k) 1) (Nat.le_of_ble_eq_true rfl) ?_
        refine V_goto (tgt := 14) F dX2_berthsByLegs_38 (by decide) ?_
        refine VV.weak (L' := [some (.ref (r)), none, some (.ref ((x t))), some (.int (nI (max (bmN g t k) (bkG g t k (g 3))))), some (.int (nI (k + 1)))]) (LW.c1 (LW.c0 (LW.c1 (LW.c1 (LW.c1 LW.nil))))) ?_
        exact ih_14 (k + 1) (by omega) (by omega)
  refine VV.weak (L' := [some (.ref (r)), none, some (.ref ((x t))), some (.int (nI (0))), some (.int (nI (0)))]) (LW.c1 (LW.c0 (LW.c1 (LW.c1 (LW.c1 LW.nil))))) ?_
  exact loop_14 (g (16 + 36 * t + 3) + 1) 0 (by omega) (Nat.zero_le _)
theorem ct_RW_journeys {G : GG} {l : Launch} {h : AH} {r ti tia : Nat} {tf : Nat → Nat} {tt tl ta : Nat} {x : Nat → Nat} {A : Nat → Nat → Nat} {sm smc : Nat} {sA sK sV : Nat → Nat} {bm bmc : Nat} {bA bK bV : Nat → Nat} {h0 : AH} {lg lar a v : Nat} {fl : Nat → Nat} {g : Nat → Nat}  (hW0 : RW G h0 r ((ti, tia, tf), (tt, tl, ta, x, A), (sm, smc, sA, sK, sV), (bm, bmc, bA, bK, bV)) g) (hF0 : Fr nM h0 h) (hLg : LGS G h lg lar g (lgL g) fl) (hI : GW g) (ha31 : a < 2 ^ 31) (hv : v ≤ 9999) : Ct G l yX2_journeys cX2_journeys 6 (some (.object "SleeperRailway$Journeys")) 3 (4) (86) [.ref r, .ref lg, .int (nI a), .int (nI v)] h (fun r h2 => ∃ j eA rA, r = some (.ref j) ∧ h j = none ∧ h eA = none ∧ h rA = none ∧ JS G h0 h2 j g a v eA rA (bgP a v (fun _ => 0) (g 0)) (fun _ => 0) ∧ Fr nM h h2) := by
  refine Ct.of (by decide) (Nat.le_of_ble_eq_true rfl) (cat1 rfl) (fun X hXl F HN => ?_)
  subst hXl
  have hW := hW0.fr0 hF0
  obtain ⟨hr, hWt, hWr, hWs, hWb⟩ : h r = some (.inr (2, [.ref ti, .ref tt, .ref sm, .ref bm, .int (nI (g 4)), .int (nI (g 5)), .int (nI (g 6)), .int (nI (g 7))])) ∧ RWt G h (ti, tia, tf) g ∧ RWr G h (tt, tl, ta, x, A) g ∧ RWs G h (sm, smc, sA, sK, sV) g ∧ RWb G h (bm, bmc, bA, bK, bV) g := id hW
  have hg8 := hI.2.1
  refine V_aload_n (i := 0) F dX2_journeys_0 rfl rfl ?_
  refine V_getf F dX2_journeys_1 fc_X2_12_X2 (.inl hr) rfl ?_
  refine V_callF (st := []) (nn := 0) F dX2_journeys_4 ⟨lw_F q1237 q388 q390 q111 q392, ⟨q386, List.mem_append_left _ q385, q391, q389, q387⟩, (by decide +kernel), (by decide +kernel)⟩ (ct_AL_size hWt.1) hWt.1.isC rfl rfl (Nat.le_of_ble_eq_true rfl) (Nat.le_of_ble_eq_true rfl) (Nat.le_of_ble_eq_true rfl) (by first | exact Nat.le_of_ble_eq_true rfl | omega) (by first | exact Nat.le_of_ble_eq_true rfl | omega) ?_
  refine PRk ?_
  refine V_newaI F dX2_journeys_9 (by omega) (by first | exact Nat.le_of_ble_eq_true rfl | omega) (by first | exact Nat.le_of_ble_eq_true rfl | omega) ?_
  intro tr hftr hbtr
  have htr0 := hftr
  refine V_astore (i := 4) F dX2_journeys_11 (Nat.le_of_ble_eq_true rfl) (Nat.le_of_ble_eq_true rfl) ?_
  refine V_iconst (v := nI 0) F dX2_journeys_13 rfl ?_
  refine V_istore (i := 5) F dX2_journeys_14 (Nat.le_of_ble_eq_true rfl) (Nat.le_of_ble_eq_true rfl) ?_
  have loop_16 : ∀ (nn : Nat) (k : Nat) (E : Nat → Nat) (hh : AH), g 0 - k < nn → k ≤ g 0 → hh r = some (.inr (2, [.ref ti, .ref tt, .ref sm, .ref bm, .int (nI (g 4)), .int (nI (g 5)), .int (nI (g 6)), .int (nI (g 7))])) → hh tr = some (iA G (g 0) (fun i => nI (E i))) → Fr nM h hh → (∀ i, i < k → E i = g (8 + i)) → VV G X 6 ((EQ G X (4) (86) (fun r h2 => ∃ j eA rA, r = some (.ref j) ∧ h j = none ∧ h eA = none ∧ h rA = none ∧ JS G h0 h2 j g a v eA rA (bgP a v (fun _ => 0) (g 0)) (fun _ => 0) ∧ Fr nM h h2))) hh (1) (g 0 + 1) [some (.ref (r)), some (.ref (lg)), some (.int (nI (a))), some (.int (nI (v))), some (.ref (tr)), some (.int (nI (k)))] [] 16 := by
    intro nn
    induction nn with
    | zero => intro k E hh hm hk hrn htr hF hE; exact absurd hm (by omega)
    | succ nn ih_16 =>
      intro k E hh hm hk hrn htr hF hE
      refine V_iload (i := 5) F dX2_journeys_16 rfl ?_
      refine V_aload (i := 4) F dX2_journeys_18 rfl ?_
      refine V_alen (v := nI (g 0)) F 0 dX2_journeys_20 rfl (.inl htr) rfl ?_
      refine V_icmp_geN (tgt := 52) F dX2_journeys_21 (by decide) (by omega) (by omega) (fun c_21 => ?_) (fun c_21 => ?_)
      · have hkg : k = g 0 := by omega
        subst hkg
        refine VV.iext htr (f2 := fun i => nI (g (8 + i))) (fun i hi => congrArg nI (hE i hi)) ?_
        have hF := Fr.putx (f2 := fun i => nI (g (8 + i))) hF htr htr0
        have hrn := (hset_ne (e := iA G (g 0) (fun i => nI (g (8 + i)))) (ne_oa hrn htr)).trans hrn
        have htrg := hset_self (h := hh) (a := tr) (e := iA G (g 0) (fun i => nI (g (8 + i))))
        generalize hset hh tr (iA G (g 0) (fun i => nI (g (8 + i)))) = hh at hF hrn htrg ⊢
        refine V_new F dX2_journeys_52 nw_X2_121 (by first | exact Nat.le_of_ble_eq_true rfl | omega) (by first | exact Nat.le_of_ble_eq_true rfl | omega) ?_
        intro j hfj hbj
        refine V_dup F dX2_journeys_55 rfl ?_
        refine V_aload_n (i := 0) F dX2_journeys_56 rfl rfl ?_
        refine V_getf F dX2_journeys_57 fc_X2_21_X2 (.inl ((hset_ne (ne_nw hrn hfj)).trans hrn)) rfl ?_
        refine V_aload_n (i := 1) F dX2_journeys_60 rfl rfl ?_
        refine V_aload (i := 4) F dX2_journeys_61 rfl ?_
        refine V_iload_n (i := 2) F dX2_journeys_63 rfl rfl ?_
        refine V_iload_n (i := 3) F dX2_journeys_64 rfl rfl ?_
        refine V_callI (st := [.ref (j)]) (nn := 5) F dX2_journeys_65 lk_X2_123 (ct_J_init hset_self (hset_ne (ne_nw htrg hfj) |>.trans htrg) (by omega) ha31) rfl rfl (Nat.le_of_ble_eq_true rfl) (Nat.le_of_ble_eq_true rfl) (Nat.le_of_ble_eq_true rfl) (by first | exact Nat.le_of_ble_eq_true rfl | omega) (by first | exact Nat.le_of_ble_eq_true rfl | omega) ?_
        rintro _ h5 ⟨rfl, eA, rA, he0, hr0, hne, hj5, he5, hr5, hx5⟩
        have hfr4 := (hF.nw (x := .inr (10, [.null, .null, .null, .int 0, .int 0, .null, .null])) hfj)
        have hxj : Fr nM hh ((hset hh j (.inr (10, [.null, .null, .null, .int 0, .int 0, .null, .null])))) := Fr.rf.nw hfj
        have hfr5 : Fr nM h h5 := hfr4.cal hx5 (Yo.m1 (Or.inr (hF.none hfj)))
        have htrj := ne_nw htrg hfj
        have hx6 := hxj.cal (N := m1 j) hx5 (Yo.m1 (Or.inr hfj))
        have hLg5 := hLg.fr0 hfr5
        exact V_aret F dX2_journeys_68 (Or.inl ⟨_, rfl⟩) (Or.inr ⟨_, rfl⟩) (by first | exact Nat.le_of_ble_eq_true rfl | omega) (by first | exact Nat.le_of_ble_eq_true rfl | omega) ⟨j, eA, rA, rfl, hF.none hfj, hfr4.none he0, hfr4.none hr0, ⟨⟨tt, tl, ta, x, A, lg, lar, tr, fl, hW0.2.2.1, hF0.cal0 hfr5, hF0.none (hfr4.none he0), hF0.none (hfr4.none hr0), hne, ne_nw (hxj.get htrg id rfl) he0, ne_nw (hxj.get htrg id rfl) hr0, hj5, hLg5, hx6.get htrg id rfl⟩, he5, hr5, bgP_M hv, fun _ => Nat.succ_pos 1⟩, hfr5⟩
      · refine V_aload (i := 4) F dX2_journeys_24 rfl ?_
        refine V_iload (i := 5) F dX2_journeys_26 rfl ?_
        refine V_aload_n (i := 0) F dX2_journeys_28 rfl rfl ?_
        refine V_getf F dX2_journeys_29 fc_X2_12_X2 (.inl hrn) rfl ?_
        refine V_iload (i := 5) F dX2_journeys_32 rfl ?_
        refine V_callF (st := [.int (nI (k)), .ref (tr)]) (nn := 1) F dX2_journeys_34 ⟨lw_F q1243 q473 q475 q111 q477, ⟨q472, List.mem_append_left _ q471, q476, q474, q387⟩, (by decide +kernel), (by decide +kernel)⟩ (ct_AL_get (hWt.1.fr0 hF) (k := k) (by omega) (by omega)) (hWt.1.fr0 hF).isC rfl rfl (Nat.le_of_ble_eq_true rfl) (Nat.le_of_ble_eq_true rfl) (Nat.le_of_ble_eq_true rfl) (by first | exact Nat.le_of_ble_eq_true rfl | omega) (by first | exact Nat.le_of_ble_eq_true rfl | omega) ?_
        refine PRk ?_
        refine V_ckS F dX2_journeys_39 q1244 ⟨27, _, _, _, rfl, ((hWt.fr0 hF).2 k (by omega))⟩ ?_
        refine V_callV (st := [.int (nI (k)), .ref (tr)]) (nn := 0) F dX2_journeys_42 lk_X2_118 (ct_intValue ((hWt.fr0 hF).2 k (by omega))) ⟨27, _, _, _, rfl, (hWt.fr0 hF).2 k (by omega)⟩ rfl rfl (Nat.le_of_ble_eq_true rfl) (Nat.le_of_ble_eq_true rfl) (Nat.le_of_ble_eq_true rfl) (by first | exact Nat.le_of_ble_eq_true rfl | omega) (by first | exact Nat.le_of_ble_eq_true rfl | omega) ?_
        refine PRk ?_
        refine V_iastG F dX2_journeys_45 htr (by omega) (by omega) ?_
        refine V_iinc (i := 5) (v := nI (k + 1)) F dX2_journeys_46 rfl (nI_add (k) 1) (Nat.le_of_ble_eq_true rfl) ?_
        refine V_goto (tgt := 16) F dX2_journeys_49 (by decide) ?_
        refine VV.weak (L' := [some (.ref (r)), some (.ref (lg)), some (.int (nI (a))), some (.int (nI (v))), some (.ref (tr)), some (.int (nI (k + 1)))]) (LW.c1 (LW.c1 (LW.c1 (LW.c1 (LW.c1 (LW.c1 LW.nil)))))) ?_
        have hfr := (hF.put (x := .inl (G.2.1 0, (g 0), .inl (fun i => nI (((up E k (g (8 + k)))) i)))) htr ⟨rfl, rfl⟩ rfl (Or.inr htr0))
        have pe : (hset hh (tr) (.inl (G.2.1 0, (g 0), .inl (fun i => nI (((up E k (g (8 + k)))) i))))) tr = some (.inl (G.2.1 0, (g 0), .inl (fun i => nI (((up E k (g (8 + k)))) i)))) := (hset_self (e := .inl (G.2.1 0, (g 0), .inl (fun i => nI (((up E k (g (8 + k)))) i)))))
        have pr : (hset hh (tr) (.inl (G.2.1 0, (g 0), .inl (fun i => nI (((up E k (g (8 + k)))) i))))) r = some (.inr (2, [.ref (ti), .ref (tt), .ref (sm), .ref (bm), .int (nI (g 4)), .int (nI (g 5)), .int (nI (g 6)), .int (nI (g 7))])) := ((hset_ne (ne_oa hrn htr)).trans hrn)
        refine ih_16 (k + 1) _ _ (by omega) (by omega) pr pe hfr ?_
        intro i hi
        by_cases e : i = k
        · subst e; exact up_s
        · rw [up_n e]; exact hE i (by omega)
  refine VV.weak (L' := [some (.ref (r)), some (.ref (lg)), some (.int (nI (a))), some (.int (nI (v))), some (.ref (tr)), some (.int (nI (0)))]) (LW.c1 (LW.c1 (LW.c1 (LW.c1 (LW.c1 (LW.c1 LW.nil)))))) ?_
  exact VV.wide (by omega) (by omega) (loop_16 (g 0 + 1) 0 _ _ (by omega) (Nat.zero_le _) ((hset_ne (ne_nw hr hftr)).trans hr) (hset_self (e := .inl (G.2.1 0, (g 0), .inl (fun _ => nI 0)))) ((Fr.rf (M := nM) (h := h)).nw (x := .inl (G.2.1 0, (g 0), .inl (fun _ => nI 0))) hftr) (fun i hi => absurd hi (Nat.not_lt_zero _)))
theorem ct_RW_journeys2 {G : GG} {l : Launch} {h : AH} {r ti tia : Nat} {tf : Nat → Nat} {tt tl ta : Nat} {x : Nat → Nat} {A : Nat → Nat → Nat} {sm smc : Nat} {sA sK sV : Nat → Nat} {bm bmc : Nat} {bA bK bV : Nat → Nat} {a v : Nat} {g : Nat → Nat}  (hW : RW G h r ((ti, tia, tf), (tt, tl, ta, x, A), (sm, smc, sA, sK, sV), (bm, bmc, bA, bK, bV)) g) (hI : GW g) (ha31 : a < 2 ^ 31) (hv : v ≤ 9999) : Ct G l yX2_journeys_2 cX2_journeys_2 3 (some (.object "SleeperRailway$Journeys")) 9 (154) (6086) [.ref r, .int (nI a), .int (nI v)] h (fun r h2 => ∃ j eA rA, r = some (.ref j) ∧ h j = none ∧ h eA = none ∧ h rA = none ∧ JS G h h2 j g a v eA rA (bgP a v (fun _ => 0) (g 0)) (fun _ => 0) ∧ Fr nM h h2) := by
  refine Ct.of (by decide) (Nat.le_of_ble_eq_true rfl) (cat1 rfl) (fun X hXl F HN => ?_)
  subst hXl
  obtain ⟨hr, hWt, hWr, hWs, hWb⟩ : h r = some (.inr (2, [.ref ti, .ref tt, .ref sm, .ref bm, .int (nI (g 4)), .int (nI (g 5)), .int (nI (g 6)), .int (nI (g 7))])) ∧ RWt G h (ti, tia, tf) g ∧ RWr G h (tt, tl, ta, x, A) g ∧ RWs G h (sm, smc, sA, sK, sV) g ∧ RWb G h (bm, bmc, bA, bK, bV) g := id hW
  refine V_aload_n (i := 0) F dX2_journeys_2_0 rfl rfl ?_
  refine V_aload_n (i := 0) F dX2_journeys_2_1 rfl rfl ?_
  refine V_getf F dX2_journeys_2_2 fc_X2_21_X2 (.inl hr) rfl ?_
  refine V_callV (st := [.ref (r)]) (nn := 0) F dX2_journeys_2_5 lk_X2_110 (ct_TT_legs hWr hI) ⟨3, _, _, _, rfl, .inl hWr.1⟩ rfl rfl (Nat.le_of_ble_eq_true rfl) (Nat.le_of_ble_eq_true rfl) (Nat.le_of_ble_eq_true rfl) (by first | exact Nat.le_of_ble_eq_true rfl | omega) (by first | exact Nat.le_of_ble_eq_true rfl | omega) ?_
  rintro _ h2 ⟨lg, lar, fl, rfl, hg0, hga0, hLg, hx2⟩
  refine V_iload_n (i := 1) F dX2_journeys_2_8 rfl rfl ?_
  refine V_iload_n (i := 2) F dX2_journeys_2_9 rfl rfl ?_
  refine V_callV (st := []) (nn := 3) F dX2_journeys_2_10 lk_X2_114 (ct_RW_journeys hW hx2 hLg hI ha31 hv) ⟨2, _, _, _, rfl, (.inl (hx2.get hr id rfl))⟩ rfl rfl (Nat.le_of_ble_eq_true rfl) (Nat.le_of_ble_eq_true rfl) (Nat.le_of_ble_eq_true rfl) (by first | exact Nat.le_of_ble_eq_true rfl | omega) (by first | exact Nat.le_of_ble_eq_true rfl | omega) ?_
  rintro _ h3 ⟨j, eA, rA, rfl, hj0, he0, hr0, hJ, hx3⟩
  exact V_aret F dX2_journeys_2_13 (Or.inl ⟨_, rfl⟩) (Or.inr ⟨_, rfl⟩) (by first | exact Nat.le_of_ble_eq_true rfl | omega) (by first | exact Nat.le_of_ble_eq_true rfl | omega) ⟨j, eA, rA, rfl, hx2.none hj0, hx2.none he0, hx2.none hr0, hJ, hx2.cal0 hx3⟩
