set_option maxRecDepth 100000
/-! ===== the law's last cases ===== -/
theorem ck_suitcaseAt {G : GG} {l : Launch} {h : AH} {P : Nat → Prop} {xo n : Nat} {g : Nat → Nat} {sn : Option (Nat → Nat)} {hs : List (Nat → Nat)} {tx : List Nat} {ep fc : Nat} {ot : List Nat} {p : Int32} (hl0 : l.stackTraces = false) (hC : CW G P h xo g sn hs tx (rP ep) (rP fc) ot) (hP : ∀ z, h z = none → P z) (hV : SVI n g sn hs tx ep fc ot) : CtX G l yX1_suitcaseAt cX1_suitcaseAt 2 (some .int) 8 (10) (120) [.ref xo, .int p] h (fun r0 h2 => ∃ y : Int32, r0 = some (.int y) ∧ SOK G P h xo g sn hs tx ep fc ot (if ¬ iR p (g 2) then 1 else 0) (nI (g (232 + 4 * tn p + 0))) y h2) (fun E q h2 => (E = eEL ∧ SNO G P h xo g sn hs tx ep fc ot (if ¬ iR p (g 2) then 1 else 0) 1 h2)) := by
  obtain ⟨r, so, hl, sb, o, mc, Al, Vl, b, N, q1, ⟨⟨⟨ti, tia, tf⟩, ⟨tt, tl, ta, x, A⟩, ⟨sm, smc, sA, sK, sV⟩, ⟨bm, bmc, bA, bK, bV⟩⟩, hRW, hPA⟩, hrest⟩ := id hC
  refine (ct_X1_suitcaseAt hl0 q1 hRW hV.1.1).mono (fun r0 h2 hp => ?_) (fun E q h2 hp => ?_)
  · obtain ⟨z1, rfl, hx⟩ := hp
    exact ⟨_, rfl, if_neg (fun w => w z1), rfl, hC.fr0 hx, hx.mono (fun _ z => z.elim)⟩
  · obtain ⟨⟨z1, rfl⟩, hx⟩ := hp
    exact ⟨rfl, if_pos z1, hC.fr0 hx, hx.mono (fun _ z => z.elim)⟩
theorem ck_bookingAt {G : GG} {l : Launch} {h : AH} {P : Nat → Prop} {xo n : Nat} {g : Nat → Nat} {sn : Option (Nat → Nat)} {hs : List (Nat → Nat)} {tx : List Nat} {ep fc : Nat} {ot : List Nat} {p : Int32} (hl0 : l.stackTraces = false) (hC : CW G P h xo g sn hs tx (rP ep) (rP fc) ot) (hP : ∀ z, h z = none → P z) (hV : SVI n g sn hs tx ep fc ot) : CtX G l yX1_bookingAt cX1_bookingAt 2 (some .int) 8 (10) (120) [.ref xo, .int p] h (fun r0 h2 => ∃ y : Int32, r0 = some (.int y) ∧ SOK G P h xo g sn hs tx ep fc ot (if ¬ iR p (g 3) then 1 else 0) (nI (g (264 + 4 * tn p + 0))) y h2) (fun E q h2 => (E = eEL ∧ SNO G P h xo g sn hs tx ep fc ot (if ¬ iR p (g 3) then 1 else 0) 1 h2)) := by
  obtain ⟨r, so, hl, sb, o, mc, Al, Vl, b, N, q1, ⟨⟨⟨ti, tia, tf⟩, ⟨tt, tl, ta, x, A⟩, ⟨sm, smc, sA, sK, sV⟩, ⟨bm, bmc, bA, bK, bV⟩⟩, hRW, hPA⟩, hrest⟩ := id hC
  refine (ct_X1_bookingAt hl0 q1 hRW hV.1.1).mono (fun r0 h2 hp => ?_) (fun E q h2 hp => ?_)
  · obtain ⟨z1, rfl, hx⟩ := hp
    exact ⟨_, rfl, if_neg (fun w => w z1), rfl, hC.fr0 hx, hx.mono (fun _ z => z.elim)⟩
  · obtain ⟨⟨z1, rfl⟩, hx⟩ := hp
    exact ⟨rfl, if_pos z1, hC.fr0 hx, hx.mono (fun _ z => z.elim)⟩
theorem law_27 {G : GG} {X : CX} {Q : State → Prop} {h : AH} {b L xo m ao ad n j kc nn : Nat} {xs : Nat → Int32} {A : Nat → Nat} {g : Nat → Nat} {sn : Option (Nat → Nat)} {hs : List (Nat → Nat)} {tx : List Nat} {ep fc : Nat} {ot : List Nat} {rt : Option FieldType} (F : Fx G X cL_law 9 RX0 rt 1000 1200144 5494714) (hl0 : (xl X).stackTraces = false) (hscr : SCR G X b L xs) (hL : L ≤ 120) (hj : 5 * j + 5 ≤ L) (hn : n ≤ 600) (hD : DIS m A ao ad) (hW : LWD G h xo m A ao ad n j g sn hs tx ep fc ot) (hk : kc + 50000 ≤ 1200144) (hs0 : nn + 228000 ≤ 5494714)
    (next : ∀ h2 g2 sn2 hs2 tx2 ep2 fc2 ot2, LWD G h2 xo m A ao ad (n + 21) (j + 1) g2 sn2 hs2 tx2 ep2 fc2 ot2 → VV G X 9 Q h2 (kc + 50000) (nn + 228000) (LL b xo m ao ad j) [] 3195) : VV G X 9 Q h kc nn (LL b xo m ao ad j) [] 1973 := by
  obtain ⟨hC, ⟨tm, cd, gb, τ, hM⟩, hV, ⟨f0, hao⟩, ⟨f1, had⟩, htx⟩ := id hW
  have hpo : ¬ PL m A ao ad ao := fun z => z.2.1 rfl
  have hpd : ¬ PL m A ao ad ad := fun z => z.2.2 rfl
  refine V_aload_n (i := 1) F dL_law_1973 rfl rfl ?_
  refine V_aload_n (i := 0) F dL_law_1974 rfl rfl ?_
  refine V_iload (i := 5) F dL_law_1975 rfl ?_
  refine V_iconst (v := nI 1) F dL_law_1977 rfl ?_
  refine V_iaddN F dL_law_1978 ?_
  refine V_ialdX F dL_law_1979 hscr (by omega) (by omega) ?_
  refine V_aload_n (i := 3) F dL_law_1980 rfl rfl ?_
  have hw := (x0_suitcaseAt (ao := ao) (p0 := (xs (5 * j + 1))) (ck_suitcaseAt hl0 hC hW.P0 hV) hC.isC (fun y h3 z => ⟨f0, z.2.2.2.ao hao hpo rfl⟩)).mono (fun r h2 hq => XQ.of hao hpo hq) (fun E q h2 hq => hq)
  -- wrapper
  refine V_xcSW (st := []) (nn := 3) F dL_law_1981 ⟨lw_SW q2975 q2976 q100 q2977, by decide +kernel⟩ hw rfl rfl (Nat.le_of_ble_eq_true rfl) (Nat.le_of_ble_eq_true rfl) (Nat.le_of_ble_eq_true rfl) (by omega) (by omega) ?_ (fun E q h2 hp => hp.elim)
  rintro _ h2 ⟨f, hc5, rfl, hC2, hao2, hf, hx⟩
  have hM2 := hM.off hx (fun b hb z => z.elim (fun z => z.1 hb) (fun z => hD.2.1 (z ▸ hb)))
  have had2 := hx.ao had (fun z => z.elim (fun z => z.2.2 rfl) (fun z => hD.1 z.symm)) rfl
  obtain ⟨V2, F2, hMC2, -⟩ := id hM2
  refine V_istore (i := 6) F dL_law_1984 (Nat.le_of_ble_eq_true rfl) (Nat.le_of_ble_eq_true rfl) ?_
  refine V_aload_n (i := 2) F dL_law_1986 rfl rfl ?_
  refine V_aload_n (i := 0) F dL_law_1987 rfl rfl ?_
  refine V_iload (i := 5) F dL_law_1988 rfl ?_
  refine V_iconst (v := nI 1) F dL_law_1990 rfl ?_
  refine V_iaddN F dL_law_1991 ?_
  refine V_ialdX F dL_law_1992 hscr (by omega) (by omega) ?_
  have hm := cm_suitcaseAt (l := xl X) (p := (xs (5 * j + 1))) hM2 hV
  generalize hcd : (if ¬ iR (xs (5 * j + 1)) (g 2) then 1 else 0) = c at hc5 hf hm ⊢
  generalize hvv : (nI (g (232 + 4 * tn (xs (5 * j + 1)) + 0))) = v at hf hm
  refine V_callV (st := []) (nn := 1) F dL_law_1993 lk_X0_267 hm ⟨0, _, _, _, rfl, .inl hMC2.mm⟩ rfl rfl (Nat.le_of_ble_eq_true rfl) (Nat.le_of_ble_eq_true rfl) (Nat.le_of_ble_eq_true rfl) (by omega) (by omega) ?_
  rintro _ h3 ⟨rfl, hM3, hx3⟩
  have hC3 := hC2.frX hx3 (MW.ofm hMC2)
  have hao3 := hx3.ao hao2 hD.2.1 rfl
  have had3 := hx3.ao had2 hD.2.2 rfl
  obtain ⟨V3, F3, hMC3, hMV3⟩ := id hM3
  by_cases c0 : c = 0
  · subst c0
    rw [if_pos rfl]
    refine V_istore (i := 7) F dL_law_1996 (Nat.le_of_ble_eq_true rfl) (Nat.le_of_ble_eq_true rfl) ?_
    refine V_aload_n (i := 2) F dL_law_1998 rfl rfl ?_
    refine V_cV0r F dL_law_1999 lk_X0_178 (ct_thrown hMC3.mm (congrArg some hMV3.v7)) ⟨0, _, _, _, rfl, .inl hMC3.mm⟩ (Nat.le_of_ble_eq_true rfl) (Nat.le_of_ble_eq_true rfl) (Nat.le_of_ble_eq_true rfl) (by omega) (by omega) ?_
    refine V_iload (i := 6) F dL_law_2002 rfl ?_
    refine V_icmp_eqN (tgt := 2009) F dL_law_2004 (by decide) (by decide) (by decide) (fun _ => ?_) (fun z => absurd rfl z)
    refine V_iload (i := 6) F dL_law_2009 rfl ?_
    refine V_if_neN (tgt := 2026) F dL_law_2011 (by decide) (by decide) (fun z => absurd z (Nat.lt_irrefl 0)) (fun _ => ?_)
    refine V_aload_n (i := 3) F dL_law_2014 rfl rfl ?_
    refine V_iconst (v := nI 0) F dL_law_2015 rfl ?_
    refine V_laldN F 1 dL_law_2016 rfl (.inl hao3) (by decide) (by decide) ?_
    refine V_iload (i := 7) F dL_law_2017 rfl ?_
    refine V_i2l F dL_law_2019 ?_
    refine V_lcmp F dL_law_2020 ?_
    refine V_if_eq (tgt := 2026) F dL_law_2021 (by decide) (fun _ => ?_) (fun z => absurd (lg_self (hf rfl)) z)
    refine V_goto (tgt := 3195) F dL_law_2026 (by decide) ?_
    exact VV.weak (L' := LL b xo m ao ad j) (LW.c1 (LW.c1 (LW.c1 (LW.c1 (LW.c1 (LW.c1 (LW.c0 (LW.c0 (LW.c0 LW.nil))))))))) (VV.wide (by omega) (by omega) (next _ _ _ _ _ _ _ _ ⟨hC3, ⟨_, _, _, _, hM3⟩, hV.up (by omega), ⟨_, hao3⟩, ⟨_, had3⟩, by omega⟩))
  · rw [if_neg c0]
    refine V_istore (i := 7) F dL_law_1996 (Nat.le_of_ble_eq_true rfl) (Nat.le_of_ble_eq_true rfl) ?_
    refine V_aload_n (i := 2) F dL_law_1998 rfl rfl ?_
    refine V_cV0r F dL_law_1999 lk_X0_178 (ct_thrown hMC3.mm (congrArg some hMV3.v7)) ⟨0, _, _, _, rfl, .inl hMC3.mm⟩ (Nat.le_of_ble_eq_true rfl) (Nat.le_of_ble_eq_true rfl) (Nat.le_of_ble_eq_true rfl) (by omega) (by omega) ?_
    refine V_iload (i := 6) F dL_law_2002 rfl ?_
    refine V_icmp_eqN (tgt := 2009) F dL_law_2004 (by decide) (by omega) (by omega) (fun _ => ?_) (fun z => absurd rfl z)
    refine V_iload (i := 6) F dL_law_2009 rfl ?_
    refine V_if_neN (tgt := 2026) F dL_law_2011 (by decide) (by omega) (fun _ => ?_) (fun z => absurd z c0)
    refine V_goto (tgt := 3195) F dL_law_2026 (by decide) ?_
    exact VV.weak (L' := LL b xo m ao ad j) (LW.c1 (LW.c1 (LW.c1 (LW.c1 (LW.c1 (LW.c1 (LW.c0 (LW.c0 (LW.c0 LW.nil))))))))) (VV.wide (by omega) (by omega) (next _ _ _ _ _ _ _ _ ⟨hC3, ⟨_, _, _, _, hM3⟩, hV.up (by omega), ⟨_, hao3⟩, ⟨_, had3⟩, by omega⟩))
theorem law_34 {G : GG} {X : CX} {Q : State → Prop} {h : AH} {b L xo m ao ad n j kc nn : Nat} {xs : Nat → Int32} {A : Nat → Nat} {g : Nat → Nat} {sn : Option (Nat → Nat)} {hs : List (Nat → Nat)} {tx : List Nat} {ep fc : Nat} {ot : List Nat} {rt : Option FieldType} (F : Fx G X cL_law 9 RX0 rt 1000 1200144 5494714) (hl0 : (xl X).stackTraces = false) (hscr : SCR G X b L xs) (hL : L ≤ 120) (hj : 5 * j + 5 ≤ L) (hn : n ≤ 600) (hD : DIS m A ao ad) (hW : LWD G h xo m A ao ad n j g sn hs tx ep fc ot) (hk : kc + 50000 ≤ 1200144) (hs0 : nn + 228000 ≤ 5494714)
    (next : ∀ h2 g2 sn2 hs2 tx2 ep2 fc2 ot2, LWD G h2 xo m A ao ad (n + 21) (j + 1) g2 sn2 hs2 tx2 ep2 fc2 ot2 → VV G X 9 Q h2 (kc + 50000) (nn + 228000) (LL b xo m ao ad j) [] 3195) : VV G X 9 Q h kc nn (LL b xo m ao ad j) [] 2329 := by
  obtain ⟨hC, ⟨tm, cd, gb, τ, hM⟩, hV, ⟨f0, hao⟩, ⟨f1, had⟩, htx⟩ := id hW
  have hpo : ¬ PL m A ao ad ao := fun z => z.2.1 rfl
  have hpd : ¬ PL m A ao ad ad := fun z => z.2.2 rfl
  refine V_aload_n (i := 1) F dL_law_2329 rfl rfl ?_
  refine V_aload_n (i := 0) F dL_law_2330 rfl rfl ?_
  refine V_iload (i := 5) F dL_law_2331 rfl ?_
  refine V_iconst (v := nI 1) F dL_law_2333 rfl ?_
  refine V_iaddN F dL_law_2334 ?_
  refine V_ialdX F dL_law_2335 hscr (by omega) (by omega) ?_
  refine V_aload_n (i := 3) F dL_law_2336 rfl rfl ?_
  have hw := (x0_bookingAt (ao := ao) (p0 := (xs (5 * j + 1))) (ck_bookingAt hl0 hC hW.P0 hV) hC.isC (fun y h3 z => ⟨f0, z.2.2.2.ao hao hpo rfl⟩)).mono (fun r h2 hq => XQ.of hao hpo hq) (fun E q h2 hq => hq)
  -- wrapper
  refine V_xcSW (st := []) (nn := 3) F dL_law_2337 ⟨lw_SW q3108 q3109 q100 q3110, by decide +kernel⟩ hw rfl rfl (Nat.le_of_ble_eq_true rfl) (Nat.le_of_ble_eq_true rfl) (Nat.le_of_ble_eq_true rfl) (by omega) (by omega) ?_ (fun E q h2 hp => hp.elim)
  rintro _ h2 ⟨f, hc5, rfl, hC2, hao2, hf, hx⟩
  have hM2 := hM.off hx (fun b hb z => z.elim (fun z => z.1 hb) (fun z => hD.2.1 (z ▸ hb)))
  have had2 := hx.ao had (fun z => z.elim (fun z => z.2.2 rfl) (fun z => hD.1 z.symm)) rfl
  obtain ⟨V2, F2, hMC2, -⟩ := id hM2
  refine V_istore (i := 6) F dL_law_2340 (Nat.le_of_ble_eq_true rfl) (Nat.le_of_ble_eq_true rfl) ?_
  refine V_aload_n (i := 2) F dL_law_2342 rfl rfl ?_
  refine V_aload_n (i := 0) F dL_law_2343 rfl rfl ?_
  refine V_iload (i := 5) F dL_law_2344 rfl ?_
  refine V_iconst (v := nI 1) F dL_law_2346 rfl ?_
  refine V_iaddN F dL_law_2347 ?_
  refine V_ialdX F dL_law_2348 hscr (by omega) (by omega) ?_
  have hm := cm_bookingAt (l := xl X) (p := (xs (5 * j + 1))) hM2 hV
  generalize hcd : (if ¬ iR (xs (5 * j + 1)) (g 3) then 1 else 0) = c at hc5 hf hm ⊢
  generalize hvv : (nI (g (264 + 4 * tn (xs (5 * j + 1)) + 0))) = v at hf hm
  refine V_callV (st := []) (nn := 1) F dL_law_2349 lk_X0_289 hm ⟨0, _, _, _, rfl, .inl hMC2.mm⟩ rfl rfl (Nat.le_of_ble_eq_true rfl) (Nat.le_of_ble_eq_true rfl) (Nat.le_of_ble_eq_true rfl) (by omega) (by omega) ?_
  rintro _ h3 ⟨rfl, hM3, hx3⟩
  have hC3 := hC2.frX hx3 (MW.ofm hMC2)
  have hao3 := hx3.ao hao2 hD.2.1 rfl
  have had3 := hx3.ao had2 hD.2.2 rfl
  obtain ⟨V3, F3, hMC3, hMV3⟩ := id hM3
  by_cases c0 : c = 0
  · subst c0
    rw [if_pos rfl]
    refine V_istore (i := 7) F dL_law_2352 (Nat.le_of_ble_eq_true rfl) (Nat.le_of_ble_eq_true rfl) ?_
    refine V_aload_n (i := 2) F dL_law_2354 rfl rfl ?_
    refine V_cV0r F dL_law_2355 lk_X0_178 (ct_thrown hMC3.mm (congrArg some hMV3.v7)) ⟨0, _, _, _, rfl, .inl hMC3.mm⟩ (Nat.le_of_ble_eq_true rfl) (Nat.le_of_ble_eq_true rfl) (Nat.le_of_ble_eq_true rfl) (by omega) (by omega) ?_
    refine V_iload (i := 6) F dL_law_2358 rfl ?_
    refine V_icmp_eqN (tgt := 2365) F dL_law_2360 (by decide) (by decide) (by decide) (fun _ => ?_) (fun z => absurd rfl z)
    refine V_iload (i := 6) F dL_law_2365 rfl ?_
    refine V_if_neN (tgt := 2382) F dL_law_2367 (by decide) (by decide) (fun z => absurd z (Nat.lt_irrefl 0)) (fun _ => ?_)
    refine V_aload_n (i := 3) F dL_law_2370 rfl rfl ?_
    refine V_iconst (v := nI 0) F dL_law_2371 rfl ?_
    refine V_laldN F 1 dL_law_2372 rfl (.inl hao3) (by decide) (by decide) ?_
    refine V_iload (i := 7) F dL_law_2373 rfl ?_
    refine V_i2l F dL_law_2375 ?_
    refine V_lcmp F dL_law_2376 ?_
    refine V_if_eq (tgt := 2382) F dL_law_2377 (by decide) (fun _ => ?_) (fun z => absurd (lg_self (hf rfl)) z)
    refine V_goto (tgt := 3195) F dL_law_2382 (by decide) ?_
    exact VV.weak (L' := LL b xo m ao ad j) (LW.c1 (LW.c1 (LW.c1 (LW.c1 (LW.c1 (LW.c1 (LW.c0 (LW.c0 (LW.c0 LW.nil))))))))) (VV.wide (by omega) (by omega) (next _ _ _ _ _ _ _ _ ⟨hC3, ⟨_, _, _, _, hM3⟩, hV.up (by omega), ⟨_, hao3⟩, ⟨_, had3⟩, by omega⟩))
  · rw [if_neg c0]
    refine V_istore (i := 7) F dL_law_2352 (Nat.le_of_ble_eq_true rfl) (Nat.le_of_ble_eq_true rfl) ?_
    refine V_aload_n (i := 2) F dL_law_2354 rfl rfl ?_
    refine V_cV0r F dL_law_2355 lk_X0_178 (ct_thrown hMC3.mm (congrArg some hMV3.v7)) ⟨0, _, _, _, rfl, .inl hMC3.mm⟩ (Nat.le_of_ble_eq_true rfl) (Nat.le_of_ble_eq_true rfl) (Nat.le_of_ble_eq_true rfl) (by omega) (by omega) ?_
    refine V_iload (i := 6) F dL_law_2358 rfl ?_
    refine V_icmp_eqN (tgt := 2365) F dL_law_2360 (by decide) (by omega) (by omega) (fun _ => ?_) (fun z => absurd rfl z)
    refine V_iload (i := 6) F dL_law_2365 rfl ?_
    refine V_if_neN (tgt := 2382) F dL_law_2367 (by decide) (by omega) (fun _ => ?_) (fun z => absurd z c0)
    refine V_goto (tgt := 3195) F dL_law_2382 (by decide) ?_
    exact VV.weak (L' := LL b xo m ao ad j) (LW.c1 (LW.c1 (LW.c1 (LW.c1 (LW.c1 (LW.c1 (LW.c0 (LW.c0 (LW.c0 LW.nil))))))))) (VV.wide (by omega) (by omega) (next _ _ _ _ _ _ _ _ ⟨hC3, ⟨_, _, _, _, hM3⟩, hV.up (by omega), ⟨_, hao3⟩, ⟨_, had3⟩, by omega⟩))
