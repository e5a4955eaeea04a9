set_option maxRecDepth 100000
theorem law_1 {G : GG} {X : CX} {Q : State → Prop} {h : AH} {b L xo m ao ad n j kc nn : Nat} {xs : Nat → Int32} {A : Nat → Nat} {g : Nat → Nat} {sn : Option (Nat → Nat)} {hs : List (Nat → Nat)} {tx : List Nat} {ep fc : Nat} {ot : List Nat} {rt : Option FieldType} (F : Fx G X cL_law 9 RX0 rt 1000 1200144 5494714) (hl0 : (xl X).stackTraces = false) (hscr : SCR G X b L xs) (hL : L ≤ 120) (hj : 5 * j + 5 ≤ L) (hn : n ≤ 600) (hD : DIS m A ao ad) (hW : LWD G h xo m A ao ad n j g sn hs tx ep fc ot) (hk : kc + 50000 ≤ 1200144) (hs0 : nn + 228000 ≤ 5494714)
    (next : ∀ h2 g2 sn2 hs2 tx2 ep2 fc2 ot2, LWD G h2 xo m A ao ad (n + 21) (j + 1) g2 sn2 hs2 tx2 ep2 fc2 ot2 → VV G X 9 Q h2 (kc + 50000) (nn + 228000) (LL b xo m ao ad j) [] 3195) : VV G X 9 Q h kc nn (LL b xo m ao ad j) [] 332 := by
  obtain ⟨hC, ⟨tm, cd, gb, τ, hM⟩, hV, ⟨f0, hao⟩, ⟨f1, had⟩, htx⟩ := id hW
  have hpo : ¬ PL m A ao ad ao := fun z => z.2.1 rfl
  have hpd : ¬ PL m A ao ad ad := fun z => z.2.2 rfl
  refine V_aload_n (i := 1) F dL_law_332 rfl rfl ?_
  refine V_aload_n (i := 0) F dL_law_333 rfl rfl ?_
  refine V_iload (i := 5) F dL_law_334 rfl ?_
  refine V_iconst (v := nI 1) F dL_law_336 rfl ?_
  refine V_iaddN F dL_law_337 ?_
  refine V_ialdX F dL_law_338 hscr (by omega) (by omega) ?_
  refine V_aload_n (i := 0) F dL_law_339 rfl rfl ?_
  refine V_iload (i := 5) F dL_law_340 rfl ?_
  refine V_iconst (v := nI 2) F dL_law_342 rfl ?_
  refine V_iaddN F dL_law_343 ?_
  refine V_ialdX F dL_law_344 hscr (by omega) (by omega) ?_
  refine V_aload_n (i := 0) F dL_law_345 rfl rfl ?_
  refine V_iload (i := 5) F dL_law_346 rfl ?_
  refine V_iconst (v := nI 3) F dL_law_348 rfl ?_
  refine V_iaddN F dL_law_349 ?_
  refine V_ialdX F dL_law_350 hscr (by omega) (by omega) ?_
  refine V_aload_n (i := 3) F dL_law_351 rfl rfl ?_
  have hw := (x0_addTrain (ao := ao) (p0 := (xs (5 * j + 1))) (p1 := (xs (5 * j + 2))) (p2 := (xs (5 * j + 3))) (ck_addTrain hl0 hC hW.P0 hV) hC.isC (fun y h3 z => by obtain ⟨z1, g2, z2, z3, z4⟩ := z; exact ⟨f0, z4.ao hao hpo rfl⟩)).mono (fun r h2 hq => XN.of (Nx := HNX G (PL m A ao ad) xo g sn hs tx ep fc ot 1 (upd (upd (upd (fun _ => nI 0) 0 (xs (5 * j + 1))) 1 (xs (5 * j + 2))) 2 (xs (5 * j + 3)))) (c := cdK 1 g (upd (upd (upd (fun _ => nI 0) 0 (xs (5 * j + 1))) 1 (xs (5 * j + 2))) 2 (xs (5 * j + 3)))) hao hpo (fun y h3 h4 f z hz hx => by obtain ⟨g2, z1, z2⟩ := z; exact ⟨g2, z1, z2.frX hx (OFM.l hz hpo)⟩) (hq.imp (fun ⟨y, h3, f, ⟨z1, g2, z2, z3, z4⟩, r1⟩ => ⟨y, h3, f, ⟨z1, ⟨g2, z2, z3⟩, z4⟩, r1⟩) id)) (fun E q h2 hq => hq)
  refine V_xcSW (st := []) (nn := 5) F dL_law_352 ⟨lw_SW q2711 q2712 q100 q2713, by decide +kernel⟩ hw rfl rfl (Nat.le_of_ble_eq_true rfl) (Nat.le_of_ble_eq_true rfl) (Nat.le_of_ble_eq_true rfl) (by omega) (by omega) ?_ (fun E q h2 hp => hp.elim)
  rintro _ h2 ⟨f, hc5, rfl, hao2, hCn, hCy, hx⟩
  have hM2 := hM.off hx (fun b hb z => z.elim (fun z => z.1 hb) (fun z => hD.2.1 (z ▸ hb)))
  have had2 := hx.ao had (fun z => z.elim (fun z => z.2.2 rfl) (fun z => hD.1 z.symm)) rfl
  obtain ⟨V2, F2, hMC2, -⟩ := id hM2
  refine V_istore (i := 6) F dL_law_355 (Nat.le_of_ble_eq_true rfl) (Nat.le_of_ble_eq_true rfl) ?_
  refine V_aload_n (i := 2) F dL_law_357 rfl rfl ?_
  refine V_aload_n (i := 0) F dL_law_358 rfl rfl ?_
  refine V_iload (i := 5) F dL_law_359 rfl ?_
  refine V_iconst (v := nI 1) F dL_law_361 rfl ?_
  refine V_iaddN F dL_law_362 ?_
  refine V_ialdX F dL_law_363 hscr (by omega) (by omega) ?_
  refine V_aload_n (i := 0) F dL_law_364 rfl rfl ?_
  refine V_iload (i := 5) F dL_law_365 rfl ?_
  refine V_iconst (v := nI 2) F dL_law_367 rfl ?_
  refine V_iaddN F dL_law_368 ?_
  refine V_ialdX F dL_law_369 hscr (by omega) (by omega) ?_
  refine V_aload_n (i := 0) F dL_law_370 rfl rfl ?_
  refine V_iload (i := 5) F dL_law_371 rfl ?_
  refine V_iconst (v := nI 3) F dL_law_373 rfl ?_
  refine V_iaddN F dL_law_374 ?_
  refine V_ialdX F dL_law_375 hscr (by omega) (by omega) ?_
  have hm := cm_chg1 (l := xl X) (f := (upd (upd (upd (fun _ => nI 0) 0 (xs (5 * j + 1))) 1 (xs (5 * j + 2))) 2 (xs (5 * j + 3)))) hM2 hV (by decide)
  refine V_callV (st := []) (nn := 3) F dL_law_376 lk_X0_184 hm ⟨0, _, _, _, rfl, .inl hMC2.mm⟩ rfl rfl (Nat.le_of_ble_eq_true rfl) (Nat.le_of_ble_eq_true rfl) (Nat.le_of_ble_eq_true rfl) (by omega) (by omega) ?_
  rintro _ h3 ⟨hx3, ⟨c0, rfl, hM3⟩ | ⟨c0, v, g2, rfl, hG, hM3⟩⟩
  · have hC2 := hCn c0
    have hC3 := hC2.frX hx3 (MW.ofm hMC2)
    have hao3 := hx3.ao hao2 hD.2.1 rfl
    have had3 := hx3.ao had2 hD.2.2 rfl
    obtain ⟨V3, F3, hMC3, hMV3⟩ := id hM3
    generalize hcd : cdK 1 g (upd (upd (upd (fun _ => nI 0) 0 (xs (5 * j + 1))) 1 (xs (5 * j + 2))) 2 (xs (5 * j + 3))) = c at c0 hc5 hM3 hMV3 ⊢
    refine V_istore (i := 7) F dL_law_379 (Nat.le_of_ble_eq_true rfl) (Nat.le_of_ble_eq_true rfl) ?_
    refine V_aload_n (i := 2) F dL_law_381 rfl rfl ?_
    refine V_cV0r F dL_law_382 lk_X0_178 (ct_thrown hMC3.mm (congrArg some hMV3.v7)) ⟨0, _, _, _, rfl, .inl hMC3.mm⟩ (Nat.le_of_ble_eq_true rfl) (Nat.le_of_ble_eq_true rfl) (Nat.le_of_ble_eq_true rfl) (by omega) (by omega) ?_
    refine V_iload (i := 6) F dL_law_385 rfl ?_
    refine V_icmp_eqN (tgt := 392) F dL_law_387 (by decide) (by omega) (by omega) (fun _ => ?_) (fun z => absurd rfl z)
    refine V_iload (i := 6) F dL_law_392 rfl ?_
    refine V_if_neN (tgt := 409) F dL_law_394 (by decide) (by omega) (fun _ => ?_) (fun z => absurd z c0)
    refine V_goto (tgt := 3195) F dL_law_409 (by decide) ?_
    exact VV.weak (L' := LL b xo m ao ad j) (LW.c1 (LW.c1 (LW.c1 (LW.c1 (LW.c1 (LW.c1 (LW.c0 (LW.c0 (LW.c0 LW.nil))))))))) (VV.wide (by omega) (by omega) (next _ _ _ _ _ _ _ _ ⟨hC3, ⟨_, _, _, _, hM3⟩, hV.up (by omega), ⟨_, hao3⟩, ⟨_, had3⟩, by omega⟩))
  · obtain ⟨y, hy, g3, hG3, hC2⟩ := hCy c0
    have hC3 := hC2.frX hx3 (MW.ofm hMC2)
    have hao3 := hx3.ao hao2 hD.2.1 rfl
    have had3 := hx3.ao had2 hD.2.2 rfl
    obtain ⟨V3, F3, hMC3, hMV3⟩ := id hM3
    obtain ⟨e1, e2⟩ := chg_fun hV.1.1 (by decide) hG hG3
    subst e1 e2
    have hI2 := invp n 1 g g2 (upd (upd (upd (fun _ => nI 0) 0 (xs (5 * j + 1))) 1 (xs (5 * j + 2))) 2 (xs (5 * j + 3))) v (by omega) hV.1.1 (by decide) c0 hG
    have hz2 := chg_Z3 hV.1.1 hV.1.2 (by decide) c0 hG
    rw [c0]
    refine V_istore (i := 7) F dL_law_379 (Nat.le_of_ble_eq_true rfl) (Nat.le_of_ble_eq_true rfl) ?_
    refine V_aload_n (i := 2) F dL_law_381 rfl rfl ?_
    refine V_cV0r F dL_law_382 lk_X0_178 (ct_thrown hMC3.mm (congrArg some hMV3.v7)) ⟨0, _, _, _, rfl, .inl hMC3.mm⟩ (Nat.le_of_ble_eq_true rfl) (Nat.le_of_ble_eq_true rfl) (Nat.le_of_ble_eq_true rfl) (by omega) (by omega) ?_
    refine V_iload (i := 6) F dL_law_385 rfl ?_
    refine V_icmp_eqN (tgt := 392) F dL_law_387 (by decide) (by decide) (by decide) (fun _ => ?_) (fun z => absurd rfl z)
    refine V_iload (i := 6) F dL_law_392 rfl ?_
    refine V_if_neN (tgt := 409) F dL_law_394 (by decide) (by decide) (fun z => absurd z (Nat.lt_irrefl 0)) (fun _ => ?_)
    refine V_aload_n (i := 3) F dL_law_397 rfl rfl ?_
    refine V_iconst (v := nI 0) F dL_law_398 rfl ?_
    refine V_laldN F 1 dL_law_399 rfl (.inl hao3) (by decide) (by decide) ?_
    refine V_iload (i := 7) F dL_law_400 rfl ?_
    refine V_i2l F dL_law_402 ?_
    refine V_lcmp F dL_law_403 ?_
    refine V_if_eq (tgt := 409) F dL_law_404 (by decide) (fun _ => ?_) (fun z => absurd (lg_self (hy)) z)
    refine V_goto (tgt := 3195) F dL_law_409 (by decide) ?_
    exact VV.weak (L' := LL b xo m ao ad j) (LW.c1 (LW.c1 (LW.c1 (LW.c1 (LW.c1 (LW.c1 (LW.c0 (LW.c0 (LW.c0 LW.nil))))))))) (VV.wide (by omega) (by omega) (next _ _ _ _ _ _ _ _ ⟨hC3, ⟨_, _, _, _, hM3⟩, hV.push (by omega) (hI2.up (by omega)) hz2, ⟨_, hao3⟩, ⟨_, had3⟩, by omega⟩))
theorem law_2 {G : GG} {X : CX} {Q : State → Prop} {h : AH} {b L xo m ao ad n j kc nn : Nat} {xs : Nat → Int32} {A : Nat → Nat} {g : Nat → Nat} {sn : Option (Nat → Nat)} {hs : List (Nat → Nat)} {tx : List Nat} {ep fc : Nat} {ot : List Nat} {rt : Option FieldType} (F : Fx G X cL_law 9 RX0 rt 1000 1200144 5494714) (hl0 : (xl X).stackTraces = false) (hscr : SCR G X b L xs) (hL : L ≤ 120) (hj : 5 * j + 5 ≤ L) (hn : n ≤ 600) (hD : DIS m A ao ad) (hW : LWD G h xo m A ao ad n j g sn hs tx ep fc ot) (hk : kc + 50000 ≤ 1200144) (hs0 : nn + 228000 ≤ 5494714)
    (next : ∀ h2 g2 sn2 hs2 tx2 ep2 fc2 ot2, LWD G h2 xo m A ao ad (n + 21) (j + 1) g2 sn2 hs2 tx2 ep2 fc2 ot2 → VV G X 9 Q h2 (kc + 50000) (nn + 228000) (LL b xo m ao ad j) [] 3195) : VV G X 9 Q h kc nn (LL b xo m ao ad j) [] 412 := by
  obtain ⟨hC, ⟨tm, cd, gb, τ, hM⟩, hV, ⟨f0, hao⟩, ⟨f1, had⟩, htx⟩ := id hW
  have hpo : ¬ PL m A ao ad ao := fun z => z.2.1 rfl
  have hpd : ¬ PL m A ao ad ad := fun z => z.2.2 rfl
  refine V_aload_n (i := 1) F dL_law_412 rfl rfl ?_
  refine V_aload_n (i := 0) F dL_law_413 rfl rfl ?_
  refine V_iload (i := 5) F dL_law_414 rfl ?_
  refine V_iconst (v := nI 1) F dL_law_416 rfl ?_
  refine V_iaddN F dL_law_417 ?_
  refine V_ialdX F dL_law_418 hscr (by omega) (by omega) ?_
  refine V_aload_n (i := 0) F dL_law_419 rfl rfl ?_
  refine V_iload (i := 5) F dL_law_420 rfl ?_
  refine V_iconst (v := nI 2) F dL_law_422 rfl ?_
  refine V_iaddN F dL_law_423 ?_
  refine V_ialdX F dL_law_424 hscr (by omega) (by omega) ?_
  refine V_aload_n (i := 0) F dL_law_425 rfl rfl ?_
  refine V_iload (i := 5) F dL_law_426 rfl ?_
  refine V_iconst (v := nI 3) F dL_law_428 rfl ?_
  refine V_iaddN F dL_law_429 ?_
  refine V_ialdX F dL_law_430 hscr (by omega) (by omega) ?_
  refine V_aload_n (i := 0) F dL_law_431 rfl rfl ?_
  refine V_iload (i := 5) F dL_law_432 rfl ?_
  refine V_iconst (v := nI 4) F dL_law_434 rfl ?_
  refine V_iaddN F dL_law_435 ?_
  refine V_ialdX F dL_law_436 hscr (by omega) (by omega) ?_
  refine V_aload_n (i := 3) F dL_law_437 rfl rfl ?_
  have hw := (x0_extendTrain (ao := ao) (p0 := (xs (5 * j + 1))) (p1 := (xs (5 * j + 2))) (p2 := (xs (5 * j + 3))) (p3 := (xs (5 * j + 4))) (ck_extendTrain hl0 hC hW.P0 hV) hC.isC (fun y h3 z => by obtain ⟨z1, g2, z2, z3, z4⟩ := z; exact ⟨f0, z4.ao hao hpo rfl⟩)).mono (fun r h2 hq => XN.of (Nx := HNX G (PL m A ao ad) xo g sn hs tx ep fc ot 2 (upd (upd (upd (upd (fun _ => nI 0) 0 (xs (5 * j + 1))) 1 (xs (5 * j + 2))) 2 (xs (5 * j + 3))) 3 (xs (5 * j + 4)))) (c := cdK 2 g (upd (upd (upd (upd (fun _ => nI 0) 0 (xs (5 * j + 1))) 1 (xs (5 * j + 2))) 2 (xs (5 * j + 3))) 3 (xs (5 * j + 4)))) hao hpo (fun y h3 h4 f z hz hx => by obtain ⟨g2, z1, z2⟩ := z; exact ⟨g2, z1, z2.frX hx (OFM.l hz hpo)⟩) (hq.imp (fun ⟨y, h3, f, ⟨z1, g2, z2, z3, z4⟩, r1⟩ => ⟨y, h3, f, ⟨z1, ⟨g2, z2, z3⟩, z4⟩, r1⟩) id)) (fun E q h2 hq => hq)
  refine V_xcSW (st := []) (nn := 6) F dL_law_438 ⟨lw_SW q2735 q2736 q100 q2737, by decide +kernel⟩ hw rfl rfl (Nat.le_of_ble_eq_true rfl) (Nat.le_of_ble_eq_true rfl) (Nat.le_of_ble_eq_true rfl) (by omega) (by omega) ?_ (fun E q h2 hp => hp.elim)
  rintro _ h2 ⟨f, hc5, rfl, hao2, hCn, hCy, hx⟩
  have hM2 := hM.off hx (fun b hb z => z.elim (fun z => z.1 hb) (fun z => hD.2.1 (z ▸ hb)))
  have had2 := hx.ao had (fun z => z.elim (fun z => z.2.2 rfl) (fun z => hD.1 z.symm)) rfl
  obtain ⟨V2, F2, hMC2, -⟩ := id hM2
  refine V_istore (i := 6) F dL_law_441 (Nat.le_of_ble_eq_true rfl) (Nat.le_of_ble_eq_true rfl) ?_
  refine V_aload_n (i := 2) F dL_law_443 rfl rfl ?_
  refine V_aload_n (i := 0) F dL_law_444 rfl rfl ?_
  refine V_iload (i := 5) F dL_law_445 rfl ?_
  refine V_iconst (v := nI 1) F dL_law_447 rfl ?_
  refine V_iaddN F dL_law_448 ?_
  refine V_ialdX F dL_law_449 hscr (by omega) (by omega) ?_
  refine V_aload_n (i := 0) F dL_law_450 rfl rfl ?_
  refine V_iload (i := 5) F dL_law_451 rfl ?_
  refine V_iconst (v := nI 2) F dL_law_453 rfl ?_
  refine V_iaddN F dL_law_454 ?_
  refine V_ialdX F dL_law_455 hscr (by omega) (by omega) ?_
  refine V_aload_n (i := 0) F dL_law_456 rfl rfl ?_
  refine V_iload (i := 5) F dL_law_457 rfl ?_
  refine V_iconst (v := nI 3) F dL_law_459 rfl ?_
  refine V_iaddN F dL_law_460 ?_
  refine V_ialdX F dL_law_461 hscr (by omega) (by omega) ?_
  refine V_aload_n (i := 0) F dL_law_462 rfl rfl ?_
  refine V_iload (i := 5) F dL_law_463 rfl ?_
  refine V_iconst (v := nI 4) F dL_law_465 rfl ?_
  refine V_iaddN F dL_law_466 ?_
  refine V_ialdX F dL_law_467 hscr (by omega) (by omega) ?_
  have hm := cm_chg2 (l := xl X) (f := (upd (upd (upd (upd (fun _ => nI 0) 0 (xs (5 * j + 1))) 1 (xs (5 * j + 2))) 2 (xs (5 * j + 3))) 3 (xs (5 * j + 4)))) hM2 hV (by decide)
  refine V_callV (st := []) (nn := 4) F dL_law_468 lk_X0_188 hm ⟨0, _, _, _, rfl, .inl hMC2.mm⟩ rfl rfl (Nat.le_of_ble_eq_true rfl) (Nat.le_of_ble_eq_true rfl) (Nat.le_of_ble_eq_true rfl) (by omega) (by omega) ?_
  rintro _ h3 ⟨hx3, ⟨c0, rfl, hM3⟩ | ⟨c0, v, g2, rfl, hG, hM3⟩⟩
  · have hC2 := hCn c0
    have hC3 := hC2.frX hx3 (MW.ofm hMC2)
    have hao3 := hx3.ao hao2 hD.2.1 rfl
    have had3 := hx3.ao had2 hD.2.2 rfl
    obtain ⟨V3, F3, hMC3, hMV3⟩ := id hM3
    generalize hcd : cdK 2 g (upd (upd (upd (upd (fun _ => nI 0) 0 (xs (5 * j + 1))) 1 (xs (5 * j + 2))) 2 (xs (5 * j + 3))) 3 (xs (5 * j + 4))) = c at c0 hc5 hM3 hMV3 ⊢
    refine V_istore (i := 7) F dL_law_471 (Nat.le_of_ble_eq_true rfl) (Nat.le_of_ble_eq_true rfl) ?_
    refine V_aload_n (i := 2) F dL_law_473 rfl rfl ?_
    refine V_cV0r F dL_law_474 lk_X0_178 (ct_thrown hMC3.mm (congrArg some hMV3.v7)) ⟨0, _, _, _, rfl, .inl hMC3.mm⟩ (Nat.le_of_ble_eq_true rfl) (Nat.le_of_ble_eq_true rfl) (Nat.le_of_ble_eq_true rfl) (by omega) (by omega) ?_
    refine V_iload (i := 6) F dL_law_477 rfl ?_
    refine V_icmp_eqN (tgt := 484) F dL_law_479 (by decide) (by omega) (by omega) (fun _ => ?_) (fun z => absurd rfl z)
    refine V_iload (i := 6) F dL_law_484 rfl ?_
    refine V_if_neN (tgt := 501) F dL_law_486 (by decide) (by omega) (fun _ => ?_) (fun z => absurd z c0)
    refine V_goto (tgt := 3195) F dL_law_501 (by decide) ?_
    exact VV.weak (L' := LL b xo m ao ad j) (LW.c1 (LW.c1 (LW.c1 (LW.c1 (LW.c1 (LW.c1 (LW.c0 (LW.c0 (LW.c0 LW.nil))))))))) (VV.wide (by omega) (by omega) (next _ _ _ _ _ _ _ _ ⟨hC3, ⟨_, _, _, _, hM3⟩, hV.up (by omega), ⟨_, hao3⟩, ⟨_, had3⟩, by omega⟩))
  · obtain ⟨y, hy, g3, hG3, hC2⟩ := hCy c0
    have hC3 := hC2.frX hx3 (MW.ofm hMC2)
    have hao3 := hx3.ao hao2 hD.2.1 rfl
    have had3 := hx3.ao had2 hD.2.2 rfl
    obtain ⟨V3, F3, hMC3, hMV3⟩ := id hM3
    obtain ⟨e1, e2⟩ := chg_fun hV.1.1 (by decide) hG hG3
    subst e1 e2
    have hI2 := invp n 2 g g2 (upd (upd (upd (upd (fun _ => nI 0) 0 (xs (5 * j + 1))) 1 (xs (5 * j + 2))) 2 (xs (5 * j + 3))) 3 (xs (5 * j + 4))) v (by omega) hV.1.1 (by decide) c0 hG
    have hz2 := chg_Z3 hV.1.1 hV.1.2 (by decide) c0 hG
    rw [c0]
    refine V_istore (i := 7) F dL_law_471 (Nat.le_of_ble_eq_true rfl) (Nat.le_of_ble_eq_true rfl) ?_
    refine V_aload_n (i := 2) F dL_law_473 rfl rfl ?_
    refine V_cV0r F dL_law_474 lk_X0_178 (ct_thrown hMC3.mm (congrArg some hMV3.v7)) ⟨0, _, _, _, rfl, .inl hMC3.mm⟩ (Nat.le_of_ble_eq_true rfl) (Nat.le_of_ble_eq_true rfl) (Nat.le_of_ble_eq_true rfl) (by omega) (by omega) ?_
    refine V_iload (i := 6) F dL_law_477 rfl ?_
    refine V_icmp_eqN (tgt := 484) F dL_law_479 (by decide) (by decide) (by decide) (fun _ => ?_) (fun z => absurd rfl z)
    refine V_iload (i := 6) F dL_law_484 rfl ?_
    refine V_if_neN (tgt := 501) F dL_law_486 (by decide) (by decide) (fun z => absurd z (Nat.lt_irrefl 0)) (fun _ => ?_)
    refine V_aload_n (i := 3) F dL_law_489 rfl rfl ?_
    refine V_iconst (v := nI 0) F dL_law_490 rfl ?_
    refine V_laldN F 1 dL_law_491 rfl (.inl hao3) (by decide) (by decide) ?_
    refine V_iload (i := 7) F dL_law_492 rfl ?_
    refine V_i2l F dL_law_494 ?_
    refine V_lcmp F dL_law_495 ?_
    refine V_if_eq (tgt := 501) F dL_law_496 (by decide) (fun _ => ?_) (fun z => absurd (lg_self (hy)) z)
    refine V_goto (tgt := 3195) F dL_law_501 (by decide) ?_
    exact VV.weak (L' := LL b xo m ao ad j) (LW.c1 (LW.c1 (LW.c1 (LW.c1 (LW.c1 (LW.c1 (LW.c0 (LW.c0 (LW.c0 LW.nil))))))))) (VV.wide (by omega) (by omega) (next _ _ _ _ _ _ _ _ ⟨hC3, ⟨_, _, _, _, hM3⟩, hV.push (by omega) (hI2.up (by omega)) hz2, ⟨_, hao3⟩, ⟨_, had3⟩, by omega⟩))
theorem law_3 {G : GG} {X : CX} {Q : State → Prop} {h : AH} {b L xo m ao ad n j kc nn : Nat} {xs : Nat → Int32} {A : Nat → Nat} {g : Nat → Nat} {sn : Option (Nat → Nat)} {hs : List (Nat → Nat)} {tx : List Nat} {ep fc : Nat} {ot : List Nat} {rt : Option FieldType} (F : Fx G X cL_law 9 RX0 rt 1000 1200144 5494714) (hl0 : (xl X).stackTraces = false) (hscr : SCR G X b L xs) (hL : L ≤ 120) (hj : 5 * j + 5 ≤ L) (hn : n ≤ 600) (hD : DIS m A ao ad) (hW : LWD G h xo m A ao ad n j g sn hs tx ep fc ot) (hk : kc + 50000 ≤ 1200144) (hs0 : nn + 228000 ≤ 5494714)
    (next : ∀ h2 g2 sn2 hs2 tx2 ep2 fc2 ot2, LWD G h2 xo m A ao ad (n + 21) (j + 1) g2 sn2 hs2 tx2 ep2 fc2 ot2 → VV G X 9 Q h2 (kc + 50000) (nn + 228000) (LL b xo m ao ad j) [] 3195) : VV G X 9 Q h kc nn (LL b xo m ao ad j) [] 504 := by
  obtain ⟨hC, ⟨tm, cd, gb, τ, hM⟩, hV, ⟨f0, hao⟩, ⟨f1, had⟩, htx⟩ := id hW
  have hpo : ¬ PL m A ao ad ao := fun z => z.2.1 rfl
  have hpd : ¬ PL m A ao ad ad := fun z => z.2.2 rfl
  refine V_aload_n (i := 1) F dL_law_504 rfl rfl ?_
  refine V_aload_n (i := 0) F dL_law_505 rfl rfl ?_
  refine V_iload (i := 5) F dL_law_506 rfl ?_
  refine V_iconst (v := nI 1) F dL_law_508 rfl ?_
  refine V_iaddN F dL_law_509 ?_
  refine V_ialdX F dL_law_510 hscr (by omega) (by omega) ?_
  refine V_aload_n (i := 0) F dL_law_511 rfl rfl ?_
  refine V_iload (i := 5) F dL_law_512 rfl ?_
  refine V_iconst (v := nI 2) F dL_law_514 rfl ?_
  refine V_iaddN F dL_law_515 ?_
  refine V_ialdX F dL_law_516 hscr (by omega) (by omega) ?_
  refine V_aload_n (i := 3) F dL_law_517 rfl rfl ?_
  have hw := (x0_delayTrain (ao := ao) (p0 := (xs (5 * j + 1))) (p1 := (xs (5 * j + 2))) (ck_delayTrain hl0 hC hW.P0 hV) hC.isC (fun y h3 z => by obtain ⟨z1, g2, z2, z3, z4⟩ := z; exact ⟨f0, z4.ao hao hpo rfl⟩)).mono (fun r h2 hq => XN.of (Nx := HNX G (PL m A ao ad) xo g sn hs tx ep fc ot 3 (upd (upd (fun _ => nI 0) 0 (xs (5 * j + 1))) 1 (xs (5 * j + 2)))) (c := cdK 3 g (upd (upd (fun _ => nI 0) 0 (xs (5 * j + 1))) 1 (xs (5 * j + 2)))) hao hpo (fun y h3 h4 f z hz hx => by obtain ⟨g2, z1, z2⟩ := z; exact ⟨g2, z1, z2.frX hx (OFM.l hz hpo)⟩) (hq.imp (fun ⟨y, h3, f, ⟨z1, g2, z2, z3, z4⟩, r1⟩ => ⟨y, h3, f, ⟨z1, ⟨g2, z2, z3⟩, z4⟩, r1⟩) id)) (fun E q h2 hq => hq)
  refine V_xcSW (st := []) (nn := 4) F dL_law_518 ⟨lw_SW q2743 q2744 q100 q2745, by decide +kernel⟩ hw rfl rfl (Nat.le_of_ble_eq_true rfl) (Nat.le_of_ble_eq_true rfl) (Nat.le_of_ble_eq_true rfl) (by omega) (by omega) ?_ (fun E q h2 hp => hp.elim)
  rintro _ h2 ⟨f, hc5, rfl, hao2, hCn, hCy, hx⟩
  have hM2 := hM.off hx (fun b hb z => z.elim (fun z => z.1 hb) (fun z => hD.2.1 (z ▸ hb)))
  have had2 := hx.ao had (fun z => z.elim (fun z => z.2.2 rfl) (fun z => hD.1 z.symm)) rfl
  obtain ⟨V2, F2, hMC2, -⟩ := id hM2
  refine V_istore (i := 6) F dL_law_521 (Nat.le_of_ble_eq_true rfl) (Nat.le_of_ble_eq_true rfl) ?_
  refine V_aload_n (i := 2) F dL_law_523 rfl rfl ?_
  refine V_aload_n (i := 0) F dL_law_524 rfl rfl ?_
  refine V_iload (i := 5) F dL_law_525 rfl ?_
  refine V_iconst (v := nI 1) F dL_law_527 rfl ?_
  refine V_iaddN F dL_law_528 ?_
  refine V_ialdX F dL_law_529 hscr (by omega) (by omega) ?_
  refine V_aload_n (i := 0) F dL_law_530 rfl rfl ?_
  refine V_iload (i := 5) F dL_law_531 rfl ?_
  refine V_iconst (v := nI 2) F dL_law_533 rfl ?_
  refine V_iaddN F dL_law_534 ?_
  refine V_ialdX F dL_law_535 hscr (by omega) (by omega) ?_
  have hm := cm_chg3 (l := xl X) (f := (upd (upd (fun _ => nI 0) 0 (xs (5 * j + 1))) 1 (xs (5 * j + 2)))) hM2 hV (by decide)
  refine V_callV (st := []) (nn := 2) F dL_law_536 lk_X0_192 hm ⟨0, _, _, _, rfl, .inl hMC2.mm⟩ rfl rfl (Nat.le_of_ble_eq_true rfl) (Nat.le_of_ble_eq_true rfl) (Nat.le_of_ble_eq_true rfl) (by omega) (by omega) ?_
  rintro _ h3 ⟨hx3, ⟨c0, rfl, hM3⟩ | ⟨c0, v, g2, rfl, hG, hM3⟩⟩
  · have hC2 := hCn c0
    have hC3 := hC2.frX hx3 (MW.ofm hMC2)
    have hao3 := hx3.ao hao2 hD.2.1 rfl
    have had3 := hx3.ao had2 hD.2.2 rfl
    obtain ⟨V3, F3, hMC3, hMV3⟩ := id hM3
    generalize hcd : cdK 3 g (upd (upd (fun _ => nI 0) 0 (xs (5 * j + 1))) 1 (xs (5 * j + 2))) = c at c0 hc5 hM3 hMV3 ⊢
    refine V_istore (i := 7) F dL_law_539 (Nat.le_of_ble_eq_true rfl) (Nat.le_of_ble_eq_true rfl) ?_
    refine V_aload_n (i := 2) F dL_law_541 rfl rfl ?_
    refine V_cV0r F dL_law_542 lk_X0_178 (ct_thrown hMC3.mm (congrArg some hMV3.v7)) ⟨0, _, _, _, rfl, .inl hMC3.mm⟩ (Nat.le_of_ble_eq_true rfl) (Nat.le_of_ble_eq_true rfl) (Nat.le_of_ble_eq_true rfl) (by omega) (by omega) ?_
    refine V_iload (i := 6) F dL_law_545 rfl ?_
    refine V_icmp_eqN (tgt := 552) F dL_law_547 (by decide) (by omega) (by omega) (fun _ => ?_) (fun z => absurd rfl z)
    refine V_iload (i := 6) F dL_law_552 rfl ?_
    refine V_if_neN (tgt := 569) F dL_law_554 (by decide) (by omega) (fun _ => ?_) (fun z => absurd z c0)
    refine V_goto (tgt := 3195) F dL_law_569 (by decide) ?_
    exact VV.weak (L' := LL b xo m ao ad j) (LW.c1 (LW.c1 (LW.c1 (LW.c1 (LW.c1 (LW.c1 (LW.c0 (LW.c0 (LW.c0 LW.nil))))))))) (VV.wide (by omega) (by omega) (next _ _ _ _ _ _ _ _ ⟨hC3, ⟨_, _, _, _, hM3⟩, hV.up (by omega), ⟨_, hao3⟩, ⟨_, had3⟩, by omega⟩))
  · obtain ⟨y, hy, g3, hG3, hC2⟩ := hCy c0
    have hC3 := hC2.frX hx3 (MW.ofm hMC2)
    have hao3 := hx3.ao hao2 hD.2.1 rfl
    have had3 := hx3.ao had2 hD.2.2 rfl
    obtain ⟨V3, F3, hMC3, hMV3⟩ := id hM3
    obtain ⟨e1, e2⟩ := chg_fun hV.1.1 (by decide) hG hG3
    subst e1 e2
    have hI2 := invp n 3 g g2 (upd (upd (fun _ => nI 0) 0 (xs (5 * j + 1))) 1 (xs (5 * j + 2))) v (by omega) hV.1.1 (by decide) c0 hG
    have hz2 := chg_Z3 hV.1.1 hV.1.2 (by decide) c0 hG
    rw [c0]
    refine V_istore (i := 7) F dL_law_539 (Nat.le_of_ble_eq_true rfl) (Nat.le_of_ble_eq_true rfl) ?_
    refine V_aload_n (i := 2) F dL_law_541 rfl rfl ?_
    refine V_cV0r F dL_law_542 lk_X0_178 (ct_thrown hMC3.mm (congrArg some hMV3.v7)) ⟨0, _, _, _, rfl, .inl hMC3.mm⟩ (Nat.le_of_ble_eq_true rfl) (Nat.le_of_ble_eq_true rfl) (Nat.le_of_ble_eq_true rfl) (by omega) (by omega) ?_
    refine V_iload (i := 6) F dL_law_545 rfl ?_
    refine V_icmp_eqN (tgt := 552) F dL_law_547 (by decide) (by decide) (by decide) (fun _ => ?_) (fun z => absurd rfl z)
    refine V_iload (i := 6) F dL_law_552 rfl ?_
    refine V_if_neN (tgt := 569) F dL_law_554 (by decide) (by decide) (fun z => absurd z (Nat.lt_irrefl 0)) (fun _ => ?_)
    refine V_aload_n (i := 3) F dL_law_557 rfl rfl ?_
    refine V_iconst (v := nI 0) F dL_law_558 rfl ?_
    refine V_laldN F 1 dL_law_559 rfl (.inl hao3) (by decide) (by decide) ?_
    refine V_iload (i := 7) F dL_law_560 rfl ?_
    refine V_i2l F dL_law_562 ?_
    refine V_lcmp F dL_law_563 ?_
    refine V_if_eq (tgt := 569) F dL_law_564 (by decide) (fun _ => ?_) (fun z => absurd (lg_self (hy)) z)
    refine V_goto (tgt := 3195) F dL_law_569 (by decide) ?_
    exact VV.weak (L' := LL b xo m ao ad j) (LW.c1 (LW.c1 (LW.c1 (LW.c1 (LW.c1 (LW.c1 (LW.c0 (LW.c0 (LW.c0 LW.nil))))))))) (VV.wide (by omega) (by omega) (next _ _ _ _ _ _ _ _ ⟨hC3, ⟨_, _, _, _, hM3⟩, hV.push (by omega) (hI2.up (by omega)) hz2, ⟨_, hao3⟩, ⟨_, had3⟩, by omega⟩))
theorem law_4 {G : GG} {X : CX} {Q : State → Prop} {h : AH} {b L xo m ao ad n j kc nn : Nat} {xs : Nat → Int32} {A : Nat → Nat} {g : Nat → Nat} {sn : Option (Nat → Nat)} {hs : List (Nat → Nat)} {tx : List Nat} {ep fc : Nat} {ot : List Nat} {rt : Option FieldType} (F : Fx G X cL_law 9 RX0 rt 1000 1200144 5494714) (hl0 : (xl X).stackTraces = false) (hscr : SCR G X b L xs) (hL : L ≤ 120) (hj : 5 * j + 5 ≤ L) (hn : n ≤ 600) (hD : DIS m A ao ad) (hW : LWD G h xo m A ao ad n j g sn hs tx ep fc ot) (hk : kc + 50000 ≤ 1200144) (hs0 : nn + 228000 ≤ 5494714)
    (next : ∀ h2 g2 sn2 hs2 tx2 ep2 fc2 ot2, LWD G h2 xo m A ao ad (n + 21) (j + 1) g2 sn2 hs2 tx2 ep2 fc2 ot2 → VV G X 9 Q h2 (kc + 50000) (nn + 228000) (LL b xo m ao ad j) [] 3195) : VV G X 9 Q h kc nn (LL b xo m ao ad j) [] 572 := by
  obtain ⟨hC, ⟨tm, cd, gb, τ, hM⟩, hV, ⟨f0, hao⟩, ⟨f1, had⟩, htx⟩ := id hW
  have hpo : ¬ PL m A ao ad ao := fun z => z.2.1 rfl
  have hpd : ¬ PL m A ao ad ad := fun z => z.2.2 rfl
  refine V_aload_n (i := 1) F dL_law_572 rfl rfl ?_
  refine V_aload_n (i := 0) F dL_law_573 rfl rfl ?_
  refine V_iload (i := 5) F dL_law_574 rfl ?_
  refine V_iconst (v := nI 1) F dL_law_576 rfl ?_
  refine V_iaddN F dL_law_577 ?_
  refine V_ialdX F dL_law_578 hscr (by omega) (by omega) ?_
  refine V_aload_n (i := 0) F dL_law_579 rfl rfl ?_
  refine V_iload (i := 5) F dL_law_580 rfl ?_
  refine V_iconst (v := nI 2) F dL_law_582 rfl ?_
  refine V_iaddN F dL_law_583 ?_
  refine V_ialdX F dL_law_584 hscr (by omega) (by omega) ?_
  refine V_aload_n (i := 0) F dL_law_585 rfl rfl ?_
  refine V_iload (i := 5) F dL_law_586 rfl ?_
  refine V_iconst (v := nI 3) F dL_law_588 rfl ?_
  refine V_iaddN F dL_law_589 ?_
  refine V_ialdX F dL_law_590 hscr (by omega) (by omega) ?_
  refine V_aload_n (i := 3) F dL_law_591 rfl rfl ?_
  have hw := (x0_addSuitcase (ao := ao) (p0 := (xs (5 * j + 1))) (p1 := (xs (5 * j + 2))) (p2 := (xs (5 * j + 3))) (ck_addSuitcase hl0 hC hW.P0 hV) hC.isC (fun y h3 z => by obtain ⟨z1, g2, z2, z3, z4⟩ := z; exact ⟨f0, z4.ao hao hpo rfl⟩)).mono (fun r h2 hq => XN.of (Nx := HNX G (PL m A ao ad) xo g sn hs tx ep fc ot 4 (upd (upd (upd (fun _ => nI 0) 0 (xs (5 * j + 1))) 1 (xs (5 * j + 2))) 2 (xs (5 * j + 3)))) (c := cdK 4 g (upd (upd (upd (fun _ => nI 0) 0 (xs (5 * j + 1))) 1 (xs (5 * j + 2))) 2 (xs (5 * j + 3)))) hao hpo (fun y h3 h4 f z hz hx => by obtain ⟨g2, z1, z2⟩ := z; exact ⟨g2, z1, z2.frX hx (OFM.l hz hpo)⟩) (hq.imp (fun ⟨y, h3, f, ⟨z1, g2, z2, z3, z4⟩, r1⟩ => ⟨y, h3, f, ⟨z1, ⟨g2, z2, z3⟩, z4⟩, r1⟩) id)) (fun E q h2 hq => hq)
  refine V_xcSW (st := []) (nn := 5) F dL_law_592 ⟨lw_SW q2751 q2752 q100 q2753, by decide +kernel⟩ hw rfl rfl (Nat.le_of_ble_eq_true rfl) (Nat.le_of_ble_eq_true rfl) (Nat.le_of_ble_eq_true rfl) (by omega) (by omega) ?_ (fun E q h2 hp => hp.elim)
  rintro _ h2 ⟨f, hc5, rfl, hao2, hCn, hCy, hx⟩
  have hM2 := hM.off hx (fun b hb z => z.elim (fun z => z.1 hb) (fun z => hD.2.1 (z ▸ hb)))
  have had2 := hx.ao had (fun z => z.elim (fun z => z.2.2 rfl) (fun z => hD.1 z.symm)) rfl
  obtain ⟨V2, F2, hMC2, -⟩ := id hM2
  refine V_istore (i := 6) F dL_law_595 (Nat.le_of_ble_eq_true rfl) (Nat.le_of_ble_eq_true rfl) ?_
  refine V_aload_n (i := 2) F dL_law_597 rfl rfl ?_
  refine V_aload_n (i := 0) F dL_law_598 rfl rfl ?_
  refine V_iload (i := 5) F dL_law_599 rfl ?_
  refine V_iconst (v := nI 1) F dL_law_601 rfl ?_
  refine V_iaddN F dL_law_602 ?_
  refine V_ialdX F dL_law_603 hscr (by omega) (by omega) ?_
  refine V_aload_n (i := 0) F dL_law_604 rfl rfl ?_
  refine V_iload (i := 5) F dL_law_605 rfl ?_
  refine V_iconst (v := nI 2) F dL_law_607 rfl ?_
  refine V_iaddN F dL_law_608 ?_
  refine V_ialdX F dL_law_609 hscr (by omega) (by omega) ?_
  refine V_aload_n (i := 0) F dL_law_610 rfl rfl ?_
  refine V_iload (i := 5) F dL_law_611 rfl ?_
  refine V_iconst (v := nI 3) F dL_law_613 rfl ?_
  refine V_iaddN F dL_law_614 ?_
  refine V_ialdX F dL_law_615 hscr (by omega) (by omega) ?_
  have hm := cm_chg4 (l := xl X) (f := (upd (upd (upd (fun _ => nI 0) 0 (xs (5 * j + 1))) 1 (xs (5 * j + 2))) 2 (xs (5 * j + 3)))) hM2 hV (by decide)
  refine V_callV (st := []) (nn := 3) F dL_law_616 lk_X0_195 hm ⟨0, _, _, _, rfl, .inl hMC2.mm⟩ rfl rfl (Nat.le_of_ble_eq_true rfl) (Nat.le_of_ble_eq_true rfl) (Nat.le_of_ble_eq_true rfl) (by omega) (by omega) ?_
  rintro _ h3 ⟨hx3, ⟨c0, rfl, hM3⟩ | ⟨c0, v, g2, rfl, hG, hM3⟩⟩
  · have hC2 := hCn c0
    have hC3 := hC2.frX hx3 (MW.ofm hMC2)
    have hao3 := hx3.ao hao2 hD.2.1 rfl
    have had3 := hx3.ao had2 hD.2.2 rfl
    obtain ⟨V3, F3, hMC3, hMV3⟩ := id hM3
    generalize hcd : cdK 4 g (upd (upd (upd (fun _ => nI 0) 0 (xs (5 * j + 1))) 1 (xs (5 * j + 2))) 2 (xs (5 * j + 3))) = c at c0 hc5 hM3 hMV3 ⊢
    refine V_istore (i := 7) F dL_law_619 (Nat.le_of_ble_eq_true rfl) (Nat.le_of_ble_eq_true rfl) ?_
    refine V_aload_n (i := 2) F dL_law_621 rfl rfl ?_
    refine V_cV0r F dL_law_622 lk_X0_178 (ct_thrown hMC3.mm (congrArg some hMV3.v7)) ⟨0, _, _, _, rfl, .inl hMC3.mm⟩ (Nat.le_of_ble_eq_true rfl) (Nat.le_of_ble_eq_true rfl) (Nat.le_of_ble_eq_true rfl) (by omega) (by omega) ?_
    refine V_iload (i := 6) F dL_law_625 rfl ?_
    refine V_icmp_eqN (tgt := 632) F dL_law_627 (by decide) (by omega) (by omega) (fun _ => ?_) (fun z => absurd rfl z)
    refine V_iload (i := 6) F dL_law_632 rfl ?_
    refine V_if_neN (tgt := 649) F dL_law_634 (by decide) (by omega) (fun _ => ?_) (fun z => absurd z c0)
    refine V_goto (tgt := 3195) F dL_law_649 (by decide) ?_
    exact VV.weak (L' := LL b xo m ao ad j) (LW.c1 (LW.c1 (LW.c1 (LW.c1 (LW.c1 (LW.c1 (LW.c0 (LW.c0 (LW.c0 LW.nil))))))))) (VV.wide (by omega) (by omega) (next _ _ _ _ _ _ _ _ ⟨hC3, ⟨_, _, _, _, hM3⟩, hV.up (by omega), ⟨_, hao3⟩, ⟨_, had3⟩, by omega⟩))
  · obtain ⟨y, hy, g3, hG3, hC2⟩ := hCy c0
    have hC3 := hC2.frX hx3 (MW.ofm hMC2)
    have hao3 := hx3.ao hao2 hD.2.1 rfl
    have had3 := hx3.ao had2 hD.2.2 rfl
    obtain ⟨V3, F3, hMC3, hMV3⟩ := id hM3
    obtain ⟨e1, e2⟩ := chg_fun hV.1.1 (by decide) hG hG3
    subst e1 e2
    have hI2 := invp n 4 g g2 (upd (upd (upd (fun _ => nI 0) 0 (xs (5 * j + 1))) 1 (xs (5 * j + 2))) 2 (xs (5 * j + 3))) v (by omega) hV.1.1 (by decide) c0 hG
    have hz2 := chg_Z3 hV.1.1 hV.1.2 (by decide) c0 hG
    rw [c0]
    refine V_istore (i := 7) F dL_law_619 (Nat.le_of_ble_eq_true rfl) (Nat.le_of_ble_eq_true rfl) ?_
    refine V_aload_n (i := 2) F dL_law_621 rfl rfl ?_
    refine V_cV0r F dL_law_622 lk_X0_178 (ct_thrown hMC3.mm (congrArg some hMV3.v7)) ⟨0, _, _, _, rfl, .inl hMC3.mm⟩ (Nat.le_of_ble_eq_true rfl) (Nat.le_of_ble_eq_true rfl) (Nat.le_of_ble_eq_true rfl) (by omega) (by omega) ?_
    refine V_iload (i := 6) F dL_law_625 rfl ?_
    refine V_icmp_eqN (tgt := 632) F dL_law_627 (by decide) (by decide) (by decide) (fun _ => ?_) (fun z => absurd rfl z)
    refine V_iload (i := 6) F dL_law_632 rfl ?_
    refine V_if_neN (tgt := 649) F dL_law_634 (by decide) (by decide) (fun z => absurd z (Nat.lt_irrefl 0)) (fun _ => ?_)
    refine V_aload_n (i := 3) F dL_law_637 rfl rfl ?_
    refine V_iconst (v := nI 0) F dL_law_638 rfl ?_
    refine V_laldN F 1 dL_law_639 rfl (.inl hao3) (by decide) (by decide) ?_
    refine V_iload (i := 7) F dL_law_640 rfl ?_
    refine V_i2l F dL_law_642 ?_
    refine V_lcmp F dL_law_643 ?_
    refine V_if_eq (tgt := 649) F dL_law_644 (by decide) (fun _ => ?_) (fun z => absurd (lg_self (hy)) z)
    refine V_goto (tgt := 3195) F dL_law_649 (by decide) ?_
    exact VV.weak (L' := LL b xo m ao ad j) (LW.c1 (LW.c1 (LW.c1 (LW.c1 (LW.c1 (LW.c1 (LW.c0 (LW.c0 (LW.c0 LW.nil))))))))) (VV.wide (by omega) (by omega) (next _ _ _ _ _ _ _ _ ⟨hC3, ⟨_, _, _, _, hM3⟩, hV.push (by omega) (hI2.up (by omega)) hz2, ⟨_, hao3⟩, ⟨_, had3⟩, by omega⟩))
theorem law_5 {G : GG} {X : CX} {Q : State → Prop} {h : AH} {b L xo m ao ad n j kc nn : Nat} {xs : Nat → Int32} {A : Nat → Nat} {g : Nat → Nat} {sn : Option (Nat → Nat)} {hs : List (Nat → Nat)} {tx : List Nat} {ep fc : Nat} {ot : List Nat} {rt : Option FieldType} (F : Fx G X cL_law 9 RX0 rt 1000 1200144 5494714) (hl0 : (xl X).stackTraces = false) (hscr : SCR G X b L xs) (hL : L ≤ 120) (hj : 5 * j + 5 ≤ L) (hn : n ≤ 600) (hD : DIS m A ao ad) (hW : LWD G h xo m A ao ad n j g sn hs tx ep fc ot) (hk : kc + 50000 ≤ 1200144) (hs0 : nn + 228000 ≤ 5494714)
    (next : ∀ h2 g2 sn2 hs2 tx2 ep2 fc2 ot2, LWD G h2 xo m A ao ad (n + 21) (j + 1) g2 sn2 hs2 tx2 ep2 fc2 ot2 → VV G X 9 Q h2 (kc + 50000) (nn + 228000) (LL b xo m ao ad j) [] 3195) : VV G X 9 Q h kc nn (LL b xo m ao ad j) [] 652 := by
  obtain ⟨hC, ⟨tm, cd, gb, τ, hM⟩, hV, ⟨f0, hao⟩, ⟨f1, had⟩, htx⟩ := id hW
  have hpo : ¬ PL m A ao ad ao := fun z => z.2.1 rfl
  have hpd : ¬ PL m A ao ad ad := fun z => z.2.2 rfl
  refine V_aload_n (i := 1) F dL_law_652 rfl rfl ?_
  refine V_aload_n (i := 0) F dL_law_653 rfl rfl ?_
  refine V_iload (i := 5) F dL_law_654 rfl ?_
  refine V_iconst (v := nI 1) F dL_law_656 rfl ?_
  refine V_iaddN F dL_law_657 ?_
  refine V_ialdX F dL_law_658 hscr (by omega) (by omega) ?_
  refine V_aload_n (i := 0) F dL_law_659 rfl rfl ?_
  refine V_iload (i := 5) F dL_law_660 rfl ?_
  refine V_iconst (v := nI 2) F dL_law_662 rfl ?_
  refine V_iaddN F dL_law_663 ?_
  refine V_ialdX F dL_law_664 hscr (by omega) (by omega) ?_
  refine V_aload_n (i := 3) F dL_law_665 rfl rfl ?_
  have hw := (x0_relabel (ao := ao) (p0 := (xs (5 * j + 1))) (p1 := (xs (5 * j + 2))) (ck_relabel hl0 hC hW.P0 hV) hC.isC (fun y h3 z => by obtain ⟨z1, g2, z2, z3, z4⟩ := z; exact ⟨f0, z4.ao hao hpo rfl⟩)).mono (fun r h2 hq => XN.of (Nx := HNX G (PL m A ao ad) xo g sn hs tx ep fc ot 5 (upd (upd (fun _ => nI 0) 0 (xs (5 * j + 1))) 1 (xs (5 * j + 2)))) (c := cdK 5 g (upd (upd (fun _ => nI 0) 0 (xs (5 * j + 1))) 1 (xs (5 * j + 2)))) hao hpo (fun y h3 h4 f z hz hx => by obtain ⟨g2, z1, z2⟩ := z; exact ⟨g2, z1, z2.frX hx (OFM.l hz hpo)⟩) (hq.imp (fun ⟨y, h3, f, ⟨z1, g2, z2, z3, z4⟩, r1⟩ => ⟨y, h3, f, ⟨z1, ⟨g2, z2, z3⟩, z4⟩, r1⟩) id)) (fun E q h2 hq => hq)
  refine V_xcSW (st := []) (nn := 4) F dL_law_666 ⟨lw_SW q2759 q2760 q100 q2761, by decide +kernel⟩ hw rfl rfl (Nat.le_of_ble_eq_true rfl) (Nat.le_of_ble_eq_true rfl) (Nat.le_of_ble_eq_true rfl) (by omega) (by omega) ?_ (fun E q h2 hp => hp.elim)
  rintro _ h2 ⟨f, hc5, rfl, hao2, hCn, hCy, hx⟩
  have hM2 := hM.off hx (fun b hb z => z.elim (fun z => z.1 hb) (fun z => hD.2.1 (z ▸ hb)))
  have had2 := hx.ao had (fun z => z.elim (fun z => z.2.2 rfl) (fun z => hD.1 z.symm)) rfl
  obtain ⟨V2, F2, hMC2, -⟩ := id hM2
  refine V_istore (i := 6) F dL_law_669 (Nat.le_of_ble_eq_true rfl) (Nat.le_of_ble_eq_true rfl) ?_
  refine V_aload_n (i := 2) F dL_law_671 rfl rfl ?_
  refine V_aload_n (i := 0) F dL_law_672 rfl rfl ?_
  refine V_iload (i := 5) F dL_law_673 rfl ?_
  refine V_iconst (v := nI 1) F dL_law_675 rfl ?_
  refine V_iaddN F dL_law_676 ?_
  refine V_ialdX F dL_law_677 hscr (by omega) (by omega) ?_
  refine V_aload_n (i := 0) F dL_law_678 rfl rfl ?_
  refine V_iload (i := 5) F dL_law_679 rfl ?_
  refine V_iconst (v := nI 2) F dL_law_681 rfl ?_
  refine V_iaddN F dL_law_682 ?_
  refine V_ialdX F dL_law_683 hscr (by omega) (by omega) ?_
  have hm := cm_chg5 (l := xl X) (f := (upd (upd (fun _ => nI 0) 0 (xs (5 * j + 1))) 1 (xs (5 * j + 2)))) hM2 hV (by decide)
  refine V_callV (st := []) (nn := 2) F dL_law_684 lk_X0_198 hm ⟨0, _, _, _, rfl, .inl hMC2.mm⟩ rfl rfl (Nat.le_of_ble_eq_true rfl) (Nat.le_of_ble_eq_true rfl) (Nat.le_of_ble_eq_true rfl) (by omega) (by omega) ?_
  rintro _ h3 ⟨hx3, ⟨c0, rfl, hM3⟩ | ⟨c0, v, g2, rfl, hG, hM3⟩⟩
  · have hC2 := hCn c0
    have hC3 := hC2.frX hx3 (MW.ofm hMC2)
    have hao3 := hx3.ao hao2 hD.2.1 rfl
    have had3 := hx3.ao had2 hD.2.2 rfl
    obtain ⟨V3, F3, hMC3, hMV3⟩ := id hM3
    generalize hcd : cdK 5 g (upd (upd (fun _ => nI 0) 0 (xs (5 * j + 1))) 1 (xs (5 * j + 2))) = c at c0 hc5 hM3 hMV3 ⊢
    refine V_istore (i := 7) F dL_law_687 (Nat.le_of_ble_eq_true rfl) (Nat.le_of_ble_eq_true rfl) ?_
    refine V_aload_n (i := 2) F dL_law_689 rfl rfl ?_
    refine V_cV0r F dL_law_690 lk_X0_178 (ct_thrown hMC3.mm (congrArg some hMV3.v7)) ⟨0, _, _, _, rfl, .inl hMC3.mm⟩ (Nat.le_of_ble_eq_true rfl) (Nat.le_of_ble_eq_true rfl) (Nat.le_of_ble_eq_true rfl) (by omega) (by omega) ?_
    refine V_iload (i := 6) F dL_law_693 rfl ?_
    refine V_icmp_eqN (tgt := 700) F dL_law_695 (by decide) (by omega) (by omega) (fun _ => ?_) (fun z => absurd rfl z)
    refine V_iload (i := 6) F dL_law_700 rfl ?_
    refine V_if_neN (tgt := 717) F dL_law_702 (by decide) (by omega) (fun _ => ?_) (fun z => absurd z c0)
    refine V_goto (tgt := 3195) F dL_law_717 (by decide) ?_
    exact VV.weak (L' := LL b xo m ao ad j) (LW.c1 (LW.c1 (LW.c1 (LW.c1 (LW.c1 (LW.c1 (LW.c0 (LW.c0 (LW.c0 LW.nil))))))))) (VV.wide (by omega) (by omega) (next _ _ _ _ _ _ _ _ ⟨hC3, ⟨_, _, _, _, hM3⟩, hV.up (by omega), ⟨_, hao3⟩, ⟨_, had3⟩, by omega⟩))
  · obtain ⟨y, hy, g3, hG3, hC2⟩ := hCy c0
    have hC3 := hC2.frX hx3 (MW.ofm hMC2)
    have hao3 := hx3.ao hao2 hD.2.1 rfl
    have had3 := hx3.ao had2 hD.2.2 rfl
    obtain ⟨V3, F3, hMC3, hMV3⟩ := id hM3
    obtain ⟨e1, e2⟩ := chg_fun hV.1.1 (by decide) hG hG3
    subst e1 e2
    have hI2 := invp n 5 g g2 (upd (upd (fun _ => nI 0) 0 (xs (5 * j + 1))) 1 (xs (5 * j + 2))) v (by omega) hV.1.1 (by decide) c0 hG
    have hz2 := chg_Z3 hV.1.1 hV.1.2 (by decide) c0 hG
    rw [c0]
    refine V_istore (i := 7) F dL_law_687 (Nat.le_of_ble_eq_true rfl) (Nat.le_of_ble_eq_true rfl) ?_
    refine V_aload_n (i := 2) F dL_law_689 rfl rfl ?_
    refine V_cV0r F dL_law_690 lk_X0_178 (ct_thrown hMC3.mm (congrArg some hMV3.v7)) ⟨0, _, _, _, rfl, .inl hMC3.mm⟩ (Nat.le_of_ble_eq_true rfl) (Nat.le_of_ble_eq_true rfl) (Nat.le_of_ble_eq_true rfl) (by omega) (by omega) ?_
    refine V_iload (i := 6) F dL_law_693 rfl ?_
    refine V_icmp_eqN (tgt := 700) F dL_law_695 (by decide) (by decide) (by decide) (fun _ => ?_) (fun z => absurd rfl z)
    refine V_iload (i := 6) F dL_law_700 rfl ?_
    refine V_if_neN (tgt := 717) F dL_law_702 (by decide) (by decide) (fun z => absurd z (Nat.lt_irrefl 0)) (fun _ => ?_)
    refine V_aload_n (i := 3) F dL_law_705 rfl rfl ?_
    refine V_iconst (v := nI 0) F dL_law_706 rfl ?_
    refine V_laldN F 1 dL_law_707 rfl (.inl hao3) (by decide) (by decide) ?_
    refine V_iload (i := 7) F dL_law_708 rfl ?_
    refine V_i2l F dL_law_710 ?_
    refine V_lcmp F dL_law_711 ?_
    refine V_if_eq (tgt := 717) F dL_law_712 (by decide) (fun _ => ?_) (fun z => absurd (lg_self (hy)) z)
    refine V_goto (tgt := 3195) F dL_law_717 (by decide) ?_
    exact VV.weak (L' := LL b xo m ao ad j) (LW.c1 (LW.c1 (LW.c1 (LW.c1 (LW.c1 (LW.c1 (LW.c0 (LW.c0 (LW.c0 LW.nil))))))))) (VV.wide (by omega) (by omega) (next _ _ _ _ _ _ _ _ ⟨hC3, ⟨_, _, _, _, hM3⟩, hV.push (by omega) (hI2.up (by omega)) hz2, ⟨_, hao3⟩, ⟨_, had3⟩, by omega⟩))
theorem law_6 {G : GG} {X : CX} {Q : State → Prop} {h : AH} {b L xo m ao ad n j kc nn : Nat} {xs : Nat → Int32} {A : Nat → Nat} {g : Nat → Nat} {sn : Option (Nat → Nat)} {hs : List (Nat → Nat)} {tx : List Nat} {ep fc : Nat} {ot : List Nat} {rt : Option FieldType} (F : Fx G X cL_law 9 RX0 rt 1000 1200144 5494714) (hl0 : (xl X).stackTraces = false) (hscr : SCR G X b L xs) (hL : L ≤ 120) (hj : 5 * j + 5 ≤ L) (hn : n ≤ 600) (hD : DIS m A ao ad) (hW : LWD G h xo m A ao ad n j g sn hs tx ep fc ot) (hk : kc + 50000 ≤ 1200144) (hs0 : nn + 228000 ≤ 5494714)
    (next : ∀ h2 g2 sn2 hs2 tx2 ep2 fc2 ot2, LWD G h2 xo m A ao ad (n + 21) (j + 1) g2 sn2 hs2 tx2 ep2 fc2 ot2 → VV G X 9 Q h2 (kc + 50000) (nn + 228000) (LL b xo m ao ad j) [] 3195) : VV G X 9 Q h kc nn (LL b xo m ao ad j) [] 720 := by
  obtain ⟨hC, ⟨tm, cd, gb, τ, hM⟩, hV, ⟨f0, hao⟩, ⟨f1, had⟩, htx⟩ := id hW
  have hpo : ¬ PL m A ao ad ao := fun z => z.2.1 rfl
  have hpd : ¬ PL m A ao ad ad := fun z => z.2.2 rfl
  refine V_aload_n (i := 1) F dL_law_720 rfl rfl ?_
  refine V_aload_n (i := 0) F dL_law_721 rfl rfl ?_
  refine V_iload (i := 5) F dL_law_722 rfl ?_
  refine V_iconst (v := nI 1) F dL_law_724 rfl ?_
  refine V_iaddN F dL_law_725 ?_
  refine V_ialdX F dL_law_726 hscr (by omega) (by omega) ?_
  refine V_aload_n (i := 3) F dL_law_727 rfl rfl ?_
  have hw := (x0_send (ao := ao) (p0 := (xs (5 * j + 1))) (ck_send hl0 hC hW.P0 hV) hC.isC (fun y h3 z => by obtain ⟨z1, g2, z2, z3, z4⟩ := z; exact ⟨f0, z4.ao hao hpo rfl⟩)).mono (fun r h2 hq => XN.of (Nx := HNX G (PL m A ao ad) xo g sn hs tx ep fc ot 6 (upd (fun _ => nI 0) 0 (xs (5 * j + 1)))) (c := cdK 6 g (upd (fun _ => nI 0) 0 (xs (5 * j + 1)))) hao hpo (fun y h3 h4 f z hz hx => by obtain ⟨g2, z1, z2⟩ := z; exact ⟨g2, z1, z2.frX hx (OFM.l hz hpo)⟩) (hq.imp (fun ⟨y, h3, f, ⟨z1, g2, z2, z3, z4⟩, r1⟩ => ⟨y, h3, f, ⟨z1, ⟨g2, z2, z3⟩, z4⟩, r1⟩) id)) (fun E q h2 hq => hq)
  refine V_xcSW (st := []) (nn := 3) F dL_law_728 ⟨lw_SW q2768 q2769 q100 q2770, by decide +kernel⟩ hw rfl rfl (Nat.le_of_ble_eq_true rfl) (Nat.le_of_ble_eq_true rfl) (Nat.le_of_ble_eq_true rfl) (by omega) (by omega) ?_ (fun E q h2 hp => hp.elim)
  rintro _ h2 ⟨f, hc5, rfl, hao2, hCn, hCy, hx⟩
  have hM2 := hM.off hx (fun b hb z => z.elim (fun z => z.1 hb) (fun z => hD.2.1 (z ▸ hb)))
  have had2 := hx.ao had (fun z => z.elim (fun z => z.2.2 rfl) (fun z => hD.1 z.symm)) rfl
  obtain ⟨V2, F2, hMC2, -⟩ := id hM2
  refine V_istore (i := 6) F dL_law_731 (Nat.le_of_ble_eq_true rfl) (Nat.le_of_ble_eq_true rfl) ?_
  refine V_aload_n (i := 2) F dL_law_733 rfl rfl ?_
  refine V_aload_n (i := 0) F dL_law_734 rfl rfl ?_
  refine V_iload (i := 5) F dL_law_735 rfl ?_
  refine V_iconst (v := nI 1) F dL_law_737 rfl ?_
  refine V_iaddN F dL_law_738 ?_
  refine V_ialdX F dL_law_739 hscr (by omega) (by omega) ?_
  have hm := cm_chg6 (l := xl X) (f := (upd (fun _ => nI 0) 0 (xs (5 * j + 1)))) hM2 hV (by decide)
  refine V_callV (st := []) (nn := 1) F dL_law_740 lk_X0_201 hm ⟨0, _, _, _, rfl, .inl hMC2.mm⟩ rfl rfl (Nat.le_of_ble_eq_true rfl) (Nat.le_of_ble_eq_true rfl) (Nat.le_of_ble_eq_true rfl) (by omega) (by omega) ?_
  rintro _ h3 ⟨hx3, ⟨c0, rfl, hM3⟩ | ⟨c0, v, g2, rfl, hG, hM3⟩⟩
  · have hC2 := hCn c0
    have hC3 := hC2.frX hx3 (MW.ofm hMC2)
    have hao3 := hx3.ao hao2 hD.2.1 rfl
    have had3 := hx3.ao had2 hD.2.2 rfl
    obtain ⟨V3, F3, hMC3, hMV3⟩ := id hM3
    generalize hcd : cdK 6 g (upd (fun _ => nI 0) 0 (xs (5 * j + 1))) = c at c0 hc5 hM3 hMV3 ⊢
    refine V_istore (i := 7) F dL_law_743 (Nat.le_of_ble_eq_true rfl) (Nat.le_of_ble_eq_true rfl) ?_
    refine V_aload_n (i := 2) F dL_law_745 rfl rfl ?_
    refine V_cV0r F dL_law_746 lk_X0_178 (ct_thrown hMC3.mm (congrArg some hMV3.v7)) ⟨0, _, _, _, rfl, .inl hMC3.mm⟩ (Nat.le_of_ble_eq_true rfl) (Nat.le_of_ble_eq_true rfl) (Nat.le_of_ble_eq_true rfl) (by omega) (by omega) ?_
    refine V_iload (i := 6) F dL_law_749 rfl ?_
    refine V_icmp_eqN (tgt := 756) F dL_law_751 (by decide) (by omega) (by omega) (fun _ => ?_) (fun z => absurd rfl z)
    refine V_iload (i := 6) F dL_law_756 rfl ?_
    refine V_if_neN (tgt := 773) F dL_law_758 (by decide) (by omega) (fun _ => ?_) (fun z => absurd z c0)
    refine V_goto (tgt := 3195) F dL_law_773 (by decide) ?_
    exact VV.weak (L' := LL b xo m ao ad j) (LW.c1 (LW.c1 (LW.c1 (LW.c1 (LW.c1 (LW.c1 (LW.c0 (LW.c0 (LW.c0 LW.nil))))))))) (VV.wide (by omega) (by omega) (next _ _ _ _ _ _ _ _ ⟨hC3, ⟨_, _, _, _, hM3⟩, hV.up (by omega), ⟨_, hao3⟩, ⟨_, had3⟩, by omega⟩))
  · obtain ⟨y, hy, g3, hG3, hC2⟩ := hCy c0
    have hC3 := hC2.frX hx3 (MW.ofm hMC2)
    have hao3 := hx3.ao hao2 hD.2.1 rfl
    have had3 := hx3.ao had2 hD.2.2 rfl
    obtain ⟨V3, F3, hMC3, hMV3⟩ := id hM3
    obtain ⟨e1, e2⟩ := chg_fun hV.1.1 (by decide) hG hG3
    subst e1 e2
    have hI2 := invp n 6 g g2 (upd (fun _ => nI 0) 0 (xs (5 * j + 1))) v (by omega) hV.1.1 (by decide) c0 hG
    have hz2 := chg_Z3 hV.1.1 hV.1.2 (by decide) c0 hG
    rw [c0]
    refine V_istore (i := 7) F dL_law_743 (Nat.le_of_ble_eq_true rfl) (Nat.le_of_ble_eq_true rfl) ?_
    refine V_aload_n (i := 2) F dL_law_745 rfl rfl ?_
    refine V_cV0r F dL_law_746 lk_X0_178 (ct_thrown hMC3.mm (congrArg some hMV3.v7)) ⟨0, _, _, _, rfl, .inl hMC3.mm⟩ (Nat.le_of_ble_eq_true rfl) (Nat.le_of_ble_eq_true rfl) (Nat.le_of_ble_eq_true rfl) (by omega) (by omega) ?_
    refine V_iload (i := 6) F dL_law_749 rfl ?_
    refine V_icmp_eqN (tgt := 756) F dL_law_751 (by decide) (by decide) (by decide) (fun _ => ?_) (fun z => absurd rfl z)
    refine V_iload (i := 6) F dL_law_756 rfl ?_
    refine V_if_neN (tgt := 773) F dL_law_758 (by decide) (by decide) (fun z => absurd z (Nat.lt_irrefl 0)) (fun _ => ?_)
    refine V_aload_n (i := 3) F dL_law_761 rfl rfl ?_
    refine V_iconst (v := nI 0) F dL_law_762 rfl ?_
    refine V_laldN F 1 dL_law_763 rfl (.inl hao3) (by decide) (by decide) ?_
    refine V_iload (i := 7) F dL_law_764 rfl ?_
    refine V_i2l F dL_law_766 ?_
    refine V_lcmp F dL_law_767 ?_
    refine V_if_eq (tgt := 773) F dL_law_768 (by decide) (fun _ => ?_) (fun z => absurd (lg_self (hy)) z)
    refine V_goto (tgt := 3195) F dL_law_773 (by decide) ?_
    exact VV.weak (L' := LL b xo m ao ad j) (LW.c1 (LW.c1 (LW.c1 (LW.c1 (LW.c1 (LW.c1 (LW.c0 (LW.c0 (LW.c0 LW.nil))))))))) (VV.wide (by omega) (by omega) (next _ _ _ _ _ _ _ _ ⟨hC3, ⟨_, _, _, _, hM3⟩, hV.push (by omega) (hI2.up (by omega)) hz2, ⟨_, hao3⟩, ⟨_, had3⟩, by omega⟩))
theorem law_7 {G : GG} {X : CX} {Q : State → Prop} {h : AH} {b L xo m ao ad n j kc nn : Nat} {xs : Nat → Int32} {A : Nat → Nat} {g : Nat → Nat} {sn : Option (Nat → Nat)} {hs : List (Nat → Nat)} {tx : List Nat} {ep fc : Nat} {ot : List Nat} {rt : Option FieldType} (F : Fx G X cL_law 9 RX0 rt 1000 1200144 5494714) (hl0 : (xl X).stackTraces = false) (hscr : SCR G X b L xs) (hL : L ≤ 120) (hj : 5 * j + 5 ≤ L) (hn : n ≤ 600) (hD : DIS m A ao ad) (hW : LWD G h xo m A ao ad n j g sn hs tx ep fc ot) (hk : kc + 50000 ≤ 1200144) (hs0 : nn + 228000 ≤ 5494714)
    (next : ∀ h2 g2 sn2 hs2 tx2 ep2 fc2 ot2, LWD G h2 xo m A ao ad (n + 21) (j + 1) g2 sn2 hs2 tx2 ep2 fc2 ot2 → VV G X 9 Q h2 (kc + 50000) (nn + 228000) (LL b xo m ao ad j) [] 3195) : VV G X 9 Q h kc nn (LL b xo m ao ad j) [] 776 := by
  obtain ⟨hC, ⟨tm, cd, gb, τ, hM⟩, hV, ⟨f0, hao⟩, ⟨f1, had⟩, htx⟩ := id hW
  have hpo : ¬ PL m A ao ad ao := fun z => z.2.1 rfl
  have hpd : ¬ PL m A ao ad ad := fun z => z.2.2 rfl
  refine V_aload_n (i := 1) F dL_law_776 rfl rfl ?_
  refine V_aload_n (i := 0) F dL_law_777 rfl rfl ?_
  refine V_iload (i := 5) F dL_law_778 rfl ?_
  refine V_iconst (v := nI 1) F dL_law_780 rfl ?_
  refine V_iaddN F dL_law_781 ?_
  refine V_ialdX F dL_law_782 hscr (by omega) (by omega) ?_
  refine V_aload_n (i := 3) F dL_law_783 rfl rfl ?_
  have hw := (x0_collect (ao := ao) (p0 := (xs (5 * j + 1))) (ck_collect hl0 hC hW.P0 hV) hC.isC (fun y h3 z => by obtain ⟨z1, g2, z2, z3, z4⟩ := z; exact ⟨f0, z4.ao hao hpo rfl⟩)).mono (fun r h2 hq => XN.of (Nx := HNX G (PL m A ao ad) xo g sn hs tx ep fc ot 7 (upd (fun _ => nI 0) 0 (xs (5 * j + 1)))) (c := cdK 7 g (upd (fun _ => nI 0) 0 (xs (5 * j + 1)))) hao hpo (fun y h3 h4 f z hz hx => by obtain ⟨g2, z1, z2⟩ := z; exact ⟨g2, z1, z2.frX hx (OFM.l hz hpo)⟩) (hq.imp (fun ⟨y, h3, f, ⟨z1, g2, z2, z3, z4⟩, r1⟩ => ⟨y, h3, f, ⟨z1, ⟨g2, z2, z3⟩, z4⟩, r1⟩) id)) (fun E q h2 hq => hq)
  refine V_xcSW (st := []) (nn := 3) F dL_law_784 ⟨lw_SW q2777 q2778 q100 q2779, by decide +kernel⟩ hw rfl rfl (Nat.le_of_ble_eq_true rfl) (Nat.le_of_ble_eq_true rfl) (Nat.le_of_ble_eq_true rfl) (by omega) (by omega) ?_ (fun E q h2 hp => hp.elim)
  rintro _ h2 ⟨f, hc5, rfl, hao2, hCn, hCy, hx⟩
  have hM2 := hM.off hx (fun b hb z => z.elim (fun z => z.1 hb) (fun z => hD.2.1 (z ▸ hb)))
  have had2 := hx.ao had (fun z => z.elim (fun z => z.2.2 rfl) (fun z => hD.1 z.symm)) rfl
  obtain ⟨V2, F2, hMC2, -⟩ := id hM2
  refine V_istore (i := 6) F dL_law_787 (Nat.le_of_ble_eq_true rfl) (Nat.le_of_ble_eq_true rfl) ?_
  refine V_aload_n (i := 2) F dL_law_789 rfl rfl ?_
  refine V_aload_n (i := 0) F dL_law_790 rfl rfl ?_
  refine V_iload (i := 5) F dL_law_791 rfl ?_
  refine V_iconst (v := nI 1) F dL_law_793 rfl ?_
  refine V_iaddN F dL_law_794 ?_
  refine V_ialdX F dL_law_795 hscr (by omega) (by omega) ?_
  have hm := cm_chg7 (l := xl X) (f := (upd (fun _ => nI 0) 0 (xs (5 * j + 1)))) hM2 hV (by decide)
  refine V_callV (st := []) (nn := 1) F dL_law_796 lk_X0_204 hm ⟨0, _, _, _, rfl, .inl hMC2.mm⟩ rfl rfl (Nat.le_of_ble_eq_true rfl) (Nat.le_of_ble_eq_true rfl) (Nat.le_of_ble_eq_true rfl) (by omega) (by omega) ?_
  rintro _ h3 ⟨hx3, ⟨c0, rfl, hM3⟩ | ⟨c0, v, g2, rfl, hG, hM3⟩⟩
  · have hC2 := hCn c0
    have hC3 := hC2.frX hx3 (MW.ofm hMC2)
    have hao3 := hx3.ao hao2 hD.2.1 rfl
    have had3 := hx3.ao had2 hD.2.2 rfl
    obtain ⟨V3, F3, hMC3, hMV3⟩ := id hM3
    generalize hcd : cdK 7 g (upd (fun _ => nI 0) 0 (xs (5 * j + 1))) = c at c0 hc5 hM3 hMV3 ⊢
    refine V_istore (i := 7) F dL_law_799 (Nat.le_of_ble_eq_true rfl) (Nat.le_of_ble_eq_true rfl) ?_
    refine V_aload_n (i := 2) F dL_law_801 rfl rfl ?_
    refine V_cV0r F dL_law_802 lk_X0_178 (ct_thrown hMC3.mm (congrArg some hMV3.v7)) ⟨0, _, _, _, rfl, .inl hMC3.mm⟩ (Nat.le_of_ble_eq_true rfl) (Nat.le_of_ble_eq_true rfl) (Nat.le_of_ble_eq_true rfl) (by omega) (by omega) ?_
    refine V_iload (i := 6) F dL_law_805 rfl ?_
    refine V_icmp_eqN (tgt := 812) F dL_law_807 (by decide) (by omega) (by omega) (fun _ => ?_) (fun z => absurd rfl z)
    refine V_iload (i := 6) F dL_law_812 rfl ?_
    refine V_if_neN (tgt := 829) F dL_law_814 (by decide) (by omega) (fun _ => ?_) (fun z => absurd z c0)
    refine V_goto (tgt := 3195) F dL_law_829 (by decide) ?_
    exact VV.weak (L' := LL b xo m ao ad j) (LW.c1 (LW.c1 (LW.c1 (LW.c1 (LW.c1 (LW.c1 (LW.c0 (LW.c0 (LW.c0 LW.nil))))))))) (VV.wide (by omega) (by omega) (next _ _ _ _ _ _ _ _ ⟨hC3, ⟨_, _, _, _, hM3⟩, hV.up (by omega), ⟨_, hao3⟩, ⟨_, had3⟩, by omega⟩))
  · obtain ⟨y, hy, g3, hG3, hC2⟩ := hCy c0
    have hC3 := hC2.frX hx3 (MW.ofm hMC2)
    have hao3 := hx3.ao hao2 hD.2.1 rfl
    have had3 := hx3.ao had2 hD.2.2 rfl
    obtain ⟨V3, F3, hMC3, hMV3⟩ := id hM3
    obtain ⟨e1, e2⟩ := chg_fun hV.1.1 (by decide) hG hG3
    subst e1 e2
    have hI2 := invp n 7 g g2 (upd (fun _ => nI 0) 0 (xs (5 * j + 1))) v (by omega) hV.1.1 (by decide) c0 hG
    have hz2 := chg_Z3 hV.1.1 hV.1.2 (by decide) c0 hG
    rw [c0]
    refine V_istore (i := 7) F dL_law_799 (Nat.le_of_ble_eq_true rfl) (Nat.le_of_ble_eq_true rfl) ?_
    refine V_aload_n (i := 2) F dL_law_801 rfl rfl ?_
    refine V_cV0r F dL_law_802 lk_X0_178 (ct_thrown hMC3.mm (congrArg some hMV3.v7)) ⟨0, _, _, _, rfl, .inl hMC3.mm⟩ (Nat.le_of_ble_eq_true rfl) (Nat.le_of_ble_eq_true rfl) (Nat.le_of_ble_eq_true rfl) (by omega) (by omega) ?_
    refine V_iload (i := 6) F dL_law_805 rfl ?_
    refine V_icmp_eqN (tgt := 812) F dL_law_807 (by decide) (by decide) (by decide) (fun _ => ?_) (fun z => absurd rfl z)
    refine V_iload (i := 6) F dL_law_812 rfl ?_
    refine V_if_neN (tgt := 829) F dL_law_814 (by decide) (by decide) (fun z => absurd z (Nat.lt_irrefl 0)) (fun _ => ?_)
    refine V_aload_n (i := 3) F dL_law_817 rfl rfl ?_
    refine V_iconst (v := nI 0) F dL_law_818 rfl ?_
    refine V_laldN F 1 dL_law_819 rfl (.inl hao3) (by decide) (by decide) ?_
    refine V_iload (i := 7) F dL_law_820 rfl ?_
    refine V_i2l F dL_law_822 ?_
    refine V_lcmp F dL_law_823 ?_
    refine V_if_eq (tgt := 829) F dL_law_824 (by decide) (fun _ => ?_) (fun z => absurd (lg_self (hy)) z)
    refine V_goto (tgt := 3195) F dL_law_829 (by decide) ?_
    exact VV.weak (L' := LL b xo m ao ad j) (LW.c1 (LW.c1 (LW.c1 (LW.c1 (LW.c1 (LW.c1 (LW.c0 (LW.c0 (LW.c0 LW.nil))))))))) (VV.wide (by omega) (by omega) (next _ _ _ _ _ _ _ _ ⟨hC3, ⟨_, _, _, _, hM3⟩, hV.push (by omega) (hI2.up (by omega)) hz2, ⟨_, hao3⟩, ⟨_, had3⟩, by omega⟩))
theorem law_8 {G : GG} {X : CX} {Q : State → Prop} {h : AH} {b L xo m ao ad n j kc nn : Nat} {xs : Nat → Int32} {A : Nat → Nat} {g : Nat → Nat} {sn : Option (Nat → Nat)} {hs : List (Nat → Nat)} {tx : List Nat} {ep fc : Nat} {ot : List Nat} {rt : Option FieldType} (F : Fx G X cL_law 9 RX0 rt 1000 1200144 5494714) (hl0 : (xl X).stackTraces = false) (hscr : SCR G X b L xs) (hL : L ≤ 120) (hj : 5 * j + 5 ≤ L) (hn : n ≤ 600) (hD : DIS m A ao ad) (hW : LWD G h xo m A ao ad n j g sn hs tx ep fc ot) (hk : kc + 50000 ≤ 1200144) (hs0 : nn + 228000 ≤ 5494714)
    (next : ∀ h2 g2 sn2 hs2 tx2 ep2 fc2 ot2, LWD G h2 xo m A ao ad (n + 21) (j + 1) g2 sn2 hs2 tx2 ep2 fc2 ot2 → VV G X 9 Q h2 (kc + 50000) (nn + 228000) (LL b xo m ao ad j) [] 3195) : VV G X 9 Q h kc nn (LL b xo m ao ad j) [] 832 := by
  obtain ⟨hC, ⟨tm, cd, gb, τ, hM⟩, hV, ⟨f0, hao⟩, ⟨f1, had⟩, htx⟩ := id hW
  have hpo : ¬ PL m A ao ad ao := fun z => z.2.1 rfl
  have hpd : ¬ PL m A ao ad ad := fun z => z.2.2 rfl
  refine V_aload_n (i := 1) F dL_law_832 rfl rfl ?_
  refine V_aload_n (i := 0) F dL_law_833 rfl rfl ?_
  refine V_iload (i := 5) F dL_law_834 rfl ?_
  refine V_iconst (v := nI 1) F dL_law_836 rfl ?_
  refine V_iaddN F dL_law_837 ?_
  refine V_ialdX F dL_law_838 hscr (by omega) (by omega) ?_
  refine V_aload_n (i := 0) F dL_law_839 rfl rfl ?_
  refine V_iload (i := 5) F dL_law_840 rfl ?_
  refine V_iconst (v := nI 2) F dL_law_842 rfl ?_
  refine V_iaddN F dL_law_843 ?_
  refine V_ialdX F dL_law_844 hscr (by omega) (by omega) ?_
  refine V_aload_n (i := 0) F dL_law_845 rfl rfl ?_
  refine V_iload (i := 5) F dL_law_846 rfl ?_
  refine V_iconst (v := nI 3) F dL_law_848 rfl ?_
  refine V_iaddN F dL_law_849 ?_
  refine V_ialdX F dL_law_850 hscr (by omega) (by omega) ?_
  refine V_aload_n (i := 3) F dL_law_851 rfl rfl ?_
  have hw := (x0_book (ao := ao) (p0 := (xs (5 * j + 1))) (p1 := (xs (5 * j + 2))) (p2 := (xs (5 * j + 3))) (ck_book hl0 hC hW.P0 hV) hC.isC (fun y h3 z => by obtain ⟨z1, g2, z2, z3, z4⟩ := z; exact ⟨f0, z4.ao hao hpo rfl⟩)).mono (fun r h2 hq => XN.of (Nx := HNX G (PL m A ao ad) xo g sn hs tx ep fc ot 8 (upd (upd (upd (fun _ => nI 0) 0 (xs (5 * j + 1))) 1 (xs (5 * j + 2))) 2 (xs (5 * j + 3)))) (c := cdK 8 g (upd (upd (upd (fun _ => nI 0) 0 (xs (5 * j + 1))) 1 (xs (5 * j + 2))) 2 (xs (5 * j + 3)))) hao hpo (fun y h3 h4 f z hz hx => by obtain ⟨g2, z1, z2⟩ := z; exact ⟨g2, z1, z2.frX hx (OFM.l hz hpo)⟩) (hq.imp (fun ⟨y, h3, f, ⟨z1, g2, z2, z3, z4⟩, r1⟩ => ⟨y, h3, f, ⟨z1, ⟨g2, z2, z3⟩, z4⟩, r1⟩) id)) (fun E q h2 hq => hq)
  refine V_xcSW (st := []) (nn := 5) F dL_law_852 ⟨lw_SW q2785 q2786 q100 q2787, by decide +kernel⟩ hw rfl rfl (Nat.le_of_ble_eq_true rfl) (Nat.le_of_ble_eq_true rfl) (Nat.le_of_ble_eq_true rfl) (by omega) (by omega) ?_ (fun E q h2 hp => hp.elim)
  rintro _ h2 ⟨f, hc5, rfl, hao2, hCn, hCy, hx⟩
  have hM2 := hM.off hx (fun b hb z => z.elim (fun z => z.1 hb) (fun z => hD.2.1 (z ▸ hb)))
  have had2 := hx.ao had (fun z => z.elim (fun z => z.2.2 rfl) (fun z => hD.1 z.symm)) rfl
  obtain ⟨V2, F2, hMC2, -⟩ := id hM2
  refine V_istore (i := 6) F dL_law_855 (Nat.le_of_ble_eq_true rfl) (Nat.le_of_ble_eq_true rfl) ?_
  refine V_aload_n (i := 2) F dL_law_857 rfl rfl ?_
  refine V_aload_n (i := 0) F dL_law_858 rfl rfl ?_
  refine V_iload (i := 5) F dL_law_859 rfl ?_
  refine V_iconst (v := nI 1) F dL_law_861 rfl ?_
  refine V_iaddN F dL_law_862 ?_
  refine V_ialdX F dL_law_863 hscr (by omega) (by omega) ?_
  refine V_aload_n (i := 0) F dL_law_864 rfl rfl ?_
  refine V_iload (i := 5) F dL_law_865 rfl ?_
  refine V_iconst (v := nI 2) F dL_law_867 rfl ?_
  refine V_iaddN F dL_law_868 ?_
  refine V_ialdX F dL_law_869 hscr (by omega) (by omega) ?_
  refine V_aload_n (i := 0) F dL_law_870 rfl rfl ?_
  refine V_iload (i := 5) F dL_law_871 rfl ?_
  refine V_iconst (v := nI 3) F dL_law_873 rfl ?_
  refine V_iaddN F dL_law_874 ?_
  refine V_ialdX F dL_law_875 hscr (by omega) (by omega) ?_
  have hm := cm_chg8 (l := xl X) (f := (upd (upd (upd (fun _ => nI 0) 0 (xs (5 * j + 1))) 1 (xs (5 * j + 2))) 2 (xs (5 * j + 3)))) hM2 hV (by decide)
  refine V_callV (st := []) (nn := 3) F dL_law_876 lk_X0_207 hm ⟨0, _, _, _, rfl, .inl hMC2.mm⟩ rfl rfl (Nat.le_of_ble_eq_true rfl) (Nat.le_of_ble_eq_true rfl) (Nat.le_of_ble_eq_true rfl) (by omega) (by omega) ?_
  rintro _ h3 ⟨hx3, ⟨c0, rfl, hM3⟩ | ⟨c0, v, g2, rfl, hG, hM3⟩⟩
  · have hC2 := hCn c0
    have hC3 := hC2.frX hx3 (MW.ofm hMC2)
    have hao3 := hx3.ao hao2 hD.2.1 rfl
    have had3 := hx3.ao had2 hD.2.2 rfl
    obtain ⟨V3, F3, hMC3, hMV3⟩ := id hM3
    generalize hcd : cdK 8 g (upd (upd (upd (fun _ => nI 0) 0 (xs (5 * j + 1))) 1 (xs (5 * j + 2))) 2 (xs (5 * j + 3))) = c at c0 hc5 hM3 hMV3 ⊢
    refine V_istore (i := 7) F dL_law_879 (Nat.le_of_ble_eq_true rfl) (Nat.le_of_ble_eq_true rfl) ?_
    refine V_aload_n (i := 2) F dL_law_881 rfl rfl ?_
    refine V_cV0r F dL_law_882 lk_X0_178 (ct_thrown hMC3.mm (congrArg some hMV3.v7)) ⟨0, _, _, _, rfl, .inl hMC3.mm⟩ (Nat.le_of_ble_eq_true rfl) (Nat.le_of_ble_eq_true rfl) (Nat.le_of_ble_eq_true rfl) (by omega) (by omega) ?_
    refine V_iload (i := 6) F dL_law_885 rfl ?_
    refine V_icmp_eqN (tgt := 892) F dL_law_887 (by decide) (by omega) (by omega) (fun _ => ?_) (fun z => absurd rfl z)
    refine V_iload (i := 6) F dL_law_892 rfl ?_
    refine V_if_neN (tgt := 909) F dL_law_894 (by decide) (by omega) (fun _ => ?_) (fun z => absurd z c0)
    refine V_goto (tgt := 3195) F dL_law_909 (by decide) ?_
    exact VV.weak (L' := LL b xo m ao ad j) (LW.c1 (LW.c1 (LW.c1 (LW.c1 (LW.c1 (LW.c1 (LW.c0 (LW.c0 (LW.c0 LW.nil))))))))) (VV.wide (by omega) (by omega) (next _ _ _ _ _ _ _ _ ⟨hC3, ⟨_, _, _, _, hM3⟩, hV.up (by omega), ⟨_, hao3⟩, ⟨_, had3⟩, by omega⟩))
  · obtain ⟨y, hy, g3, hG3, hC2⟩ := hCy c0
    have hC3 := hC2.frX hx3 (MW.ofm hMC2)
    have hao3 := hx3.ao hao2 hD.2.1 rfl
    have had3 := hx3.ao had2 hD.2.2 rfl
    obtain ⟨V3, F3, hMC3, hMV3⟩ := id hM3
    obtain ⟨e1, e2⟩ := chg_fun hV.1.1 (by decide) hG hG3
    subst e1 e2
    have hI2 := invp n 8 g g2 (upd (upd (upd (fun _ => nI 0) 0 (xs (5 * j + 1))) 1 (xs (5 * j + 2))) 2 (xs (5 * j + 3))) v (by omega) hV.1.1 (by decide) c0 hG
    have hz2 := chg_Z3 hV.1.1 hV.1.2 (by decide) c0 hG
    rw [c0]
    refine V_istore (i := 7) F dL_law_879 (Nat.le_of_ble_eq_true rfl) (Nat.le_of_ble_eq_true rfl) ?_
    refine V_aload_n (i := 2) F dL_law_881 rfl rfl ?_
    refine V_cV0r F dL_law_882 lk_X0_178 (ct_thrown hMC3.mm (congrArg some hMV3.v7)) ⟨0, _, _, _, rfl, .inl hMC3.mm⟩ (Nat.le_of_ble_eq_true rfl) (Nat.le_of_ble_eq_true rfl) (Nat.le_of_ble_eq_true rfl) (by omega) (by omega) ?_
    refine V_iload (i := 6) F dL_law_885 rfl ?_
    refine V_icmp_eqN (tgt := 892) F dL_law_887 (by decide) (by decide) (by decide) (fun _ => ?_) (fun z => absurd rfl z)
    refine V_iload (i := 6) F dL_law_892 rfl ?_
    refine V_if_neN (tgt := 909) F dL_law_894 (by decide) (by decide) (fun z => absurd z (Nat.lt_irrefl 0)) (fun _ => ?_)
    refine V_aload_n (i := 3) F dL_law_897 rfl rfl ?_
    refine V_iconst (v := nI 0) F dL_law_898 rfl ?_
    refine V_laldN F 1 dL_law_899 rfl (.inl hao3) (by decide) (by decide) ?_
    refine V_iload (i := 7) F dL_law_900 rfl ?_
    refine V_i2l F dL_law_902 ?_
    refine V_lcmp F dL_law_903 ?_
    refine V_if_eq (tgt := 909) F dL_law_904 (by decide) (fun _ => ?_) (fun z => absurd (lg_self (hy)) z)
    refine V_goto (tgt := 3195) F dL_law_909 (by decide) ?_
    exact VV.weak (L' := LL b xo m ao ad j) (LW.c1 (LW.c1 (LW.c1 (LW.c1 (LW.c1 (LW.c1 (LW.c0 (LW.c0 (LW.c0 LW.nil))))))))) (VV.wide (by omega) (by omega) (next _ _ _ _ _ _ _ _ ⟨hC3, ⟨_, _, _, _, hM3⟩, hV.push (by omega) (hI2.up (by omega)) hz2, ⟨_, hao3⟩, ⟨_, had3⟩, by omega⟩))
theorem law_9 {G : GG} {X : CX} {Q : State → Prop} {h : AH} {b L xo m ao ad n j kc nn : Nat} {xs : Nat → Int32} {A : Nat → Nat} {g : Nat → Nat} {sn : Option (Nat → Nat)} {hs : List (Nat → Nat)} {tx : List Nat} {ep fc : Nat} {ot : List Nat} {rt : Option FieldType} (F : Fx G X cL_law 9 RX0 rt 1000 1200144 5494714) (hl0 : (xl X).stackTraces = false) (hscr : SCR G X b L xs) (hL : L ≤ 120) (hj : 5 * j + 5 ≤ L) (hn : n ≤ 600) (hD : DIS m A ao ad) (hW : LWD G h xo m A ao ad n j g sn hs tx ep fc ot) (hk : kc + 50000 ≤ 1200144) (hs0 : nn + 228000 ≤ 5494714)
    (next : ∀ h2 g2 sn2 hs2 tx2 ep2 fc2 ot2, LWD G h2 xo m A ao ad (n + 21) (j + 1) g2 sn2 hs2 tx2 ep2 fc2 ot2 → VV G X 9 Q h2 (kc + 50000) (nn + 228000) (LL b xo m ao ad j) [] 3195) : VV G X 9 Q h kc nn (LL b xo m ao ad j) [] 912 := by
  obtain ⟨hC, ⟨tm, cd, gb, τ, hM⟩, hV, ⟨f0, hao⟩, ⟨f1, had⟩, htx⟩ := id hW
  have hpo : ¬ PL m A ao ad ao := fun z => z.2.1 rfl
  have hpd : ¬ PL m A ao ad ad := fun z => z.2.2 rfl
  refine V_aload_n (i := 1) F dL_law_912 rfl rfl ?_
  refine V_aload_n (i := 0) F dL_law_913 rfl rfl ?_
  refine V_iload (i := 5) F dL_law_914 rfl ?_
  refine V_iconst (v := nI 1) F dL_law_916 rfl ?_
  refine V_iaddN F dL_law_917 ?_
  refine V_ialdX F dL_law_918 hscr (by omega) (by omega) ?_
  refine V_aload_n (i := 3) F dL_law_919 rfl rfl ?_
  have hw := (x0_cancelBooking (ao := ao) (p0 := (xs (5 * j + 1))) (ck_cancelBooking hl0 hC hW.P0 hV) hC.isC (fun y h3 z => by obtain ⟨z1, g2, z2, z3, z4⟩ := z; exact ⟨f0, z4.ao hao hpo rfl⟩)).mono (fun r h2 hq => XN.of (Nx := HNX G (PL m A ao ad) xo g sn hs tx ep fc ot 9 (upd (fun _ => nI 0) 0 (xs (5 * j + 1)))) (c := cdK 9 g (upd (fun _ => nI 0) 0 (xs (5 * j + 1)))) hao hpo (fun y h3 h4 f z hz hx => by obtain ⟨g2, z1, z2⟩ := z; exact ⟨g2, z1, z2.frX hx (OFM.l hz hpo)⟩) (hq.imp (fun ⟨y, h3, f, ⟨z1, g2, z2, z3, z4⟩, r1⟩ => ⟨y, h3, f, ⟨z1, ⟨g2, z2, z3⟩, z4⟩, r1⟩) id)) (fun E q h2 hq => hq)
  refine V_xcSW (st := []) (nn := 3) F dL_law_920 ⟨lw_SW q2793 q2794 q100 q2795, by decide +kernel⟩ hw rfl rfl (Nat.le_of_ble_eq_true rfl) (Nat.le_of_ble_eq_true rfl) (Nat.le_of_ble_eq_true rfl) (by omega) (by omega) ?_ (fun E q h2 hp => hp.elim)
  rintro _ h2 ⟨f, hc5, rfl, hao2, hCn, hCy, hx⟩
  have hM2 := hM.off hx (fun b hb z => z.elim (fun z => z.1 hb) (fun z => hD.2.1 (z ▸ hb)))
  have had2 := hx.ao had (fun z => z.elim (fun z => z.2.2 rfl) (fun z => hD.1 z.symm)) rfl
  obtain ⟨V2, F2, hMC2, -⟩ := id hM2
  refine V_istore (i := 6) F dL_law_923 (Nat.le_of_ble_eq_true rfl) (Nat.le_of_ble_eq_true rfl) ?_
  refine V_aload_n (i := 2) F dL_law_925 rfl rfl ?_
  refine V_aload_n (i := 0) F dL_law_926 rfl rfl ?_
  refine V_iload (i := 5) F dL_law_927 rfl ?_
  refine V_iconst (v := nI 1) F dL_law_929 rfl ?_
  refine V_iaddN F dL_law_930 ?_
  refine V_ialdX F dL_law_931 hscr (by omega) (by omega) ?_
  have hm := cm_chg9 (l := xl X) (f := (upd (fun _ => nI 0) 0 (xs (5 * j + 1)))) hM2 hV (by decide)
  refine V_callV (st := []) (nn := 1) F dL_law_932 lk_X0_210 hm ⟨0, _, _, _, rfl, .inl hMC2.mm⟩ rfl rfl (Nat.le_of_ble_eq_true rfl) (Nat.le_of_ble_eq_true rfl) (Nat.le_of_ble_eq_true rfl) (by omega) (by omega) ?_
  rintro _ h3 ⟨hx3, ⟨c0, rfl, hM3⟩ | ⟨c0, v, g2, rfl, hG, hM3⟩⟩
  · have hC2 := hCn c0
    have hC3 := hC2.frX hx3 (MW.ofm hMC2)
    have hao3 := hx3.ao hao2 hD.2.1 rfl
    have had3 := hx3.ao had2 hD.2.2 rfl
    obtain ⟨V3, F3, hMC3, hMV3⟩ := id hM3
    generalize hcd : cdK 9 g (upd (fun _ => nI 0) 0 (xs (5 * j + 1))) = c at c0 hc5 hM3 hMV3 ⊢
    refine V_istore (i := 7) F dL_law_935 (Nat.le_of_ble_eq_true rfl) (Nat.le_of_ble_eq_true rfl) ?_
    refine V_aload_n (i := 2) F dL_law_937 rfl rfl ?_
    refine V_cV0r F dL_law_938 lk_X0_178 (ct_thrown hMC3.mm (congrArg some hMV3.v7)) ⟨0, _, _, _, rfl, .inl hMC3.mm⟩ (Nat.le_of_ble_eq_true rfl) (Nat.le_of_ble_eq_true rfl) (Nat.le_of_ble_eq_true rfl) (by omega) (by omega) ?_
    refine V_iload (i := 6) F dL_law_941 rfl ?_
    refine V_icmp_eqN (tgt := 948) F dL_law_943 (by decide) (by omega) (by omega) (fun _ => ?_) (fun z => absurd rfl z)
    refine V_iload (i := 6) F dL_law_948 rfl ?_
    refine V_if_neN (tgt := 965) F dL_law_950 (by decide) (by omega) (fun _ => ?_) (fun z => absurd z c0)
    refine V_goto (tgt := 3195) F dL_law_965 (by decide) ?_
    exact VV.weak (L' := LL b xo m ao ad j) (LW.c1 (LW.c1 (LW.c1 (LW.c1 (LW.c1 (LW.c1 (LW.c0 (LW.c0 (LW.c0 LW.nil))))))))) (VV.wide (by omega) (by omega) (next _ _ _ _ _ _ _ _ ⟨hC3, ⟨_, _, _, _, hM3⟩, hV.up (by omega), ⟨_, hao3⟩, ⟨_, had3⟩, by omega⟩))
  · obtain ⟨y, hy, g3, hG3, hC2⟩ := hCy c0
    have hC3 := hC2.frX hx3 (MW.ofm hMC2)
    have hao3 := hx3.ao hao2 hD.2.1 rfl
    have had3 := hx3.ao had2 hD.2.2 rfl
    obtain ⟨V3, F3, hMC3, hMV3⟩ := id hM3
    obtain ⟨e1, e2⟩ := chg_fun hV.1.1 (by decide) hG hG3
    subst e1 e2
    have hI2 := invp n 9 g g2 (upd (fun _ => nI 0) 0 (xs (5 * j + 1))) v (by omega) hV.1.1 (by decide) c0 hG
    have hz2 := chg_Z3 hV.1.1 hV.1.2 (by decide) c0 hG
    rw [c0]
    refine V_istore (i := 7) F dL_law_935 (Nat.le_of_ble_eq_true rfl) (Nat.le_of_ble_eq_true rfl) ?_
    refine V_aload_n (i := 2) F dL_law_937 rfl rfl ?_
    refine V_cV0r F dL_law_938 lk_X0_178 (ct_thrown hMC3.mm (congrArg some hMV3.v7)) ⟨0, _, _, _, rfl, .inl hMC3.mm⟩ (Nat.le_of_ble_eq_true rfl) (Nat.le_of_ble_eq_true rfl) (Nat.le_of_ble_eq_true rfl) (by omega) (by omega) ?_
    refine V_iload (i := 6) F dL_law_941 rfl ?_
    refine V_icmp_eqN (tgt := 948) F dL_law_943 (by decide) (by decide) (by decide) (fun _ => ?_) (fun z => absurd rfl z)
    refine V_iload (i := 6) F dL_law_948 rfl ?_
    refine V_if_neN (tgt := 965) F dL_law_950 (by decide) (by decide) (fun z => absurd z (Nat.lt_irrefl 0)) (fun _ => ?_)
    refine V_aload_n (i := 3) F dL_law_953 rfl rfl ?_
    refine V_iconst (v := nI 0) F dL_law_954 rfl ?_
    refine V_laldN F 1 dL_law_955 rfl (.inl hao3) (by decide) (by decide) ?_
    refine V_iload (i := 7) F dL_law_956 rfl ?_
    refine V_i2l F dL_law_958 ?_
    refine V_lcmp F dL_law_959 ?_
    refine V_if_eq (tgt := 965) F dL_law_960 (by decide) (fun _ => ?_) (fun z => absurd (lg_self (hy)) z)
    refine V_goto (tgt := 3195) F dL_law_965 (by decide) ?_
    exact VV.weak (L' := LL b xo m ao ad j) (LW.c1 (LW.c1 (LW.c1 (LW.c1 (LW.c1 (LW.c1 (LW.c0 (LW.c0 (LW.c0 LW.nil))))))))) (VV.wide (by omega) (by omega) (next _ _ _ _ _ _ _ _ ⟨hC3, ⟨_, _, _, _, hM3⟩, hV.push (by omega) (hI2.up (by omega)) hz2, ⟨_, hao3⟩, ⟨_, had3⟩, by omega⟩))
