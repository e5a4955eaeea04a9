set_option maxRecDepth 100000
theorem law_41 {G : GG} {X : CX} {Q : State → Prop} {h : AH} {b L xo m ao ad n j kc nn : Nat} {xs : Nat → Int32} {A : Nat → Nat} {g : Nat → Nat} {sn : Option (Nat → Nat)} {hs : List (Nat → Nat)} {tx : List Nat} {ep fc : Nat} {ot : List Nat} {rt : Option FieldType} (F : Fx G X cL_law 9 RX0 rt 1000 1200144 5494714) (hl0 : (xl X).stackTraces = false) (hscr : SCR G X b L xs) (hL : L ≤ 120) (hj : 5 * j + 5 ≤ L) (hn : n ≤ 600) (hD : DIS m A ao ad) (hW : LWD G h xo m A ao ad n j g sn hs tx ep fc ot) (hk : kc + 50000 ≤ 1200144) (hs0 : nn + 228000 ≤ 5494714)
    (next : ∀ h2 g2 sn2 hs2 tx2 ep2 fc2 ot2, LWD G h2 xo m A ao ad (n + 21) (j + 1) g2 sn2 hs2 tx2 ep2 fc2 ot2 → VV G X 9 Q h2 (kc + 50000) (nn + 228000) (LL b xo m ao ad j) [] 3195) : VV G X 9 Q h kc nn (LL b xo m ao ad j) [] 2592 := by
  obtain ⟨hC, ⟨tm, cd, gb, τ, hM⟩, hV, ⟨f0, hao⟩, ⟨f1, had⟩, htx⟩ := id hW
  have hpo : ¬ PL m A ao ad ao := fun z => z.2.1 rfl
  have hpd : ¬ PL m A ao ad ad := fun z => z.2.2 rfl
  refine V_aload_n (i := 1) F dL_law_2592 rfl rfl ?_
  refine V_aload (i := 4) F dL_law_2593 rfl ?_
  have hw := (x0_meanLoad (ao := ad) (ck_meanLoad hl0 hC hW.P0 hV) hC.isC (fun y h3 z => ⟨f1, z.2.2.2.ao had hpd rfl⟩)).mono (fun r h2 hq => XD.of (w := fun y => y) had hpd hq) (fun E q h2 hq => hq)
  refine V_xcSW (st := []) (nn := 2) F dL_law_2595 ⟨lw_SW q3210 q3211 q100 q3212, by decide +kernel⟩ hw rfl rfl (Nat.le_of_ble_eq_true rfl) (Nat.le_of_ble_eq_true rfl) (Nat.le_of_ble_eq_true rfl) (by omega) (by omega) ?_ (fun E q h2 hp => hp.elim)
  rintro _ h2 ⟨f, hc5, rfl, hC2, had2, hf, hx⟩
  have hM2 := hM.off hx (fun b hb z => z.elim (fun z => z.1 hb) (fun z => hD.2.2 (z ▸ hb)))
  have hao2 := hx.ao hao (fun z => z.elim (fun z => z.2.1 rfl) (fun z => hD.1 z)) rfl
  obtain ⟨V2, F2, hMC2, -⟩ := id hM2
  refine V_istore (i := 6) F dL_law_2598 (Nat.le_of_ble_eq_true rfl) (Nat.le_of_ble_eq_true rfl) ?_
  refine V_aload_n (i := 2) F dL_law_2600 rfl rfl ?_
  have hm := cm_meanLoad (l := xl X) hM2 hV (by rw [← sm_join]; exact sm_210 hV.1.1)
  have heq := fun z => mean_eq (g := g) hV.1.1 z
  generalize hvv : (FP.ddiv (FP.i2d (nI (smG g (g 1)))) (FP.i2d (nI (lgG g (g 1))))) = v at hf hm heq
  have heq2 : (if lgG g (g 1) = 0 then 1 else 0) = 0 → _ := fun z => heq (fun q => by rw [if_pos q] at z; cases z)
  generalize hcd : (if lgG g (g 1) = 0 then 1 else 0) = c at hc5 hf hm heq2 ⊢
  refine V_callV (st := []) (nn := 0) F dL_law_2601 lk_X0_314 hm ⟨0, _, _, _, rfl, .inl hMC2.mm⟩ rfl rfl (Nat.le_of_ble_eq_true rfl) (Nat.le_of_ble_eq_true rfl) (Nat.le_of_ble_eq_true rfl) (by omega) (by omega) ?_
  rintro _ h3 ⟨rfl, hM3, hx3⟩
  have hC3 := hC2.frX hx3 (MW.ofm hMC2)
  have hao3 := hx3.ao hao2 hD.2.1 rfl
  have had3 := hx3.ao had2 hD.2.2 rfl
  obtain ⟨V3, F3, hMC3, hMV3⟩ := id hM3
  by_cases c0 : c = 0
  · subst c0
    rw [if_pos rfl]
    refine D_dstore F dL_law_2604 (by decide) (fun v z => by cases z) (fun v z => by cases z) ?_
    refine D_aload_n (i := 2) F dL_law_2606 rfl rfl ?_
    refine D_cV0r F dL_law_2607 lk_X0_178 (ct_thrown hMC3.mm (congrArg some hMV3.v7)) ⟨0, _, _, _, rfl, .inl hMC3.mm⟩ (Nat.le_of_ble_eq_true rfl) (Nat.le_of_ble_eq_true rfl) (Nat.le_of_ble_eq_true rfl) (by omega) (by omega) ?_
    refine D_iload (i := 6) F dL_law_2610 rfl ?_
    refine D_icmp_eq (tgt := 2617) F dL_law_2612 (by decide) (fun _ => ?_) (fun z => absurd rfl z)
    refine D_iload (i := 6) F dL_law_2617 rfl ?_
    refine D_if_ne (tgt := 2654) F dL_law_2619 (by decide) (fun z => absurd nI_0 z) (fun _ => ?_)
    refine D_aload (i := 4) F dL_law_2622 rfl ?_
    refine D_iconst (v := nI 0) F dL_law_2624 rfl ?_
    refine D_dald F 2 dL_law_2625 rfl (.inl had3) (vp_in_nI (by decide) (by decide)) ?_
    refine D_dload F dL_law_2626 ?_
    refine V_dcmp F dL_law_2628 ?_
    refine V_if_eq (tgt := 2654) F dL_law_2629 (by decide) (fun _ => ?_) (fun z => absurd (by show Op.cmpValue (FP.dcmp (f 0) _) .l = 0; rw [hf rfl]; exact heq2 rfl) z)
    refine V_goto (tgt := 3195) F dL_law_2654 (by decide) ?_
    exact VV.weak (L' := LL b xo m ao ad j) (LW.c1 (LW.c1 (LW.c1 (LW.c1 (LW.c1 (LW.c1 (LW.c0 (LW.c0 (LW.c0 LW.nil))))))))) (VV.wide (by omega) (by omega) (next _ _ _ _ _ _ _ _ ⟨hC3, ⟨_, _, _, _, hM3⟩, hV.up (by omega), ⟨_, hao3⟩, ⟨_, had3⟩, by omega⟩))
  · rw [if_neg c0]
    refine D_dstore F dL_law_2604 (by decide) (fun v z => by cases z) (fun v z => by cases z) ?_
    refine D_aload_n (i := 2) F dL_law_2606 rfl rfl ?_
    refine D_cV0r F dL_law_2607 lk_X0_178 (ct_thrown hMC3.mm (congrArg some hMV3.v7)) ⟨0, _, _, _, rfl, .inl hMC3.mm⟩ (Nat.le_of_ble_eq_true rfl) (Nat.le_of_ble_eq_true rfl) (Nat.le_of_ble_eq_true rfl) (by omega) (by omega) ?_
    refine D_iload (i := 6) F dL_law_2610 rfl ?_
    refine D_icmp_eq (tgt := 2617) F dL_law_2612 (by decide) (fun _ => ?_) (fun z => absurd rfl z)
    refine D_iload (i := 6) F dL_law_2617 rfl ?_
    refine D_if_ne (tgt := 2654) F dL_law_2619 (by decide) (fun _ => ?_) (fun z => absurd ((nI_eq (by omega) (by decide)).mp (z.trans nI_0.symm)) c0)
    refine D_off ?_
    refine V_goto (tgt := 3195) F dL_law_2654 (by decide) ?_
    exact VV.weak (L' := LL b xo m ao ad j) (LW.c1 (LW.c1 (LW.c1 (LW.c1 (LW.c1 (LW.c1 (LW.c0 (LW.c0 (LW.c0 LW.nil))))))))) (VV.wide (by omega) (by omega) (next _ _ _ _ _ _ _ _ ⟨hC3, ⟨_, _, _, _, hM3⟩, hV.up (by omega), ⟨_, hao3⟩, ⟨_, had3⟩, by omega⟩))
theorem law_42 {G : GG} {X : CX} {Q : State → Prop} {h : AH} {b L xo m ao ad n j kc nn : Nat} {xs : Nat → Int32} {A : Nat → Nat} {g : Nat → Nat} {sn : Option (Nat → Nat)} {hs : List (Nat → Nat)} {tx : List Nat} {ep fc : Nat} {ot : List Nat} {rt : Option FieldType} (F : Fx G X cL_law 9 RX0 rt 1000 1200144 5494714) (hl0 : (xl X).stackTraces = false) (hscr : SCR G X b L xs) (hL : L ≤ 120) (hj : 5 * j + 5 ≤ L) (hn : n ≤ 600) (hD : DIS m A ao ad) (hW : LWD G h xo m A ao ad n j g sn hs tx ep fc ot) (hk : kc + 50000 ≤ 1200144) (hs0 : nn + 228000 ≤ 5494714)
    (next : ∀ h2 g2 sn2 hs2 tx2 ep2 fc2 ot2, LWD G h2 xo m A ao ad (n + 21) (j + 1) g2 sn2 hs2 tx2 ep2 fc2 ot2 → VV G X 9 Q h2 (kc + 50000) (nn + 228000) (LL b xo m ao ad j) [] 3195) : VV G X 9 Q h kc nn (LL b xo m ao ad j) [] 2657 := by
  obtain ⟨hC, ⟨tm, cd, gb, τ, hM⟩, hV, ⟨f0, hao⟩, ⟨f1, had⟩, htx⟩ := id hW
  have hpo : ¬ PL m A ao ad ao := fun z => z.2.1 rfl
  have hpd : ¬ PL m A ao ad ad := fun z => z.2.2 rfl
  refine V_aload_n (i := 1) F dL_law_2657 rfl rfl ?_
  refine V_aload (i := 4) F dL_law_2658 rfl ?_
  have hw := (x0_fullShare (ao := ad) (ck_fullShare hl0 hC hW.P0 hV) hC.isC (fun y h3 z => ⟨f1, z.2.2.2.ao had hpd rfl⟩) (fun y h3 z => by rw [z.2.1]; exact (full_eq hV.1.1 (fun q => by rw [if_pos q] at z; cases z.1)).2)).mono (fun r h2 hq => XD.of (w := FP.f2d) had hpd hq) (fun E q h2 hq => hq)
  refine V_xcSW (st := []) (nn := 2) F dL_law_2660 ⟨lw_SW q3250 q3251 q100 q3252, by decide +kernel⟩ hw rfl rfl (Nat.le_of_ble_eq_true rfl) (Nat.le_of_ble_eq_true rfl) (Nat.le_of_ble_eq_true rfl) (by omega) (by omega) ?_ (fun E q h2 hp => hp.elim)
  rintro _ h2 ⟨f, hc5, rfl, hC2, had2, hf, hx⟩
  have hM2 := hM.off hx (fun b hb z => z.elim (fun z => z.1 hb) (fun z => hD.2.2 (z ▸ hb)))
  have hao2 := hx.ao hao (fun z => z.elim (fun z => z.2.1 rfl) (fun z => hD.1 z)) rfl
  obtain ⟨V2, F2, hMC2, -⟩ := id hM2
  refine V_istore (i := 6) F dL_law_2663 (Nat.le_of_ble_eq_true rfl) (Nat.le_of_ble_eq_true rfl) ?_
  refine V_aload_n (i := 2) F dL_law_2665 rfl rfl ?_
  have hm := cm_fullShare (l := xl X) hM2 hV
  have heq := fun z => full_eq (g := g) hV.1.1 z
  generalize hvv : (FP.fdiv (FP.i2f (nI (fuG g (g 1)))) (FP.i2f (nI (lgG g (g 1))))) = v at hf hm heq
  have heq2 : (if lgG g (g 1) = 0 then 1 else 0) = 0 → _ := fun z => heq (fun q => by rw [if_pos q] at z; cases z)
  generalize hcd : (if lgG g (g 1) = 0 then 1 else 0) = c at hc5 hf hm heq2 ⊢
  refine V_callV (st := []) (nn := 0) F dL_law_2666 lk_X0_317 hm ⟨0, _, _, _, rfl, .inl hMC2.mm⟩ rfl rfl (Nat.le_of_ble_eq_true rfl) (Nat.le_of_ble_eq_true rfl) (Nat.le_of_ble_eq_true rfl) (by omega) (by omega) ?_
  rintro _ h3 ⟨rfl, hM3, hx3⟩
  have hC3 := hC2.frX hx3 (MW.ofm hMC2)
  have hao3 := hx3.ao hao2 hD.2.1 rfl
  have had3 := hx3.ao had2 hD.2.2 rfl
  obtain ⟨V3, F3, hMC3, hMV3⟩ := id hM3
  by_cases c0 : c = 0
  · subst c0
    rw [if_pos rfl]
    refine V_fstore (i := 7) F dL_law_2669 (Nat.le_of_ble_eq_true rfl) (Nat.le_of_ble_eq_true rfl) ?_
    refine V_aload_n (i := 2) F dL_law_2671 rfl rfl ?_
    refine V_cV0r F dL_law_2672 lk_X0_178 (ct_thrown hMC3.mm (congrArg some hMV3.v7)) ⟨0, _, _, _, rfl, .inl hMC3.mm⟩ (Nat.le_of_ble_eq_true rfl) (Nat.le_of_ble_eq_true rfl) (Nat.le_of_ble_eq_true rfl) (by omega) (by omega) ?_
    refine V_iload (i := 6) F dL_law_2675 rfl ?_
    refine V_icmp_eq (tgt := 2682) F dL_law_2677 (by decide) (fun _ => ?_) (fun z => absurd rfl z)
    refine V_iload (i := 6) F dL_law_2682 rfl ?_
    refine V_if_ne (tgt := 2720) F dL_law_2684 (by decide) (fun z => absurd nI_0 z) (fun _ => ?_)
    refine V_aload (i := 4) F dL_law_2687 rfl ?_
    refine V_iconst (v := nI 0) F dL_law_2689 rfl ?_
    refine V_dald F 2 dL_law_2690 rfl (.inl had3) (vp_in_nI (by decide) (by decide)) ?_
    refine V_fload (i := 7) F dL_law_2691 rfl ?_
    refine V_f2d F dL_law_2693 (heq2 rfl).2 ?_
    refine V_dcmp F dL_law_2694 ?_
    refine V_if_eq (tgt := 2720) F dL_law_2695 (by decide) (fun _ => ?_) (fun z => absurd (by show Op.cmpValue (FP.dcmp (f 0) _) .l = 0; rw [hf rfl]; exact (heq2 rfl).1) z)
    refine V_goto (tgt := 3195) F dL_law_2720 (by decide) ?_
    exact VV.weak (L' := LL b xo m ao ad j) (LW.c1 (LW.c1 (LW.c1 (LW.c1 (LW.c1 (LW.c1 (LW.c0 (LW.c0 (LW.c0 LW.nil))))))))) (VV.wide (by omega) (by omega) (next _ _ _ _ _ _ _ _ ⟨hC3, ⟨_, _, _, _, hM3⟩, hV.up (by omega), ⟨_, hao3⟩, ⟨_, had3⟩, by omega⟩))
  · rw [if_neg c0]
    refine V_fstore (i := 7) F dL_law_2669 (Nat.le_of_ble_eq_true rfl) (Nat.le_of_ble_eq_true rfl) ?_
    refine V_aload_n (i := 2) F dL_law_2671 rfl rfl ?_
    refine V_cV0r F dL_law_2672 lk_X0_178 (ct_thrown hMC3.mm (congrArg some hMV3.v7)) ⟨0, _, _, _, rfl, .inl hMC3.mm⟩ (Nat.le_of_ble_eq_true rfl) (Nat.le_of_ble_eq_true rfl) (Nat.le_of_ble_eq_true rfl) (by omega) (by omega) ?_
    refine V_iload (i := 6) F dL_law_2675 rfl ?_
    refine V_icmp_eq (tgt := 2682) F dL_law_2677 (by decide) (fun _ => ?_) (fun z => absurd rfl z)
    refine V_iload (i := 6) F dL_law_2682 rfl ?_
    refine V_if_ne (tgt := 2720) F dL_law_2684 (by decide) (fun _ => ?_) (fun z => absurd ((nI_eq (by omega) (by decide)).mp (z.trans nI_0.symm)) c0)
    refine V_goto (tgt := 3195) F dL_law_2720 (by decide) ?_
    exact VV.weak (L' := LL b xo m ao ad j) (LW.c1 (LW.c1 (LW.c1 (LW.c1 (LW.c1 (LW.c1 (LW.c0 (LW.c0 (LW.c0 LW.nil))))))))) (VV.wide (by omega) (by omega) (next _ _ _ _ _ _ _ _ ⟨hC3, ⟨_, _, _, _, hM3⟩, hV.up (by omega), ⟨_, hao3⟩, ⟨_, had3⟩, by omega⟩))
