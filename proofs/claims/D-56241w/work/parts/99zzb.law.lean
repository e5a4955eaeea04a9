set_option maxRecDepth 100000
theorem law_12 {G : GG} {X : CX} {Q : State → Prop} {h : AH} {b L xo m ao ad n j kc nn : Nat} {xs : Nat → Int32} {A : Nat → Nat} {g : Nat → Nat} {sn : Option (Nat → Nat)} {hs : List (Nat → Nat)} {tx : List Nat} {ep fc : Nat} {ot : List Nat} {rt : Option FieldType} (F : Fx G X cL_law 9 RX0 rt 1000 1200144 5494714) (hl0 : (xl X).stackTraces = false) (hscr : SCR G X b L xs) (hL : L ≤ 120) (hj : 5 * j + 5 ≤ L) (hn : n ≤ 600) (hD : DIS m A ao ad) (hW : LWD G h xo m A ao ad n j g sn hs tx ep fc ot) (hk : kc + 50000 ≤ 1200144) (hs0 : nn + 228000 ≤ 5494714)
    (next : ∀ h2 g2 sn2 hs2 tx2 ep2 fc2 ot2, LWD G h2 xo m A ao ad (n + 21) (j + 1) g2 sn2 hs2 tx2 ep2 fc2 ot2 → VV G X 9 Q h2 (kc + 50000) (nn + 228000) (LL b xo m ao ad j) [] 3195) : VV G X 9 Q h kc nn (LL b xo m ao ad j) [] 1037 := by
  obtain ⟨hC, ⟨tm, cd, gb, τ, hM⟩, hV, ⟨f0, hao⟩, ⟨f1, had⟩, htx⟩ := id hW
  have hpo : ¬ PL m A ao ad ao := fun z => z.2.1 rfl
  have hpd : ¬ PL m A ao ad ad := fun z => z.2.2 rfl
  refine V_aload_n (i := 1) F dL_law_1037 rfl rfl ?_
  refine V_aload_n (i := 0) F dL_law_1038 rfl rfl ?_
  refine V_iload (i := 5) F dL_law_1039 rfl ?_
  refine V_iconst (v := nI 1) F dL_law_1041 rfl ?_
  refine V_iaddN F dL_law_1042 ?_
  refine V_ialdX F dL_law_1043 hscr (by omega) (by omega) ?_
  refine V_aload_n (i := 0) F dL_law_1044 rfl rfl ?_
  refine V_iload (i := 5) F dL_law_1045 rfl ?_
  refine V_iconst (v := nI 2) F dL_law_1047 rfl ?_
  refine V_iaddN F dL_law_1048 ?_
  refine V_ialdX F dL_law_1049 hscr (by omega) (by omega) ?_
  refine V_aload_n (i := 3) F dL_law_1050 rfl rfl ?_
  have hw := (x0_nextTrain (ao := ao) (p0 := (xs (5 * j + 1))) (p1 := (xs (5 * j + 2))) (ck_nextTrain hl0 hC hW.P0 hV) hC.isC (fun y h3 z => ⟨f0, z.2.2.2.ao hao hpo rfl⟩)).mono (fun r h2 hq => XQ.of hao hpo hq) (fun E q h2 hq => hq)
  -- wrapper
  refine V_xcSW (st := []) (nn := 4) F dL_law_1051 ⟨lw_SW q2822 q2823 q100 q2824, by decide +kernel⟩ hw rfl rfl (Nat.le_of_ble_eq_true rfl) (Nat.le_of_ble_eq_true rfl) (Nat.le_of_ble_eq_true rfl) (by omega) (by omega) ?_ (fun E q h2 hp => hp.elim)
  rintro _ h2 ⟨f, hc5, rfl, hC2, hao2, hf, hx⟩
  have hM2 := hM.off hx (fun b hb z => z.elim (fun z => z.1 hb) (fun z => hD.2.1 (z ▸ hb)))
  have had2 := hx.ao had (fun z => z.elim (fun z => z.2.2 rfl) (fun z => hD.1 z.symm)) rfl
  obtain ⟨V2, F2, hMC2, -⟩ := id hM2
  refine V_istore (i := 6) F dL_law_1054 (Nat.le_of_ble_eq_true rfl) (Nat.le_of_ble_eq_true rfl) ?_
  refine V_aload_n (i := 2) F dL_law_1056 rfl rfl ?_
  refine V_aload_n (i := 0) F dL_law_1057 rfl rfl ?_
  refine V_iload (i := 5) F dL_law_1058 rfl ?_
  refine V_iconst (v := nI 1) F dL_law_1060 rfl ?_
  refine V_iaddN F dL_law_1061 ?_
  refine V_ialdX F dL_law_1062 hscr (by omega) (by omega) ?_
  refine V_aload_n (i := 0) F dL_law_1063 rfl rfl ?_
  refine V_iload (i := 5) F dL_law_1064 rfl ?_
  refine V_iconst (v := nI 2) F dL_law_1066 rfl ?_
  refine V_iaddN F dL_law_1067 ?_
  refine V_ialdX F dL_law_1068 hscr (by omega) (by omega) ?_
  have hm := cm_nextTrain (l := xl X) (p := (xs (5 * j + 1))) (q := (xs (5 * j + 2))) hM2 hV
  generalize hcd : (if ¬ iR (xs (5 * j + 1)) (g 0) then 1 else if ¬ (nI 0 ≤ (xs (5 * j + 2)) ∧ (xs (5 * j + 2)) ≤ nI 9999) then 2 else if (ntO g (tn (xs (5 * j + 1))) (tn (xs (5 * j + 2))) (g 1)).1 = none then 3 else 0) = c at hc5 hf hm ⊢
  generalize hvv : (rO (ntO g (tn (xs (5 * j + 1))) (tn (xs (5 * j + 2))) (g 1)).1) = v at hf hm
  refine V_callV (st := []) (nn := 2) F dL_law_1069 lk_X0_220 hm ⟨0, _, _, _, rfl, .inl hMC2.mm⟩ rfl rfl (Nat.le_of_ble_eq_true rfl) (Nat.le_of_ble_eq_true rfl) (Nat.le_of_ble_eq_true rfl) (by omega) (by omega) ?_
  rintro _ h3 ⟨rfl, hM3, hx3⟩
  have hC3 := hC2.frX hx3 (MW.ofm hMC2)
  have hao3 := hx3.ao hao2 hD.2.1 rfl
  have had3 := hx3.ao had2 hD.2.2 rfl
  obtain ⟨V3, F3, hMC3, hMV3⟩ := id hM3
  by_cases c0 : c = 0
  · subst c0
    rw [if_pos rfl]
    refine V_istore (i := 7) F dL_law_1072 (Nat.le_of_ble_eq_true rfl) (Nat.le_of_ble_eq_true rfl) ?_
    refine V_aload_n (i := 2) F dL_law_1074 rfl rfl ?_
    refine V_cV0r F dL_law_1075 lk_X0_178 (ct_thrown hMC3.mm (congrArg some hMV3.v7)) ⟨0, _, _, _, rfl, .inl hMC3.mm⟩ (Nat.le_of_ble_eq_true rfl) (Nat.le_of_ble_eq_true rfl) (Nat.le_of_ble_eq_true rfl) (by omega) (by omega) ?_
    refine V_iload (i := 6) F dL_law_1078 rfl ?_
    refine V_icmp_eqN (tgt := 1085) F dL_law_1080 (by decide) (by decide) (by decide) (fun _ => ?_) (fun z => absurd rfl z)
    refine V_iload (i := 6) F dL_law_1085 rfl ?_
    refine V_if_neN (tgt := 1102) F dL_law_1087 (by decide) (by decide) (fun z => absurd z (Nat.lt_irrefl 0)) (fun _ => ?_)
    refine V_aload_n (i := 3) F dL_law_1090 rfl rfl ?_
    refine V_iconst (v := nI 0) F dL_law_1091 rfl ?_
    refine V_laldN F 1 dL_law_1092 rfl (.inl hao3) (by decide) (by decide) ?_
    refine V_iload (i := 7) F dL_law_1093 rfl ?_
    refine V_i2l F dL_law_1095 ?_
    refine V_lcmp F dL_law_1096 ?_
    refine V_if_eq (tgt := 1102) F dL_law_1097 (by decide) (fun _ => ?_) (fun z => absurd (lg_self (hf rfl)) z)
    refine V_goto (tgt := 3195) F dL_law_1102 (by decide) ?_
    exact VV.weak (L' := LL b xo m ao ad j) (LW.c1 (LW.c1 (LW.c1 (LW.c1 (LW.c1 (LW.c1 (LW.c0 (LW.c0 (LW.c0 LW.nil))))))))) (VV.wide (by omega) (by omega) (next _ _ _ _ _ _ _ _ ⟨hC3, ⟨_, _, _, _, hM3⟩, hV.up (by omega), ⟨_, hao3⟩, ⟨_, had3⟩, by omega⟩))
  · rw [if_neg c0]
    refine V_istore (i := 7) F dL_law_1072 (Nat.le_of_ble_eq_true rfl) (Nat.le_of_ble_eq_true rfl) ?_
    refine V_aload_n (i := 2) F dL_law_1074 rfl rfl ?_
    refine V_cV0r F dL_law_1075 lk_X0_178 (ct_thrown hMC3.mm (congrArg some hMV3.v7)) ⟨0, _, _, _, rfl, .inl hMC3.mm⟩ (Nat.le_of_ble_eq_true rfl) (Nat.le_of_ble_eq_true rfl) (Nat.le_of_ble_eq_true rfl) (by omega) (by omega) ?_
    refine V_iload (i := 6) F dL_law_1078 rfl ?_
    refine V_icmp_eqN (tgt := 1085) F dL_law_1080 (by decide) (by omega) (by omega) (fun _ => ?_) (fun z => absurd rfl z)
    refine V_iload (i := 6) F dL_law_1085 rfl ?_
    refine V_if_neN (tgt := 1102) F dL_law_1087 (by decide) (by omega) (fun _ => ?_) (fun z => absurd z c0)
    refine V_goto (tgt := 3195) F dL_law_1102 (by decide) ?_
    exact VV.weak (L' := LL b xo m ao ad j) (LW.c1 (LW.c1 (LW.c1 (LW.c1 (LW.c1 (LW.c1 (LW.c0 (LW.c0 (LW.c0 LW.nil))))))))) (VV.wide (by omega) (by omega) (next _ _ _ _ _ _ _ _ ⟨hC3, ⟨_, _, _, _, hM3⟩, hV.up (by omega), ⟨_, hao3⟩, ⟨_, had3⟩, by omega⟩))
theorem law_14 {G : GG} {X : CX} {Q : State → Prop} {h : AH} {b L xo m ao ad n j kc nn : Nat} {xs : Nat → Int32} {A : Nat → Nat} {g : Nat → Nat} {sn : Option (Nat → Nat)} {hs : List (Nat → Nat)} {tx : List Nat} {ep fc : Nat} {ot : List Nat} {rt : Option FieldType} (F : Fx G X cL_law 9 RX0 rt 1000 1200144 5494714) (hl0 : (xl X).stackTraces = false) (hscr : SCR G X b L xs) (hL : L ≤ 120) (hj : 5 * j + 5 ≤ L) (hn : n ≤ 600) (hD : DIS m A ao ad) (hW : LWD G h xo m A ao ad n j g sn hs tx ep fc ot) (hk : kc + 50000 ≤ 1200144) (hs0 : nn + 228000 ≤ 5494714)
    (next : ∀ h2 g2 sn2 hs2 tx2 ep2 fc2 ot2, LWD G h2 xo m A ao ad (n + 21) (j + 1) g2 sn2 hs2 tx2 ep2 fc2 ot2 → VV G X 9 Q h2 (kc + 50000) (nn + 228000) (LL b xo m ao ad j) [] 3195) : VV G X 9 Q h kc nn (LL b xo m ao ad j) [] 1118 := by
  obtain ⟨hC, ⟨tm, cd, gb, τ, hM⟩, hV, ⟨f0, hao⟩, ⟨f1, had⟩, htx⟩ := id hW
  have hpo : ¬ PL m A ao ad ao := fun z => z.2.1 rfl
  have hpd : ¬ PL m A ao ad ad := fun z => z.2.2 rfl
  refine V_aload_n (i := 1) F dL_law_1118 rfl rfl ?_
  refine V_aload_n (i := 0) F dL_law_1119 rfl rfl ?_
  refine V_iload (i := 5) F dL_law_1120 rfl ?_
  refine V_iconst (v := nI 1) F dL_law_1122 rfl ?_
  refine V_iaddN F dL_law_1123 ?_
  refine V_ialdX F dL_law_1124 hscr (by omega) (by omega) ?_
  refine V_aload_n (i := 3) F dL_law_1125 rfl rfl ?_
  have hw := (x0_stopCount (ao := ao) (p0 := (xs (5 * j + 1))) (ck_stopCount hl0 hC hW.P0 hV) hC.isC (fun y h3 z => ⟨f0, z.2.2.2.ao hao hpo rfl⟩)).mono (fun r h2 hq => XQ.of hao hpo hq) (fun E q h2 hq => hq)
  -- wrapper
  refine V_xcSW (st := []) (nn := 3) F dL_law_1126 ⟨lw_SW q2853 q2854 q100 q2855, by decide +kernel⟩ hw rfl rfl (Nat.le_of_ble_eq_true rfl) (Nat.le_of_ble_eq_true rfl) (Nat.le_of_ble_eq_true rfl) (by omega) (by omega) ?_ (fun E q h2 hp => hp.elim)
  rintro _ h2 ⟨f, hc5, rfl, hC2, hao2, hf, hx⟩
  have hM2 := hM.off hx (fun b hb z => z.elim (fun z => z.1 hb) (fun z => hD.2.1 (z ▸ hb)))
  have had2 := hx.ao had (fun z => z.elim (fun z => z.2.2 rfl) (fun z => hD.1 z.symm)) rfl
  obtain ⟨V2, F2, hMC2, -⟩ := id hM2
  refine V_istore (i := 6) F dL_law_1129 (Nat.le_of_ble_eq_true rfl) (Nat.le_of_ble_eq_true rfl) ?_
  refine V_aload_n (i := 2) F dL_law_1131 rfl rfl ?_
  refine V_aload_n (i := 0) F dL_law_1132 rfl rfl ?_
  refine V_iload (i := 5) F dL_law_1133 rfl ?_
  refine V_iconst (v := nI 1) F dL_law_1135 rfl ?_
  refine V_iaddN F dL_law_1136 ?_
  refine V_ialdX F dL_law_1137 hscr (by omega) (by omega) ?_
  have hm := cm_stopCount (l := xl X) (p := (xs (5 * j + 1))) hM2 hV
  generalize hcd : (if ¬ iR (xs (5 * j + 1)) (g 1) then 1 else 0) = c at hc5 hf hm ⊢
  generalize hvv : (nI (g (16 + 36 * tn (xs (5 * j + 1)) + 3))) = v at hf hm
  refine V_callV (st := []) (nn := 1) F dL_law_1138 lk_X0_227 hm ⟨0, _, _, _, rfl, .inl hMC2.mm⟩ rfl rfl (Nat.le_of_ble_eq_true rfl) (Nat.le_of_ble_eq_true rfl) (Nat.le_of_ble_eq_true rfl) (by omega) (by omega) ?_
  rintro _ h3 ⟨rfl, hM3, hx3⟩
  have hC3 := hC2.frX hx3 (MW.ofm hMC2)
  have hao3 := hx3.ao hao2 hD.2.1 rfl
  have had3 := hx3.ao had2 hD.2.2 rfl
  obtain ⟨V3, F3, hMC3, hMV3⟩ := id hM3
  by_cases c0 : c = 0
  · subst c0
    rw [if_pos rfl]
    refine V_istore (i := 7) F dL_law_1141 (Nat.le_of_ble_eq_true rfl) (Nat.le_of_ble_eq_true rfl) ?_
    refine V_aload_n (i := 2) F dL_law_1143 rfl rfl ?_
    refine V_cV0r F dL_law_1144 lk_X0_178 (ct_thrown hMC3.mm (congrArg some hMV3.v7)) ⟨0, _, _, _, rfl, .inl hMC3.mm⟩ (Nat.le_of_ble_eq_true rfl) (Nat.le_of_ble_eq_true rfl) (Nat.le_of_ble_eq_true rfl) (by omega) (by omega) ?_
    refine V_iload (i := 6) F dL_law_1147 rfl ?_
    refine V_icmp_eqN (tgt := 1154) F dL_law_1149 (by decide) (by decide) (by decide) (fun _ => ?_) (fun z => absurd rfl z)
    refine V_iload (i := 6) F dL_law_1154 rfl ?_
    refine V_if_neN (tgt := 1171) F dL_law_1156 (by decide) (by decide) (fun z => absurd z (Nat.lt_irrefl 0)) (fun _ => ?_)
    refine V_aload_n (i := 3) F dL_law_1159 rfl rfl ?_
    refine V_iconst (v := nI 0) F dL_law_1160 rfl ?_
    refine V_laldN F 1 dL_law_1161 rfl (.inl hao3) (by decide) (by decide) ?_
    refine V_iload (i := 7) F dL_law_1162 rfl ?_
    refine V_i2l F dL_law_1164 ?_
    refine V_lcmp F dL_law_1165 ?_
    refine V_if_eq (tgt := 1171) F dL_law_1166 (by decide) (fun _ => ?_) (fun z => absurd (lg_self (hf rfl)) z)
    refine V_goto (tgt := 3195) F dL_law_1171 (by decide) ?_
    exact VV.weak (L' := LL b xo m ao ad j) (LW.c1 (LW.c1 (LW.c1 (LW.c1 (LW.c1 (LW.c1 (LW.c0 (LW.c0 (LW.c0 LW.nil))))))))) (VV.wide (by omega) (by omega) (next _ _ _ _ _ _ _ _ ⟨hC3, ⟨_, _, _, _, hM3⟩, hV.up (by omega), ⟨_, hao3⟩, ⟨_, had3⟩, by omega⟩))
  · rw [if_neg c0]
    refine V_istore (i := 7) F dL_law_1141 (Nat.le_of_ble_eq_true rfl) (Nat.le_of_ble_eq_true rfl) ?_
    refine V_aload_n (i := 2) F dL_law_1143 rfl rfl ?_
    refine V_cV0r F dL_law_1144 lk_X0_178 (ct_thrown hMC3.mm (congrArg some hMV3.v7)) ⟨0, _, _, _, rfl, .inl hMC3.mm⟩ (Nat.le_of_ble_eq_true rfl) (Nat.le_of_ble_eq_true rfl) (Nat.le_of_ble_eq_true rfl) (by omega) (by omega) ?_
    refine V_iload (i := 6) F dL_law_1147 rfl ?_
    refine V_icmp_eqN (tgt := 1154) F dL_law_1149 (by decide) (by omega) (by omega) (fun _ => ?_) (fun z => absurd rfl z)
    refine V_iload (i := 6) F dL_law_1154 rfl ?_
    refine V_if_neN (tgt := 1171) F dL_law_1156 (by decide) (by omega) (fun _ => ?_) (fun z => absurd z c0)
    refine V_goto (tgt := 3195) F dL_law_1171 (by decide) ?_
    exact VV.weak (L' := LL b xo m ao ad j) (LW.c1 (LW.c1 (LW.c1 (LW.c1 (LW.c1 (LW.c1 (LW.c0 (LW.c0 (LW.c0 LW.nil))))))))) (VV.wide (by omega) (by omega) (next _ _ _ _ _ _ _ _ ⟨hC3, ⟨_, _, _, _, hM3⟩, hV.up (by omega), ⟨_, hao3⟩, ⟨_, had3⟩, by omega⟩))
theorem law_15 {G : GG} {X : CX} {Q : State → Prop} {h : AH} {b L xo m ao ad n j kc nn : Nat} {xs : Nat → Int32} {A : Nat → Nat} {g : Nat → Nat} {sn : Option (Nat → Nat)} {hs : List (Nat → Nat)} {tx : List Nat} {ep fc : Nat} {ot : List Nat} {rt : Option FieldType} (F : Fx G X cL_law 9 RX0 rt 1000 1200144 5494714) (hl0 : (xl X).stackTraces = false) (hscr : SCR G X b L xs) (hL : L ≤ 120) (hj : 5 * j + 5 ≤ L) (hn : n ≤ 600) (hD : DIS m A ao ad) (hW : LWD G h xo m A ao ad n j g sn hs tx ep fc ot) (hk : kc + 50000 ≤ 1200144) (hs0 : nn + 228000 ≤ 5494714)
    (next : ∀ h2 g2 sn2 hs2 tx2 ep2 fc2 ot2, LWD G h2 xo m A ao ad (n + 21) (j + 1) g2 sn2 hs2 tx2 ep2 fc2 ot2 → VV G X 9 Q h2 (kc + 50000) (nn + 228000) (LL b xo m ao ad j) [] 3195) : VV G X 9 Q h kc nn (LL b xo m ao ad j) [] 1174 := by
  obtain ⟨hC, ⟨tm, cd, gb, τ, hM⟩, hV, ⟨f0, hao⟩, ⟨f1, had⟩, htx⟩ := id hW
  have hpo : ¬ PL m A ao ad ao := fun z => z.2.1 rfl
  have hpd : ¬ PL m A ao ad ad := fun z => z.2.2 rfl
  refine V_aload_n (i := 1) F dL_law_1174 rfl rfl ?_
  refine V_aload_n (i := 0) F dL_law_1175 rfl rfl ?_
  refine V_iload (i := 5) F dL_law_1176 rfl ?_
  refine V_iconst (v := nI 1) F dL_law_1178 rfl ?_
  refine V_iaddN F dL_law_1179 ?_
  refine V_ialdX F dL_law_1180 hscr (by omega) (by omega) ?_
  refine V_aload_n (i := 0) F dL_law_1181 rfl rfl ?_
  refine V_iload (i := 5) F dL_law_1182 rfl ?_
  refine V_iconst (v := nI 2) F dL_law_1184 rfl ?_
  refine V_iaddN F dL_law_1185 ?_
  refine V_ialdX F dL_law_1186 hscr (by omega) (by omega) ?_
  refine V_aload_n (i := 3) F dL_law_1187 rfl rfl ?_
  have hw := (x0_stationAt (ao := ao) (p0 := (xs (5 * j + 1))) (p1 := (xs (5 * j + 2))) (ck_stationAt hl0 hC hW.P0 hV) hC.isC (fun y h3 z => ⟨f0, z.2.2.2.ao hao hpo rfl⟩)).mono (fun r h2 hq => XQ.of hao hpo hq) (fun E q h2 hq => hq)
  -- wrapper
  refine V_xcSW (st := []) (nn := 4) F dL_law_1188 ⟨lw_SW q2866 q2867 q100 q2868, by decide +kernel⟩ hw rfl rfl (Nat.le_of_ble_eq_true rfl) (Nat.le_of_ble_eq_true rfl) (Nat.le_of_ble_eq_true rfl) (by omega) (by omega) ?_ (fun E q h2 hp => hp.elim)
  rintro _ h2 ⟨f, hc5, rfl, hC2, hao2, hf, hx⟩
  have hM2 := hM.off hx (fun b hb z => z.elim (fun z => z.1 hb) (fun z => hD.2.1 (z ▸ hb)))
  have had2 := hx.ao had (fun z => z.elim (fun z => z.2.2 rfl) (fun z => hD.1 z.symm)) rfl
  obtain ⟨V2, F2, hMC2, -⟩ := id hM2
  refine V_istore (i := 6) F dL_law_1191 (Nat.le_of_ble_eq_true rfl) (Nat.le_of_ble_eq_true rfl) ?_
  refine V_aload_n (i := 2) F dL_law_1193 rfl rfl ?_
  refine V_aload_n (i := 0) F dL_law_1194 rfl rfl ?_
  refine V_iload (i := 5) F dL_law_1195 rfl ?_
  refine V_iconst (v := nI 1) F dL_law_1197 rfl ?_
  refine V_iaddN F dL_law_1198 ?_
  refine V_ialdX F dL_law_1199 hscr (by omega) (by omega) ?_
  refine V_aload_n (i := 0) F dL_law_1200 rfl rfl ?_
  refine V_iload (i := 5) F dL_law_1201 rfl ?_
  refine V_iconst (v := nI 2) F dL_law_1203 rfl ?_
  refine V_iaddN F dL_law_1204 ?_
  refine V_ialdX F dL_law_1205 hscr (by omega) (by omega) ?_
  have hm := cm_stationAt (l := xl X) (p := (xs (5 * j + 1))) (q := (xs (5 * j + 2))) hM2 hV
  generalize hcd : (if ¬ (iR (xs (5 * j + 1)) (g 1) ∧ iR (xs (5 * j + 2)) (g (16 + 36 * tn (xs (5 * j + 1)) + 3))) then 1 else 0) = c at hc5 hf hm ⊢
  generalize hvv : (nI (plG g (tn (xs (5 * j + 1))) (tn (xs (5 * j + 2))))) = v at hf hm
  refine V_callV (st := []) (nn := 2) F dL_law_1206 lk_X0_230 hm ⟨0, _, _, _, rfl, .inl hMC2.mm⟩ rfl rfl (Nat.le_of_ble_eq_true rfl) (Nat.le_of_ble_eq_true rfl) (Nat.le_of_ble_eq_true rfl) (by omega) (by omega) ?_
  rintro _ h3 ⟨rfl, hM3, hx3⟩
  have hC3 := hC2.frX hx3 (MW.ofm hMC2)
  have hao3 := hx3.ao hao2 hD.2.1 rfl
  have had3 := hx3.ao had2 hD.2.2 rfl
  obtain ⟨V3, F3, hMC3, hMV3⟩ := id hM3
  by_cases c0 : c = 0
  · subst c0
    rw [if_pos rfl]
    refine V_istore (i := 7) F dL_law_1209 (Nat.le_of_ble_eq_true rfl) (Nat.le_of_ble_eq_true rfl) ?_
    refine V_aload_n (i := 2) F dL_law_1211 rfl rfl ?_
    refine V_cV0r F dL_law_1212 lk_X0_178 (ct_thrown hMC3.mm (congrArg some hMV3.v7)) ⟨0, _, _, _, rfl, .inl hMC3.mm⟩ (Nat.le_of_ble_eq_true rfl) (Nat.le_of_ble_eq_true rfl) (Nat.le_of_ble_eq_true rfl) (by omega) (by omega) ?_
    refine V_iload (i := 6) F dL_law_1215 rfl ?_
    refine V_icmp_eqN (tgt := 1222) F dL_law_1217 (by decide) (by decide) (by decide) (fun _ => ?_) (fun z => absurd rfl z)
    refine V_iload (i := 6) F dL_law_1222 rfl ?_
    refine V_if_neN (tgt := 1239) F dL_law_1224 (by decide) (by decide) (fun z => absurd z (Nat.lt_irrefl 0)) (fun _ => ?_)
    refine V_aload_n (i := 3) F dL_law_1227 rfl rfl ?_
    refine V_iconst (v := nI 0) F dL_law_1228 rfl ?_
    refine V_laldN F 1 dL_law_1229 rfl (.inl hao3) (by decide) (by decide) ?_
    refine V_iload (i := 7) F dL_law_1230 rfl ?_
    refine V_i2l F dL_law_1232 ?_
    refine V_lcmp F dL_law_1233 ?_
    refine V_if_eq (tgt := 1239) F dL_law_1234 (by decide) (fun _ => ?_) (fun z => absurd (lg_self (hf rfl)) z)
    refine V_goto (tgt := 3195) F dL_law_1239 (by decide) ?_
    exact VV.weak (L' := LL b xo m ao ad j) (LW.c1 (LW.c1 (LW.c1 (LW.c1 (LW.c1 (LW.c1 (LW.c0 (LW.c0 (LW.c0 LW.nil))))))))) (VV.wide (by omega) (by omega) (next _ _ _ _ _ _ _ _ ⟨hC3, ⟨_, _, _, _, hM3⟩, hV.up (by omega), ⟨_, hao3⟩, ⟨_, had3⟩, by omega⟩))
  · rw [if_neg c0]
    refine V_istore (i := 7) F dL_law_1209 (Nat.le_of_ble_eq_true rfl) (Nat.le_of_ble_eq_true rfl) ?_
    refine V_aload_n (i := 2) F dL_law_1211 rfl rfl ?_
    refine V_cV0r F dL_law_1212 lk_X0_178 (ct_thrown hMC3.mm (congrArg some hMV3.v7)) ⟨0, _, _, _, rfl, .inl hMC3.mm⟩ (Nat.le_of_ble_eq_true rfl) (Nat.le_of_ble_eq_true rfl) (Nat.le_of_ble_eq_true rfl) (by omega) (by omega) ?_
    refine V_iload (i := 6) F dL_law_1215 rfl ?_
    refine V_icmp_eqN (tgt := 1222) F dL_law_1217 (by decide) (by omega) (by omega) (fun _ => ?_) (fun z => absurd rfl z)
    refine V_iload (i := 6) F dL_law_1222 rfl ?_
    refine V_if_neN (tgt := 1239) F dL_law_1224 (by decide) (by omega) (fun _ => ?_) (fun z => absurd z c0)
    refine V_goto (tgt := 3195) F dL_law_1239 (by decide) ?_
    exact VV.weak (L' := LL b xo m ao ad j) (LW.c1 (LW.c1 (LW.c1 (LW.c1 (LW.c1 (LW.c1 (LW.c0 (LW.c0 (LW.c0 LW.nil))))))))) (VV.wide (by omega) (by omega) (next _ _ _ _ _ _ _ _ ⟨hC3, ⟨_, _, _, _, hM3⟩, hV.up (by omega), ⟨_, hao3⟩, ⟨_, had3⟩, by omega⟩))
theorem law_16 {G : GG} {X : CX} {Q : State → Prop} {h : AH} {b L xo m ao ad n j kc nn : Nat} {xs : Nat → Int32} {A : Nat → Nat} {g : Nat → Nat} {sn : Option (Nat → Nat)} {hs : List (Nat → Nat)} {tx : List Nat} {ep fc : Nat} {ot : List Nat} {rt : Option FieldType} (F : Fx G X cL_law 9 RX0 rt 1000 1200144 5494714) (hl0 : (xl X).stackTraces = false) (hscr : SCR G X b L xs) (hL : L ≤ 120) (hj : 5 * j + 5 ≤ L) (hn : n ≤ 600) (hD : DIS m A ao ad) (hW : LWD G h xo m A ao ad n j g sn hs tx ep fc ot) (hk : kc + 50000 ≤ 1200144) (hs0 : nn + 228000 ≤ 5494714)
    (next : ∀ h2 g2 sn2 hs2 tx2 ep2 fc2 ot2, LWD G h2 xo m A ao ad (n + 21) (j + 1) g2 sn2 hs2 tx2 ep2 fc2 ot2 → VV G X 9 Q h2 (kc + 50000) (nn + 228000) (LL b xo m ao ad j) [] 3195) : VV G X 9 Q h kc nn (LL b xo m ao ad j) [] 1242 := by
  obtain ⟨hC, ⟨tm, cd, gb, τ, hM⟩, hV, ⟨f0, hao⟩, ⟨f1, had⟩, htx⟩ := id hW
  have hpo : ¬ PL m A ao ad ao := fun z => z.2.1 rfl
  have hpd : ¬ PL m A ao ad ad := fun z => z.2.2 rfl
  refine V_aload_n (i := 1) F dL_law_1242 rfl rfl ?_
  refine V_aload_n (i := 0) F dL_law_1243 rfl rfl ?_
  refine V_iload (i := 5) F dL_law_1244 rfl ?_
  refine V_iconst (v := nI 1) F dL_law_1246 rfl ?_
  refine V_iaddN F dL_law_1247 ?_
  refine V_ialdX F dL_law_1248 hscr (by omega) (by omega) ?_
  refine V_aload_n (i := 0) F dL_law_1249 rfl rfl ?_
  refine V_iload (i := 5) F dL_law_1250 rfl ?_
  refine V_iconst (v := nI 2) F dL_law_1252 rfl ?_
  refine V_iaddN F dL_law_1253 ?_
  refine V_ialdX F dL_law_1254 hscr (by omega) (by omega) ?_
  refine V_aload_n (i := 3) F dL_law_1255 rfl rfl ?_
  have hw := (x0_arrivalAt (ao := ao) (p0 := (xs (5 * j + 1))) (p1 := (xs (5 * j + 2))) (ck_arrivalAt hl0 hC hW.P0 hV) hC.isC (fun y h3 z => ⟨f0, z.2.2.2.ao hao hpo rfl⟩)).mono (fun r h2 hq => XQ.of hao hpo hq) (fun E q h2 hq => hq)
  -- wrapper
  refine V_xcSW (st := []) (nn := 4) F dL_law_1256 ⟨lw_SW q2878 q2879 q100 q2880, by decide +kernel⟩ hw rfl rfl (Nat.le_of_ble_eq_true rfl) (Nat.le_of_ble_eq_true rfl) (Nat.le_of_ble_eq_true rfl) (by omega) (by omega) ?_ (fun E q h2 hp => hp.elim)
  rintro _ h2 ⟨f, hc5, rfl, hC2, hao2, hf, hx⟩
  have hM2 := hM.off hx (fun b hb z => z.elim (fun z => z.1 hb) (fun z => hD.2.1 (z ▸ hb)))
  have had2 := hx.ao had (fun z => z.elim (fun z => z.2.2 rfl) (fun z => hD.1 z.symm)) rfl
  obtain ⟨V2, F2, hMC2, -⟩ := id hM2
  refine V_istore (i := 6) F dL_law_1259 (Nat.le_of_ble_eq_true rfl) (Nat.le_of_ble_eq_true rfl) ?_
  refine V_aload_n (i := 2) F dL_law_1261 rfl rfl ?_
  refine V_aload_n (i := 0) F dL_law_1262 rfl rfl ?_
  refine V_iload (i := 5) F dL_law_1263 rfl ?_
  refine V_iconst (v := nI 1) F dL_law_1265 rfl ?_
  refine V_iaddN F dL_law_1266 ?_
  refine V_ialdX F dL_law_1267 hscr (by omega) (by omega) ?_
  refine V_aload_n (i := 0) F dL_law_1268 rfl rfl ?_
  refine V_iload (i := 5) F dL_law_1269 rfl ?_
  refine V_iconst (v := nI 2) F dL_law_1271 rfl ?_
  refine V_iaddN F dL_law_1272 ?_
  refine V_ialdX F dL_law_1273 hscr (by omega) (by omega) ?_
  have hm := cm_arrivalAt (l := xl X) (p := (xs (5 * j + 1))) (q := (xs (5 * j + 2))) hM2 hV
  generalize hcd : (if ¬ (iR (xs (5 * j + 1)) (g 1) ∧ iR (xs (5 * j + 2)) (g (16 + 36 * tn (xs (5 * j + 1)) + 3))) then 1 else if tn (xs (5 * j + 2)) = 0 then 2 else 0) = c at hc5 hf hm ⊢
  generalize hvv : (nI (CmG g (tn (xs (5 * j + 1))) (tn (xs (5 * j + 2))))) = v at hf hm
  refine V_callV (st := []) (nn := 2) F dL_law_1274 lk_X0_233 hm ⟨0, _, _, _, rfl, .inl hMC2.mm⟩ rfl rfl (Nat.le_of_ble_eq_true rfl) (Nat.le_of_ble_eq_true rfl) (Nat.le_of_ble_eq_true rfl) (by omega) (by omega) ?_
  rintro _ h3 ⟨rfl, hM3, hx3⟩
  have hC3 := hC2.frX hx3 (MW.ofm hMC2)
  have hao3 := hx3.ao hao2 hD.2.1 rfl
  have had3 := hx3.ao had2 hD.2.2 rfl
  obtain ⟨V3, F3, hMC3, hMV3⟩ := id hM3
  by_cases c0 : c = 0
  · subst c0
    rw [if_pos rfl]
    refine V_istore (i := 7) F dL_law_1277 (Nat.le_of_ble_eq_true rfl) (Nat.le_of_ble_eq_true rfl) ?_
    refine V_aload_n (i := 2) F dL_law_1279 rfl rfl ?_
    refine V_cV0r F dL_law_1280 lk_X0_178 (ct_thrown hMC3.mm (congrArg some hMV3.v7)) ⟨0, _, _, _, rfl, .inl hMC3.mm⟩ (Nat.le_of_ble_eq_true rfl) (Nat.le_of_ble_eq_true rfl) (Nat.le_of_ble_eq_true rfl) (by omega) (by omega) ?_
    refine V_iload (i := 6) F dL_law_1283 rfl ?_
    refine V_icmp_eqN (tgt := 1290) F dL_law_1285 (by decide) (by decide) (by decide) (fun _ => ?_) (fun z => absurd rfl z)
    refine V_iload (i := 6) F dL_law_1290 rfl ?_
    refine V_if_neN (tgt := 1307) F dL_law_1292 (by decide) (by decide) (fun z => absurd z (Nat.lt_irrefl 0)) (fun _ => ?_)
    refine V_aload_n (i := 3) F dL_law_1295 rfl rfl ?_
    refine V_iconst (v := nI 0) F dL_law_1296 rfl ?_
    refine V_laldN F 1 dL_law_1297 rfl (.inl hao3) (by decide) (by decide) ?_
    refine V_iload (i := 7) F dL_law_1298 rfl ?_
    refine V_i2l F dL_law_1300 ?_
    refine V_lcmp F dL_law_1301 ?_
    refine V_if_eq (tgt := 1307) F dL_law_1302 (by decide) (fun _ => ?_) (fun z => absurd (lg_self (hf rfl)) z)
    refine V_goto (tgt := 3195) F dL_law_1307 (by decide) ?_
    exact VV.weak (L' := LL b xo m ao ad j) (LW.c1 (LW.c1 (LW.c1 (LW.c1 (LW.c1 (LW.c1 (LW.c0 (LW.c0 (LW.c0 LW.nil))))))))) (VV.wide (by omega) (by omega) (next _ _ _ _ _ _ _ _ ⟨hC3, ⟨_, _, _, _, hM3⟩, hV.up (by omega), ⟨_, hao3⟩, ⟨_, had3⟩, by omega⟩))
  · rw [if_neg c0]
    refine V_istore (i := 7) F dL_law_1277 (Nat.le_of_ble_eq_true rfl) (Nat.le_of_ble_eq_true rfl) ?_
    refine V_aload_n (i := 2) F dL_law_1279 rfl rfl ?_
    refine V_cV0r F dL_law_1280 lk_X0_178 (ct_thrown hMC3.mm (congrArg some hMV3.v7)) ⟨0, _, _, _, rfl, .inl hMC3.mm⟩ (Nat.le_of_ble_eq_true rfl) (Nat.le_of_ble_eq_true rfl) (Nat.le_of_ble_eq_true rfl) (by omega) (by omega) ?_
    refine V_iload (i := 6) F dL_law_1283 rfl ?_
    refine V_icmp_eqN (tgt := 1290) F dL_law_1285 (by decide) (by omega) (by omega) (fun _ => ?_) (fun z => absurd rfl z)
    refine V_iload (i := 6) F dL_law_1290 rfl ?_
    refine V_if_neN (tgt := 1307) F dL_law_1292 (by decide) (by omega) (fun _ => ?_) (fun z => absurd z c0)
    refine V_goto (tgt := 3195) F dL_law_1307 (by decide) ?_
    exact VV.weak (L' := LL b xo m ao ad j) (LW.c1 (LW.c1 (LW.c1 (LW.c1 (LW.c1 (LW.c1 (LW.c0 (LW.c0 (LW.c0 LW.nil))))))))) (VV.wide (by omega) (by omega) (next _ _ _ _ _ _ _ _ ⟨hC3, ⟨_, _, _, _, hM3⟩, hV.up (by omega), ⟨_, hao3⟩, ⟨_, had3⟩, by omega⟩))
theorem law_17 {G : GG} {X : CX} {Q : State → Prop} {h : AH} {b L xo m ao ad n j kc nn : Nat} {xs : Nat → Int32} {A : Nat → Nat} {g : Nat → Nat} {sn : Option (Nat → Nat)} {hs : List (Nat → Nat)} {tx : List Nat} {ep fc : Nat} {ot : List Nat} {rt : Option FieldType} (F : Fx G X cL_law 9 RX0 rt 1000 1200144 5494714) (hl0 : (xl X).stackTraces = false) (hscr : SCR G X b L xs) (hL : L ≤ 120) (hj : 5 * j + 5 ≤ L) (hn : n ≤ 600) (hD : DIS m A ao ad) (hW : LWD G h xo m A ao ad n j g sn hs tx ep fc ot) (hk : kc + 50000 ≤ 1200144) (hs0 : nn + 228000 ≤ 5494714)
    (next : ∀ h2 g2 sn2 hs2 tx2 ep2 fc2 ot2, LWD G h2 xo m A ao ad (n + 21) (j + 1) g2 sn2 hs2 tx2 ep2 fc2 ot2 → VV G X 9 Q h2 (kc + 50000) (nn + 228000) (LL b xo m ao ad j) [] 3195) : VV G X 9 Q h kc nn (LL b xo m ao ad j) [] 1310 := by
  obtain ⟨hC, ⟨tm, cd, gb, τ, hM⟩, hV, ⟨f0, hao⟩, ⟨f1, had⟩, htx⟩ := id hW
  have hpo : ¬ PL m A ao ad ao := fun z => z.2.1 rfl
  have hpd : ¬ PL m A ao ad ad := fun z => z.2.2 rfl
  refine V_aload_n (i := 1) F dL_law_1310 rfl rfl ?_
  refine V_aload_n (i := 0) F dL_law_1311 rfl rfl ?_
  refine V_iload (i := 5) F dL_law_1312 rfl ?_
  refine V_iconst (v := nI 1) F dL_law_1314 rfl ?_
  refine V_iaddN F dL_law_1315 ?_
  refine V_ialdX F dL_law_1316 hscr (by omega) (by omega) ?_
  refine V_aload_n (i := 0) F dL_law_1317 rfl rfl ?_
  refine V_iload (i := 5) F dL_law_1318 rfl ?_
  refine V_iconst (v := nI 2) F dL_law_1320 rfl ?_
  refine V_iaddN F dL_law_1321 ?_
  refine V_ialdX F dL_law_1322 hscr (by omega) (by omega) ?_
  refine V_aload_n (i := 3) F dL_law_1323 rfl rfl ?_
  have hw := (x0_departureAt (ao := ao) (p0 := (xs (5 * j + 1))) (p1 := (xs (5 * j + 2))) (ck_departureAt hl0 hC hW.P0 hV) hC.isC (fun y h3 z => ⟨f0, z.2.2.2.ao hao hpo rfl⟩)).mono (fun r h2 hq => XQ.of hao hpo hq) (fun E q h2 hq => hq)
  -- wrapper
  refine V_xcSW (st := []) (nn := 4) F dL_law_1324 ⟨lw_SW q2886 q2887 q100 q2888, by decide +kernel⟩ hw rfl rfl (Nat.le_of_ble_eq_true rfl) (Nat.le_of_ble_eq_true rfl) (Nat.le_of_ble_eq_true rfl) (by omega) (by omega) ?_ (fun E q h2 hp => hp.elim)
  rintro _ h2 ⟨f, hc5, rfl, hC2, hao2, hf, hx⟩
  have hM2 := hM.off hx (fun b hb z => z.elim (fun z => z.1 hb) (fun z => hD.2.1 (z ▸ hb)))
  have had2 := hx.ao had (fun z => z.elim (fun z => z.2.2 rfl) (fun z => hD.1 z.symm)) rfl
  obtain ⟨V2, F2, hMC2, -⟩ := id hM2
  refine V_istore (i := 6) F dL_law_1327 (Nat.le_of_ble_eq_true rfl) (Nat.le_of_ble_eq_true rfl) ?_
  refine V_aload_n (i := 2) F dL_law_1329 rfl rfl ?_
  refine V_aload_n (i := 0) F dL_law_1330 rfl rfl ?_
  refine V_iload (i := 5) F dL_law_1331 rfl ?_
  refine V_iconst (v := nI 1) F dL_law_1333 rfl ?_
  refine V_iaddN F dL_law_1334 ?_
  refine V_ialdX F dL_law_1335 hscr (by omega) (by omega) ?_
  refine V_aload_n (i := 0) F dL_law_1336 rfl rfl ?_
  refine V_iload (i := 5) F dL_law_1337 rfl ?_
  refine V_iconst (v := nI 2) F dL_law_1339 rfl ?_
  refine V_iaddN F dL_law_1340 ?_
  refine V_ialdX F dL_law_1341 hscr (by omega) (by omega) ?_
  have hm := cm_departureAt (l := xl X) (p := (xs (5 * j + 1))) (q := (xs (5 * j + 2))) hM2 hV
  generalize hcd : (if ¬ (iR (xs (5 * j + 1)) (g 1) ∧ iR (xs (5 * j + 2)) (g (16 + 36 * tn (xs (5 * j + 1)) + 3))) then 1 else if tn (xs (5 * j + 2)) = g (16 + 36 * tn (xs (5 * j + 1)) + 3) - 1 then 2 else 0) = c at hc5 hf hm ⊢
  generalize hvv : (nI (LvG g (tn (xs (5 * j + 1))) (tn (xs (5 * j + 2))))) = v at hf hm
  refine V_callV (st := []) (nn := 2) F dL_law_1342 lk_X0_236 hm ⟨0, _, _, _, rfl, .inl hMC2.mm⟩ rfl rfl (Nat.le_of_ble_eq_true rfl) (Nat.le_of_ble_eq_true rfl) (Nat.le_of_ble_eq_true rfl) (by omega) (by omega) ?_
  rintro _ h3 ⟨rfl, hM3, hx3⟩
  have hC3 := hC2.frX hx3 (MW.ofm hMC2)
  have hao3 := hx3.ao hao2 hD.2.1 rfl
  have had3 := hx3.ao had2 hD.2.2 rfl
  obtain ⟨V3, F3, hMC3, hMV3⟩ := id hM3
  by_cases c0 : c = 0
  · subst c0
    rw [if_pos rfl]
    refine V_istore (i := 7) F dL_law_1345 (Nat.le_of_ble_eq_true rfl) (Nat.le_of_ble_eq_true rfl) ?_
    refine V_aload_n (i := 2) F dL_law_1347 rfl rfl ?_
    refine V_cV0r F dL_law_1348 lk_X0_178 (ct_thrown hMC3.mm (congrArg some hMV3.v7)) ⟨0, _, _, _, rfl, .inl hMC3.mm⟩ (Nat.le_of_ble_eq_true rfl) (Nat.le_of_ble_eq_true rfl) (Nat.le_of_ble_eq_true rfl) (by omega) (by omega) ?_
    refine V_iload (i := 6) F dL_law_1351 rfl ?_
    refine V_icmp_eqN (tgt := 1358) F dL_law_1353 (by decide) (by decide) (by decide) (fun _ => ?_) (fun z => absurd rfl z)
    refine V_iload (i := 6) F dL_law_1358 rfl ?_
    refine V_if_neN (tgt := 1375) F dL_law_1360 (by decide) (by decide) (fun z => absurd z (Nat.lt_irrefl 0)) (fun _ => ?_)
    refine V_aload_n (i := 3) F dL_law_1363 rfl rfl ?_
    refine V_iconst (v := nI 0) F dL_law_1364 rfl ?_
    refine V_laldN F 1 dL_law_1365 rfl (.inl hao3) (by decide) (by decide) ?_
    refine V_iload (i := 7) F dL_law_1366 rfl ?_
    refine V_i2l F dL_law_1368 ?_
    refine V_lcmp F dL_law_1369 ?_
    refine V_if_eq (tgt := 1375) F dL_law_1370 (by decide) (fun _ => ?_) (fun z => absurd (lg_self (hf rfl)) z)
    refine V_goto (tgt := 3195) F dL_law_1375 (by decide) ?_
    exact VV.weak (L' := LL b xo m ao ad j) (LW.c1 (LW.c1 (LW.c1 (LW.c1 (LW.c1 (LW.c1 (LW.c0 (LW.c0 (LW.c0 LW.nil))))))))) (VV.wide (by omega) (by omega) (next _ _ _ _ _ _ _ _ ⟨hC3, ⟨_, _, _, _, hM3⟩, hV.up (by omega), ⟨_, hao3⟩, ⟨_, had3⟩, by omega⟩))
  · rw [if_neg c0]
    refine V_istore (i := 7) F dL_law_1345 (Nat.le_of_ble_eq_true rfl) (Nat.le_of_ble_eq_true rfl) ?_
    refine V_aload_n (i := 2) F dL_law_1347 rfl rfl ?_
    refine V_cV0r F dL_law_1348 lk_X0_178 (ct_thrown hMC3.mm (congrArg some hMV3.v7)) ⟨0, _, _, _, rfl, .inl hMC3.mm⟩ (Nat.le_of_ble_eq_true rfl) (Nat.le_of_ble_eq_true rfl) (Nat.le_of_ble_eq_true rfl) (by omega) (by omega) ?_
    refine V_iload (i := 6) F dL_law_1351 rfl ?_
    refine V_icmp_eqN (tgt := 1358) F dL_law_1353 (by decide) (by omega) (by omega) (fun _ => ?_) (fun z => absurd rfl z)
    refine V_iload (i := 6) F dL_law_1358 rfl ?_
    refine V_if_neN (tgt := 1375) F dL_law_1360 (by decide) (by omega) (fun _ => ?_) (fun z => absurd z c0)
    refine V_goto (tgt := 3195) F dL_law_1375 (by decide) ?_
    exact VV.weak (L' := LL b xo m ao ad j) (LW.c1 (LW.c1 (LW.c1 (LW.c1 (LW.c1 (LW.c1 (LW.c0 (LW.c0 (LW.c0 LW.nil))))))))) (VV.wide (by omega) (by omega) (next _ _ _ _ _ _ _ _ ⟨hC3, ⟨_, _, _, _, hM3⟩, hV.up (by omega), ⟨_, hao3⟩, ⟨_, had3⟩, by omega⟩))
theorem law_18 {G : GG} {X : CX} {Q : State → Prop} {h : AH} {b L xo m ao ad n j kc nn : Nat} {xs : Nat → Int32} {A : Nat → Nat} {g : Nat → Nat} {sn : Option (Nat → Nat)} {hs : List (Nat → Nat)} {tx : List Nat} {ep fc : Nat} {ot : List Nat} {rt : Option FieldType} (F : Fx G X cL_law 9 RX0 rt 1000 1200144 5494714) (hl0 : (xl X).stackTraces = false) (hscr : SCR G X b L xs) (hL : L ≤ 120) (hj : 5 * j + 5 ≤ L) (hn : n ≤ 600) (hD : DIS m A ao ad) (hW : LWD G h xo m A ao ad n j g sn hs tx ep fc ot) (hk : kc + 50000 ≤ 1200144) (hs0 : nn + 228000 ≤ 5494714)
    (next : ∀ h2 g2 sn2 hs2 tx2 ep2 fc2 ot2, LWD G h2 xo m A ao ad (n + 21) (j + 1) g2 sn2 hs2 tx2 ep2 fc2 ot2 → VV G X 9 Q h2 (kc + 50000) (nn + 228000) (LL b xo m ao ad j) [] 3195) : VV G X 9 Q h kc nn (LL b xo m ao ad j) [] 1378 := by
  obtain ⟨hC, ⟨tm, cd, gb, τ, hM⟩, hV, ⟨f0, hao⟩, ⟨f1, had⟩, htx⟩ := id hW
  have hpo : ¬ PL m A ao ad ao := fun z => z.2.1 rfl
  have hpd : ¬ PL m A ao ad ad := fun z => z.2.2 rfl
  refine V_aload_n (i := 1) F dL_law_1378 rfl rfl ?_
  refine V_aload_n (i := 0) F dL_law_1379 rfl rfl ?_
  refine V_iload (i := 5) F dL_law_1380 rfl ?_
  refine V_iconst (v := nI 1) F dL_law_1382 rfl ?_
  refine V_iaddN F dL_law_1383 ?_
  refine V_ialdX F dL_law_1384 hscr (by omega) (by omega) ?_
  refine V_aload_n (i := 3) F dL_law_1385 rfl rfl ?_
  have hw := (x0_capacity (ao := ao) (p0 := (xs (5 * j + 1))) (ck_capacity hl0 hC hW.P0 hV) hC.isC (fun y h3 z => ⟨f0, z.2.2.2.ao hao hpo rfl⟩)).mono (fun r h2 hq => XQ.of hao hpo hq) (fun E q h2 hq => hq)
  -- wrapper
  refine V_xcSW (st := []) (nn := 3) F dL_law_1386 ⟨lw_SW q2895 q2896 q100 q2897, by decide +kernel⟩ hw rfl rfl (Nat.le_of_ble_eq_true rfl) (Nat.le_of_ble_eq_true rfl) (Nat.le_of_ble_eq_true rfl) (by omega) (by omega) ?_ (fun E q h2 hp => hp.elim)
  rintro _ h2 ⟨f, hc5, rfl, hC2, hao2, hf, hx⟩
  have hM2 := hM.off hx (fun b hb z => z.elim (fun z => z.1 hb) (fun z => hD.2.1 (z ▸ hb)))
  have had2 := hx.ao had (fun z => z.elim (fun z => z.2.2 rfl) (fun z => hD.1 z.symm)) rfl
  obtain ⟨V2, F2, hMC2, -⟩ := id hM2
  refine V_istore (i := 6) F dL_law_1389 (Nat.le_of_ble_eq_true rfl) (Nat.le_of_ble_eq_true rfl) ?_
  refine V_aload_n (i := 2) F dL_law_1391 rfl rfl ?_
  refine V_aload_n (i := 0) F dL_law_1392 rfl rfl ?_
  refine V_iload (i := 5) F dL_law_1393 rfl ?_
  refine V_iconst (v := nI 1) F dL_law_1395 rfl ?_
  refine V_iaddN F dL_law_1396 ?_
  refine V_ialdX F dL_law_1397 hscr (by omega) (by omega) ?_
  have hm := cm_capacity (l := xl X) (p := (xs (5 * j + 1))) hM2 hV
  generalize hcd : (if ¬ iR (xs (5 * j + 1)) (g 1) then 1 else 0) = c at hc5 hf hm ⊢
  generalize hvv : (nI (g (16 + 36 * tn (xs (5 * j + 1)) + 0))) = v at hf hm
  refine V_callV (st := []) (nn := 1) F dL_law_1398 lk_X0_239 hm ⟨0, _, _, _, rfl, .inl hMC2.mm⟩ rfl rfl (Nat.le_of_ble_eq_true rfl) (Nat.le_of_ble_eq_true rfl) (Nat.le_of_ble_eq_true rfl) (by omega) (by omega) ?_
  rintro _ h3 ⟨rfl, hM3, hx3⟩
  have hC3 := hC2.frX hx3 (MW.ofm hMC2)
  have hao3 := hx3.ao hao2 hD.2.1 rfl
  have had3 := hx3.ao had2 hD.2.2 rfl
  obtain ⟨V3, F3, hMC3, hMV3⟩ := id hM3
  by_cases c0 : c = 0
  · subst c0
    rw [if_pos rfl]
    refine V_istore (i := 7) F dL_law_1401 (Nat.le_of_ble_eq_true rfl) (Nat.le_of_ble_eq_true rfl) ?_
    refine V_aload_n (i := 2) F dL_law_1403 rfl rfl ?_
    refine V_cV0r F dL_law_1404 lk_X0_178 (ct_thrown hMC3.mm (congrArg some hMV3.v7)) ⟨0, _, _, _, rfl, .inl hMC3.mm⟩ (Nat.le_of_ble_eq_true rfl) (Nat.le_of_ble_eq_true rfl) (Nat.le_of_ble_eq_true rfl) (by omega) (by omega) ?_
    refine V_iload (i := 6) F dL_law_1407 rfl ?_
    refine V_icmp_eqN (tgt := 1414) F dL_law_1409 (by decide) (by decide) (by decide) (fun _ => ?_) (fun z => absurd rfl z)
    refine V_iload (i := 6) F dL_law_1414 rfl ?_
    refine V_if_neN (tgt := 1431) F dL_law_1416 (by decide) (by decide) (fun z => absurd z (Nat.lt_irrefl 0)) (fun _ => ?_)
    refine V_aload_n (i := 3) F dL_law_1419 rfl rfl ?_
    refine V_iconst (v := nI 0) F dL_law_1420 rfl ?_
    refine V_laldN F 1 dL_law_1421 rfl (.inl hao3) (by decide) (by decide) ?_
    refine V_iload (i := 7) F dL_law_1422 rfl ?_
    refine V_i2l F dL_law_1424 ?_
    refine V_lcmp F dL_law_1425 ?_
    refine V_if_eq (tgt := 1431) F dL_law_1426 (by decide) (fun _ => ?_) (fun z => absurd (lg_self (hf rfl)) z)
    refine V_goto (tgt := 3195) F dL_law_1431 (by decide) ?_
    exact VV.weak (L' := LL b xo m ao ad j) (LW.c1 (LW.c1 (LW.c1 (LW.c1 (LW.c1 (LW.c1 (LW.c0 (LW.c0 (LW.c0 LW.nil))))))))) (VV.wide (by omega) (by omega) (next _ _ _ _ _ _ _ _ ⟨hC3, ⟨_, _, _, _, hM3⟩, hV.up (by omega), ⟨_, hao3⟩, ⟨_, had3⟩, by omega⟩))
  · rw [if_neg c0]
    refine V_istore (i := 7) F dL_law_1401 (Nat.le_of_ble_eq_true rfl) (Nat.le_of_ble_eq_true rfl) ?_
    refine V_aload_n (i := 2) F dL_law_1403 rfl rfl ?_
    refine V_cV0r F dL_law_1404 lk_X0_178 (ct_thrown hMC3.mm (congrArg some hMV3.v7)) ⟨0, _, _, _, rfl, .inl hMC3.mm⟩ (Nat.le_of_ble_eq_true rfl) (Nat.le_of_ble_eq_true rfl) (Nat.le_of_ble_eq_true rfl) (by omega) (by omega) ?_
    refine V_iload (i := 6) F dL_law_1407 rfl ?_
    refine V_icmp_eqN (tgt := 1414) F dL_law_1409 (by decide) (by omega) (by omega) (fun _ => ?_) (fun z => absurd rfl z)
    refine V_iload (i := 6) F dL_law_1414 rfl ?_
    refine V_if_neN (tgt := 1431) F dL_law_1416 (by decide) (by omega) (fun _ => ?_) (fun z => absurd z c0)
    refine V_goto (tgt := 3195) F dL_law_1431 (by decide) ?_
    exact VV.weak (L' := LL b xo m ao ad j) (LW.c1 (LW.c1 (LW.c1 (LW.c1 (LW.c1 (LW.c1 (LW.c0 (LW.c0 (LW.c0 LW.nil))))))))) (VV.wide (by omega) (by omega) (next _ _ _ _ _ _ _ _ ⟨hC3, ⟨_, _, _, _, hM3⟩, hV.up (by omega), ⟨_, hao3⟩, ⟨_, had3⟩, by omega⟩))
theorem law_19 {G : GG} {X : CX} {Q : State → Prop} {h : AH} {b L xo m ao ad n j kc nn : Nat} {xs : Nat → Int32} {A : Nat → Nat} {g : Nat → Nat} {sn : Option (Nat → Nat)} {hs : List (Nat → Nat)} {tx : List Nat} {ep fc : Nat} {ot : List Nat} {rt : Option FieldType} (F : Fx G X cL_law 9 RX0 rt 1000 1200144 5494714) (hl0 : (xl X).stackTraces = false) (hscr : SCR G X b L xs) (hL : L ≤ 120) (hj : 5 * j + 5 ≤ L) (hn : n ≤ 600) (hD : DIS m A ao ad) (hW : LWD G h xo m A ao ad n j g sn hs tx ep fc ot) (hk : kc + 50000 ≤ 1200144) (hs0 : nn + 228000 ≤ 5494714)
    (next : ∀ h2 g2 sn2 hs2 tx2 ep2 fc2 ot2, LWD G h2 xo m A ao ad (n + 21) (j + 1) g2 sn2 hs2 tx2 ep2 fc2 ot2 → VV G X 9 Q h2 (kc + 50000) (nn + 228000) (LL b xo m ao ad j) [] 3195) : VV G X 9 Q h kc nn (LL b xo m ao ad j) [] 1434 := by
  obtain ⟨hC, ⟨tm, cd, gb, τ, hM⟩, hV, ⟨f0, hao⟩, ⟨f1, had⟩, htx⟩ := id hW
  have hpo : ¬ PL m A ao ad ao := fun z => z.2.1 rfl
  have hpd : ¬ PL m A ao ad ad := fun z => z.2.2 rfl
  refine V_aload_n (i := 1) F dL_law_1434 rfl rfl ?_
  refine V_aload_n (i := 0) F dL_law_1435 rfl rfl ?_
  refine V_iload (i := 5) F dL_law_1436 rfl ?_
  refine V_iconst (v := nI 1) F dL_law_1438 rfl ?_
  refine V_iaddN F dL_law_1439 ?_
  refine V_ialdX F dL_law_1440 hscr (by omega) (by omega) ?_
  refine V_aload_n (i := 3) F dL_law_1441 rfl rfl ?_
  have hw := (x0_delayOf (ao := ao) (p0 := (xs (5 * j + 1))) (ck_delayOf hl0 hC hW.P0 hV) hC.isC (fun y h3 z => ⟨f0, z.2.2.2.ao hao hpo rfl⟩)).mono (fun r h2 hq => XQ.of hao hpo hq) (fun E q h2 hq => hq)
  -- wrapper
  refine V_xcSW (st := []) (nn := 3) F dL_law_1442 ⟨lw_SW q2902 q2903 q100 q2904, by decide +kernel⟩ hw rfl rfl (Nat.le_of_ble_eq_true rfl) (Nat.le_of_ble_eq_true rfl) (Nat.le_of_ble_eq_true rfl) (by omega) (by omega) ?_ (fun E q h2 hp => hp.elim)
  rintro _ h2 ⟨f, hc5, rfl, hC2, hao2, hf, hx⟩
  have hM2 := hM.off hx (fun b hb z => z.elim (fun z => z.1 hb) (fun z => hD.2.1 (z ▸ hb)))
  have had2 := hx.ao had (fun z => z.elim (fun z => z.2.2 rfl) (fun z => hD.1 z.symm)) rfl
  obtain ⟨V2, F2, hMC2, -⟩ := id hM2
  refine V_istore (i := 6) F dL_law_1445 (Nat.le_of_ble_eq_true rfl) (Nat.le_of_ble_eq_true rfl) ?_
  refine V_aload_n (i := 2) F dL_law_1447 rfl rfl ?_
  refine V_aload_n (i := 0) F dL_law_1448 rfl rfl ?_
  refine V_iload (i := 5) F dL_law_1449 rfl ?_
  refine V_iconst (v := nI 1) F dL_law_1451 rfl ?_
  refine V_iaddN F dL_law_1452 ?_
  refine V_ialdX F dL_law_1453 hscr (by omega) (by omega) ?_
  have hm := cm_delayOf (l := xl X) (p := (xs (5 * j + 1))) hM2 hV
  generalize hcd : (if ¬ iR (xs (5 * j + 1)) (g 1) then 1 else 0) = c at hc5 hf hm ⊢
  generalize hvv : (nI (g (16 + 36 * tn (xs (5 * j + 1)) + 2))) = v at hf hm
  refine V_callV (st := []) (nn := 1) F dL_law_1454 lk_X0_242 hm ⟨0, _, _, _, rfl, .inl hMC2.mm⟩ rfl rfl (Nat.le_of_ble_eq_true rfl) (Nat.le_of_ble_eq_true rfl) (Nat.le_of_ble_eq_true rfl) (by omega) (by omega) ?_
  rintro _ h3 ⟨rfl, hM3, hx3⟩
  have hC3 := hC2.frX hx3 (MW.ofm hMC2)
  have hao3 := hx3.ao hao2 hD.2.1 rfl
  have had3 := hx3.ao had2 hD.2.2 rfl
  obtain ⟨V3, F3, hMC3, hMV3⟩ := id hM3
  by_cases c0 : c = 0
  · subst c0
    rw [if_pos rfl]
    refine V_istore (i := 7) F dL_law_1457 (Nat.le_of_ble_eq_true rfl) (Nat.le_of_ble_eq_true rfl) ?_
    refine V_aload_n (i := 2) F dL_law_1459 rfl rfl ?_
    refine V_cV0r F dL_law_1460 lk_X0_178 (ct_thrown hMC3.mm (congrArg some hMV3.v7)) ⟨0, _, _, _, rfl, .inl hMC3.mm⟩ (Nat.le_of_ble_eq_true rfl) (Nat.le_of_ble_eq_true rfl) (Nat.le_of_ble_eq_true rfl) (by omega) (by omega) ?_
    refine V_iload (i := 6) F dL_law_1463 rfl ?_
    refine V_icmp_eqN (tgt := 1470) F dL_law_1465 (by decide) (by decide) (by decide) (fun _ => ?_) (fun z => absurd rfl z)
    refine V_iload (i := 6) F dL_law_1470 rfl ?_
    refine V_if_neN (tgt := 1487) F dL_law_1472 (by decide) (by decide) (fun z => absurd z (Nat.lt_irrefl 0)) (fun _ => ?_)
    refine V_aload_n (i := 3) F dL_law_1475 rfl rfl ?_
    refine V_iconst (v := nI 0) F dL_law_1476 rfl ?_
    refine V_laldN F 1 dL_law_1477 rfl (.inl hao3) (by decide) (by decide) ?_
    refine V_iload (i := 7) F dL_law_1478 rfl ?_
    refine V_i2l F dL_law_1480 ?_
    refine V_lcmp F dL_law_1481 ?_
    refine V_if_eq (tgt := 1487) F dL_law_1482 (by decide) (fun _ => ?_) (fun z => absurd (lg_self (hf rfl)) z)
    refine V_goto (tgt := 3195) F dL_law_1487 (by decide) ?_
    exact VV.weak (L' := LL b xo m ao ad j) (LW.c1 (LW.c1 (LW.c1 (LW.c1 (LW.c1 (LW.c1 (LW.c0 (LW.c0 (LW.c0 LW.nil))))))))) (VV.wide (by omega) (by omega) (next _ _ _ _ _ _ _ _ ⟨hC3, ⟨_, _, _, _, hM3⟩, hV.up (by omega), ⟨_, hao3⟩, ⟨_, had3⟩, by omega⟩))
  · rw [if_neg c0]
    refine V_istore (i := 7) F dL_law_1457 (Nat.le_of_ble_eq_true rfl) (Nat.le_of_ble_eq_true rfl) ?_
    refine V_aload_n (i := 2) F dL_law_1459 rfl rfl ?_
    refine V_cV0r F dL_law_1460 lk_X0_178 (ct_thrown hMC3.mm (congrArg some hMV3.v7)) ⟨0, _, _, _, rfl, .inl hMC3.mm⟩ (Nat.le_of_ble_eq_true rfl) (Nat.le_of_ble_eq_true rfl) (Nat.le_of_ble_eq_true rfl) (by omega) (by omega) ?_
    refine V_iload (i := 6) F dL_law_1463 rfl ?_
    refine V_icmp_eqN (tgt := 1470) F dL_law_1465 (by decide) (by omega) (by omega) (fun _ => ?_) (fun z => absurd rfl z)
    refine V_iload (i := 6) F dL_law_1470 rfl ?_
    refine V_if_neN (tgt := 1487) F dL_law_1472 (by decide) (by omega) (fun _ => ?_) (fun z => absurd z c0)
    refine V_goto (tgt := 3195) F dL_law_1487 (by decide) ?_
    exact VV.weak (L' := LL b xo m ao ad j) (LW.c1 (LW.c1 (LW.c1 (LW.c1 (LW.c1 (LW.c1 (LW.c0 (LW.c0 (LW.c0 LW.nil))))))))) (VV.wide (by omega) (by omega) (next _ _ _ _ _ _ _ _ ⟨hC3, ⟨_, _, _, _, hM3⟩, hV.up (by omega), ⟨_, hao3⟩, ⟨_, had3⟩, by omega⟩))
theorem law_20 {G : GG} {X : CX} {Q : State → Prop} {h : AH} {b L xo m ao ad n j kc nn : Nat} {xs : Nat → Int32} {A : Nat → Nat} {g : Nat → Nat} {sn : Option (Nat → Nat)} {hs : List (Nat → Nat)} {tx : List Nat} {ep fc : Nat} {ot : List Nat} {rt : Option FieldType} (F : Fx G X cL_law 9 RX0 rt 1000 1200144 5494714) (hl0 : (xl X).stackTraces = false) (hscr : SCR G X b L xs) (hL : L ≤ 120) (hj : 5 * j + 5 ≤ L) (hn : n ≤ 600) (hD : DIS m A ao ad) (hW : LWD G h xo m A ao ad n j g sn hs tx ep fc ot) (hk : kc + 50000 ≤ 1200144) (hs0 : nn + 228000 ≤ 5494714)
    (next : ∀ h2 g2 sn2 hs2 tx2 ep2 fc2 ot2, LWD G h2 xo m A ao ad (n + 21) (j + 1) g2 sn2 hs2 tx2 ep2 fc2 ot2 → VV G X 9 Q h2 (kc + 50000) (nn + 228000) (LL b xo m ao ad j) [] 3195) : VV G X 9 Q h kc nn (LL b xo m ao ad j) [] 1490 := by
  obtain ⟨hC, ⟨tm, cd, gb, τ, hM⟩, hV, ⟨f0, hao⟩, ⟨f1, had⟩, htx⟩ := id hW
  have hpo : ¬ PL m A ao ad ao := fun z => z.2.1 rfl
  have hpd : ¬ PL m A ao ad ad := fun z => z.2.2 rfl
  refine V_aload_n (i := 1) F dL_law_1490 rfl rfl ?_
  refine V_aload_n (i := 0) F dL_law_1491 rfl rfl ?_
  refine V_iload (i := 5) F dL_law_1492 rfl ?_
  refine V_iconst (v := nI 1) F dL_law_1494 rfl ?_
  refine V_iaddN F dL_law_1495 ?_
  refine V_ialdX F dL_law_1496 hscr (by omega) (by omega) ?_
  refine V_aload_n (i := 0) F dL_law_1497 rfl rfl ?_
  refine V_iload (i := 5) F dL_law_1498 rfl ?_
  refine V_iconst (v := nI 2) F dL_law_1500 rfl ?_
  refine V_iaddN F dL_law_1501 ?_
  refine V_ialdX F dL_law_1502 hscr (by omega) (by omega) ?_
  refine V_aload_n (i := 3) F dL_law_1503 rfl rfl ?_
  have hw := (x0_load (ao := ao) (p0 := (xs (5 * j + 1))) (p1 := (xs (5 * j + 2))) (ck_load hl0 hC hW.P0 hV) hC.isC (fun y h3 z => ⟨f0, z.2.2.2.ao hao hpo rfl⟩)).mono (fun r h2 hq => XQ.of hao hpo hq) (fun E q h2 hq => hq)
  -- wrapper
  refine V_xcSW (st := []) (nn := 4) F dL_law_1504 ⟨lw_SW q2909 q2910 q100 q2911, by decide +kernel⟩ hw rfl rfl (Nat.le_of_ble_eq_true rfl) (Nat.le_of_ble_eq_true rfl) (Nat.le_of_ble_eq_true rfl) (by omega) (by omega) ?_ (fun E q h2 hp => hp.elim)
  rintro _ h2 ⟨f, hc5, rfl, hC2, hao2, hf, hx⟩
  have hM2 := hM.off hx (fun b hb z => z.elim (fun z => z.1 hb) (fun z => hD.2.1 (z ▸ hb)))
  have had2 := hx.ao had (fun z => z.elim (fun z => z.2.2 rfl) (fun z => hD.1 z.symm)) rfl
  obtain ⟨V2, F2, hMC2, -⟩ := id hM2
  refine V_istore (i := 6) F dL_law_1507 (Nat.le_of_ble_eq_true rfl) (Nat.le_of_ble_eq_true rfl) ?_
  refine V_aload_n (i := 2) F dL_law_1509 rfl rfl ?_
  refine V_aload_n (i := 0) F dL_law_1510 rfl rfl ?_
  refine V_iload (i := 5) F dL_law_1511 rfl ?_
  refine V_iconst (v := nI 1) F dL_law_1513 rfl ?_
  refine V_iaddN F dL_law_1514 ?_
  refine V_ialdX F dL_law_1515 hscr (by omega) (by omega) ?_
  refine V_aload_n (i := 0) F dL_law_1516 rfl rfl ?_
  refine V_iload (i := 5) F dL_law_1517 rfl ?_
  refine V_iconst (v := nI 2) F dL_law_1519 rfl ?_
  refine V_iaddN F dL_law_1520 ?_
  refine V_ialdX F dL_law_1521 hscr (by omega) (by omega) ?_
  have hm := cm_load (l := xl X) (p := (xs (5 * j + 1))) (q := (xs (5 * j + 2))) hM2 hV
  generalize hcd : (if ¬ (iR (xs (5 * j + 1)) (g 1) ∧ iR (xs (5 * j + 2)) (g (16 + 36 * tn (xs (5 * j + 1)) + 3) - 1)) then 1 else 0) = c at hc5 hf hm ⊢
  generalize hvv : (nI (ldG g (tn (xs (5 * j + 1))) (tn (xs (5 * j + 2))))) = v at hf hm
  refine V_callV (st := []) (nn := 2) F dL_law_1522 lk_X0_245 hm ⟨0, _, _, _, rfl, .inl hMC2.mm⟩ rfl rfl (Nat.le_of_ble_eq_true rfl) (Nat.le_of_ble_eq_true rfl) (Nat.le_of_ble_eq_true rfl) (by omega) (by omega) ?_
  rintro _ h3 ⟨rfl, hM3, hx3⟩
  have hC3 := hC2.frX hx3 (MW.ofm hMC2)
  have hao3 := hx3.ao hao2 hD.2.1 rfl
  have had3 := hx3.ao had2 hD.2.2 rfl
  obtain ⟨V3, F3, hMC3, hMV3⟩ := id hM3
  by_cases c0 : c = 0
  · subst c0
    rw [if_pos rfl]
    refine V_istore (i := 7) F dL_law_1525 (Nat.le_of_ble_eq_true rfl) (Nat.le_of_ble_eq_true rfl) ?_
    refine V_aload_n (i := 2) F dL_law_1527 rfl rfl ?_
    refine V_cV0r F dL_law_1528 lk_X0_178 (ct_thrown hMC3.mm (congrArg some hMV3.v7)) ⟨0, _, _, _, rfl, .inl hMC3.mm⟩ (Nat.le_of_ble_eq_true rfl) (Nat.le_of_ble_eq_true rfl) (Nat.le_of_ble_eq_true rfl) (by omega) (by omega) ?_
    refine V_iload (i := 6) F dL_law_1531 rfl ?_
    refine V_icmp_eqN (tgt := 1538) F dL_law_1533 (by decide) (by decide) (by decide) (fun _ => ?_) (fun z => absurd rfl z)
    refine V_iload (i := 6) F dL_law_1538 rfl ?_
    refine V_if_neN (tgt := 1555) F dL_law_1540 (by decide) (by decide) (fun z => absurd z (Nat.lt_irrefl 0)) (fun _ => ?_)
    refine V_aload_n (i := 3) F dL_law_1543 rfl rfl ?_
    refine V_iconst (v := nI 0) F dL_law_1544 rfl ?_
    refine V_laldN F 1 dL_law_1545 rfl (.inl hao3) (by decide) (by decide) ?_
    refine V_iload (i := 7) F dL_law_1546 rfl ?_
    refine V_i2l F dL_law_1548 ?_
    refine V_lcmp F dL_law_1549 ?_
    refine V_if_eq (tgt := 1555) F dL_law_1550 (by decide) (fun _ => ?_) (fun z => absurd (lg_self (hf rfl)) z)
    refine V_goto (tgt := 3195) F dL_law_1555 (by decide) ?_
    exact VV.weak (L' := LL b xo m ao ad j) (LW.c1 (LW.c1 (LW.c1 (LW.c1 (LW.c1 (LW.c1 (LW.c0 (LW.c0 (LW.c0 LW.nil))))))))) (VV.wide (by omega) (by omega) (next _ _ _ _ _ _ _ _ ⟨hC3, ⟨_, _, _, _, hM3⟩, hV.up (by omega), ⟨_, hao3⟩, ⟨_, had3⟩, by omega⟩))
  · rw [if_neg c0]
    refine V_istore (i := 7) F dL_law_1525 (Nat.le_of_ble_eq_true rfl) (Nat.le_of_ble_eq_true rfl) ?_
    refine V_aload_n (i := 2) F dL_law_1527 rfl rfl ?_
    refine V_cV0r F dL_law_1528 lk_X0_178 (ct_thrown hMC3.mm (congrArg some hMV3.v7)) ⟨0, _, _, _, rfl, .inl hMC3.mm⟩ (Nat.le_of_ble_eq_true rfl) (Nat.le_of_ble_eq_true rfl) (Nat.le_of_ble_eq_true rfl) (by omega) (by omega) ?_
    refine V_iload (i := 6) F dL_law_1531 rfl ?_
    refine V_icmp_eqN (tgt := 1538) F dL_law_1533 (by decide) (by omega) (by omega) (fun _ => ?_) (fun z => absurd rfl z)
    refine V_iload (i := 6) F dL_law_1538 rfl ?_
    refine V_if_neN (tgt := 1555) F dL_law_1540 (by decide) (by omega) (fun _ => ?_) (fun z => absurd z c0)
    refine V_goto (tgt := 3195) F dL_law_1555 (by decide) ?_
    exact VV.weak (L' := LL b xo m ao ad j) (LW.c1 (LW.c1 (LW.c1 (LW.c1 (LW.c1 (LW.c1 (LW.c0 (LW.c0 (LW.c0 LW.nil))))))))) (VV.wide (by omega) (by omega) (next _ _ _ _ _ _ _ _ ⟨hC3, ⟨_, _, _, _, hM3⟩, hV.up (by omega), ⟨_, hao3⟩, ⟨_, had3⟩, by omega⟩))
theorem law_22 {G : GG} {X : CX} {Q : State → Prop} {h : AH} {b L xo m ao ad n j kc nn : Nat} {xs : Nat → Int32} {A : Nat → Nat} {g : Nat → Nat} {sn : Option (Nat → Nat)} {hs : List (Nat → Nat)} {tx : List Nat} {ep fc : Nat} {ot : List Nat} {rt : Option FieldType} (F : Fx G X cL_law 9 RX0 rt 1000 1200144 5494714) (hl0 : (xl X).stackTraces = false) (hscr : SCR G X b L xs) (hL : L ≤ 120) (hj : 5 * j + 5 ≤ L) (hn : n ≤ 600) (hD : DIS m A ao ad) (hW : LWD G h xo m A ao ad n j g sn hs tx ep fc ot) (hk : kc + 50000 ≤ 1200144) (hs0 : nn + 228000 ≤ 5494714)
    (next : ∀ h2 g2 sn2 hs2 tx2 ep2 fc2 ot2, LWD G h2 xo m A ao ad (n + 21) (j + 1) g2 sn2 hs2 tx2 ep2 fc2 ot2 → VV G X 9 Q h2 (kc + 50000) (nn + 228000) (LL b xo m ao ad j) [] 3195) : VV G X 9 Q h kc nn (LL b xo m ao ad j) [] 1633 := by
  obtain ⟨hC, ⟨tm, cd, gb, τ, hM⟩, hV, ⟨f0, hao⟩, ⟨f1, had⟩, htx⟩ := id hW
  have hpo : ¬ PL m A ao ad ao := fun z => z.2.1 rfl
  have hpd : ¬ PL m A ao ad ad := fun z => z.2.2 rfl
  refine V_aload_n (i := 1) F dL_law_1633 rfl rfl ?_
  refine V_aload_n (i := 0) F dL_law_1634 rfl rfl ?_
  refine V_iload (i := 5) F dL_law_1635 rfl ?_
  refine V_iconst (v := nI 1) F dL_law_1637 rfl ?_
  refine V_iaddN F dL_law_1638 ?_
  refine V_ialdX F dL_law_1639 hscr (by omega) (by omega) ?_
  refine V_aload_n (i := 0) F dL_law_1640 rfl rfl ?_
  refine V_iload (i := 5) F dL_law_1641 rfl ?_
  refine V_iconst (v := nI 2) F dL_law_1643 rfl ?_
  refine V_iaddN F dL_law_1644 ?_
  refine V_ialdX F dL_law_1645 hscr (by omega) (by omega) ?_
  refine V_aload_n (i := 0) F dL_law_1646 rfl rfl ?_
  refine V_iload (i := 5) F dL_law_1647 rfl ?_
  refine V_iconst (v := nI 3) F dL_law_1649 rfl ?_
  refine V_iaddN F dL_law_1650 ?_
  refine V_ialdX F dL_law_1651 hscr (by omega) (by omega) ?_
  refine V_aload_n (i := 3) F dL_law_1652 rfl rfl ?_
  have hw := (x0_canReach (ao := ao) (p0 := (xs (5 * j + 1))) (p1 := (xs (5 * j + 2))) (p2 := (xs (5 * j + 3))) (ck_canReach hl0 hC hW.P0 hV) hC.isC (fun y h3 z => ⟨f0, z.2.2.2.ao hao hpo rfl⟩) (fun y h3 z => by rw [z.2.1]; exact b2_01)).mono (fun r h2 hq => XQ.of hao hpo hq) (fun E q h2 hq => hq)
  -- wrapper
  refine V_xcSW (st := []) (nn := 5) F dL_law_1653 ⟨lw_SW q2929 q2930 q100 q2931, by decide +kernel⟩ hw rfl rfl (Nat.le_of_ble_eq_true rfl) (Nat.le_of_ble_eq_true rfl) (Nat.le_of_ble_eq_true rfl) (by omega) (by omega) ?_ (fun E q h2 hp => hp.elim)
  rintro _ h2 ⟨f, hc5, rfl, hC2, hao2, hf, hx⟩
  have hM2 := hM.off hx (fun b hb z => z.elim (fun z => z.1 hb) (fun z => hD.2.1 (z ▸ hb)))
  have had2 := hx.ao had (fun z => z.elim (fun z => z.2.2 rfl) (fun z => hD.1 z.symm)) rfl
  obtain ⟨V2, F2, hMC2, -⟩ := id hM2
  refine V_istore (i := 6) F dL_law_1656 (Nat.le_of_ble_eq_true rfl) (Nat.le_of_ble_eq_true rfl) ?_
  refine V_aload_n (i := 2) F dL_law_1658 rfl rfl ?_
  refine V_aload_n (i := 0) F dL_law_1659 rfl rfl ?_
  refine V_iload (i := 5) F dL_law_1660 rfl ?_
  refine V_iconst (v := nI 1) F dL_law_1662 rfl ?_
  refine V_iaddN F dL_law_1663 ?_
  refine V_ialdX F dL_law_1664 hscr (by omega) (by omega) ?_
  refine V_aload_n (i := 0) F dL_law_1665 rfl rfl ?_
  refine V_iload (i := 5) F dL_law_1666 rfl ?_
  refine V_iconst (v := nI 2) F dL_law_1668 rfl ?_
  refine V_iaddN F dL_law_1669 ?_
  refine V_ialdX F dL_law_1670 hscr (by omega) (by omega) ?_
  refine V_aload_n (i := 0) F dL_law_1671 rfl rfl ?_
  refine V_iload (i := 5) F dL_law_1672 rfl ?_
  refine V_iconst (v := nI 3) F dL_law_1674 rfl ?_
  refine V_iaddN F dL_law_1675 ?_
  refine V_ialdX F dL_law_1676 hscr (by omega) (by omega) ?_
  have hm := cm_canReach (l := xl X) (p := (xs (5 * j + 1))) (q := (xs (5 * j + 2))) (u := (xs (5 * j + 3))) hM2 hV
  generalize hcd : (cdJ g (xs (5 * j + 1)) (xs (5 * j + 2)) (xs (5 * j + 3))) = c at hc5 hf hm ⊢
  refine V_callV (st := []) (nn := 3) F dL_law_1677 lk_X0_251 hm ⟨0, _, _, _, rfl, .inl hMC2.mm⟩ rfl rfl (Nat.le_of_ble_eq_true rfl) (Nat.le_of_ble_eq_true rfl) (Nat.le_of_ble_eq_true rfl) (by omega) (by omega) ?_
  rintro _ h3 ⟨rfl, hM3, hx3⟩
  have hC3 := hC2.frX hx3 (MW.ofm hMC2)
  have hao3 := hx3.ao hao2 hD.2.1 rfl
  have had3 := hx3.ao had2 hD.2.2 rfl
  obtain ⟨V3, F3, hMC3, hMV3⟩ := id hM3
  by_cases c0 : c = 0
  · subst c0
    rw [if_pos rfl]
    refine V_istore (i := 7) F dL_law_1680 (Nat.le_of_ble_eq_true rfl) (Nat.le_of_ble_eq_true rfl) ?_
    refine V_aload_n (i := 2) F dL_law_1682 rfl rfl ?_
    refine V_cV0r F dL_law_1683 lk_X0_178 (ct_thrown hMC3.mm (congrArg some hMV3.v7)) ⟨0, _, _, _, rfl, .inl hMC3.mm⟩ (Nat.le_of_ble_eq_true rfl) (Nat.le_of_ble_eq_true rfl) (Nat.le_of_ble_eq_true rfl) (by omega) (by omega) ?_
    refine V_iload (i := 6) F dL_law_1686 rfl ?_
    refine V_icmp_eqN (tgt := 1693) F dL_law_1688 (by decide) (by decide) (by decide) (fun _ => ?_) (fun z => absurd rfl z)
    refine V_iload (i := 6) F dL_law_1693 rfl ?_
    refine V_if_neN (tgt := 1717) F dL_law_1695 (by decide) (by decide) (fun z => absurd z (Nat.lt_irrefl 0)) (fun _ => ?_)
    refine V_aload_n (i := 3) F dL_law_1698 rfl rfl ?_
    refine V_iconst (v := nI 0) F dL_law_1699 rfl ?_
    refine V_laldN F 1 dL_law_1700 rfl (.inl hao3) (by decide) (by decide) ?_
    refine V_iload (i := 7) F dL_law_1701 rfl ?_
    refine V_if_eqB (tgt := 1710) F dL_law_1703 (by decide) (fun zb => ?_) (fun zb => ?_)
    · refine V_lconst (v := 0) F dL_law_1710 rfl ?_
      refine V_lcmp F dL_law_1711 ?_
      refine V_if_eq (tgt := 1717) F dL_law_1712 (by decide) (fun _ => ?_) (fun z => absurd (lg_self (by rw [hf rfl]; unfold b2; rw [if_neg zb]; rfl)) z)
      refine V_goto (tgt := 3195) F dL_law_1717 (by decide) ?_
      exact VV.weak (L' := LL b xo m ao ad j) (LW.c1 (LW.c1 (LW.c1 (LW.c1 (LW.c1 (LW.c1 (LW.c0 (LW.c0 (LW.c0 LW.nil))))))))) (VV.wide (by omega) (by omega) (next _ _ _ _ _ _ _ _ ⟨hC3, ⟨_, _, _, _, hM3⟩, hV.up (by omega), ⟨_, hao3⟩, ⟨_, had3⟩, by omega⟩))
    · refine V_lconst (v := 1) F dL_law_1706 rfl ?_
      refine V_goto (tgt := 1711) F dL_law_1707 (by decide) ?_
      refine V_lcmp F dL_law_1711 ?_
      refine V_if_eq (tgt := 1717) F dL_law_1712 (by decide) (fun _ => ?_) (fun z => absurd (lg_self (by rw [hf rfl]; unfold b2; rw [if_pos zb]; rfl)) z)
      refine V_goto (tgt := 3195) F dL_law_1717 (by decide) ?_
      exact VV.weak (L' := LL b xo m ao ad j) (LW.c1 (LW.c1 (LW.c1 (LW.c1 (LW.c1 (LW.c1 (LW.c0 (LW.c0 (LW.c0 LW.nil))))))))) (VV.wide (by omega) (by omega) (next _ _ _ _ _ _ _ _ ⟨hC3, ⟨_, _, _, _, hM3⟩, hV.up (by omega), ⟨_, hao3⟩, ⟨_, had3⟩, by omega⟩))
  · rw [if_neg c0]
    refine V_istore (i := 7) F dL_law_1680 (Nat.le_of_ble_eq_true rfl) (Nat.le_of_ble_eq_true rfl) ?_
    refine V_aload_n (i := 2) F dL_law_1682 rfl rfl ?_
    refine V_cV0r F dL_law_1683 lk_X0_178 (ct_thrown hMC3.mm (congrArg some hMV3.v7)) ⟨0, _, _, _, rfl, .inl hMC3.mm⟩ (Nat.le_of_ble_eq_true rfl) (Nat.le_of_ble_eq_true rfl) (Nat.le_of_ble_eq_true rfl) (by omega) (by omega) ?_
    refine V_iload (i := 6) F dL_law_1686 rfl ?_
    refine V_icmp_eqN (tgt := 1693) F dL_law_1688 (by decide) (by omega) (by omega) (fun _ => ?_) (fun z => absurd rfl z)
    refine V_iload (i := 6) F dL_law_1693 rfl ?_
    refine V_if_neN (tgt := 1717) F dL_law_1695 (by decide) (by omega) (fun _ => ?_) (fun z => absurd z c0)
    refine V_goto (tgt := 3195) F dL_law_1717 (by decide) ?_
    exact VV.weak (L' := LL b xo m ao ad j) (LW.c1 (LW.c1 (LW.c1 (LW.c1 (LW.c1 (LW.c1 (LW.c0 (LW.c0 (LW.c0 LW.nil))))))))) (VV.wide (by omega) (by omega) (next _ _ _ _ _ _ _ _ ⟨hC3, ⟨_, _, _, _, hM3⟩, hV.up (by omega), ⟨_, hao3⟩, ⟨_, had3⟩, by omega⟩))
theorem law_23 {G : GG} {X : CX} {Q : State → Prop} {h : AH} {b L xo m ao ad n j kc nn : Nat} {xs : Nat → Int32} {A : Nat → Nat} {g : Nat → Nat} {sn : Option (Nat → Nat)} {hs : List (Nat → Nat)} {tx : List Nat} {ep fc : Nat} {ot : List Nat} {rt : Option FieldType} (F : Fx G X cL_law 9 RX0 rt 1000 1200144 5494714) (hl0 : (xl X).stackTraces = false) (hscr : SCR G X b L xs) (hL : L ≤ 120) (hj : 5 * j + 5 ≤ L) (hn : n ≤ 600) (hD : DIS m A ao ad) (hW : LWD G h xo m A ao ad n j g sn hs tx ep fc ot) (hk : kc + 50000 ≤ 1200144) (hs0 : nn + 228000 ≤ 5494714)
    (next : ∀ h2 g2 sn2 hs2 tx2 ep2 fc2 ot2, LWD G h2 xo m A ao ad (n + 21) (j + 1) g2 sn2 hs2 tx2 ep2 fc2 ot2 → VV G X 9 Q h2 (kc + 50000) (nn + 228000) (LL b xo m ao ad j) [] 3195) : VV G X 9 Q h kc nn (LL b xo m ao ad j) [] 1720 := by
  obtain ⟨hC, ⟨tm, cd, gb, τ, hM⟩, hV, ⟨f0, hao⟩, ⟨f1, had⟩, htx⟩ := id hW
  have hpo : ¬ PL m A ao ad ao := fun z => z.2.1 rfl
  have hpd : ¬ PL m A ao ad ad := fun z => z.2.2 rfl
  refine V_aload_n (i := 1) F dL_law_1720 rfl rfl ?_
  refine V_aload_n (i := 0) F dL_law_1721 rfl rfl ?_
  refine V_iload (i := 5) F dL_law_1722 rfl ?_
  refine V_iconst (v := nI 1) F dL_law_1724 rfl ?_
  refine V_iaddN F dL_law_1725 ?_
  refine V_ialdX F dL_law_1726 hscr (by omega) (by omega) ?_
  refine V_aload_n (i := 0) F dL_law_1727 rfl rfl ?_
  refine V_iload (i := 5) F dL_law_1728 rfl ?_
  refine V_iconst (v := nI 2) F dL_law_1730 rfl ?_
  refine V_iaddN F dL_law_1731 ?_
  refine V_ialdX F dL_law_1732 hscr (by omega) (by omega) ?_
  refine V_aload_n (i := 0) F dL_law_1733 rfl rfl ?_
  refine V_iload (i := 5) F dL_law_1734 rfl ?_
  refine V_iconst (v := nI 3) F dL_law_1736 rfl ?_
  refine V_iaddN F dL_law_1737 ?_
  refine V_ialdX F dL_law_1738 hscr (by omega) (by omega) ?_
  refine V_aload_n (i := 3) F dL_law_1739 rfl rfl ?_
  have hw := (x0_arrival (ao := ao) (p0 := (xs (5 * j + 1))) (p1 := (xs (5 * j + 2))) (p2 := (xs (5 * j + 3))) (ck_arrival hl0 hC hW.P0 hV) hC.isC (fun y h3 z => ⟨f0, z.2.2.2.ao hao hpo rfl⟩)).mono (fun r h2 hq => XQ.of hao hpo hq) (fun E q h2 hq => hq)
  -- wrapper
  refine V_xcSW (st := []) (nn := 5) F dL_law_1740 ⟨lw_SW q2943 q2944 q100 q2945, by decide +kernel⟩ hw rfl rfl (Nat.le_of_ble_eq_true rfl) (Nat.le_of_ble_eq_true rfl) (Nat.le_of_ble_eq_true rfl) (by omega) (by omega) ?_ (fun E q h2 hp => hp.elim)
  rintro _ h2 ⟨f, hc5, rfl, hC2, hao2, hf, hx⟩
  have hM2 := hM.off hx (fun b hb z => z.elim (fun z => z.1 hb) (fun z => hD.2.1 (z ▸ hb)))
  have had2 := hx.ao had (fun z => z.elim (fun z => z.2.2 rfl) (fun z => hD.1 z.symm)) rfl
  obtain ⟨V2, F2, hMC2, -⟩ := id hM2
  refine V_istore (i := 6) F dL_law_1743 (Nat.le_of_ble_eq_true rfl) (Nat.le_of_ble_eq_true rfl) ?_
  refine V_aload_n (i := 2) F dL_law_1745 rfl rfl ?_
  refine V_aload_n (i := 0) F dL_law_1746 rfl rfl ?_
  refine V_iload (i := 5) F dL_law_1747 rfl ?_
  refine V_iconst (v := nI 1) F dL_law_1749 rfl ?_
  refine V_iaddN F dL_law_1750 ?_
  refine V_ialdX F dL_law_1751 hscr (by omega) (by omega) ?_
  refine V_aload_n (i := 0) F dL_law_1752 rfl rfl ?_
  refine V_iload (i := 5) F dL_law_1753 rfl ?_
  refine V_iconst (v := nI 2) F dL_law_1755 rfl ?_
  refine V_iaddN F dL_law_1756 ?_
  refine V_ialdX F dL_law_1757 hscr (by omega) (by omega) ?_
  refine V_aload_n (i := 0) F dL_law_1758 rfl rfl ?_
  refine V_iload (i := 5) F dL_law_1759 rfl ?_
  refine V_iconst (v := nI 3) F dL_law_1761 rfl ?_
  refine V_iaddN F dL_law_1762 ?_
  refine V_ialdX F dL_law_1763 hscr (by omega) (by omega) ?_
  have hm := cm_arrival (l := xl X) (p := (xs (5 * j + 1))) (q := (xs (5 * j + 2))) (u := (xs (5 * j + 3))) hM2 hV
  generalize hcd : (if cdJ g (xs (5 * j + 1)) (xs (5 * j + 2)) (xs (5 * j + 3)) ≠ 0 then cdJ g (xs (5 * j + 1)) (xs (5 * j + 2)) (xs (5 * j + 3)) else if aeG g (tn (xs (5 * j + 1))) (tn (xs (5 * j + 3))) (tn (xs (5 * j + 2))) = 1000000 then 3 else 0) = c at hc5 hf hm ⊢
  generalize hvv : (nI (aeG g (tn (xs (5 * j + 1))) (tn (xs (5 * j + 3))) (tn (xs (5 * j + 2))))) = v at hf hm
  refine V_callV (st := []) (nn := 3) F dL_law_1764 lk_X0_254 hm ⟨0, _, _, _, rfl, .inl hMC2.mm⟩ rfl rfl (Nat.le_of_ble_eq_true rfl) (Nat.le_of_ble_eq_true rfl) (Nat.le_of_ble_eq_true rfl) (by omega) (by omega) ?_
  rintro _ h3 ⟨rfl, hM3, hx3⟩
  have hC3 := hC2.frX hx3 (MW.ofm hMC2)
  have hao3 := hx3.ao hao2 hD.2.1 rfl
  have had3 := hx3.ao had2 hD.2.2 rfl
  obtain ⟨V3, F3, hMC3, hMV3⟩ := id hM3
  by_cases c0 : c = 0
  · subst c0
    rw [if_pos rfl]
    refine V_istore (i := 7) F dL_law_1767 (Nat.le_of_ble_eq_true rfl) (Nat.le_of_ble_eq_true rfl) ?_
    refine V_aload_n (i := 2) F dL_law_1769 rfl rfl ?_
    refine V_cV0r F dL_law_1770 lk_X0_178 (ct_thrown hMC3.mm (congrArg some hMV3.v7)) ⟨0, _, _, _, rfl, .inl hMC3.mm⟩ (Nat.le_of_ble_eq_true rfl) (Nat.le_of_ble_eq_true rfl) (Nat.le_of_ble_eq_true rfl) (by omega) (by omega) ?_
    refine V_iload (i := 6) F dL_law_1773 rfl ?_
    refine V_icmp_eqN (tgt := 1780) F dL_law_1775 (by decide) (by decide) (by decide) (fun _ => ?_) (fun z => absurd rfl z)
    refine V_iload (i := 6) F dL_law_1780 rfl ?_
    refine V_if_neN (tgt := 1797) F dL_law_1782 (by decide) (by decide) (fun z => absurd z (Nat.lt_irrefl 0)) (fun _ => ?_)
    refine V_aload_n (i := 3) F dL_law_1785 rfl rfl ?_
    refine V_iconst (v := nI 0) F dL_law_1786 rfl ?_
    refine V_laldN F 1 dL_law_1787 rfl (.inl hao3) (by decide) (by decide) ?_
    refine V_iload (i := 7) F dL_law_1788 rfl ?_
    refine V_i2l F dL_law_1790 ?_
    refine V_lcmp F dL_law_1791 ?_
    refine V_if_eq (tgt := 1797) F dL_law_1792 (by decide) (fun _ => ?_) (fun z => absurd (lg_self (hf rfl)) z)
    refine V_goto (tgt := 3195) F dL_law_1797 (by decide) ?_
    exact VV.weak (L' := LL b xo m ao ad j) (LW.c1 (LW.c1 (LW.c1 (LW.c1 (LW.c1 (LW.c1 (LW.c0 (LW.c0 (LW.c0 LW.nil))))))))) (VV.wide (by omega) (by omega) (next _ _ _ _ _ _ _ _ ⟨hC3, ⟨_, _, _, _, hM3⟩, hV.up (by omega), ⟨_, hao3⟩, ⟨_, had3⟩, by omega⟩))
  · rw [if_neg c0]
    refine V_istore (i := 7) F dL_law_1767 (Nat.le_of_ble_eq_true rfl) (Nat.le_of_ble_eq_true rfl) ?_
    refine V_aload_n (i := 2) F dL_law_1769 rfl rfl ?_
    refine V_cV0r F dL_law_1770 lk_X0_178 (ct_thrown hMC3.mm (congrArg some hMV3.v7)) ⟨0, _, _, _, rfl, .inl hMC3.mm⟩ (Nat.le_of_ble_eq_true rfl) (Nat.le_of_ble_eq_true rfl) (Nat.le_of_ble_eq_true rfl) (by omega) (by omega) ?_
    refine V_iload (i := 6) F dL_law_1773 rfl ?_
    refine V_icmp_eqN (tgt := 1780) F dL_law_1775 (by decide) (by omega) (by omega) (fun _ => ?_) (fun z => absurd rfl z)
    refine V_iload (i := 6) F dL_law_1780 rfl ?_
    refine V_if_neN (tgt := 1797) F dL_law_1782 (by decide) (by omega) (fun _ => ?_) (fun z => absurd z c0)
    refine V_goto (tgt := 3195) F dL_law_1797 (by decide) ?_
    exact VV.weak (L' := LL b xo m ao ad j) (LW.c1 (LW.c1 (LW.c1 (LW.c1 (LW.c1 (LW.c1 (LW.c0 (LW.c0 (LW.c0 LW.nil))))))))) (VV.wide (by omega) (by omega) (next _ _ _ _ _ _ _ _ ⟨hC3, ⟨_, _, _, _, hM3⟩, hV.up (by omega), ⟨_, hao3⟩, ⟨_, had3⟩, by omega⟩))
theorem law_24 {G : GG} {X : CX} {Q : State → Prop} {h : AH} {b L xo m ao ad n j kc nn : Nat} {xs : Nat → Int32} {A : Nat → Nat} {g : Nat → Nat} {sn : Option (Nat → Nat)} {hs : List (Nat → Nat)} {tx : List Nat} {ep fc : Nat} {ot : List Nat} {rt : Option FieldType} (F : Fx G X cL_law 9 RX0 rt 1000 1200144 5494714) (hl0 : (xl X).stackTraces = false) (hscr : SCR G X b L xs) (hL : L ≤ 120) (hj : 5 * j + 5 ≤ L) (hn : n ≤ 600) (hD : DIS m A ao ad) (hW : LWD G h xo m A ao ad n j g sn hs tx ep fc ot) (hk : kc + 50000 ≤ 1200144) (hs0 : nn + 228000 ≤ 5494714)
    (next : ∀ h2 g2 sn2 hs2 tx2 ep2 fc2 ot2, LWD G h2 xo m A ao ad (n + 21) (j + 1) g2 sn2 hs2 tx2 ep2 fc2 ot2 → VV G X 9 Q h2 (kc + 50000) (nn + 228000) (LL b xo m ao ad j) [] 3195) : VV G X 9 Q h kc nn (LL b xo m ao ad j) [] 1800 := by
  obtain ⟨hC, ⟨tm, cd, gb, τ, hM⟩, hV, ⟨f0, hao⟩, ⟨f1, had⟩, htx⟩ := id hW
  have hpo : ¬ PL m A ao ad ao := fun z => z.2.1 rfl
  have hpd : ¬ PL m A ao ad ad := fun z => z.2.2 rfl
  refine V_aload_n (i := 1) F dL_law_1800 rfl rfl ?_
  refine V_aload_n (i := 0) F dL_law_1801 rfl rfl ?_
  refine V_iload (i := 5) F dL_law_1802 rfl ?_
  refine V_iconst (v := nI 1) F dL_law_1804 rfl ?_
  refine V_iaddN F dL_law_1805 ?_
  refine V_ialdX F dL_law_1806 hscr (by omega) (by omega) ?_
  refine V_aload_n (i := 0) F dL_law_1807 rfl rfl ?_
  refine V_iload (i := 5) F dL_law_1808 rfl ?_
  refine V_iconst (v := nI 2) F dL_law_1810 rfl ?_
  refine V_iaddN F dL_law_1811 ?_
  refine V_ialdX F dL_law_1812 hscr (by omega) (by omega) ?_
  refine V_aload_n (i := 0) F dL_law_1813 rfl rfl ?_
  refine V_iload (i := 5) F dL_law_1814 rfl ?_
  refine V_iconst (v := nI 3) F dL_law_1816 rfl ?_
  refine V_iaddN F dL_law_1817 ?_
  refine V_ialdX F dL_law_1818 hscr (by omega) (by omega) ?_
  refine V_aload_n (i := 3) F dL_law_1819 rfl rfl ?_
  have hw := (x0_arrivalByScanning (ao := ao) (p0 := (xs (5 * j + 1))) (p1 := (xs (5 * j + 2))) (p2 := (xs (5 * j + 3))) (ck_arrivalByScanning hl0 hC hW.P0 hV) hC.isC (fun y h3 z => ⟨f0, z.2.2.2.ao hao hpo rfl⟩)).mono (fun r h2 hq => XQ.of hao hpo hq) (fun E q h2 hq => hq)
  -- wrapper
  refine V_xcSW (st := []) (nn := 5) F dL_law_1820 ⟨lw_SW q2950 q2951 q100 q2952, by decide +kernel⟩ hw rfl rfl (Nat.le_of_ble_eq_true rfl) (Nat.le_of_ble_eq_true rfl) (Nat.le_of_ble_eq_true rfl) (by omega) (by omega) ?_ (fun E q h2 hp => hp.elim)
  rintro _ h2 ⟨f, hc5, rfl, hC2, hao2, hf, hx⟩
  have hM2 := hM.off hx (fun b hb z => z.elim (fun z => z.1 hb) (fun z => hD.2.1 (z ▸ hb)))
  have had2 := hx.ao had (fun z => z.elim (fun z => z.2.2 rfl) (fun z => hD.1 z.symm)) rfl
  obtain ⟨V2, F2, hMC2, -⟩ := id hM2
  refine V_istore (i := 6) F dL_law_1823 (Nat.le_of_ble_eq_true rfl) (Nat.le_of_ble_eq_true rfl) ?_
  refine V_aload_n (i := 2) F dL_law_1825 rfl rfl ?_
  refine V_aload_n (i := 0) F dL_law_1826 rfl rfl ?_
  refine V_iload (i := 5) F dL_law_1827 rfl ?_
  refine V_iconst (v := nI 1) F dL_law_1829 rfl ?_
  refine V_iaddN F dL_law_1830 ?_
  refine V_ialdX F dL_law_1831 hscr (by omega) (by omega) ?_
  refine V_aload_n (i := 0) F dL_law_1832 rfl rfl ?_
  refine V_iload (i := 5) F dL_law_1833 rfl ?_
  refine V_iconst (v := nI 2) F dL_law_1835 rfl ?_
  refine V_iaddN F dL_law_1836 ?_
  refine V_ialdX F dL_law_1837 hscr (by omega) (by omega) ?_
  refine V_aload_n (i := 0) F dL_law_1838 rfl rfl ?_
  refine V_iload (i := 5) F dL_law_1839 rfl ?_
  refine V_iconst (v := nI 3) F dL_law_1841 rfl ?_
  refine V_iaddN F dL_law_1842 ?_
  refine V_ialdX F dL_law_1843 hscr (by omega) (by omega) ?_
  have hm := cm_arrivalByScanning (l := xl X) (p := (xs (5 * j + 1))) (q := (xs (5 * j + 2))) (u := (xs (5 * j + 3))) hM2 hV
  generalize hcd : (if cdJ g (xs (5 * j + 1)) (xs (5 * j + 2)) (xs (5 * j + 3)) ≠ 0 then cdJ g (xs (5 * j + 1)) (xs (5 * j + 2)) (xs (5 * j + 3)) else if aeG g (tn (xs (5 * j + 1))) (tn (xs (5 * j + 3))) (tn (xs (5 * j + 2))) = 1000000 then 3 else 0) = c at hc5 hf hm ⊢
  generalize hvv : (nI (aeG g (tn (xs (5 * j + 1))) (tn (xs (5 * j + 3))) (tn (xs (5 * j + 2))))) = v at hf hm
  refine V_callV (st := []) (nn := 3) F dL_law_1844 lk_X0_257 hm ⟨0, _, _, _, rfl, .inl hMC2.mm⟩ rfl rfl (Nat.le_of_ble_eq_true rfl) (Nat.le_of_ble_eq_true rfl) (Nat.le_of_ble_eq_true rfl) (by omega) (by omega) ?_
  rintro _ h3 ⟨rfl, hM3, hx3⟩
  have hC3 := hC2.frX hx3 (MW.ofm hMC2)
  have hao3 := hx3.ao hao2 hD.2.1 rfl
  have had3 := hx3.ao had2 hD.2.2 rfl
  obtain ⟨V3, F3, hMC3, hMV3⟩ := id hM3
  by_cases c0 : c = 0
  · subst c0
    rw [if_pos rfl]
    refine V_istore (i := 7) F dL_law_1847 (Nat.le_of_ble_eq_true rfl) (Nat.le_of_ble_eq_true rfl) ?_
    refine V_aload_n (i := 2) F dL_law_1849 rfl rfl ?_
    refine V_cV0r F dL_law_1850 lk_X0_178 (ct_thrown hMC3.mm (congrArg some hMV3.v7)) ⟨0, _, _, _, rfl, .inl hMC3.mm⟩ (Nat.le_of_ble_eq_true rfl) (Nat.le_of_ble_eq_true rfl) (Nat.le_of_ble_eq_true rfl) (by omega) (by omega) ?_
    refine V_iload (i := 6) F dL_law_1853 rfl ?_
    refine V_icmp_eqN (tgt := 1860) F dL_law_1855 (by decide) (by decide) (by decide) (fun _ => ?_) (fun z => absurd rfl z)
    refine V_iload (i := 6) F dL_law_1860 rfl ?_
    refine V_if_neN (tgt := 1877) F dL_law_1862 (by decide) (by decide) (fun z => absurd z (Nat.lt_irrefl 0)) (fun _ => ?_)
    refine V_aload_n (i := 3) F dL_law_1865 rfl rfl ?_
    refine V_iconst (v := nI 0) F dL_law_1866 rfl ?_
    refine V_laldN F 1 dL_law_1867 rfl (.inl hao3) (by decide) (by decide) ?_
    refine V_iload (i := 7) F dL_law_1868 rfl ?_
    refine V_i2l F dL_law_1870 ?_
    refine V_lcmp F dL_law_1871 ?_
    refine V_if_eq (tgt := 1877) F dL_law_1872 (by decide) (fun _ => ?_) (fun z => absurd (lg_self (hf rfl)) z)
    refine V_goto (tgt := 3195) F dL_law_1877 (by decide) ?_
    exact VV.weak (L' := LL b xo m ao ad j) (LW.c1 (LW.c1 (LW.c1 (LW.c1 (LW.c1 (LW.c1 (LW.c0 (LW.c0 (LW.c0 LW.nil))))))))) (VV.wide (by omega) (by omega) (next _ _ _ _ _ _ _ _ ⟨hC3, ⟨_, _, _, _, hM3⟩, hV.up (by omega), ⟨_, hao3⟩, ⟨_, had3⟩, by omega⟩))
  · rw [if_neg c0]
    refine V_istore (i := 7) F dL_law_1847 (Nat.le_of_ble_eq_true rfl) (Nat.le_of_ble_eq_true rfl) ?_
    refine V_aload_n (i := 2) F dL_law_1849 rfl rfl ?_
    refine V_cV0r F dL_law_1850 lk_X0_178 (ct_thrown hMC3.mm (congrArg some hMV3.v7)) ⟨0, _, _, _, rfl, .inl hMC3.mm⟩ (Nat.le_of_ble_eq_true rfl) (Nat.le_of_ble_eq_true rfl) (Nat.le_of_ble_eq_true rfl) (by omega) (by omega) ?_
    refine V_iload (i := 6) F dL_law_1853 rfl ?_
    refine V_icmp_eqN (tgt := 1860) F dL_law_1855 (by decide) (by omega) (by omega) (fun _ => ?_) (fun z => absurd rfl z)
    refine V_iload (i := 6) F dL_law_1860 rfl ?_
    refine V_if_neN (tgt := 1877) F dL_law_1862 (by decide) (by omega) (fun _ => ?_) (fun z => absurd z c0)
    refine V_goto (tgt := 3195) F dL_law_1877 (by decide) ?_
    exact VV.weak (L' := LL b xo m ao ad j) (LW.c1 (LW.c1 (LW.c1 (LW.c1 (LW.c1 (LW.c1 (LW.c0 (LW.c0 (LW.c0 LW.nil))))))))) (VV.wide (by omega) (by omega) (next _ _ _ _ _ _ _ _ ⟨hC3, ⟨_, _, _, _, hM3⟩, hV.up (by omega), ⟨_, hao3⟩, ⟨_, had3⟩, by omega⟩))
theorem law_25 {G : GG} {X : CX} {Q : State → Prop} {h : AH} {b L xo m ao ad n j kc nn : Nat} {xs : Nat → Int32} {A : Nat → Nat} {g : Nat → Nat} {sn : Option (Nat → Nat)} {hs : List (Nat → Nat)} {tx : List Nat} {ep fc : Nat} {ot : List Nat} {rt : Option FieldType} (F : Fx G X cL_law 9 RX0 rt 1000 1200144 5494714) (hl0 : (xl X).stackTraces = false) (hscr : SCR G X b L xs) (hL : L ≤ 120) (hj : 5 * j + 5 ≤ L) (hn : n ≤ 600) (hD : DIS m A ao ad) (hW : LWD G h xo m A ao ad n j g sn hs tx ep fc ot) (hk : kc + 50000 ≤ 1200144) (hs0 : nn + 228000 ≤ 5494714)
    (next : ∀ h2 g2 sn2 hs2 tx2 ep2 fc2 ot2, LWD G h2 xo m A ao ad (n + 21) (j + 1) g2 sn2 hs2 tx2 ep2 fc2 ot2 → VV G X 9 Q h2 (kc + 50000) (nn + 228000) (LL b xo m ao ad j) [] 3195) : VV G X 9 Q h kc nn (LL b xo m ao ad j) [] 1880 := by
  obtain ⟨hC, ⟨tm, cd, gb, τ, hM⟩, hV, ⟨f0, hao⟩, ⟨f1, had⟩, htx⟩ := id hW
  have hpo : ¬ PL m A ao ad ao := fun z => z.2.1 rfl
  have hpd : ¬ PL m A ao ad ad := fun z => z.2.2 rfl
  refine V_aload_n (i := 1) F dL_law_1880 rfl rfl ?_
  refine V_aload_n (i := 0) F dL_law_1881 rfl rfl ?_
  refine V_iload (i := 5) F dL_law_1882 rfl ?_
  refine V_iconst (v := nI 1) F dL_law_1884 rfl ?_
  refine V_iaddN F dL_law_1885 ?_
  refine V_ialdX F dL_law_1886 hscr (by omega) (by omega) ?_
  refine V_aload_n (i := 0) F dL_law_1887 rfl rfl ?_
  refine V_iload (i := 5) F dL_law_1888 rfl ?_
  refine V_iconst (v := nI 2) F dL_law_1890 rfl ?_
  refine V_iaddN F dL_law_1891 ?_
  refine V_ialdX F dL_law_1892 hscr (by omega) (by omega) ?_
  refine V_aload_n (i := 0) F dL_law_1893 rfl rfl ?_
  refine V_iload (i := 5) F dL_law_1894 rfl ?_
  refine V_iconst (v := nI 3) F dL_law_1896 rfl ?_
  refine V_iaddN F dL_law_1897 ?_
  refine V_ialdX F dL_law_1898 hscr (by omega) (by omega) ?_
  refine V_aload_n (i := 3) F dL_law_1899 rfl rfl ?_
  have hw := (x0_boardings (ao := ao) (p0 := (xs (5 * j + 1))) (p1 := (xs (5 * j + 2))) (p2 := (xs (5 * j + 3))) (ck_boardings hl0 hC hW.P0 hV) hC.isC (fun y h3 z => ⟨f0, z.2.2.2.ao hao hpo rfl⟩)).mono (fun r h2 hq => XQ.of hao hpo hq) (fun E q h2 hq => hq)
  -- wrapper
  refine V_xcSW (st := []) (nn := 5) F dL_law_1900 ⟨lw_SW q2958 q2959 q100 q2960, by decide +kernel⟩ hw rfl rfl (Nat.le_of_ble_eq_true rfl) (Nat.le_of_ble_eq_true rfl) (Nat.le_of_ble_eq_true rfl) (by omega) (by omega) ?_ (fun E q h2 hp => hp.elim)
  rintro _ h2 ⟨f, hc5, rfl, hC2, hao2, hf, hx⟩
  have hM2 := hM.off hx (fun b hb z => z.elim (fun z => z.1 hb) (fun z => hD.2.1 (z ▸ hb)))
  have had2 := hx.ao had (fun z => z.elim (fun z => z.2.2 rfl) (fun z => hD.1 z.symm)) rfl
  obtain ⟨V2, F2, hMC2, -⟩ := id hM2
  refine V_istore (i := 6) F dL_law_1903 (Nat.le_of_ble_eq_true rfl) (Nat.le_of_ble_eq_true rfl) ?_
  refine V_aload_n (i := 2) F dL_law_1905 rfl rfl ?_
  refine V_aload_n (i := 0) F dL_law_1906 rfl rfl ?_
  refine V_iload (i := 5) F dL_law_1907 rfl ?_
  refine V_iconst (v := nI 1) F dL_law_1909 rfl ?_
  refine V_iaddN F dL_law_1910 ?_
  refine V_ialdX F dL_law_1911 hscr (by omega) (by omega) ?_
  refine V_aload_n (i := 0) F dL_law_1912 rfl rfl ?_
  refine V_iload (i := 5) F dL_law_1913 rfl ?_
  refine V_iconst (v := nI 2) F dL_law_1915 rfl ?_
  refine V_iaddN F dL_law_1916 ?_
  refine V_ialdX F dL_law_1917 hscr (by omega) (by omega) ?_
  refine V_aload_n (i := 0) F dL_law_1918 rfl rfl ?_
  refine V_iload (i := 5) F dL_law_1919 rfl ?_
  refine V_iconst (v := nI 3) F dL_law_1921 rfl ?_
  refine V_iaddN F dL_law_1922 ?_
  refine V_ialdX F dL_law_1923 hscr (by omega) (by omega) ?_
  have hm := cm_boardings (l := xl X) (p := (xs (5 * j + 1))) (q := (xs (5 * j + 2))) (u := (xs (5 * j + 3))) hM2 hV
  generalize hcd : (if cdJ g (xs (5 * j + 1)) (xs (5 * j + 2)) (xs (5 * j + 3)) ≠ 0 then cdJ g (xs (5 * j + 1)) (xs (5 * j + 2)) (xs (5 * j + 3)) else if (BWv g (tn (xs (5 * j + 1))) (tn (xs (5 * j + 2))) (tn (xs (5 * j + 3)))).2 (tn (xs (5 * j + 2))) = 1000000 then 3 else 0) = c at hc5 hf hm ⊢
  generalize hvv : (nI (BWv g (tn (xs (5 * j + 1))) (tn (xs (5 * j + 2))) (tn (xs (5 * j + 3)))).1) = v at hf hm
  refine V_callV (st := []) (nn := 3) F dL_law_1924 lk_X0_260 hm ⟨0, _, _, _, rfl, .inl hMC2.mm⟩ rfl rfl (Nat.le_of_ble_eq_true rfl) (Nat.le_of_ble_eq_true rfl) (Nat.le_of_ble_eq_true rfl) (by omega) (by omega) ?_
  rintro _ h3 ⟨rfl, hM3, hx3⟩
  have hC3 := hC2.frX hx3 (MW.ofm hMC2)
  have hao3 := hx3.ao hao2 hD.2.1 rfl
  have had3 := hx3.ao had2 hD.2.2 rfl
  obtain ⟨V3, F3, hMC3, hMV3⟩ := id hM3
  by_cases c0 : c = 0
  · subst c0
    rw [if_pos rfl]
    refine V_istore (i := 7) F dL_law_1927 (Nat.le_of_ble_eq_true rfl) (Nat.le_of_ble_eq_true rfl) ?_
    refine V_aload_n (i := 2) F dL_law_1929 rfl rfl ?_
    refine V_cV0r F dL_law_1930 lk_X0_178 (ct_thrown hMC3.mm (congrArg some hMV3.v7)) ⟨0, _, _, _, rfl, .inl hMC3.mm⟩ (Nat.le_of_ble_eq_true rfl) (Nat.le_of_ble_eq_true rfl) (Nat.le_of_ble_eq_true rfl) (by omega) (by omega) ?_
    refine V_iload (i := 6) F dL_law_1933 rfl ?_
    refine V_icmp_eqN (tgt := 1940) F dL_law_1935 (by decide) (by decide) (by decide) (fun _ => ?_) (fun z => absurd rfl z)
    refine V_iload (i := 6) F dL_law_1940 rfl ?_
    refine V_if_neN (tgt := 1957) F dL_law_1942 (by decide) (by decide) (fun z => absurd z (Nat.lt_irrefl 0)) (fun _ => ?_)
    refine V_aload_n (i := 3) F dL_law_1945 rfl rfl ?_
    refine V_iconst (v := nI 0) F dL_law_1946 rfl ?_
    refine V_laldN F 1 dL_law_1947 rfl (.inl hao3) (by decide) (by decide) ?_
    refine V_iload (i := 7) F dL_law_1948 rfl ?_
    refine V_i2l F dL_law_1950 ?_
    refine V_lcmp F dL_law_1951 ?_
    refine V_if_eq (tgt := 1957) F dL_law_1952 (by decide) (fun _ => ?_) (fun z => absurd (lg_self (hf rfl)) z)
    refine V_goto (tgt := 3195) F dL_law_1957 (by decide) ?_
    exact VV.weak (L' := LL b xo m ao ad j) (LW.c1 (LW.c1 (LW.c1 (LW.c1 (LW.c1 (LW.c1 (LW.c0 (LW.c0 (LW.c0 LW.nil))))))))) (VV.wide (by omega) (by omega) (next _ _ _ _ _ _ _ _ ⟨hC3, ⟨_, _, _, _, hM3⟩, hV.up (by omega), ⟨_, hao3⟩, ⟨_, had3⟩, by omega⟩))
  · rw [if_neg c0]
    refine V_istore (i := 7) F dL_law_1927 (Nat.le_of_ble_eq_true rfl) (Nat.le_of_ble_eq_true rfl) ?_
    refine V_aload_n (i := 2) F dL_law_1929 rfl rfl ?_
    refine V_cV0r F dL_law_1930 lk_X0_178 (ct_thrown hMC3.mm (congrArg some hMV3.v7)) ⟨0, _, _, _, rfl, .inl hMC3.mm⟩ (Nat.le_of_ble_eq_true rfl) (Nat.le_of_ble_eq_true rfl) (Nat.le_of_ble_eq_true rfl) (by omega) (by omega) ?_
    refine V_iload (i := 6) F dL_law_1933 rfl ?_
    refine V_icmp_eqN (tgt := 1940) F dL_law_1935 (by decide) (by omega) (by omega) (fun _ => ?_) (fun z => absurd rfl z)
    refine V_iload (i := 6) F dL_law_1940 rfl ?_
    refine V_if_neN (tgt := 1957) F dL_law_1942 (by decide) (by omega) (fun _ => ?_) (fun z => absurd z c0)
    refine V_goto (tgt := 3195) F dL_law_1957 (by decide) ?_
    exact VV.weak (L' := LL b xo m ao ad j) (LW.c1 (LW.c1 (LW.c1 (LW.c1 (LW.c1 (LW.c1 (LW.c0 (LW.c0 (LW.c0 LW.nil))))))))) (VV.wide (by omega) (by omega) (next _ _ _ _ _ _ _ _ ⟨hC3, ⟨_, _, _, _, hM3⟩, hV.up (by omega), ⟨_, hao3⟩, ⟨_, had3⟩, by omega⟩))
theorem law_28 {G : GG} {X : CX} {Q : State → Prop} {h : AH} {b L xo m ao ad n j kc nn : Nat} {xs : Nat → Int32} {A : Nat → Nat} {g : Nat → Nat} {sn : Option (Nat → Nat)} {hs : List (Nat → Nat)} {tx : List Nat} {ep fc : Nat} {ot : List Nat} {rt : Option FieldType} (F : Fx G X cL_law 9 RX0 rt 1000 1200144 5494714) (hl0 : (xl X).stackTraces = false) (hscr : SCR G X b L xs) (hL : L ≤ 120) (hj : 5 * j + 5 ≤ L) (hn : n ≤ 600) (hD : DIS m A ao ad) (hW : LWD G h xo m A ao ad n j g sn hs tx ep fc ot) (hk : kc + 50000 ≤ 1200144) (hs0 : nn + 228000 ≤ 5494714)
    (next : ∀ h2 g2 sn2 hs2 tx2 ep2 fc2 ot2, LWD G h2 xo m A ao ad (n + 21) (j + 1) g2 sn2 hs2 tx2 ep2 fc2 ot2 → VV G X 9 Q h2 (kc + 50000) (nn + 228000) (LL b xo m ao ad j) [] 3195) : VV G X 9 Q h kc nn (LL b xo m ao ad j) [] 2029 := by
  obtain ⟨hC, ⟨tm, cd, gb, τ, hM⟩, hV, ⟨f0, hao⟩, ⟨f1, had⟩, htx⟩ := id hW
  have hpo : ¬ PL m A ao ad ao := fun z => z.2.1 rfl
  have hpd : ¬ PL m A ao ad ad := fun z => z.2.2 rfl
  refine V_aload_n (i := 1) F dL_law_2029 rfl rfl ?_
  refine V_aload_n (i := 0) F dL_law_2030 rfl rfl ?_
  refine V_iload (i := 5) F dL_law_2031 rfl ?_
  refine V_iconst (v := nI 1) F dL_law_2033 rfl ?_
  refine V_iaddN F dL_law_2034 ?_
  refine V_ialdX F dL_law_2035 hscr (by omega) (by omega) ?_
  refine V_aload_n (i := 3) F dL_law_2036 rfl rfl ?_
  have hw := (x0_stationOf (ao := ao) (p0 := (xs (5 * j + 1))) (ck_stationOf hl0 hC hW.P0 hV) hC.isC (fun y h3 z => ⟨f0, z.2.2.2.ao hao hpo rfl⟩)).mono (fun r h2 hq => XQ.of hao hpo hq) (fun E q h2 hq => hq)
  -- wrapper
  refine V_xcSW (st := []) (nn := 3) F dL_law_2037 ⟨lw_SW q3054 q3055 q100 q3056, by decide +kernel⟩ hw rfl rfl (Nat.le_of_ble_eq_true rfl) (Nat.le_of_ble_eq_true rfl) (Nat.le_of_ble_eq_true rfl) (by omega) (by omega) ?_ (fun E q h2 hp => hp.elim)
  rintro _ h2 ⟨f, hc5, rfl, hC2, hao2, hf, hx⟩
  have hM2 := hM.off hx (fun b hb z => z.elim (fun z => z.1 hb) (fun z => hD.2.1 (z ▸ hb)))
  have had2 := hx.ao had (fun z => z.elim (fun z => z.2.2 rfl) (fun z => hD.1 z.symm)) rfl
  obtain ⟨V2, F2, hMC2, -⟩ := id hM2
  refine V_istore (i := 6) F dL_law_2040 (Nat.le_of_ble_eq_true rfl) (Nat.le_of_ble_eq_true rfl) ?_
  refine V_aload_n (i := 2) F dL_law_2042 rfl rfl ?_
  refine V_aload_n (i := 0) F dL_law_2043 rfl rfl ?_
  refine V_iload (i := 5) F dL_law_2044 rfl ?_
  refine V_iconst (v := nI 1) F dL_law_2046 rfl ?_
  refine V_iaddN F dL_law_2047 ?_
  refine V_ialdX F dL_law_2048 hscr (by omega) (by omega) ?_
  have hm := cm_stationOf (l := xl X) (p := (xs (5 * j + 1))) hM2 hV
  generalize hcd : ((fdO g 232 (xs (5 * j + 1)) (g 2)).elim 1 (fun _ => 0)) = c at hc5 hf hm ⊢
  generalize hvv : ((fdO g 232 (xs (5 * j + 1)) (g 2)).elim (nI 0) (fun k => nI (g (232 + 4 * k + 1)))) = v at hf hm
  refine V_callV (st := []) (nn := 1) F dL_law_2049 lk_X0_270 hm ⟨0, _, _, _, rfl, .inl hMC2.mm⟩ rfl rfl (Nat.le_of_ble_eq_true rfl) (Nat.le_of_ble_eq_true rfl) (Nat.le_of_ble_eq_true rfl) (by omega) (by omega) ?_
  rintro _ h3 ⟨rfl, hM3, hx3⟩
  have hC3 := hC2.frX hx3 (MW.ofm hMC2)
  have hao3 := hx3.ao hao2 hD.2.1 rfl
  have had3 := hx3.ao had2 hD.2.2 rfl
  obtain ⟨V3, F3, hMC3, hMV3⟩ := id hM3
  by_cases c0 : c = 0
  · subst c0
    rw [if_pos rfl]
    refine V_istore (i := 7) F dL_law_2052 (Nat.le_of_ble_eq_true rfl) (Nat.le_of_ble_eq_true rfl) ?_
    refine V_aload_n (i := 2) F dL_law_2054 rfl rfl ?_
    refine V_cV0r F dL_law_2055 lk_X0_178 (ct_thrown hMC3.mm (congrArg some hMV3.v7)) ⟨0, _, _, _, rfl, .inl hMC3.mm⟩ (Nat.le_of_ble_eq_true rfl) (Nat.le_of_ble_eq_true rfl) (Nat.le_of_ble_eq_true rfl) (by omega) (by omega) ?_
    refine V_iload (i := 6) F dL_law_2058 rfl ?_
    refine V_icmp_eqN (tgt := 2065) F dL_law_2060 (by decide) (by decide) (by decide) (fun _ => ?_) (fun z => absurd rfl z)
    refine V_iload (i := 6) F dL_law_2065 rfl ?_
    refine V_if_neN (tgt := 2082) F dL_law_2067 (by decide) (by decide) (fun z => absurd z (Nat.lt_irrefl 0)) (fun _ => ?_)
    refine V_aload_n (i := 3) F dL_law_2070 rfl rfl ?_
    refine V_iconst (v := nI 0) F dL_law_2071 rfl ?_
    refine V_laldN F 1 dL_law_2072 rfl (.inl hao3) (by decide) (by decide) ?_
    refine V_iload (i := 7) F dL_law_2073 rfl ?_
    refine V_i2l F dL_law_2075 ?_
    refine V_lcmp F dL_law_2076 ?_
    refine V_if_eq (tgt := 2082) F dL_law_2077 (by decide) (fun _ => ?_) (fun z => absurd (lg_self (hf rfl)) z)
    refine V_goto (tgt := 3195) F dL_law_2082 (by decide) ?_
    exact VV.weak (L' := LL b xo m ao ad j) (LW.c1 (LW.c1 (LW.c1 (LW.c1 (LW.c1 (LW.c1 (LW.c0 (LW.c0 (LW.c0 LW.nil))))))))) (VV.wide (by omega) (by omega) (next _ _ _ _ _ _ _ _ ⟨hC3, ⟨_, _, _, _, hM3⟩, hV.up (by omega), ⟨_, hao3⟩, ⟨_, had3⟩, by omega⟩))
  · rw [if_neg c0]
    refine V_istore (i := 7) F dL_law_2052 (Nat.le_of_ble_eq_true rfl) (Nat.le_of_ble_eq_true rfl) ?_
    refine V_aload_n (i := 2) F dL_law_2054 rfl rfl ?_
    refine V_cV0r F dL_law_2055 lk_X0_178 (ct_thrown hMC3.mm (congrArg some hMV3.v7)) ⟨0, _, _, _, rfl, .inl hMC3.mm⟩ (Nat.le_of_ble_eq_true rfl) (Nat.le_of_ble_eq_true rfl) (Nat.le_of_ble_eq_true rfl) (by omega) (by omega) ?_
    refine V_iload (i := 6) F dL_law_2058 rfl ?_
    refine V_icmp_eqN (tgt := 2065) F dL_law_2060 (by decide) (by omega) (by omega) (fun _ => ?_) (fun z => absurd rfl z)
    refine V_iload (i := 6) F dL_law_2065 rfl ?_
    refine V_if_neN (tgt := 2082) F dL_law_2067 (by decide) (by omega) (fun _ => ?_) (fun z => absurd z c0)
    refine V_goto (tgt := 3195) F dL_law_2082 (by decide) ?_
    exact VV.weak (L' := LL b xo m ao ad j) (LW.c1 (LW.c1 (LW.c1 (LW.c1 (LW.c1 (LW.c1 (LW.c0 (LW.c0 (LW.c0 LW.nil))))))))) (VV.wide (by omega) (by omega) (next _ _ _ _ _ _ _ _ ⟨hC3, ⟨_, _, _, _, hM3⟩, hV.up (by omega), ⟨_, hao3⟩, ⟨_, had3⟩, by omega⟩))
theorem law_29 {G : GG} {X : CX} {Q : State → Prop} {h : AH} {b L xo m ao ad n j kc nn : Nat} {xs : Nat → Int32} {A : Nat → Nat} {g : Nat → Nat} {sn : Option (Nat → Nat)} {hs : List (Nat → Nat)} {tx : List Nat} {ep fc : Nat} {ot : List Nat} {rt : Option FieldType} (F : Fx G X cL_law 9 RX0 rt 1000 1200144 5494714) (hl0 : (xl X).stackTraces = false) (hscr : SCR G X b L xs) (hL : L ≤ 120) (hj : 5 * j + 5 ≤ L) (hn : n ≤ 600) (hD : DIS m A ao ad) (hW : LWD G h xo m A ao ad n j g sn hs tx ep fc ot) (hk : kc + 50000 ≤ 1200144) (hs0 : nn + 228000 ≤ 5494714)
    (next : ∀ h2 g2 sn2 hs2 tx2 ep2 fc2 ot2, LWD G h2 xo m A ao ad (n + 21) (j + 1) g2 sn2 hs2 tx2 ep2 fc2 ot2 → VV G X 9 Q h2 (kc + 50000) (nn + 228000) (LL b xo m ao ad j) [] 3195) : VV G X 9 Q h kc nn (LL b xo m ao ad j) [] 2085 := by
  obtain ⟨hC, ⟨tm, cd, gb, τ, hM⟩, hV, ⟨f0, hao⟩, ⟨f1, had⟩, htx⟩ := id hW
  have hpo : ¬ PL m A ao ad ao := fun z => z.2.1 rfl
  have hpd : ¬ PL m A ao ad ad := fun z => z.2.2 rfl
  refine V_aload_n (i := 1) F dL_law_2085 rfl rfl ?_
  refine V_aload_n (i := 0) F dL_law_2086 rfl rfl ?_
  refine V_iload (i := 5) F dL_law_2087 rfl ?_
  refine V_iconst (v := nI 1) F dL_law_2089 rfl ?_
  refine V_iaddN F dL_law_2090 ?_
  refine V_ialdX F dL_law_2091 hscr (by omega) (by omega) ?_
  refine V_aload_n (i := 3) F dL_law_2092 rfl rfl ?_
  have hw := (x0_destinationOf (ao := ao) (p0 := (xs (5 * j + 1))) (ck_destinationOf hl0 hC hW.P0 hV) hC.isC (fun y h3 z => ⟨f0, z.2.2.2.ao hao hpo rfl⟩)).mono (fun r h2 hq => XQ.of hao hpo hq) (fun E q h2 hq => hq)
  -- wrapper
  refine V_xcSW (st := []) (nn := 3) F dL_law_2093 ⟨lw_SW q3069 q3070 q100 q3071, by decide +kernel⟩ hw rfl rfl (Nat.le_of_ble_eq_true rfl) (Nat.le_of_ble_eq_true rfl) (Nat.le_of_ble_eq_true rfl) (by omega) (by omega) ?_ (fun E q h2 hp => hp.elim)
  rintro _ h2 ⟨f, hc5, rfl, hC2, hao2, hf, hx⟩
  have hM2 := hM.off hx (fun b hb z => z.elim (fun z => z.1 hb) (fun z => hD.2.1 (z ▸ hb)))
  have had2 := hx.ao had (fun z => z.elim (fun z => z.2.2 rfl) (fun z => hD.1 z.symm)) rfl
  obtain ⟨V2, F2, hMC2, -⟩ := id hM2
  refine V_istore (i := 6) F dL_law_2096 (Nat.le_of_ble_eq_true rfl) (Nat.le_of_ble_eq_true rfl) ?_
  refine V_aload_n (i := 2) F dL_law_2098 rfl rfl ?_
  refine V_aload_n (i := 0) F dL_law_2099 rfl rfl ?_
  refine V_iload (i := 5) F dL_law_2100 rfl ?_
  refine V_iconst (v := nI 1) F dL_law_2102 rfl ?_
  refine V_iaddN F dL_law_2103 ?_
  refine V_ialdX F dL_law_2104 hscr (by omega) (by omega) ?_
  have hm := cm_destinationOf (l := xl X) (p := (xs (5 * j + 1))) hM2 hV
  generalize hcd : ((fdO g 232 (xs (5 * j + 1)) (g 2)).elim 1 (fun _ => 0)) = c at hc5 hf hm ⊢
  generalize hvv : ((fdO g 232 (xs (5 * j + 1)) (g 2)).elim (nI 0) (fun k => nI (g (232 + 4 * k + 2)))) = v at hf hm
  refine V_callV (st := []) (nn := 1) F dL_law_2105 lk_X0_273 hm ⟨0, _, _, _, rfl, .inl hMC2.mm⟩ rfl rfl (Nat.le_of_ble_eq_true rfl) (Nat.le_of_ble_eq_true rfl) (Nat.le_of_ble_eq_true rfl) (by omega) (by omega) ?_
  rintro _ h3 ⟨rfl, hM3, hx3⟩
  have hC3 := hC2.frX hx3 (MW.ofm hMC2)
  have hao3 := hx3.ao hao2 hD.2.1 rfl
  have had3 := hx3.ao had2 hD.2.2 rfl
  obtain ⟨V3, F3, hMC3, hMV3⟩ := id hM3
  by_cases c0 : c = 0
  · subst c0
    rw [if_pos rfl]
    refine V_istore (i := 7) F dL_law_2108 (Nat.le_of_ble_eq_true rfl) (Nat.le_of_ble_eq_true rfl) ?_
    refine V_aload_n (i := 2) F dL_law_2110 rfl rfl ?_
    refine V_cV0r F dL_law_2111 lk_X0_178 (ct_thrown hMC3.mm (congrArg some hMV3.v7)) ⟨0, _, _, _, rfl, .inl hMC3.mm⟩ (Nat.le_of_ble_eq_true rfl) (Nat.le_of_ble_eq_true rfl) (Nat.le_of_ble_eq_true rfl) (by omega) (by omega) ?_
    refine V_iload (i := 6) F dL_law_2114 rfl ?_
    refine V_icmp_eqN (tgt := 2121) F dL_law_2116 (by decide) (by decide) (by decide) (fun _ => ?_) (fun z => absurd rfl z)
    refine V_iload (i := 6) F dL_law_2121 rfl ?_
    refine V_if_neN (tgt := 2138) F dL_law_2123 (by decide) (by decide) (fun z => absurd z (Nat.lt_irrefl 0)) (fun _ => ?_)
    refine V_aload_n (i := 3) F dL_law_2126 rfl rfl ?_
    refine V_iconst (v := nI 0) F dL_law_2127 rfl ?_
    refine V_laldN F 1 dL_law_2128 rfl (.inl hao3) (by decide) (by decide) ?_
    refine V_iload (i := 7) F dL_law_2129 rfl ?_
    refine V_i2l F dL_law_2131 ?_
    refine V_lcmp F dL_law_2132 ?_
    refine V_if_eq (tgt := 2138) F dL_law_2133 (by decide) (fun _ => ?_) (fun z => absurd (lg_self (hf rfl)) z)
    refine V_goto (tgt := 3195) F dL_law_2138 (by decide) ?_
    exact VV.weak (L' := LL b xo m ao ad j) (LW.c1 (LW.c1 (LW.c1 (LW.c1 (LW.c1 (LW.c1 (LW.c0 (LW.c0 (LW.c0 LW.nil))))))))) (VV.wide (by omega) (by omega) (next _ _ _ _ _ _ _ _ ⟨hC3, ⟨_, _, _, _, hM3⟩, hV.up (by omega), ⟨_, hao3⟩, ⟨_, had3⟩, by omega⟩))
  · rw [if_neg c0]
    refine V_istore (i := 7) F dL_law_2108 (Nat.le_of_ble_eq_true rfl) (Nat.le_of_ble_eq_true rfl) ?_
    refine V_aload_n (i := 2) F dL_law_2110 rfl rfl ?_
    refine V_cV0r F dL_law_2111 lk_X0_178 (ct_thrown hMC3.mm (congrArg some hMV3.v7)) ⟨0, _, _, _, rfl, .inl hMC3.mm⟩ (Nat.le_of_ble_eq_true rfl) (Nat.le_of_ble_eq_true rfl) (Nat.le_of_ble_eq_true rfl) (by omega) (by omega) ?_
    refine V_iload (i := 6) F dL_law_2114 rfl ?_
    refine V_icmp_eqN (tgt := 2121) F dL_law_2116 (by decide) (by omega) (by omega) (fun _ => ?_) (fun z => absurd rfl z)
    refine V_iload (i := 6) F dL_law_2121 rfl ?_
    refine V_if_neN (tgt := 2138) F dL_law_2123 (by decide) (by omega) (fun _ => ?_) (fun z => absurd z c0)
    refine V_goto (tgt := 3195) F dL_law_2138 (by decide) ?_
    exact VV.weak (L' := LL b xo m ao ad j) (LW.c1 (LW.c1 (LW.c1 (LW.c1 (LW.c1 (LW.c1 (LW.c0 (LW.c0 (LW.c0 LW.nil))))))))) (VV.wide (by omega) (by omega) (next _ _ _ _ _ _ _ _ ⟨hC3, ⟨_, _, _, _, hM3⟩, hV.up (by omega), ⟨_, hao3⟩, ⟨_, had3⟩, by omega⟩))
theorem law_30 {G : GG} {X : CX} {Q : State → Prop} {h : AH} {b L xo m ao ad n j kc nn : Nat} {xs : Nat → Int32} {A : Nat → Nat} {g : Nat → Nat} {sn : Option (Nat → Nat)} {hs : List (Nat → Nat)} {tx : List Nat} {ep fc : Nat} {ot : List Nat} {rt : Option FieldType} (F : Fx G X cL_law 9 RX0 rt 1000 1200144 5494714) (hl0 : (xl X).stackTraces = false) (hscr : SCR G X b L xs) (hL : L ≤ 120) (hj : 5 * j + 5 ≤ L) (hn : n ≤ 600) (hD : DIS m A ao ad) (hW : LWD G h xo m A ao ad n j g sn hs tx ep fc ot) (hk : kc + 50000 ≤ 1200144) (hs0 : nn + 228000 ≤ 5494714)
    (next : ∀ h2 g2 sn2 hs2 tx2 ep2 fc2 ot2, LWD G h2 xo m A ao ad (n + 21) (j + 1) g2 sn2 hs2 tx2 ep2 fc2 ot2 → VV G X 9 Q h2 (kc + 50000) (nn + 228000) (LL b xo m ao ad j) [] 3195) : VV G X 9 Q h kc nn (LL b xo m ao ad j) [] 2141 := by
  obtain ⟨hC, ⟨tm, cd, gb, τ, hM⟩, hV, ⟨f0, hao⟩, ⟨f1, had⟩, htx⟩ := id hW
  have hpo : ¬ PL m A ao ad ao := fun z => z.2.1 rfl
  have hpd : ¬ PL m A ao ad ad := fun z => z.2.2 rfl
  refine V_aload_n (i := 1) F dL_law_2141 rfl rfl ?_
  refine V_aload_n (i := 0) F dL_law_2142 rfl rfl ?_
  refine V_iload (i := 5) F dL_law_2143 rfl ?_
  refine V_iconst (v := nI 1) F dL_law_2145 rfl ?_
  refine V_iaddN F dL_law_2146 ?_
  refine V_ialdX F dL_law_2147 hscr (by omega) (by omega) ?_
  refine V_aload_n (i := 3) F dL_law_2148 rfl rfl ?_
  have hw := (x0_readyAt (ao := ao) (p0 := (xs (5 * j + 1))) (ck_readyAt hl0 hC hW.P0 hV) hC.isC (fun y h3 z => ⟨f0, z.2.2.2.ao hao hpo rfl⟩)).mono (fun r h2 hq => XQ.of hao hpo hq) (fun E q h2 hq => hq)
  -- wrapper
  refine V_xcSW (st := []) (nn := 3) F dL_law_2149 ⟨lw_SW q3077 q3078 q100 q3079, by decide +kernel⟩ hw rfl rfl (Nat.le_of_ble_eq_true rfl) (Nat.le_of_ble_eq_true rfl) (Nat.le_of_ble_eq_true rfl) (by omega) (by omega) ?_ (fun E q h2 hp => hp.elim)
  rintro _ h2 ⟨f, hc5, rfl, hC2, hao2, hf, hx⟩
  have hM2 := hM.off hx (fun b hb z => z.elim (fun z => z.1 hb) (fun z => hD.2.1 (z ▸ hb)))
  have had2 := hx.ao had (fun z => z.elim (fun z => z.2.2 rfl) (fun z => hD.1 z.symm)) rfl
  obtain ⟨V2, F2, hMC2, -⟩ := id hM2
  refine V_istore (i := 6) F dL_law_2152 (Nat.le_of_ble_eq_true rfl) (Nat.le_of_ble_eq_true rfl) ?_
  refine V_aload_n (i := 2) F dL_law_2154 rfl rfl ?_
  refine V_aload_n (i := 0) F dL_law_2155 rfl rfl ?_
  refine V_iload (i := 5) F dL_law_2156 rfl ?_
  refine V_iconst (v := nI 1) F dL_law_2158 rfl ?_
  refine V_iaddN F dL_law_2159 ?_
  refine V_ialdX F dL_law_2160 hscr (by omega) (by omega) ?_
  have hm := cm_readyAt (l := xl X) (p := (xs (5 * j + 1))) hM2 hV
  generalize hcd : ((fdO g 232 (xs (5 * j + 1)) (g 2)).elim 1 (fun _ => 0)) = c at hc5 hf hm ⊢
  generalize hvv : ((fdO g 232 (xs (5 * j + 1)) (g 2)).elim (nI 0) (fun k => nI (g (232 + 4 * k + 3)))) = v at hf hm
  refine V_callV (st := []) (nn := 1) F dL_law_2161 lk_X0_276 hm ⟨0, _, _, _, rfl, .inl hMC2.mm⟩ rfl rfl (Nat.le_of_ble_eq_true rfl) (Nat.le_of_ble_eq_true rfl) (Nat.le_of_ble_eq_true rfl) (by omega) (by omega) ?_
  rintro _ h3 ⟨rfl, hM3, hx3⟩
  have hC3 := hC2.frX hx3 (MW.ofm hMC2)
  have hao3 := hx3.ao hao2 hD.2.1 rfl
  have had3 := hx3.ao had2 hD.2.2 rfl
  obtain ⟨V3, F3, hMC3, hMV3⟩ := id hM3
  by_cases c0 : c = 0
  · subst c0
    rw [if_pos rfl]
    refine V_istore (i := 7) F dL_law_2164 (Nat.le_of_ble_eq_true rfl) (Nat.le_of_ble_eq_true rfl) ?_
    refine V_aload_n (i := 2) F dL_law_2166 rfl rfl ?_
    refine V_cV0r F dL_law_2167 lk_X0_178 (ct_thrown hMC3.mm (congrArg some hMV3.v7)) ⟨0, _, _, _, rfl, .inl hMC3.mm⟩ (Nat.le_of_ble_eq_true rfl) (Nat.le_of_ble_eq_true rfl) (Nat.le_of_ble_eq_true rfl) (by omega) (by omega) ?_
    refine V_iload (i := 6) F dL_law_2170 rfl ?_
    refine V_icmp_eqN (tgt := 2177) F dL_law_2172 (by decide) (by decide) (by decide) (fun _ => ?_) (fun z => absurd rfl z)
    refine V_iload (i := 6) F dL_law_2177 rfl ?_
    refine V_if_neN (tgt := 2194) F dL_law_2179 (by decide) (by decide) (fun z => absurd z (Nat.lt_irrefl 0)) (fun _ => ?_)
    refine V_aload_n (i := 3) F dL_law_2182 rfl rfl ?_
    refine V_iconst (v := nI 0) F dL_law_2183 rfl ?_
    refine V_laldN F 1 dL_law_2184 rfl (.inl hao3) (by decide) (by decide) ?_
    refine V_iload (i := 7) F dL_law_2185 rfl ?_
    refine V_i2l F dL_law_2187 ?_
    refine V_lcmp F dL_law_2188 ?_
    refine V_if_eq (tgt := 2194) F dL_law_2189 (by decide) (fun _ => ?_) (fun z => absurd (lg_self (hf rfl)) z)
    refine V_goto (tgt := 3195) F dL_law_2194 (by decide) ?_
    exact VV.weak (L' := LL b xo m ao ad j) (LW.c1 (LW.c1 (LW.c1 (LW.c1 (LW.c1 (LW.c1 (LW.c0 (LW.c0 (LW.c0 LW.nil))))))))) (VV.wide (by omega) (by omega) (next _ _ _ _ _ _ _ _ ⟨hC3, ⟨_, _, _, _, hM3⟩, hV.up (by omega), ⟨_, hao3⟩, ⟨_, had3⟩, by omega⟩))
  · rw [if_neg c0]
    refine V_istore (i := 7) F dL_law_2164 (Nat.le_of_ble_eq_true rfl) (Nat.le_of_ble_eq_true rfl) ?_
    refine V_aload_n (i := 2) F dL_law_2166 rfl rfl ?_
    refine V_cV0r F dL_law_2167 lk_X0_178 (ct_thrown hMC3.mm (congrArg some hMV3.v7)) ⟨0, _, _, _, rfl, .inl hMC3.mm⟩ (Nat.le_of_ble_eq_true rfl) (Nat.le_of_ble_eq_true rfl) (Nat.le_of_ble_eq_true rfl) (by omega) (by omega) ?_
    refine V_iload (i := 6) F dL_law_2170 rfl ?_
    refine V_icmp_eqN (tgt := 2177) F dL_law_2172 (by decide) (by omega) (by omega) (fun _ => ?_) (fun z => absurd rfl z)
    refine V_iload (i := 6) F dL_law_2177 rfl ?_
    refine V_if_neN (tgt := 2194) F dL_law_2179 (by decide) (by omega) (fun _ => ?_) (fun z => absurd z c0)
    refine V_goto (tgt := 3195) F dL_law_2194 (by decide) ?_
    exact VV.weak (L' := LL b xo m ao ad j) (LW.c1 (LW.c1 (LW.c1 (LW.c1 (LW.c1 (LW.c1 (LW.c0 (LW.c0 (LW.c0 LW.nil))))))))) (VV.wide (by omega) (by omega) (next _ _ _ _ _ _ _ _ ⟨hC3, ⟨_, _, _, _, hM3⟩, hV.up (by omega), ⟨_, hao3⟩, ⟨_, had3⟩, by omega⟩))
theorem law_31 {G : GG} {X : CX} {Q : State → Prop} {h : AH} {b L xo m ao ad n j kc nn : Nat} {xs : Nat → Int32} {A : Nat → Nat} {g : Nat → Nat} {sn : Option (Nat → Nat)} {hs : List (Nat → Nat)} {tx : List Nat} {ep fc : Nat} {ot : List Nat} {rt : Option FieldType} (F : Fx G X cL_law 9 RX0 rt 1000 1200144 5494714) (hl0 : (xl X).stackTraces = false) (hscr : SCR G X b L xs) (hL : L ≤ 120) (hj : 5 * j + 5 ≤ L) (hn : n ≤ 600) (hD : DIS m A ao ad) (hW : LWD G h xo m A ao ad n j g sn hs tx ep fc ot) (hk : kc + 50000 ≤ 1200144) (hs0 : nn + 228000 ≤ 5494714)
    (next : ∀ h2 g2 sn2 hs2 tx2 ep2 fc2 ot2, LWD G h2 xo m A ao ad (n + 21) (j + 1) g2 sn2 hs2 tx2 ep2 fc2 ot2 → VV G X 9 Q h2 (kc + 50000) (nn + 228000) (LL b xo m ao ad j) [] 3195) : VV G X 9 Q h kc nn (LL b xo m ao ad j) [] 2197 := by
  obtain ⟨hC, ⟨tm, cd, gb, τ, hM⟩, hV, ⟨f0, hao⟩, ⟨f1, had⟩, htx⟩ := id hW
  have hpo : ¬ PL m A ao ad ao := fun z => z.2.1 rfl
  have hpd : ¬ PL m A ao ad ad := fun z => z.2.2 rfl
  refine V_aload_n (i := 1) F dL_law_2197 rfl rfl ?_
  refine V_aload_n (i := 0) F dL_law_2198 rfl rfl ?_
  refine V_iload (i := 5) F dL_law_2199 rfl ?_
  refine V_iconst (v := nI 1) F dL_law_2201 rfl ?_
  refine V_iaddN F dL_law_2202 ?_
  refine V_ialdX F dL_law_2203 hscr (by omega) (by omega) ?_
  refine V_aload_n (i := 3) F dL_law_2204 rfl rfl ?_
  have hw := (x0_isThere (ao := ao) (p0 := (xs (5 * j + 1))) (ck_isThere hl0 hC hW.P0 hV) hC.isC (fun y h3 z => ⟨f0, z.2.2.2.ao hao hpo rfl⟩) (fun y h3 z => by rw [z.2.1]; exact elim_01)).mono (fun r h2 hq => XQ.of hao hpo hq) (fun E q h2 hq => hq)
  -- wrapper
  refine V_xcSW (st := []) (nn := 3) F dL_law_2205 ⟨lw_SW q3085 q3086 q100 q3087, by decide +kernel⟩ hw rfl rfl (Nat.le_of_ble_eq_true rfl) (Nat.le_of_ble_eq_true rfl) (Nat.le_of_ble_eq_true rfl) (by omega) (by omega) ?_ (fun E q h2 hp => hp.elim)
  rintro _ h2 ⟨f, hc5, rfl, hC2, hao2, hf, hx⟩
  have hM2 := hM.off hx (fun b hb z => z.elim (fun z => z.1 hb) (fun z => hD.2.1 (z ▸ hb)))
  have had2 := hx.ao had (fun z => z.elim (fun z => z.2.2 rfl) (fun z => hD.1 z.symm)) rfl
  obtain ⟨V2, F2, hMC2, -⟩ := id hM2
  refine V_istore (i := 6) F dL_law_2208 (Nat.le_of_ble_eq_true rfl) (Nat.le_of_ble_eq_true rfl) ?_
  refine V_aload_n (i := 2) F dL_law_2210 rfl rfl ?_
  refine V_aload_n (i := 0) F dL_law_2211 rfl rfl ?_
  refine V_iload (i := 5) F dL_law_2212 rfl ?_
  refine V_iconst (v := nI 1) F dL_law_2214 rfl ?_
  refine V_iaddN F dL_law_2215 ?_
  refine V_ialdX F dL_law_2216 hscr (by omega) (by omega) ?_
  have hm := cm_isThere (l := xl X) (p := (xs (5 * j + 1))) hM2 hV
  generalize hcd : ((fdO g 232 (xs (5 * j + 1)) (g 2)).elim 1 (fun _ => 0)) = c at hc5 hf hm ⊢
  generalize hvv : ((fdO g 232 (xs (5 * j + 1)) (g 2)).elim (nI 0) (fun k => b2 (g (232 + 4 * k + 1) = g (232 + 4 * k + 2)))) = v at hf hm
  obtain ⟨q, dq, rfl⟩ := b2_id (y := v) (by rw [← hvv]; exact elim_01)
  refine V_callV (st := []) (nn := 1) F dL_law_2217 lk_X0_279 hm ⟨0, _, _, _, rfl, .inl hMC2.mm⟩ rfl rfl (Nat.le_of_ble_eq_true rfl) (Nat.le_of_ble_eq_true rfl) (Nat.le_of_ble_eq_true rfl) (by omega) (by omega) ?_
  rintro _ h3 ⟨rfl, hM3, hx3⟩
  have hC3 := hC2.frX hx3 (MW.ofm hMC2)
  have hao3 := hx3.ao hao2 hD.2.1 rfl
  have had3 := hx3.ao had2 hD.2.2 rfl
  obtain ⟨V3, F3, hMC3, hMV3⟩ := id hM3
  by_cases c0 : c = 0
  · subst c0
    rw [if_pos rfl]
    refine V_istore (i := 7) F dL_law_2220 (Nat.le_of_ble_eq_true rfl) (Nat.le_of_ble_eq_true rfl) ?_
    refine V_aload_n (i := 2) F dL_law_2222 rfl rfl ?_
    refine V_cV0r F dL_law_2223 lk_X0_178 (ct_thrown hMC3.mm (congrArg some hMV3.v7)) ⟨0, _, _, _, rfl, .inl hMC3.mm⟩ (Nat.le_of_ble_eq_true rfl) (Nat.le_of_ble_eq_true rfl) (Nat.le_of_ble_eq_true rfl) (by omega) (by omega) ?_
    refine V_iload (i := 6) F dL_law_2226 rfl ?_
    refine V_icmp_eqN (tgt := 2233) F dL_law_2228 (by decide) (by decide) (by decide) (fun _ => ?_) (fun z => absurd rfl z)
    refine V_iload (i := 6) F dL_law_2233 rfl ?_
    refine V_if_neN (tgt := 2257) F dL_law_2235 (by decide) (by decide) (fun z => absurd z (Nat.lt_irrefl 0)) (fun _ => ?_)
    refine V_aload_n (i := 3) F dL_law_2238 rfl rfl ?_
    refine V_iconst (v := nI 0) F dL_law_2239 rfl ?_
    refine V_laldN F 1 dL_law_2240 rfl (.inl hao3) (by decide) (by decide) ?_
    refine V_iload (i := 7) F dL_law_2241 rfl ?_
    refine V_if_eqB (tgt := 2250) F dL_law_2243 (by decide) (fun zb => ?_) (fun zb => ?_)
    · refine V_lconst (v := 0) F dL_law_2250 rfl ?_
      refine V_lcmp F dL_law_2251 ?_
      refine V_if_eq (tgt := 2257) F dL_law_2252 (by decide) (fun _ => ?_) (fun z => absurd (lg_self (by rw [hf rfl]; unfold b2; rw [if_neg zb]; rfl)) z)
      refine V_goto (tgt := 3195) F dL_law_2257 (by decide) ?_
      exact VV.weak (L' := LL b xo m ao ad j) (LW.c1 (LW.c1 (LW.c1 (LW.c1 (LW.c1 (LW.c1 (LW.c0 (LW.c0 (LW.c0 LW.nil))))))))) (VV.wide (by omega) (by omega) (next _ _ _ _ _ _ _ _ ⟨hC3, ⟨_, _, _, _, hM3⟩, hV.up (by omega), ⟨_, hao3⟩, ⟨_, had3⟩, by omega⟩))
    · refine V_lconst (v := 1) F dL_law_2246 rfl ?_
      refine V_goto (tgt := 2251) F dL_law_2247 (by decide) ?_
      refine V_lcmp F dL_law_2251 ?_
      refine V_if_eq (tgt := 2257) F dL_law_2252 (by decide) (fun _ => ?_) (fun z => absurd (lg_self (by rw [hf rfl]; unfold b2; rw [if_pos zb]; rfl)) z)
      refine V_goto (tgt := 3195) F dL_law_2257 (by decide) ?_
      exact VV.weak (L' := LL b xo m ao ad j) (LW.c1 (LW.c1 (LW.c1 (LW.c1 (LW.c1 (LW.c1 (LW.c0 (LW.c0 (LW.c0 LW.nil))))))))) (VV.wide (by omega) (by omega) (next _ _ _ _ _ _ _ _ ⟨hC3, ⟨_, _, _, _, hM3⟩, hV.up (by omega), ⟨_, hao3⟩, ⟨_, had3⟩, by omega⟩))
  · rw [if_neg c0]
    refine V_istore (i := 7) F dL_law_2220 (Nat.le_of_ble_eq_true rfl) (Nat.le_of_ble_eq_true rfl) ?_
    refine V_aload_n (i := 2) F dL_law_2222 rfl rfl ?_
    refine V_cV0r F dL_law_2223 lk_X0_178 (ct_thrown hMC3.mm (congrArg some hMV3.v7)) ⟨0, _, _, _, rfl, .inl hMC3.mm⟩ (Nat.le_of_ble_eq_true rfl) (Nat.le_of_ble_eq_true rfl) (Nat.le_of_ble_eq_true rfl) (by omega) (by omega) ?_
    refine V_iload (i := 6) F dL_law_2226 rfl ?_
    refine V_icmp_eqN (tgt := 2233) F dL_law_2228 (by decide) (by omega) (by omega) (fun _ => ?_) (fun z => absurd rfl z)
    refine V_iload (i := 6) F dL_law_2233 rfl ?_
    refine V_if_neN (tgt := 2257) F dL_law_2235 (by decide) (by omega) (fun _ => ?_) (fun z => absurd z c0)
    refine V_goto (tgt := 3195) F dL_law_2257 (by decide) ?_
    exact VV.weak (L' := LL b xo m ao ad j) (LW.c1 (LW.c1 (LW.c1 (LW.c1 (LW.c1 (LW.c1 (LW.c0 (LW.c0 (LW.c0 LW.nil))))))))) (VV.wide (by omega) (by omega) (next _ _ _ _ _ _ _ _ ⟨hC3, ⟨_, _, _, _, hM3⟩, hV.up (by omega), ⟨_, hao3⟩, ⟨_, had3⟩, by omega⟩))
theorem law_32 {G : GG} {X : CX} {Q : State → Prop} {h : AH} {b L xo m ao ad n j kc nn : Nat} {xs : Nat → Int32} {A : Nat → Nat} {g : Nat → Nat} {sn : Option (Nat → Nat)} {hs : List (Nat → Nat)} {tx : List Nat} {ep fc : Nat} {ot : List Nat} {rt : Option FieldType} (F : Fx G X cL_law 9 RX0 rt 1000 1200144 5494714) (hl0 : (xl X).stackTraces = false) (hscr : SCR G X b L xs) (hL : L ≤ 120) (hj : 5 * j + 5 ≤ L) (hn : n ≤ 600) (hD : DIS m A ao ad) (hW : LWD G h xo m A ao ad n j g sn hs tx ep fc ot) (hk : kc + 50000 ≤ 1200144) (hs0 : nn + 228000 ≤ 5494714)
    (next : ∀ h2 g2 sn2 hs2 tx2 ep2 fc2 ot2, LWD G h2 xo m A ao ad (n + 21) (j + 1) g2 sn2 hs2 tx2 ep2 fc2 ot2 → VV G X 9 Q h2 (kc + 50000) (nn + 228000) (LL b xo m ao ad j) [] 3195) : VV G X 9 Q h kc nn (LL b xo m ao ad j) [] 2260 := by
  obtain ⟨hC, ⟨tm, cd, gb, τ, hM⟩, hV, ⟨f0, hao⟩, ⟨f1, had⟩, htx⟩ := id hW
  have hpo : ¬ PL m A ao ad ao := fun z => z.2.1 rfl
  have hpd : ¬ PL m A ao ad ad := fun z => z.2.2 rfl
  refine V_aload_n (i := 1) F dL_law_2260 rfl rfl ?_
  refine V_aload_n (i := 0) F dL_law_2261 rfl rfl ?_
  refine V_iload (i := 5) F dL_law_2262 rfl ?_
  refine V_iconst (v := nI 1) F dL_law_2264 rfl ?_
  refine V_iaddN F dL_law_2265 ?_
  refine V_ialdX F dL_law_2266 hscr (by omega) (by omega) ?_
  refine V_aload_n (i := 3) F dL_law_2267 rfl rfl ?_
  have hw := (x0_suitcaseByReady (ao := ao) (p0 := (xs (5 * j + 1))) (ck_suitcaseByReady hl0 hC hW.P0 hV) hC.isC (fun y h3 z => ⟨f0, z.2.2.2.ao hao hpo rfl⟩)).mono (fun r h2 hq => XQ.of hao hpo hq) (fun E q h2 hq => hq)
  -- wrapper
  refine V_xcSW (st := []) (nn := 3) F dL_law_2268 ⟨lw_SW q3093 q3094 q100 q3095, by decide +kernel⟩ hw rfl rfl (Nat.le_of_ble_eq_true rfl) (Nat.le_of_ble_eq_true rfl) (Nat.le_of_ble_eq_true rfl) (by omega) (by omega) ?_ (fun E q h2 hp => hp.elim)
  rintro _ h2 ⟨f, hc5, rfl, hC2, hao2, hf, hx⟩
  have hM2 := hM.off hx (fun b hb z => z.elim (fun z => z.1 hb) (fun z => hD.2.1 (z ▸ hb)))
  have had2 := hx.ao had (fun z => z.elim (fun z => z.2.2 rfl) (fun z => hD.1 z.symm)) rfl
  obtain ⟨V2, F2, hMC2, -⟩ := id hM2
  refine V_istore (i := 6) F dL_law_2271 (Nat.le_of_ble_eq_true rfl) (Nat.le_of_ble_eq_true rfl) ?_
  refine V_aload_n (i := 2) F dL_law_2273 rfl rfl ?_
  refine V_aload_n (i := 0) F dL_law_2274 rfl rfl ?_
  refine V_iload (i := 5) F dL_law_2275 rfl ?_
  refine V_iconst (v := nI 1) F dL_law_2277 rfl ?_
  refine V_iaddN F dL_law_2278 ?_
  refine V_ialdX F dL_law_2279 hscr (by omega) (by omega) ?_
  have hm := cm_suitcaseByReady (l := xl X) (p := (xs (5 * j + 1))) hM2 hV
  generalize hcd : ((fdP (fun i => nI (rkG g i (g 2)) = (xs (5 * j + 1))) (g 2)).elim 1 (fun _ => 0)) = c at hc5 hf hm ⊢
  generalize hvv : ((fdP (fun i => nI (rkG g i (g 2)) = (xs (5 * j + 1))) (g 2)).elim (nI 0) (fun k => nI (g (232 + 4 * k + 0)))) = v at hf hm
  refine V_callV (st := []) (nn := 1) F dL_law_2280 lk_X0_282 hm ⟨0, _, _, _, rfl, .inl hMC2.mm⟩ rfl rfl (Nat.le_of_ble_eq_true rfl) (Nat.le_of_ble_eq_true rfl) (Nat.le_of_ble_eq_true rfl) (by omega) (by omega) ?_
  rintro _ h3 ⟨rfl, hM3, hx3⟩
  have hC3 := hC2.frX hx3 (MW.ofm hMC2)
  have hao3 := hx3.ao hao2 hD.2.1 rfl
  have had3 := hx3.ao had2 hD.2.2 rfl
  obtain ⟨V3, F3, hMC3, hMV3⟩ := id hM3
  by_cases c0 : c = 0
  · subst c0
    rw [if_pos rfl]
    refine V_istore (i := 7) F dL_law_2283 (Nat.le_of_ble_eq_true rfl) (Nat.le_of_ble_eq_true rfl) ?_
    refine V_aload_n (i := 2) F dL_law_2285 rfl rfl ?_
    refine V_cV0r F dL_law_2286 lk_X0_178 (ct_thrown hMC3.mm (congrArg some hMV3.v7)) ⟨0, _, _, _, rfl, .inl hMC3.mm⟩ (Nat.le_of_ble_eq_true rfl) (Nat.le_of_ble_eq_true rfl) (Nat.le_of_ble_eq_true rfl) (by omega) (by omega) ?_
    refine V_iload (i := 6) F dL_law_2289 rfl ?_
    refine V_icmp_eqN (tgt := 2296) F dL_law_2291 (by decide) (by decide) (by decide) (fun _ => ?_) (fun z => absurd rfl z)
    refine V_iload (i := 6) F dL_law_2296 rfl ?_
    refine V_if_neN (tgt := 2313) F dL_law_2298 (by decide) (by decide) (fun z => absurd z (Nat.lt_irrefl 0)) (fun _ => ?_)
    refine V_aload_n (i := 3) F dL_law_2301 rfl rfl ?_
    refine V_iconst (v := nI 0) F dL_law_2302 rfl ?_
    refine V_laldN F 1 dL_law_2303 rfl (.inl hao3) (by decide) (by decide) ?_
    refine V_iload (i := 7) F dL_law_2304 rfl ?_
    refine V_i2l F dL_law_2306 ?_
    refine V_lcmp F dL_law_2307 ?_
    refine V_if_eq (tgt := 2313) F dL_law_2308 (by decide) (fun _ => ?_) (fun z => absurd (lg_self (hf rfl)) z)
    refine V_goto (tgt := 3195) F dL_law_2313 (by decide) ?_
    exact VV.weak (L' := LL b xo m ao ad j) (LW.c1 (LW.c1 (LW.c1 (LW.c1 (LW.c1 (LW.c1 (LW.c0 (LW.c0 (LW.c0 LW.nil))))))))) (VV.wide (by omega) (by omega) (next _ _ _ _ _ _ _ _ ⟨hC3, ⟨_, _, _, _, hM3⟩, hV.up (by omega), ⟨_, hao3⟩, ⟨_, had3⟩, by omega⟩))
  · rw [if_neg c0]
    refine V_istore (i := 7) F dL_law_2283 (Nat.le_of_ble_eq_true rfl) (Nat.le_of_ble_eq_true rfl) ?_
    refine V_aload_n (i := 2) F dL_law_2285 rfl rfl ?_
    refine V_cV0r F dL_law_2286 lk_X0_178 (ct_thrown hMC3.mm (congrArg some hMV3.v7)) ⟨0, _, _, _, rfl, .inl hMC3.mm⟩ (Nat.le_of_ble_eq_true rfl) (Nat.le_of_ble_eq_true rfl) (Nat.le_of_ble_eq_true rfl) (by omega) (by omega) ?_
    refine V_iload (i := 6) F dL_law_2289 rfl ?_
    refine V_icmp_eqN (tgt := 2296) F dL_law_2291 (by decide) (by omega) (by omega) (fun _ => ?_) (fun z => absurd rfl z)
    refine V_iload (i := 6) F dL_law_2296 rfl ?_
    refine V_if_neN (tgt := 2313) F dL_law_2298 (by decide) (by omega) (fun _ => ?_) (fun z => absurd z c0)
    refine V_goto (tgt := 3195) F dL_law_2313 (by decide) ?_
    exact VV.weak (L' := LL b xo m ao ad j) (LW.c1 (LW.c1 (LW.c1 (LW.c1 (LW.c1 (LW.c1 (LW.c0 (LW.c0 (LW.c0 LW.nil))))))))) (VV.wide (by omega) (by omega) (next _ _ _ _ _ _ _ _ ⟨hC3, ⟨_, _, _, _, hM3⟩, hV.up (by omega), ⟨_, hao3⟩, ⟨_, had3⟩, by omega⟩))
theorem law_35 {G : GG} {X : CX} {Q : State → Prop} {h : AH} {b L xo m ao ad n j kc nn : Nat} {xs : Nat → Int32} {A : Nat → Nat} {g : Nat → Nat} {sn : Option (Nat → Nat)} {hs : List (Nat → Nat)} {tx : List Nat} {ep fc : Nat} {ot : List Nat} {rt : Option FieldType} (F : Fx G X cL_law 9 RX0 rt 1000 1200144 5494714) (hl0 : (xl X).stackTraces = false) (hscr : SCR G X b L xs) (hL : L ≤ 120) (hj : 5 * j + 5 ≤ L) (hn : n ≤ 600) (hD : DIS m A ao ad) (hW : LWD G h xo m A ao ad n j g sn hs tx ep fc ot) (hk : kc + 50000 ≤ 1200144) (hs0 : nn + 228000 ≤ 5494714)
    (next : ∀ h2 g2 sn2 hs2 tx2 ep2 fc2 ot2, LWD G h2 xo m A ao ad (n + 21) (j + 1) g2 sn2 hs2 tx2 ep2 fc2 ot2 → VV G X 9 Q h2 (kc + 50000) (nn + 228000) (LL b xo m ao ad j) [] 3195) : VV G X 9 Q h kc nn (LL b xo m ao ad j) [] 2385 := by
  obtain ⟨hC, ⟨tm, cd, gb, τ, hM⟩, hV, ⟨f0, hao⟩, ⟨f1, had⟩, htx⟩ := id hW
  have hpo : ¬ PL m A ao ad ao := fun z => z.2.1 rfl
  have hpd : ¬ PL m A ao ad ad := fun z => z.2.2 rfl
  refine V_aload_n (i := 1) F dL_law_2385 rfl rfl ?_
  refine V_aload_n (i := 0) F dL_law_2386 rfl rfl ?_
  refine V_iload (i := 5) F dL_law_2387 rfl ?_
  refine V_iconst (v := nI 1) F dL_law_2389 rfl ?_
  refine V_iaddN F dL_law_2390 ?_
  refine V_ialdX F dL_law_2391 hscr (by omega) (by omega) ?_
  refine V_aload_n (i := 3) F dL_law_2392 rfl rfl ?_
  have hw := (x0_berthsNeeded (ao := ao) (p0 := (xs (5 * j + 1))) (ck_berthsNeeded hl0 hC hW.P0 hV) hC.isC (fun y h3 z => ⟨f0, z.2.2.2.ao hao hpo rfl⟩)).mono (fun r h2 hq => XQ.of hao hpo hq) (fun E q h2 hq => hq)
  -- wrapper
  refine V_xcSW (st := []) (nn := 3) F dL_law_2393 ⟨lw_SW q3117 q3118 q100 q3119, by decide +kernel⟩ hw rfl rfl (Nat.le_of_ble_eq_true rfl) (Nat.le_of_ble_eq_true rfl) (Nat.le_of_ble_eq_true rfl) (by omega) (by omega) ?_ (fun E q h2 hp => hp.elim)
  rintro _ h2 ⟨f, hc5, rfl, hC2, hao2, hf, hx⟩
  have hM2 := hM.off hx (fun b hb z => z.elim (fun z => z.1 hb) (fun z => hD.2.1 (z ▸ hb)))
  have had2 := hx.ao had (fun z => z.elim (fun z => z.2.2 rfl) (fun z => hD.1 z.symm)) rfl
  obtain ⟨V2, F2, hMC2, -⟩ := id hM2
  refine V_istore (i := 6) F dL_law_2396 (Nat.le_of_ble_eq_true rfl) (Nat.le_of_ble_eq_true rfl) ?_
  refine V_aload_n (i := 2) F dL_law_2398 rfl rfl ?_
  refine V_aload_n (i := 0) F dL_law_2399 rfl rfl ?_
  refine V_iload (i := 5) F dL_law_2400 rfl ?_
  refine V_iconst (v := nI 1) F dL_law_2402 rfl ?_
  refine V_iaddN F dL_law_2403 ?_
  refine V_ialdX F dL_law_2404 hscr (by omega) (by omega) ?_
  have hm := cm_berthsNeeded (l := xl X) (p := (xs (5 * j + 1))) hM2 hV
  generalize hcd : (if ¬ iR (xs (5 * j + 1)) (g 1) then 1 else 0) = c at hc5 hf hm ⊢
  generalize hvv : (nI (ndG g (tn (xs (5 * j + 1))) 8)) = v at hf hm
  refine V_callV (st := []) (nn := 1) F dL_law_2405 lk_X0_292 hm ⟨0, _, _, _, rfl, .inl hMC2.mm⟩ rfl rfl (Nat.le_of_ble_eq_true rfl) (Nat.le_of_ble_eq_true rfl) (Nat.le_of_ble_eq_true rfl) (by omega) (by omega) ?_
  rintro _ h3 ⟨rfl, hM3, hx3⟩
  have hC3 := hC2.frX hx3 (MW.ofm hMC2)
  have hao3 := hx3.ao hao2 hD.2.1 rfl
  have had3 := hx3.ao had2 hD.2.2 rfl
  obtain ⟨V3, F3, hMC3, hMV3⟩ := id hM3
  by_cases c0 : c = 0
  · subst c0
    rw [if_pos rfl]
    refine V_istore (i := 7) F dL_law_2408 (Nat.le_of_ble_eq_true rfl) (Nat.le_of_ble_eq_true rfl) ?_
    refine V_aload_n (i := 2) F dL_law_2410 rfl rfl ?_
    refine V_cV0r F dL_law_2411 lk_X0_178 (ct_thrown hMC3.mm (congrArg some hMV3.v7)) ⟨0, _, _, _, rfl, .inl hMC3.mm⟩ (Nat.le_of_ble_eq_true rfl) (Nat.le_of_ble_eq_true rfl) (Nat.le_of_ble_eq_true rfl) (by omega) (by omega) ?_
    refine V_iload (i := 6) F dL_law_2414 rfl ?_
    refine V_icmp_eqN (tgt := 2421) F dL_law_2416 (by decide) (by decide) (by decide) (fun _ => ?_) (fun z => absurd rfl z)
    refine V_iload (i := 6) F dL_law_2421 rfl ?_
    refine V_if_neN (tgt := 2438) F dL_law_2423 (by decide) (by decide) (fun z => absurd z (Nat.lt_irrefl 0)) (fun _ => ?_)
    refine V_aload_n (i := 3) F dL_law_2426 rfl rfl ?_
    refine V_iconst (v := nI 0) F dL_law_2427 rfl ?_
    refine V_laldN F 1 dL_law_2428 rfl (.inl hao3) (by decide) (by decide) ?_
    refine V_iload (i := 7) F dL_law_2429 rfl ?_
    refine V_i2l F dL_law_2431 ?_
    refine V_lcmp F dL_law_2432 ?_
    refine V_if_eq (tgt := 2438) F dL_law_2433 (by decide) (fun _ => ?_) (fun z => absurd (lg_self (hf rfl)) z)
    refine V_goto (tgt := 3195) F dL_law_2438 (by decide) ?_
    exact VV.weak (L' := LL b xo m ao ad j) (LW.c1 (LW.c1 (LW.c1 (LW.c1 (LW.c1 (LW.c1 (LW.c0 (LW.c0 (LW.c0 LW.nil))))))))) (VV.wide (by omega) (by omega) (next _ _ _ _ _ _ _ _ ⟨hC3, ⟨_, _, _, _, hM3⟩, hV.up (by omega), ⟨_, hao3⟩, ⟨_, had3⟩, by omega⟩))
  · rw [if_neg c0]
    refine V_istore (i := 7) F dL_law_2408 (Nat.le_of_ble_eq_true rfl) (Nat.le_of_ble_eq_true rfl) ?_
    refine V_aload_n (i := 2) F dL_law_2410 rfl rfl ?_
    refine V_cV0r F dL_law_2411 lk_X0_178 (ct_thrown hMC3.mm (congrArg some hMV3.v7)) ⟨0, _, _, _, rfl, .inl hMC3.mm⟩ (Nat.le_of_ble_eq_true rfl) (Nat.le_of_ble_eq_true rfl) (Nat.le_of_ble_eq_true rfl) (by omega) (by omega) ?_
    refine V_iload (i := 6) F dL_law_2414 rfl ?_
    refine V_icmp_eqN (tgt := 2421) F dL_law_2416 (by decide) (by omega) (by omega) (fun _ => ?_) (fun z => absurd rfl z)
    refine V_iload (i := 6) F dL_law_2421 rfl ?_
    refine V_if_neN (tgt := 2438) F dL_law_2423 (by decide) (by omega) (fun _ => ?_) (fun z => absurd z c0)
    refine V_goto (tgt := 3195) F dL_law_2438 (by decide) ?_
    exact VV.weak (L' := LL b xo m ao ad j) (LW.c1 (LW.c1 (LW.c1 (LW.c1 (LW.c1 (LW.c1 (LW.c0 (LW.c0 (LW.c0 LW.nil))))))))) (VV.wide (by omega) (by omega) (next _ _ _ _ _ _ _ _ ⟨hC3, ⟨_, _, _, _, hM3⟩, hV.up (by omega), ⟨_, hao3⟩, ⟨_, had3⟩, by omega⟩))
theorem law_36 {G : GG} {X : CX} {Q : State → Prop} {h : AH} {b L xo m ao ad n j kc nn : Nat} {xs : Nat → Int32} {A : Nat → Nat} {g : Nat → Nat} {sn : Option (Nat → Nat)} {hs : List (Nat → Nat)} {tx : List Nat} {ep fc : Nat} {ot : List Nat} {rt : Option FieldType} (F : Fx G X cL_law 9 RX0 rt 1000 1200144 5494714) (hl0 : (xl X).stackTraces = false) (hscr : SCR G X b L xs) (hL : L ≤ 120) (hj : 5 * j + 5 ≤ L) (hn : n ≤ 600) (hD : DIS m A ao ad) (hW : LWD G h xo m A ao ad n j g sn hs tx ep fc ot) (hk : kc + 50000 ≤ 1200144) (hs0 : nn + 228000 ≤ 5494714)
    (next : ∀ h2 g2 sn2 hs2 tx2 ep2 fc2 ot2, LWD G h2 xo m A ao ad (n + 21) (j + 1) g2 sn2 hs2 tx2 ep2 fc2 ot2 → VV G X 9 Q h2 (kc + 50000) (nn + 228000) (LL b xo m ao ad j) [] 3195) : VV G X 9 Q h kc nn (LL b xo m ao ad j) [] 2441 := by
  obtain ⟨hC, ⟨tm, cd, gb, τ, hM⟩, hV, ⟨f0, hao⟩, ⟨f1, had⟩, htx⟩ := id hW
  have hpo : ¬ PL m A ao ad ao := fun z => z.2.1 rfl
  have hpd : ¬ PL m A ao ad ad := fun z => z.2.2 rfl
  refine V_aload_n (i := 1) F dL_law_2441 rfl rfl ?_
  refine V_aload_n (i := 0) F dL_law_2442 rfl rfl ?_
  refine V_iload (i := 5) F dL_law_2443 rfl ?_
  refine V_iconst (v := nI 1) F dL_law_2445 rfl ?_
  refine V_iaddN F dL_law_2446 ?_
  refine V_ialdX F dL_law_2447 hscr (by omega) (by omega) ?_
  refine V_aload_n (i := 3) F dL_law_2448 rfl rfl ?_
  have hw := (x0_berthsNeededByLegs (ao := ao) (p0 := (xs (5 * j + 1))) (ck_berthsNeededByLegs hl0 hC hW.P0 hV) hC.isC (fun y h3 z => ⟨f0, z.2.2.2.ao hao hpo rfl⟩)).mono (fun r h2 hq => XQ.of hao hpo hq) (fun E q h2 hq => hq)
  -- wrapper
  refine V_xcSW (st := []) (nn := 3) F dL_law_2449 ⟨lw_SW q3125 q3126 q100 q3127, by decide +kernel⟩ hw rfl rfl (Nat.le_of_ble_eq_true rfl) (Nat.le_of_ble_eq_true rfl) (Nat.le_of_ble_eq_true rfl) (by omega) (by omega) ?_ (fun E q h2 hp => hp.elim)
  rintro _ h2 ⟨f, hc5, rfl, hC2, hao2, hf, hx⟩
  have hM2 := hM.off hx (fun b hb z => z.elim (fun z => z.1 hb) (fun z => hD.2.1 (z ▸ hb)))
  have had2 := hx.ao had (fun z => z.elim (fun z => z.2.2 rfl) (fun z => hD.1 z.symm)) rfl
  obtain ⟨V2, F2, hMC2, -⟩ := id hM2
  refine V_istore (i := 6) F dL_law_2452 (Nat.le_of_ble_eq_true rfl) (Nat.le_of_ble_eq_true rfl) ?_
  refine V_aload_n (i := 2) F dL_law_2454 rfl rfl ?_
  refine V_aload_n (i := 0) F dL_law_2455 rfl rfl ?_
  refine V_iload (i := 5) F dL_law_2456 rfl ?_
  refine V_iconst (v := nI 1) F dL_law_2458 rfl ?_
  refine V_iaddN F dL_law_2459 ?_
  refine V_ialdX F dL_law_2460 hscr (by omega) (by omega) ?_
  have hm := cm_berthsNeededByLegs (l := xl X) (p := (xs (5 * j + 1))) hM2 hV
  generalize hcd : (if ¬ iR (xs (5 * j + 1)) (g 1) then 1 else 0) = c at hc5 hf hm ⊢
  generalize hvv : (nI (ndG g (tn (xs (5 * j + 1))) 8)) = v at hf hm
  refine V_callV (st := []) (nn := 1) F dL_law_2461 lk_X0_295 hm ⟨0, _, _, _, rfl, .inl hMC2.mm⟩ rfl rfl (Nat.le_of_ble_eq_true rfl) (Nat.le_of_ble_eq_true rfl) (Nat.le_of_ble_eq_true rfl) (by omega) (by omega) ?_
  rintro _ h3 ⟨rfl, hM3, hx3⟩
  have hC3 := hC2.frX hx3 (MW.ofm hMC2)
  have hao3 := hx3.ao hao2 hD.2.1 rfl
  have had3 := hx3.ao had2 hD.2.2 rfl
  obtain ⟨V3, F3, hMC3, hMV3⟩ := id hM3
  by_cases c0 : c = 0
  · subst c0
    rw [if_pos rfl]
    refine V_istore (i := 7) F dL_law_2464 (Nat.le_of_ble_eq_true rfl) (Nat.le_of_ble_eq_true rfl) ?_
    refine V_aload_n (i := 2) F dL_law_2466 rfl rfl ?_
    refine V_cV0r F dL_law_2467 lk_X0_178 (ct_thrown hMC3.mm (congrArg some hMV3.v7)) ⟨0, _, _, _, rfl, .inl hMC3.mm⟩ (Nat.le_of_ble_eq_true rfl) (Nat.le_of_ble_eq_true rfl) (Nat.le_of_ble_eq_true rfl) (by omega) (by omega) ?_
    refine V_iload (i := 6) F dL_law_2470 rfl ?_
    refine V_icmp_eqN (tgt := 2477) F dL_law_2472 (by decide) (by decide) (by decide) (fun _ => ?_) (fun z => absurd rfl z)
    refine V_iload (i := 6) F dL_law_2477 rfl ?_
    refine V_if_neN (tgt := 2494) F dL_law_2479 (by decide) (by decide) (fun z => absurd z (Nat.lt_irrefl 0)) (fun _ => ?_)
    refine V_aload_n (i := 3) F dL_law_2482 rfl rfl ?_
    refine V_iconst (v := nI 0) F dL_law_2483 rfl ?_
    refine V_laldN F 1 dL_law_2484 rfl (.inl hao3) (by decide) (by decide) ?_
    refine V_iload (i := 7) F dL_law_2485 rfl ?_
    refine V_i2l F dL_law_2487 ?_
    refine V_lcmp F dL_law_2488 ?_
    refine V_if_eq (tgt := 2494) F dL_law_2489 (by decide) (fun _ => ?_) (fun z => absurd (lg_self (hf rfl)) z)
    refine V_goto (tgt := 3195) F dL_law_2494 (by decide) ?_
    exact VV.weak (L' := LL b xo m ao ad j) (LW.c1 (LW.c1 (LW.c1 (LW.c1 (LW.c1 (LW.c1 (LW.c0 (LW.c0 (LW.c0 LW.nil))))))))) (VV.wide (by omega) (by omega) (next _ _ _ _ _ _ _ _ ⟨hC3, ⟨_, _, _, _, hM3⟩, hV.up (by omega), ⟨_, hao3⟩, ⟨_, had3⟩, by omega⟩))
  · rw [if_neg c0]
    refine V_istore (i := 7) F dL_law_2464 (Nat.le_of_ble_eq_true rfl) (Nat.le_of_ble_eq_true rfl) ?_
    refine V_aload_n (i := 2) F dL_law_2466 rfl rfl ?_
    refine V_cV0r F dL_law_2467 lk_X0_178 (ct_thrown hMC3.mm (congrArg some hMV3.v7)) ⟨0, _, _, _, rfl, .inl hMC3.mm⟩ (Nat.le_of_ble_eq_true rfl) (Nat.le_of_ble_eq_true rfl) (Nat.le_of_ble_eq_true rfl) (by omega) (by omega) ?_
    refine V_iload (i := 6) F dL_law_2470 rfl ?_
    refine V_icmp_eqN (tgt := 2477) F dL_law_2472 (by decide) (by omega) (by omega) (fun _ => ?_) (fun z => absurd rfl z)
    refine V_iload (i := 6) F dL_law_2477 rfl ?_
    refine V_if_neN (tgt := 2494) F dL_law_2479 (by decide) (by omega) (fun _ => ?_) (fun z => absurd z c0)
    refine V_goto (tgt := 3195) F dL_law_2494 (by decide) ?_
    exact VV.weak (L' := LL b xo m ao ad j) (LW.c1 (LW.c1 (LW.c1 (LW.c1 (LW.c1 (LW.c1 (LW.c0 (LW.c0 (LW.c0 LW.nil))))))))) (VV.wide (by omega) (by omega) (next _ _ _ _ _ _ _ _ ⟨hC3, ⟨_, _, _, _, hM3⟩, hV.up (by omega), ⟨_, hao3⟩, ⟨_, had3⟩, by omega⟩))
theorem law_37 {G : GG} {X : CX} {Q : State → Prop} {h : AH} {b L xo m ao ad n j kc nn : Nat} {xs : Nat → Int32} {A : Nat → Nat} {g : Nat → Nat} {sn : Option (Nat → Nat)} {hs : List (Nat → Nat)} {tx : List Nat} {ep fc : Nat} {ot : List Nat} {rt : Option FieldType} (F : Fx G X cL_law 9 RX0 rt 1000 1200144 5494714) (hl0 : (xl X).stackTraces = false) (hscr : SCR G X b L xs) (hL : L ≤ 120) (hj : 5 * j + 5 ≤ L) (hn : n ≤ 600) (hD : DIS m A ao ad) (hW : LWD G h xo m A ao ad n j g sn hs tx ep fc ot) (hk : kc + 50000 ≤ 1200144) (hs0 : nn + 228000 ≤ 5494714)
    (next : ∀ h2 g2 sn2 hs2 tx2 ep2 fc2 ot2, LWD G h2 xo m A ao ad (n + 21) (j + 1) g2 sn2 hs2 tx2 ep2 fc2 ot2 → VV G X 9 Q h2 (kc + 50000) (nn + 228000) (LL b xo m ao ad j) [] 3195) : VV G X 9 Q h kc nn (LL b xo m ao ad j) [] 2497 := by
  obtain ⟨hC, ⟨tm, cd, gb, τ, hM⟩, hV, ⟨f0, hao⟩, ⟨f1, had⟩, htx⟩ := id hW
  have hpo : ¬ PL m A ao ad ao := fun z => z.2.1 rfl
  have hpd : ¬ PL m A ao ad ad := fun z => z.2.2 rfl
  refine V_aload_n (i := 1) F dL_law_2497 rfl rfl ?_
  refine V_aload_n (i := 0) F dL_law_2498 rfl rfl ?_
  refine V_iload (i := 5) F dL_law_2499 rfl ?_
  refine V_iconst (v := nI 1) F dL_law_2501 rfl ?_
  refine V_iaddN F dL_law_2502 ?_
  refine V_ialdX F dL_law_2503 hscr (by omega) (by omega) ?_
  refine V_aload_n (i := 3) F dL_law_2504 rfl rfl ?_
  have hw := (x0_berthOf (ao := ao) (p0 := (xs (5 * j + 1))) (ck_berthOf hl0 hC hW.P0 hV) hC.isC (fun y h3 z => ⟨f0, z.2.2.2.ao hao hpo rfl⟩)).mono (fun r h2 hq => XQ.of hao hpo hq) (fun E q h2 hq => hq)
  -- wrapper
  refine V_xcSW (st := []) (nn := 3) F dL_law_2505 ⟨lw_SW q3133 q3134 q100 q3135, by decide +kernel⟩ hw rfl rfl (Nat.le_of_ble_eq_true rfl) (Nat.le_of_ble_eq_true rfl) (Nat.le_of_ble_eq_true rfl) (by omega) (by omega) ?_ (fun E q h2 hp => hp.elim)
  rintro _ h2 ⟨f, hc5, rfl, hC2, hao2, hf, hx⟩
  have hM2 := hM.off hx (fun b hb z => z.elim (fun z => z.1 hb) (fun z => hD.2.1 (z ▸ hb)))
  have had2 := hx.ao had (fun z => z.elim (fun z => z.2.2 rfl) (fun z => hD.1 z.symm)) rfl
  obtain ⟨V2, F2, hMC2, -⟩ := id hM2
  refine V_istore (i := 6) F dL_law_2508 (Nat.le_of_ble_eq_true rfl) (Nat.le_of_ble_eq_true rfl) ?_
  refine V_aload_n (i := 2) F dL_law_2510 rfl rfl ?_
  refine V_aload_n (i := 0) F dL_law_2511 rfl rfl ?_
  refine V_iload (i := 5) F dL_law_2512 rfl ?_
  refine V_iconst (v := nI 1) F dL_law_2514 rfl ?_
  refine V_iaddN F dL_law_2515 ?_
  refine V_ialdX F dL_law_2516 hscr (by omega) (by omega) ?_
  have hm := cm_berthOf (l := xl X) (p := (xs (5 * j + 1))) hM2 hV
  generalize hcd : ((fdO g 264 (xs (5 * j + 1)) (g 3)).elim 1 (fun _ => 0)) = c at hc5 hf hm ⊢
  generalize hvv : ((fdO g 264 (xs (5 * j + 1)) (g 3)).elim (nI 0) (fun k => rP (gvB g (g (264 + 4 * k + 1)) (fun _ => 0) k))) = v at hf hm
  refine V_callV (st := []) (nn := 1) F dL_law_2517 lk_X0_298 hm ⟨0, _, _, _, rfl, .inl hMC2.mm⟩ rfl rfl (Nat.le_of_ble_eq_true rfl) (Nat.le_of_ble_eq_true rfl) (Nat.le_of_ble_eq_true rfl) (by omega) (by omega) ?_
  rintro _ h3 ⟨rfl, hM3, hx3⟩
  have hC3 := hC2.frX hx3 (MW.ofm hMC2)
  have hao3 := hx3.ao hao2 hD.2.1 rfl
  have had3 := hx3.ao had2 hD.2.2 rfl
  obtain ⟨V3, F3, hMC3, hMV3⟩ := id hM3
  by_cases c0 : c = 0
  · subst c0
    rw [if_pos rfl]
    refine V_istore (i := 7) F dL_law_2520 (Nat.le_of_ble_eq_true rfl) (Nat.le_of_ble_eq_true rfl) ?_
    refine V_aload_n (i := 2) F dL_law_2522 rfl rfl ?_
    refine V_cV0r F dL_law_2523 lk_X0_178 (ct_thrown hMC3.mm (congrArg some hMV3.v7)) ⟨0, _, _, _, rfl, .inl hMC3.mm⟩ (Nat.le_of_ble_eq_true rfl) (Nat.le_of_ble_eq_true rfl) (Nat.le_of_ble_eq_true rfl) (by omega) (by omega) ?_
    refine V_iload (i := 6) F dL_law_2526 rfl ?_
    refine V_icmp_eqN (tgt := 2533) F dL_law_2528 (by decide) (by decide) (by decide) (fun _ => ?_) (fun z => absurd rfl z)
    refine V_iload (i := 6) F dL_law_2533 rfl ?_
    refine V_if_neN (tgt := 2550) F dL_law_2535 (by decide) (by decide) (fun z => absurd z (Nat.lt_irrefl 0)) (fun _ => ?_)
    refine V_aload_n (i := 3) F dL_law_2538 rfl rfl ?_
    refine V_iconst (v := nI 0) F dL_law_2539 rfl ?_
    refine V_laldN F 1 dL_law_2540 rfl (.inl hao3) (by decide) (by decide) ?_
    refine V_iload (i := 7) F dL_law_2541 rfl ?_
    refine V_i2l F dL_law_2543 ?_
    refine V_lcmp F dL_law_2544 ?_
    refine V_if_eq (tgt := 2550) F dL_law_2545 (by decide) (fun _ => ?_) (fun z => absurd (lg_self (hf rfl)) z)
    refine V_goto (tgt := 3195) F dL_law_2550 (by decide) ?_
    exact VV.weak (L' := LL b xo m ao ad j) (LW.c1 (LW.c1 (LW.c1 (LW.c1 (LW.c1 (LW.c1 (LW.c0 (LW.c0 (LW.c0 LW.nil))))))))) (VV.wide (by omega) (by omega) (next _ _ _ _ _ _ _ _ ⟨hC3, ⟨_, _, _, _, hM3⟩, hV.up (by omega), ⟨_, hao3⟩, ⟨_, had3⟩, by omega⟩))
  · rw [if_neg c0]
    refine V_istore (i := 7) F dL_law_2520 (Nat.le_of_ble_eq_true rfl) (Nat.le_of_ble_eq_true rfl) ?_
    refine V_aload_n (i := 2) F dL_law_2522 rfl rfl ?_
    refine V_cV0r F dL_law_2523 lk_X0_178 (ct_thrown hMC3.mm (congrArg some hMV3.v7)) ⟨0, _, _, _, rfl, .inl hMC3.mm⟩ (Nat.le_of_ble_eq_true rfl) (Nat.le_of_ble_eq_true rfl) (Nat.le_of_ble_eq_true rfl) (by omega) (by omega) ?_
    refine V_iload (i := 6) F dL_law_2526 rfl ?_
    refine V_icmp_eqN (tgt := 2533) F dL_law_2528 (by decide) (by omega) (by omega) (fun _ => ?_) (fun z => absurd rfl z)
    refine V_iload (i := 6) F dL_law_2533 rfl ?_
    refine V_if_neN (tgt := 2550) F dL_law_2535 (by decide) (by omega) (fun _ => ?_) (fun z => absurd z c0)
    refine V_goto (tgt := 3195) F dL_law_2550 (by decide) ?_
    exact VV.weak (L' := LL b xo m ao ad j) (LW.c1 (LW.c1 (LW.c1 (LW.c1 (LW.c1 (LW.c1 (LW.c0 (LW.c0 (LW.c0 LW.nil))))))))) (VV.wide (by omega) (by omega) (next _ _ _ _ _ _ _ _ ⟨hC3, ⟨_, _, _, _, hM3⟩, hV.up (by omega), ⟨_, hao3⟩, ⟨_, had3⟩, by omega⟩))
