set_option maxRecDepth 100000
theorem Fr.fHn {h h2 : AH} (hx : Fr (fH h) h h2) : Fr nM h h2 := hx.weak (fun _ q => Or.inr q)
theorem Gstr.lt {G : GG} {tx : String} {a : Nat} (hG : Gstr G tx a) : a < bz G := by
  obtain ⟨v, hz, h1, -⟩ := hG
  exact h1.1
theorem HB.gs {G : GG} {h : AH} {tx : String} {a : Nat} (hB : HB G h) (hG : Gstr G tx a) : h a = none := by
  obtain ⟨v, hz, h1, -⟩ := hG
  exact hB.no h1
theorem wd_ok {k : Nat} (hk : k < 10) : (asc (txl (wdS k))) ∧ (txl (wdS k)).length ≤ 200 := by
  have hk9 : k = 0 ∨ k = 1 ∨ k = 2 ∨ k = 3 ∨ k = 4 ∨ k = 5 ∨ k = 6 ∨ k = 7 ∨ k = 8 ∨ k = 9 := by omega
  rcases hk9 with rfl | rfl | rfl | rfl | rfl | rfl | rfl | rfl | rfl | rfl <;> exact ⟨asc_of (by decide +kernel), by decide +kernel⟩
theorem wd_hn {k : Nat} (hk : k < 10) : strH (txl (wdS k)) ≠ 0 := by
  have hk9 : k = 0 ∨ k = 1 ∨ k = 2 ∨ k = 3 ∨ k = 4 ∨ k = 5 ∨ k = 6 ∨ k = 7 ∨ k = 8 ∨ k = 9 := by omega
  rcases hk9 with rfl | rfl | rfl | rfl | rfl | rfl | rfl | rfl | rfl | rfl <;> decide +kernel

theorem ct_X1_change {G : GG} {l : Launch} {h : AH} {P : Nat → Prop} {xo n : Nat} {g : Nat → Nat} {sn : Option (Nat → Nat)} {hs : List (Nat → Nat)} {l0 : List Nat} {ep fc : Int32} {ot : List Nat} {wa ar nA k : Nat} {f : Nat → Int32}  (hl0 : l.stackTraces = false) (hC : CW G P h xo g sn hs l0 ep fc ot) (hP : ∀ z, h z = none → P z) (hV : INV n g) (hs8 : hs.length ≤ 8) (hk : k < 10) (hG : Gstr G (wdS k) wa) (har : h ar = some (.inl (G.2.1 0, nA, .inl f))) (hnA : arK k ≤ nA) (hnB : nA < 100)  : CtH G l yX1_change cX1_change 5 (some .int) [((8 : Nat), (26 : Nat), (27 : Nat), (77 : Nat))] 15 (900) (24000) [.ref xo, .ref wa, .ref ar] h (fun r0 h2 => ∃ v g2, r0 = some (.int v) ∧ cdK k g f = 0 ∧ CHG k g f v g2 ∧ CW G P h2 xo g2 sn (pushH hs g) l0 ep fc ot ∧ Fr P h h2) (XF h (fun E => cdK k g f ≠ 0 ∧ E = (exK (kdK k (cdK k g f))).1)) := by
  refine CtH.of (by decide) (Nat.le_of_ble_eq_true rfl) (cat1 rfl) (fun X hXl F HT => ?_)
  subst hXl
  have HTo : ∀ p, (p < 8 ∨ 26 ≤ p) → ∀ x ∈ (xc X).exceptionTable.toList, covers x p = false := fun p hp x hx => by rw [HT] at hx; cases List.mem_singleton.mp hx; show (decide (8 ≤ p) && decide (p < 26)) = false; rcases hp with hp | hp <;> simp <;> omega
  obtain ⟨r, so, hl, sb, o, mc, A, V, b, N, hx, hRG, hSN, hLL, hHR, hSB, hOU, hPx, hPl, hPA, hPs, hPb⟩ := id hC
  obtain ⟨⟨⟨ti, tia, tf⟩, ⟨tt, tl, ta, x, A9⟩, ⟨sm, smc, sA, sK, sV⟩, ⟨bm, bmc, bA, bK, bV⟩⟩, hW, -⟩ := id hRG
  refine VV.bs (fun hB0 => ?_)
  have hwn := hB0.gs hG
  refine V_aload_n (i := 0) F dX1_change_0 rfl rfl ?_
  refine V_getf F dX1_change_1 fc_X1_44_X1 (.inl hx) rfl ?_
  refine V_callV (st := []) (nn := 0) F dX1_change_4 lk_X1_60 (ct_RW_copy hW hV.W hV.id hV.bd hV.n4 hV.n5) ⟨2, _, _, _, rfl, .inl hW.1⟩ rfl rfl (Nat.le_of_ble_eq_true rfl) (Nat.le_of_ble_eq_true rfl) (Nat.le_of_ble_eq_true rfl) (by omega) (by omega) ?_
  rintro _ h1 ⟨q, ⟨⟨ti2, tia2, tf2⟩, ⟨tt2, tl2, ta2, x2, A2⟩, ⟨sm2, smc2, sA2, sK2, sV2⟩, ⟨bm2, bmc2, bA2, bK2, bV2⟩⟩, rfl, hW1, hO1, hx1⟩
  have hx11 := hx1.get hx id rfl
  refine V_astore_n (i := 3) F dX1_change_7 rfl (Nat.le_of_ble_eq_true rfl) (Nat.le_of_ble_eq_true rfl) ?_
  refine V_aload_n (i := 0) F dX1_change_8 rfl rfl ?_
  refine V_aload_n (i := 3) F dX1_change_9 rfl rfl ?_
  refine V_new F dX1_change_10 nw_X1_64 (by omega) (by omega) ?_
  intro c hfc hbc
  refine V_dup F dX1_change_13 rfl ?_
  refine V_aload_n (i := 1) F dX1_change_14 rfl rfl ?_
  refine V_aload_n (i := 2) F dX1_change_15 rfl rfl ?_
  refine V_callI (st := [.ref (c), .ref (q), .ref (xo)]) (nn := 2) F dX1_change_16 lk_X1_66 (ct_Co_init (hset_self (e := .inr (6, [.null, .null])))) rfl rfl (Nat.le_of_ble_eq_true rfl) (Nat.le_of_ble_eq_true rfl) (Nat.le_of_ble_eq_true rfl) (by omega) (by omega) ?_
  have hFc : Fr nM h ((hset h1 c (.inr (6, [.null, .null])))) := (hx1.nw (x := .inr (6, [.null, .null])) hfc)
  rintro _ h3 ⟨rfl, hc3, hx3⟩
  have hF3 : Fr nM h h3 := hFc.cal hx3 (Yo.m1 (Or.inr (hx1.none hfc)))
  have hx31 := hF3.get hx id rfl
  have har3 := hF3.get har id rfl
  have hW3 := ((hW1.fr0 (Fr.rf.nw (x := .inr (6, [.null, .null])) hfc)).fr1 hx3 (hset_self (e := .inr (6, [.null, .null]))) (by decide))
  refine V_aload_n (i := 3) F dX1_change_19 rfl rfl ?_
  refine V_xcV (st := [.ref (q), .ref (xo)]) (nn := 1) F dX1_change_20 lk_X1_69 (ct_X7_applyTo hl0 hk hc3 har3 hnA hnB (hG.sth (wd_ok hk).1 (wd_ok hk).2 (wd_hn hk)) hW3 hO1 hV hF3) ⟨6, _, _, _, rfl, .inl hc3⟩ rfl rfl (Nat.le_of_ble_eq_true rfl) (Nat.le_of_ble_eq_true rfl) (Nat.le_of_ble_eq_true rfl) (by omega) (by omega) ?_ ?_
  · rintro _ h5 ⟨v, g2, rfl, hcd, hCH, ⟨D5, hW5, hO5⟩, hx5⟩
    have hF5 : Fr nM h h5 := (hF3.mono (fun _ z => z.elim) : Fr (fH h) h h3).cal hx5 (fun z q => Or.inl q) |>.fHn
    have hC5 := hC.fr0 hF5
    refine V_callV (st := []) (nn := 2) F dX1_change_23 lk_X1_73 (ct_X1_commit (n := n) hC5 (fun z hz => hP z (hF5.none hz)) hs8 (hO5.rg hW5 hP)) ⟨1, _, _, _, rfl, .inl (hF5.get hx id rfl)⟩ rfl rfl (Nat.le_of_ble_eq_true rfl) (Nat.le_of_ble_eq_true rfl) (Nat.le_of_ble_eq_true rfl) (by omega) (by omega) ?_
    rintro _ h6 ⟨rfl, hC6, hx6⟩
    exact VV.rx (V_iret F dX1_change_26 rfl (by first | exact Nat.le_of_ble_eq_true rfl | omega) (by first | exact Nat.le_of_ble_eq_true rfl | omega) ⟨v, g2, rfl, hcd, hCH, hC6, (hF5.mono (fun _ z => z.elim) : Fr P h h5).cal hx6 (fun z q => Or.inl q)⟩)
  · intro E q9 h7 hp
    obtain ⟨rfl, hq0, hcd, ⟨ka, hGk, hq9⟩, hx7⟩ := hp
    have hF7 : Fr nM h h7 := ((hF3.mono (fun _ z => z.elim) : Fr (fH h) h h3).cal hx7 (fun z q => Or.inl q)).fHn
    refine V_xcatch F (name := "SleeperRailway$Failure") [] ⟨8, 26, 27, 77⟩ [] (by rw [HT]; rfl) (fun z hz => by cases hz) (by decide) (by decide) q2268 q4234 ?_
    refine V_astore (i := 4) F dX1_change_27 (Nat.le_of_ble_eq_true rfl) (Nat.le_of_ble_eq_true rfl) ?_
    refine V_aload (i := 4) F dX1_change_29 rfl ?_
    refine V_callU (st := []) (nn := 0) F dX1_change_31 ⟨lw_U q2650 q2652 q2671 q2672 q155 q2673, q2651, (by decide +kernel)⟩ (ct_X9_pub (kdK_mem hk) hl0 hq9 hGk) ⟨7, _, _, _, rfl, .inl hq9⟩ rfl rfl (Nat.le_of_ble_eq_true rfl) (Nat.le_of_ble_eq_true rfl) (Nat.le_of_ble_eq_true rfl) (by omega) (by omega) ?_
    rintro _ h8 ⟨q8, rfl, hq80, hq8, hx8⟩
    refine V_athrow F dX1_change_34 (exK_isC (kdK_mem hk) hq8) ?_
    exact V_xout F (HTo 34 (by decide)) (by omega) (by omega) ⟨⟨hcd, rfl⟩, hF7.cal0 hx8⟩
theorem ct_X1_addStation {G : GG} {l : Launch} {h : AH} {P : Nat → Prop} {xo n : Nat} {g : Nat → Nat} {sn : Option (Nat → Nat)} {hs : List (Nat → Nat)} {l0 : List Nat} {ep fc : Int32} {ot : List Nat} {p : Int32}  (hl0 : l.stackTraces = false) (hC : CW G P h xo g sn hs l0 ep fc ot) (hP : ∀ z, h z = none → P z) (hV : INV n g) (hs8 : hs.length ≤ 8)  : CtX G l yX1_addStation cX1_addStation 2 (some .int) 16 (901) (24004) [.ref xo, .int p] h (fun r0 h2 => ∃ v g2, r0 = some (.int v) ∧ cdK 0 g (upd (fun _ => nI 0) 0 p) = 0 ∧ CHG 0 g (upd (fun _ => nI 0) 0 p) v g2 ∧ CW G P h2 xo g2 sn (pushH hs g) l0 ep fc ot ∧ Fr P h h2) (XF h (fun E => cdK 0 g (upd (fun _ => nI 0) 0 p) ≠ 0 ∧ E = (exK (kdK 0 (cdK 0 g (upd (fun _ => nI 0) 0 p)))).1)) := by
  refine CtX.of (by decide) (Nat.le_of_ble_eq_true rfl) (cat1 rfl) (fun X hXl F HT => ?_)
  subst hXl
  obtain ⟨r, so, hl, sb, o, mc, A, V, b, N, hx, hRG, hSN, hLL, hHR, hSB, hOU, hPx, hPl, hPA, hPs, hPb⟩ := id hC
  refine V_aload_n (i := 0) F dX1_addStation_0 rfl rfl ?_
  refine V_ldcS F dX1_addStation_1 q2263 ?_
  intro w1 hGw1
  refine V_iconst (v := nI 1) F dX1_addStation_3 rfl ?_
  refine V_newaI F dX1_addStation_4 (by decide) (by omega) (by omega) ?_
  intro ar hfar hbar
  refine V_dup F dX1_addStation_6 rfl ?_
  refine V_iconst (v := nI 0) F dX1_addStation_7 rfl ?_
  refine V_iload_n (i := 1) F dX1_addStation_8 rfl rfl ?_
  refine V_iastN F 0 dX1_addStation_9 rfl (hset_self (e := .inl (G.2.1 0, 1, .inl (fun _ => nI 0)))) (by decide) (by decide) ?_
  have hFr : Fr nM h ((hset (hset h ar (.inl (G.2.1 0, 1, .inl (fun _ => nI 0)))) (ar) (.inl (G.2.1 0, 1, .inl ((upd (fun _ => nI 0) 0 ((p)))))))) := (((Fr.rf (M := nM) (h := h)).nw (x := .inl (G.2.1 0, 1, .inl (fun _ => nI 0))) hfar).put (x := .inl (G.2.1 0, 1, .inl ((upd (fun _ => nI 0) 0 ((p)))))) (hset_self (e := .inl (G.2.1 0, 1, .inl (fun _ => nI 0)))) ⟨rfl, rfl⟩ rfl ((Fr.rf (M := nM) (h := h)).yo hfar))
  have har : ((hset (hset h ar (.inl (G.2.1 0, 1, .inl (fun _ => nI 0)))) (ar) (.inl (G.2.1 0, 1, .inl ((upd (fun _ => nI 0) 0 ((p)))))))) ar = some (.inl (G.2.1 0, 1, .inl (upd (fun _ => nI 0) 0 p))) := (hset_self (e := .inl (G.2.1 0, 1, .inl ((upd (fun _ => nI 0) 0 ((p)))))))
  refine V_xcVW (st := []) (nn := 2) F dX1_addStation_10 ⟨lw_VW q2264 q2266 qs30 q101 q2267, rfl, by decide +kernel⟩ (ct_X1_change (k := 0) hl0 (hC.fr0 hFr) (fun z hz => hP z (hFr.none hz)) hV hs8 (by decide) hGw1 har (by decide) (by decide)) ⟨1, _, _, _, rfl, .inl (hFr.get hx id rfl)⟩ rfl rfl (Nat.le_of_ble_eq_true rfl) (Nat.le_of_ble_eq_true rfl) (Nat.le_of_ble_eq_true rfl) (by omega) (by omega) ?_ ?_
  · rintro _ h3 ⟨v, g2, rfl, hcd, hCH, hC3, hx3⟩
    exact VV.rx (V_iret F dX1_addStation_13 rfl (by first | exact Nat.le_of_ble_eq_true rfl | omega) (by first | exact Nat.le_of_ble_eq_true rfl | omega) ⟨v, g2, rfl, hcd, hCH, hC3, (hFr.mono (fun _ z => z.elim) : Fr P h _).cal hx3 (fun z q => Or.inl q)⟩)
  · exact fun E q h2 hp => V_xout F (HT _) (by omega) (by omega) (XF.of hFr hp (fun hc => hc))
theorem ct_X1_addTrain {G : GG} {l : Launch} {h : AH} {P : Nat → Prop} {xo n : Nat} {g : Nat → Nat} {sn : Option (Nat → Nat)} {hs : List (Nat → Nat)} {l0 : List Nat} {ep fc : Int32} {ot : List Nat} {p q0 u : Int32}  (hl0 : l.stackTraces = false) (hC : CW G P h xo g sn hs l0 ep fc ot) (hP : ∀ z, h z = none → P z) (hV : INV n g) (hs8 : hs.length ≤ 8)  : CtX G l yX1_addTrain cX1_addTrain 4 (some .int) 16 (901) (24004) [.ref xo, .int p, .int q0, .int u] h (fun r0 h2 => ∃ v g2, r0 = some (.int v) ∧ cdK 1 g (upd (upd (upd (fun _ => nI 0) 0 p) 1 q0) 2 u) = 0 ∧ CHG 1 g (upd (upd (upd (fun _ => nI 0) 0 p) 1 q0) 2 u) v g2 ∧ CW G P h2 xo g2 sn (pushH hs g) l0 ep fc ot ∧ Fr P h h2) (XF h (fun E => cdK 1 g (upd (upd (upd (fun _ => nI 0) 0 p) 1 q0) 2 u) ≠ 0 ∧ E = (exK (kdK 1 (cdK 1 g (upd (upd (upd (fun _ => nI 0) 0 p) 1 q0) 2 u)))).1)) := by
  refine CtX.of (by decide) (Nat.le_of_ble_eq_true rfl) (cat1 rfl) (fun X hXl F HT => ?_)
  subst hXl
  obtain ⟨r, so, hl, sb, o, mc, A, V, b, N, hx, hRG, hSN, hLL, hHR, hSB, hOU, hPx, hPl, hPA, hPs, hPb⟩ := id hC
  refine V_aload_n (i := 0) F dX1_addTrain_0 rfl rfl ?_
  refine V_ldcS F dX1_addTrain_1 q2734 ?_
  intro w1 hGw1
  refine V_iconst (v := nI 3) F dX1_addTrain_3 rfl ?_
  refine V_newaI F dX1_addTrain_4 (by decide) (by omega) (by omega) ?_
  intro ar hfar hbar
  refine V_dup F dX1_addTrain_6 rfl ?_
  refine V_iconst (v := nI 0) F dX1_addTrain_7 rfl ?_
  refine V_iload_n (i := 1) F dX1_addTrain_8 rfl rfl ?_
  refine V_iastN F 0 dX1_addTrain_9 rfl (hset_self (e := .inl (G.2.1 0, 3, .inl (fun _ => nI 0)))) (by decide) (by decide) ?_
  refine V_dup F dX1_addTrain_10 rfl ?_
  refine V_iconst (v := nI 1) F dX1_addTrain_11 rfl ?_
  refine V_iload_n (i := 2) F dX1_addTrain_12 rfl rfl ?_
  refine V_iastN F 0 dX1_addTrain_13 rfl (hset_self (e := .inl (G.2.1 0, 3, .inl ((upd (fun _ => nI 0) 0 ((p))))))) (by decide) (by decide) ?_
  refine V_dup F dX1_addTrain_14 rfl ?_
  refine V_iconst (v := nI 2) F dX1_addTrain_15 rfl ?_
  refine V_iload_n (i := 3) F dX1_addTrain_16 rfl rfl ?_
  refine V_iastN F 0 dX1_addTrain_17 rfl (hset_self (e := .inl (G.2.1 0, 3, .inl ((upd ((upd (fun _ => nI 0) 0 ((p)))) 1 ((q0))))))) (by decide) (by decide) ?_
  have hFr : Fr nM h ((hset (hset (hset (hset h ar (.inl (G.2.1 0, 3, .inl (fun _ => nI 0)))) (ar) (.inl (G.2.1 0, 3, .inl ((upd (fun _ => nI 0) 0 ((p))))))) (ar) (.inl (G.2.1 0, 3, .inl ((upd ((upd (fun _ => nI 0) 0 ((p)))) 1 ((q0))))))) (ar) (.inl (G.2.1 0, 3, .inl ((upd ((upd ((upd (fun _ => nI 0) 0 ((p)))) 1 ((q0)))) 2 ((u)))))))) := (((((Fr.rf (M := nM) (h := h)).nw (x := .inl (G.2.1 0, 3, .inl (fun _ => nI 0))) hfar).put (x := .inl (G.2.1 0, 3, .inl ((upd (fun _ => nI 0) 0 ((p)))))) (hset_self (e := .inl (G.2.1 0, 3, .inl (fun _ => nI 0)))) ⟨rfl, rfl⟩ rfl ((Fr.rf (M := nM) (h := h)).yo hfar)).put (x := .inl (G.2.1 0, 3, .inl ((upd ((upd (fun _ => nI 0) 0 ((p)))) 1 ((q0)))))) (hset_self (e := .inl (G.2.1 0, 3, .inl ((upd (fun _ => nI 0) 0 ((p))))))) ⟨rfl, rfl⟩ rfl ((Fr.rf (M := nM) (h := h)).yo hfar)).put (x := .inl (G.2.1 0, 3, .inl ((upd ((upd ((upd (fun _ => nI 0) 0 ((p)))) 1 ((q0)))) 2 ((u)))))) (hset_self (e := .inl (G.2.1 0, 3, .inl ((upd ((upd (fun _ => nI 0) 0 ((p)))) 1 ((q0))))))) ⟨rfl, rfl⟩ rfl ((Fr.rf (M := nM) (h := h)).yo hfar))
  have har : ((hset (hset (hset (hset h ar (.inl (G.2.1 0, 3, .inl (fun _ => nI 0)))) (ar) (.inl (G.2.1 0, 3, .inl ((upd (fun _ => nI 0) 0 ((p))))))) (ar) (.inl (G.2.1 0, 3, .inl ((upd ((upd (fun _ => nI 0) 0 ((p)))) 1 ((q0))))))) (ar) (.inl (G.2.1 0, 3, .inl ((upd ((upd ((upd (fun _ => nI 0) 0 ((p)))) 1 ((q0)))) 2 ((u)))))))) ar = some (.inl (G.2.1 0, 3, .inl (upd (upd (upd (fun _ => nI 0) 0 p) 1 q0) 2 u))) := (hset_self (e := .inl (G.2.1 0, 3, .inl ((upd ((upd ((upd (fun _ => nI 0) 0 ((p)))) 1 ((q0)))) 2 ((u)))))))
  refine V_xcVW (st := []) (nn := 2) F dX1_addTrain_18 ⟨lw_VW q2264 q2266 qs30 q101 q2267, rfl, by decide +kernel⟩ (ct_X1_change (k := 1) hl0 (hC.fr0 hFr) (fun z hz => hP z (hFr.none hz)) hV hs8 (by decide) hGw1 har (by decide) (by decide)) ⟨1, _, _, _, rfl, .inl (hFr.get hx id rfl)⟩ rfl rfl (Nat.le_of_ble_eq_true rfl) (Nat.le_of_ble_eq_true rfl) (Nat.le_of_ble_eq_true rfl) (by omega) (by omega) ?_ ?_
  · rintro _ h3 ⟨v, g2, rfl, hcd, hCH, hC3, hx3⟩
    exact VV.rx (V_iret F dX1_addTrain_21 rfl (by first | exact Nat.le_of_ble_eq_true rfl | omega) (by first | exact Nat.le_of_ble_eq_true rfl | omega) ⟨v, g2, rfl, hcd, hCH, hC3, (hFr.mono (fun _ z => z.elim) : Fr P h _).cal hx3 (fun z q => Or.inl q)⟩)
  · exact fun E q h2 hp => V_xout F (HT _) (by omega) (by omega) (XF.of hFr hp (fun hc => hc))
theorem ct_X1_extendTrain {G : GG} {l : Launch} {h : AH} {P : Nat → Prop} {xo n : Nat} {g : Nat → Nat} {sn : Option (Nat → Nat)} {hs : List (Nat → Nat)} {l0 : List Nat} {ep fc : Int32} {ot : List Nat} {p q0 u v0 : Int32}  (hl0 : l.stackTraces = false) (hC : CW G P h xo g sn hs l0 ep fc ot) (hP : ∀ z, h z = none → P z) (hV : INV n g) (hs8 : hs.length ≤ 8)  : CtX G l yX1_extendTrain cX1_extendTrain 5 (some .int) 16 (901) (24004) [.ref xo, .int p, .int q0, .int u, .int v0] h (fun r0 h2 => ∃ v g2, r0 = some (.int v) ∧ cdK 2 g (upd (upd (upd (upd (fun _ => nI 0) 0 p) 1 q0) 2 u) 3 v0) = 0 ∧ CHG 2 g (upd (upd (upd (upd (fun _ => nI 0) 0 p) 1 q0) 2 u) 3 v0) v g2 ∧ CW G P h2 xo g2 sn (pushH hs g) l0 ep fc ot ∧ Fr P h h2) (XF h (fun E => cdK 2 g (upd (upd (upd (upd (fun _ => nI 0) 0 p) 1 q0) 2 u) 3 v0) ≠ 0 ∧ E = (exK (kdK 2 (cdK 2 g (upd (upd (upd (upd (fun _ => nI 0) 0 p) 1 q0) 2 u) 3 v0)))).1)) := by
  refine CtX.of (by decide) (Nat.le_of_ble_eq_true rfl) (cat1 rfl) (fun X hXl F HT => ?_)
  subst hXl
  obtain ⟨r, so, hl, sb, o, mc, A, V, b, N, hx, hRG, hSN, hLL, hHR, hSB, hOU, hPx, hPl, hPA, hPs, hPb⟩ := id hC
  refine V_aload_n (i := 0) F dX1_extendTrain_0 rfl rfl ?_
  refine V_ldcS F dX1_extendTrain_1 q2742 ?_
  intro w1 hGw1
  refine V_iconst (v := nI 4) F dX1_extendTrain_3 rfl ?_
  refine V_newaI F dX1_extendTrain_4 (by decide) (by omega) (by omega) ?_
  intro ar hfar hbar
  refine V_dup F dX1_extendTrain_6 rfl ?_
  refine V_iconst (v := nI 0) F dX1_extendTrain_7 rfl ?_
  refine V_iload_n (i := 1) F dX1_extendTrain_8 rfl rfl ?_
  refine V_iastN F 0 dX1_extendTrain_9 rfl (hset_self (e := .inl (G.2.1 0, 4, .inl (fun _ => nI 0)))) (by decide) (by decide) ?_
  refine V_dup F dX1_extendTrain_10 rfl ?_
  refine V_iconst (v := nI 1) F dX1_extendTrain_11 rfl ?_
  refine V_iload_n (i := 2) F dX1_extendTrain_12 rfl rfl ?_
  refine V_iastN F 0 dX1_extendTrain_13 rfl (hset_self (e := .inl (G.2.1 0, 4, .inl ((upd (fun _ => nI 0) 0 ((p))))))) (by decide) (by decide) ?_
  refine V_dup F dX1_extendTrain_14 rfl ?_
  refine V_iconst (v := nI 2) F dX1_extendTrain_15 rfl ?_
  refine V_iload_n (i := 3) F dX1_extendTrain_16 rfl rfl ?_
  refine V_iastN F 0 dX1_extendTrain_17 rfl (hset_self (e := .inl (G.2.1 0, 4, .inl ((upd ((upd (fun _ => nI 0) 0 ((p)))) 1 ((q0))))))) (by decide) (by decide) ?_
  refine V_dup F dX1_extendTrain_18 rfl ?_
  refine V_iconst (v := nI 3) F dX1_extendTrain_19 rfl ?_
  refine V_iload (i := 4) F dX1_extendTrain_20 rfl ?_
  refine V_iastN F 0 dX1_extendTrain_22 rfl (hset_self (e := .inl (G.2.1 0, 4, .inl ((upd ((upd ((upd (fun _ => nI 0) 0 ((p)))) 1 ((q0)))) 2 ((u))))))) (by decide) (by decide) ?_
  have hFr : Fr nM h ((hset (hset (hset (hset (hset h ar (.inl (G.2.1 0, 4, .inl (fun _ => nI 0)))) (ar) (.inl (G.2.1 0, 4, .inl ((upd (fun _ => nI 0) 0 ((p))))))) (ar) (.inl (G.2.1 0, 4, .inl ((upd ((upd (fun _ => nI 0) 0 ((p)))) 1 ((q0))))))) (ar) (.inl (G.2.1 0, 4, .inl ((upd ((upd ((upd (fun _ => nI 0) 0 ((p)))) 1 ((q0)))) 2 ((u))))))) (ar) (.inl (G.2.1 0, 4, .inl ((upd ((upd ((upd ((upd (fun _ => nI 0) 0 ((p)))) 1 ((q0)))) 2 ((u)))) 3 ((v0)))))))) := ((((((Fr.rf (M := nM) (h := h)).nw (x := .inl (G.2.1 0, 4, .inl (fun _ => nI 0))) hfar).put (x := .inl (G.2.1 0, 4, .inl ((upd (fun _ => nI 0) 0 ((p)))))) (hset_self (e := .inl (G.2.1 0, 4, .inl (fun _ => nI 0)))) ⟨rfl, rfl⟩ rfl ((Fr.rf (M := nM) (h := h)).yo hfar)).put (x := .inl (G.2.1 0, 4, .inl ((upd ((upd (fun _ => nI 0) 0 ((p)))) 1 ((q0)))))) (hset_self (e := .inl (G.2.1 0, 4, .inl ((upd (fun _ => nI 0) 0 ((p))))))) ⟨rfl, rfl⟩ rfl ((Fr.rf (M := nM) (h := h)).yo hfar)).put (x := .inl (G.2.1 0, 4, .inl ((upd ((upd ((upd (fun _ => nI 0) 0 ((p)))) 1 ((q0)))) 2 ((u)))))) (hset_self (e := .inl (G.2.1 0, 4, .inl ((upd ((upd (fun _ => nI 0) 0 ((p)))) 1 ((q0))))))) ⟨rfl, rfl⟩ rfl ((Fr.rf (M := nM) (h := h)).yo hfar)).put (x := .inl (G.2.1 0, 4, .inl ((upd ((upd ((upd ((upd (fun _ => nI 0) 0 ((p)))) 1 ((q0)))) 2 ((u)))) 3 ((v0)))))) (hset_self (e := .inl (G.2.1 0, 4, .inl ((upd ((upd ((upd (fun _ => nI 0) 0 ((p)))) 1 ((q0)))) 2 ((u))))))) ⟨rfl, rfl⟩ rfl ((Fr.rf (M := nM) (h := h)).yo hfar))
  have har : ((hset (hset (hset (hset (hset h ar (.inl (G.2.1 0, 4, .inl (fun _ => nI 0)))) (ar) (.inl (G.2.1 0, 4, .inl ((upd (fun _ => nI 0) 0 ((p))))))) (ar) (.inl (G.2.1 0, 4, .inl ((upd ((upd (fun _ => nI 0) 0 ((p)))) 1 ((q0))))))) (ar) (.inl (G.2.1 0, 4, .inl ((upd ((upd ((upd (fun _ => nI 0) 0 ((p)))) 1 ((q0)))) 2 ((u))))))) (ar) (.inl (G.2.1 0, 4, .inl ((upd ((upd ((upd ((upd (fun _ => nI 0) 0 ((p)))) 1 ((q0)))) 2 ((u)))) 3 ((v0)))))))) ar = some (.inl (G.2.1 0, 4, .inl (upd (upd (upd (upd (fun _ => nI 0) 0 p) 1 q0) 2 u) 3 v0))) := (hset_self (e := .inl (G.2.1 0, 4, .inl ((upd ((upd ((upd ((upd (fun _ => nI 0) 0 ((p)))) 1 ((q0)))) 2 ((u)))) 3 ((v0)))))))
  refine V_xcVW (st := []) (nn := 2) F dX1_extendTrain_23 ⟨lw_VW q2264 q2266 qs30 q101 q2267, rfl, by decide +kernel⟩ (ct_X1_change (k := 2) hl0 (hC.fr0 hFr) (fun z hz => hP z (hFr.none hz)) hV hs8 (by decide) hGw1 har (by decide) (by decide)) ⟨1, _, _, _, rfl, .inl (hFr.get hx id rfl)⟩ rfl rfl (Nat.le_of_ble_eq_true rfl) (Nat.le_of_ble_eq_true rfl) (Nat.le_of_ble_eq_true rfl) (by omega) (by omega) ?_ ?_
  · rintro _ h3 ⟨v, g2, rfl, hcd, hCH, hC3, hx3⟩
    exact VV.rx (V_iret F dX1_extendTrain_26 rfl (by first | exact Nat.le_of_ble_eq_true rfl | omega) (by first | exact Nat.le_of_ble_eq_true rfl | omega) ⟨v, g2, rfl, hcd, hCH, hC3, (hFr.mono (fun _ z => z.elim) : Fr P h _).cal hx3 (fun z q => Or.inl q)⟩)
  · exact fun E q h2 hp => V_xout F (HT _) (by omega) (by omega) (XF.of hFr hp (fun hc => hc))
theorem ct_X1_delayTrain {G : GG} {l : Launch} {h : AH} {P : Nat → Prop} {xo n : Nat} {g : Nat → Nat} {sn : Option (Nat → Nat)} {hs : List (Nat → Nat)} {l0 : List Nat} {ep fc : Int32} {ot : List Nat} {p q0 : Int32}  (hl0 : l.stackTraces = false) (hC : CW G P h xo g sn hs l0 ep fc ot) (hP : ∀ z, h z = none → P z) (hV : INV n g) (hs8 : hs.length ≤ 8)  : CtX G l yX1_delayTrain cX1_delayTrain 3 (some .int) 16 (901) (24004) [.ref xo, .int p, .int q0] h (fun r0 h2 => ∃ v g2, r0 = some (.int v) ∧ cdK 3 g (upd (upd (fun _ => nI 0) 0 p) 1 q0) = 0 ∧ CHG 3 g (upd (upd (fun _ => nI 0) 0 p) 1 q0) v g2 ∧ CW G P h2 xo g2 sn (pushH hs g) l0 ep fc ot ∧ Fr P h h2) (XF h (fun E => cdK 3 g (upd (upd (fun _ => nI 0) 0 p) 1 q0) ≠ 0 ∧ E = (exK (kdK 3 (cdK 3 g (upd (upd (fun _ => nI 0) 0 p) 1 q0)))).1)) := by
  refine CtX.of (by decide) (Nat.le_of_ble_eq_true rfl) (cat1 rfl) (fun X hXl F HT => ?_)
  subst hXl
  obtain ⟨r, so, hl, sb, o, mc, A, V, b, N, hx, hRG, hSN, hLL, hHR, hSB, hOU, hPx, hPl, hPA, hPs, hPb⟩ := id hC
  refine V_aload_n (i := 0) F dX1_delayTrain_0 rfl rfl ?_
  refine V_ldcS F dX1_delayTrain_1 q2750 ?_
  intro w1 hGw1
  refine V_iconst (v := nI 2) F dX1_delayTrain_3 rfl ?_
  refine V_newaI F dX1_delayTrain_4 (by decide) (by omega) (by omega) ?_
  intro ar hfar hbar
  refine V_dup F dX1_delayTrain_6 rfl ?_
  refine V_iconst (v := nI 0) F dX1_delayTrain_7 rfl ?_
  refine V_iload_n (i := 1) F dX1_delayTrain_8 rfl rfl ?_
  refine V_iastN F 0 dX1_delayTrain_9 rfl (hset_self (e := .inl (G.2.1 0, 2, .inl (fun _ => nI 0)))) (by decide) (by decide) ?_
  refine V_dup F dX1_delayTrain_10 rfl ?_
  refine V_iconst (v := nI 1) F dX1_delayTrain_11 rfl ?_
  refine V_iload_n (i := 2) F dX1_delayTrain_12 rfl rfl ?_
  refine V_iastN F 0 dX1_delayTrain_13 rfl (hset_self (e := .inl (G.2.1 0, 2, .inl ((upd (fun _ => nI 0) 0 ((p))))))) (by decide) (by decide) ?_
  have hFr : Fr nM h ((hset (hset (hset h ar (.inl (G.2.1 0, 2, .inl (fun _ => nI 0)))) (ar) (.inl (G.2.1 0, 2, .inl ((upd (fun _ => nI 0) 0 ((p))))))) (ar) (.inl (G.2.1 0, 2, .inl ((upd ((upd (fun _ => nI 0) 0 ((p)))) 1 ((q0)))))))) := ((((Fr.rf (M := nM) (h := h)).nw (x := .inl (G.2.1 0, 2, .inl (fun _ => nI 0))) hfar).put (x := .inl (G.2.1 0, 2, .inl ((upd (fun _ => nI 0) 0 ((p)))))) (hset_self (e := .inl (G.2.1 0, 2, .inl (fun _ => nI 0)))) ⟨rfl, rfl⟩ rfl ((Fr.rf (M := nM) (h := h)).yo hfar)).put (x := .inl (G.2.1 0, 2, .inl ((upd ((upd (fun _ => nI 0) 0 ((p)))) 1 ((q0)))))) (hset_self (e := .inl (G.2.1 0, 2, .inl ((upd (fun _ => nI 0) 0 ((p))))))) ⟨rfl, rfl⟩ rfl ((Fr.rf (M := nM) (h := h)).yo hfar))
  have har : ((hset (hset (hset h ar (.inl (G.2.1 0, 2, .inl (fun _ => nI 0)))) (ar) (.inl (G.2.1 0, 2, .inl ((upd (fun _ => nI 0) 0 ((p))))))) (ar) (.inl (G.2.1 0, 2, .inl ((upd ((upd (fun _ => nI 0) 0 ((p)))) 1 ((q0)))))))) ar = some (.inl (G.2.1 0, 2, .inl (upd (upd (fun _ => nI 0) 0 p) 1 q0))) := (hset_self (e := .inl (G.2.1 0, 2, .inl ((upd ((upd (fun _ => nI 0) 0 ((p)))) 1 ((q0)))))))
  refine V_xcVW (st := []) (nn := 2) F dX1_delayTrain_14 ⟨lw_VW q2264 q2266 qs30 q101 q2267, rfl, by decide +kernel⟩ (ct_X1_change (k := 3) hl0 (hC.fr0 hFr) (fun z hz => hP z (hFr.none hz)) hV hs8 (by decide) hGw1 har (by decide) (by decide)) ⟨1, _, _, _, rfl, .inl (hFr.get hx id rfl)⟩ rfl rfl (Nat.le_of_ble_eq_true rfl) (Nat.le_of_ble_eq_true rfl) (Nat.le_of_ble_eq_true rfl) (by omega) (by omega) ?_ ?_
  · rintro _ h3 ⟨v, g2, rfl, hcd, hCH, hC3, hx3⟩
    exact VV.rx (V_iret F dX1_delayTrain_17 rfl (by first | exact Nat.le_of_ble_eq_true rfl | omega) (by first | exact Nat.le_of_ble_eq_true rfl | omega) ⟨v, g2, rfl, hcd, hCH, hC3, (hFr.mono (fun _ z => z.elim) : Fr P h _).cal hx3 (fun z q => Or.inl q)⟩)
  · exact fun E q h2 hp => V_xout F (HT _) (by omega) (by omega) (XF.of hFr hp (fun hc => hc))
theorem ct_X1_addSuitcase {G : GG} {l : Launch} {h : AH} {P : Nat → Prop} {xo n : Nat} {g : Nat → Nat} {sn : Option (Nat → Nat)} {hs : List (Nat → Nat)} {l0 : List Nat} {ep fc : Int32} {ot : List Nat} {p q0 u : Int32}  (hl0 : l.stackTraces = false) (hC : CW G P h xo g sn hs l0 ep fc ot) (hP : ∀ z, h z = none → P z) (hV : INV n g) (hs8 : hs.length ≤ 8)  : CtX G l yX1_addSuitcase cX1_addSuitcase 4 (some .int) 16 (901) (24004) [.ref xo, .int p, .int q0, .int u] h (fun r0 h2 => ∃ v g2, r0 = some (.int v) ∧ cdK 4 g (upd (upd (upd (fun _ => nI 0) 0 p) 1 q0) 2 u) = 0 ∧ CHG 4 g (upd (upd (upd (fun _ => nI 0) 0 p) 1 q0) 2 u) v g2 ∧ CW G P h2 xo g2 sn (pushH hs g) l0 ep fc ot ∧ Fr P h h2) (XF h (fun E => cdK 4 g (upd (upd (upd (fun _ => nI 0) 0 p) 1 q0) 2 u) ≠ 0 ∧ E = (exK (kdK 4 (cdK 4 g (upd (upd (upd (fun _ => nI 0) 0 p) 1 q0) 2 u)))).1)) := by
  refine CtX.of (by decide) (Nat.le_of_ble_eq_true rfl) (cat1 rfl) (fun X hXl F HT => ?_)
  subst hXl
  obtain ⟨r, so, hl, sb, o, mc, A, V, b, N, hx, hRG, hSN, hLL, hHR, hSB, hOU, hPx, hPl, hPA, hPs, hPb⟩ := id hC
  refine V_aload_n (i := 0) F dX1_addSuitcase_0 rfl rfl ?_
  refine V_ldcS F dX1_addSuitcase_1 q2758 ?_
  intro w1 hGw1
  refine V_iconst (v := nI 3) F dX1_addSuitcase_3 rfl ?_
  refine V_newaI F dX1_addSuitcase_4 (by decide) (by omega) (by omega) ?_
  intro ar hfar hbar
  refine V_dup F dX1_addSuitcase_6 rfl ?_
  refine V_iconst (v := nI 0) F dX1_addSuitcase_7 rfl ?_
  refine V_iload_n (i := 1) F dX1_addSuitcase_8 rfl rfl ?_
  refine V_iastN F 0 dX1_addSuitcase_9 rfl (hset_self (e := .inl (G.2.1 0, 3, .inl (fun _ => nI 0)))) (by decide) (by decide) ?_
  refine V_dup F dX1_addSuitcase_10 rfl ?_
  refine V_iconst (v := nI 1) F dX1_addSuitcase_11 rfl ?_
  refine V_iload_n (i := 2) F dX1_addSuitcase_12 rfl rfl ?_
  refine V_iastN F 0 dX1_addSuitcase_13 rfl (hset_self (e := .inl (G.2.1 0, 3, .inl ((upd (fun _ => nI 0) 0 ((p))))))) (by decide) (by decide) ?_
  refine V_dup F dX1_addSuitcase_14 rfl ?_
  refine V_iconst (v := nI 2) F dX1_addSuitcase_15 rfl ?_
  refine V_iload_n (i := 3) F dX1_addSuitcase_16 rfl rfl ?_
  refine V_iastN F 0 dX1_addSuitcase_17 rfl (hset_self (e := .inl (G.2.1 0, 3, .inl ((upd ((upd (fun _ => nI 0) 0 ((p)))) 1 ((q0))))))) (by decide) (by decide) ?_
  have hFr : Fr nM h ((hset (hset (hset (hset h ar (.inl (G.2.1 0, 3, .inl (fun _ => nI 0)))) (ar) (.inl (G.2.1 0, 3, .inl ((upd (fun _ => nI 0) 0 ((p))))))) (ar) (.inl (G.2.1 0, 3, .inl ((upd ((upd (fun _ => nI 0) 0 ((p)))) 1 ((q0))))))) (ar) (.inl (G.2.1 0, 3, .inl ((upd ((upd ((upd (fun _ => nI 0) 0 ((p)))) 1 ((q0)))) 2 ((u)))))))) := (((((Fr.rf (M := nM) (h := h)).nw (x := .inl (G.2.1 0, 3, .inl (fun _ => nI 0))) hfar).put (x := .inl (G.2.1 0, 3, .inl ((upd (fun _ => nI 0) 0 ((p)))))) (hset_self (e := .inl (G.2.1 0, 3, .inl (fun _ => nI 0)))) ⟨rfl, rfl⟩ rfl ((Fr.rf (M := nM) (h := h)).yo hfar)).put (x := .inl (G.2.1 0, 3, .inl ((upd ((upd (fun _ => nI 0) 0 ((p)))) 1 ((q0)))))) (hset_self (e := .inl (G.2.1 0, 3, .inl ((upd (fun _ => nI 0) 0 ((p))))))) ⟨rfl, rfl⟩ rfl ((Fr.rf (M := nM) (h := h)).yo hfar)).put (x := .inl (G.2.1 0, 3, .inl ((upd ((upd ((upd (fun _ => nI 0) 0 ((p)))) 1 ((q0)))) 2 ((u)))))) (hset_self (e := .inl (G.2.1 0, 3, .inl ((upd ((upd (fun _ => nI 0) 0 ((p)))) 1 ((q0))))))) ⟨rfl, rfl⟩ rfl ((Fr.rf (M := nM) (h := h)).yo hfar))
  have har : ((hset (hset (hset (hset h ar (.inl (G.2.1 0, 3, .inl (fun _ => nI 0)))) (ar) (.inl (G.2.1 0, 3, .inl ((upd (fun _ => nI 0) 0 ((p))))))) (ar) (.inl (G.2.1 0, 3, .inl ((upd ((upd (fun _ => nI 0) 0 ((p)))) 1 ((q0))))))) (ar) (.inl (G.2.1 0, 3, .inl ((upd ((upd ((upd (fun _ => nI 0) 0 ((p)))) 1 ((q0)))) 2 ((u)))))))) ar = some (.inl (G.2.1 0, 3, .inl (upd (upd (upd (fun _ => nI 0) 0 p) 1 q0) 2 u))) := (hset_self (e := .inl (G.2.1 0, 3, .inl ((upd ((upd ((upd (fun _ => nI 0) 0 ((p)))) 1 ((q0)))) 2 ((u)))))))
  refine V_xcVW (st := []) (nn := 2) F dX1_addSuitcase_18 ⟨lw_VW q2264 q2266 qs30 q101 q2267, rfl, by decide +kernel⟩ (ct_X1_change (k := 4) hl0 (hC.fr0 hFr) (fun z hz => hP z (hFr.none hz)) hV hs8 (by decide) hGw1 har (by decide) (by decide)) ⟨1, _, _, _, rfl, .inl (hFr.get hx id rfl)⟩ rfl rfl (Nat.le_of_ble_eq_true rfl) (Nat.le_of_ble_eq_true rfl) (Nat.le_of_ble_eq_true rfl) (by omega) (by omega) ?_ ?_
  · rintro _ h3 ⟨v, g2, rfl, hcd, hCH, hC3, hx3⟩
    exact VV.rx (V_iret F dX1_addSuitcase_21 rfl (by first | exact Nat.le_of_ble_eq_true rfl | omega) (by first | exact Nat.le_of_ble_eq_true rfl | omega) ⟨v, g2, rfl, hcd, hCH, hC3, (hFr.mono (fun _ z => z.elim) : Fr P h _).cal hx3 (fun z q => Or.inl q)⟩)
  · exact fun E q h2 hp => V_xout F (HT _) (by omega) (by omega) (XF.of hFr hp (fun hc => hc))
theorem ct_X1_relabel {G : GG} {l : Launch} {h : AH} {P : Nat → Prop} {xo n : Nat} {g : Nat → Nat} {sn : Option (Nat → Nat)} {hs : List (Nat → Nat)} {l0 : List Nat} {ep fc : Int32} {ot : List Nat} {p q0 : Int32}  (hl0 : l.stackTraces = false) (hC : CW G P h xo g sn hs l0 ep fc ot) (hP : ∀ z, h z = none → P z) (hV : INV n g) (hs8 : hs.length ≤ 8)  : CtX G l yX1_relabel cX1_relabel 3 (some .int) 16 (901) (24004) [.ref xo, .int p, .int q0] h (fun r0 h2 => ∃ v g2, r0 = some (.int v) ∧ cdK 5 g (upd (upd (fun _ => nI 0) 0 p) 1 q0) = 0 ∧ CHG 5 g (upd (upd (fun _ => nI 0) 0 p) 1 q0) v g2 ∧ CW G P h2 xo g2 sn (pushH hs g) l0 ep fc ot ∧ Fr P h h2) (XF h (fun E => cdK 5 g (upd (upd (fun _ => nI 0) 0 p) 1 q0) ≠ 0 ∧ E = (exK (kdK 5 (cdK 5 g (upd (upd (fun _ => nI 0) 0 p) 1 q0)))).1)) := by
  refine CtX.of (by decide) (Nat.le_of_ble_eq_true rfl) (cat1 rfl) (fun X hXl F HT => ?_)
  subst hXl
  obtain ⟨r, so, hl, sb, o, mc, A, V, b, N, hx, hRG, hSN, hLL, hHR, hSB, hOU, hPx, hPl, hPA, hPs, hPb⟩ := id hC
  refine V_aload_n (i := 0) F dX1_relabel_0 rfl rfl ?_
  refine V_ldcS F dX1_relabel_1 q2767 ?_
  intro w1 hGw1
  refine V_iconst (v := nI 2) F dX1_relabel_3 rfl ?_
  refine V_newaI F dX1_relabel_4 (by decide) (by omega) (by omega) ?_
  intro ar hfar hbar
  refine V_dup F dX1_relabel_6 rfl ?_
  refine V_iconst (v := nI 0) F dX1_relabel_7 rfl ?_
  refine V_iload_n (i := 1) F dX1_relabel_8 rfl rfl ?_
  refine V_iastN F 0 dX1_relabel_9 rfl (hset_self (e := .inl (G.2.1 0, 2, .inl (fun _ => nI 0)))) (by decide) (by decide) ?_
  refine V_dup F dX1_relabel_10 rfl ?_
  refine V_iconst (v := nI 1) F dX1_relabel_11 rfl ?_
  refine V_iload_n (i := 2) F dX1_relabel_12 rfl rfl ?_
  refine V_iastN F 0 dX1_relabel_13 rfl (hset_self (e := .inl (G.2.1 0, 2, .inl ((upd (fun _ => nI 0) 0 ((p))))))) (by decide) (by decide) ?_
  have hFr : Fr nM h ((hset (hset (hset h ar (.inl (G.2.1 0, 2, .inl (fun _ => nI 0)))) (ar) (.inl (G.2.1 0, 2, .inl ((upd (fun _ => nI 0) 0 ((p))))))) (ar) (.inl (G.2.1 0, 2, .inl ((upd ((upd (fun _ => nI 0) 0 ((p)))) 1 ((q0)))))))) := ((((Fr.rf (M := nM) (h := h)).nw (x := .inl (G.2.1 0, 2, .inl (fun _ => nI 0))) hfar).put (x := .inl (G.2.1 0, 2, .inl ((upd (fun _ => nI 0) 0 ((p)))))) (hset_self (e := .inl (G.2.1 0, 2, .inl (fun _ => nI 0)))) ⟨rfl, rfl⟩ rfl ((Fr.rf (M := nM) (h := h)).yo hfar)).put (x := .inl (G.2.1 0, 2, .inl ((upd ((upd (fun _ => nI 0) 0 ((p)))) 1 ((q0)))))) (hset_self (e := .inl (G.2.1 0, 2, .inl ((upd (fun _ => nI 0) 0 ((p))))))) ⟨rfl, rfl⟩ rfl ((Fr.rf (M := nM) (h := h)).yo hfar))
  have har : ((hset (hset (hset h ar (.inl (G.2.1 0, 2, .inl (fun _ => nI 0)))) (ar) (.inl (G.2.1 0, 2, .inl ((upd (fun _ => nI 0) 0 ((p))))))) (ar) (.inl (G.2.1 0, 2, .inl ((upd ((upd (fun _ => nI 0) 0 ((p)))) 1 ((q0)))))))) ar = some (.inl (G.2.1 0, 2, .inl (upd (upd (fun _ => nI 0) 0 p) 1 q0))) := (hset_self (e := .inl (G.2.1 0, 2, .inl ((upd ((upd (fun _ => nI 0) 0 ((p)))) 1 ((q0)))))))
  refine V_xcVW (st := []) (nn := 2) F dX1_relabel_14 ⟨lw_VW q2264 q2266 qs30 q101 q2267, rfl, by decide +kernel⟩ (ct_X1_change (k := 5) hl0 (hC.fr0 hFr) (fun z hz => hP z (hFr.none hz)) hV hs8 (by decide) hGw1 har (by decide) (by decide)) ⟨1, _, _, _, rfl, .inl (hFr.get hx id rfl)⟩ rfl rfl (Nat.le_of_ble_eq_true rfl) (Nat.le_of_ble_eq_true rfl) (Nat.le_of_ble_eq_true rfl) (by omega) (by omega) ?_ ?_
  · rintro _ h3 ⟨v, g2, rfl, hcd, hCH, hC3, hx3⟩
    exact VV.rx (V_iret F dX1_relabel_17 rfl (by first | exact Nat.le_of_ble_eq_true rfl | omega) (by first | exact Nat.le_of_ble_eq_true rfl | omega) ⟨v, g2, rfl, hcd, hCH, hC3, (hFr.mono (fun _ z => z.elim) : Fr P h _).cal hx3 (fun z q => Or.inl q)⟩)
  · exact fun E q h2 hp => V_xout F (HT _) (by omega) (by omega) (XF.of hFr hp (fun hc => hc))
theorem ct_X1_send {G : GG} {l : Launch} {h : AH} {P : Nat → Prop} {xo n : Nat} {g : Nat → Nat} {sn : Option (Nat → Nat)} {hs : List (Nat → Nat)} {l0 : List Nat} {ep fc : Int32} {ot : List Nat} {p : Int32}  (hl0 : l.stackTraces = false) (hC : CW G P h xo g sn hs l0 ep fc ot) (hP : ∀ z, h z = none → P z) (hV : INV n g) (hs8 : hs.length ≤ 8)  : CtX G l yX1_send cX1_send 2 (some .int) 16 (901) (24004) [.ref xo, .int p] h (fun r0 h2 => ∃ v g2, r0 = some (.int v) ∧ cdK 6 g (upd (fun _ => nI 0) 0 p) = 0 ∧ CHG 6 g (upd (fun _ => nI 0) 0 p) v g2 ∧ CW G P h2 xo g2 sn (pushH hs g) l0 ep fc ot ∧ Fr P h h2) (XF h (fun E => cdK 6 g (upd (fun _ => nI 0) 0 p) ≠ 0 ∧ E = (exK (kdK 6 (cdK 6 g (upd (fun _ => nI 0) 0 p)))).1)) := by
  refine CtX.of (by decide) (Nat.le_of_ble_eq_true rfl) (cat1 rfl) (fun X hXl F HT => ?_)
  subst hXl
  obtain ⟨r, so, hl, sb, o, mc, A, V, b, N, hx, hRG, hSN, hLL, hHR, hSB, hOU, hPx, hPl, hPA, hPs, hPb⟩ := id hC
  refine V_aload_n (i := 0) F dX1_send_0 rfl rfl ?_
  refine V_ldcS F dX1_send_1 q2776 ?_
  intro w1 hGw1
  refine V_iconst (v := nI 1) F dX1_send_3 rfl ?_
  refine V_newaI F dX1_send_4 (by decide) (by omega) (by omega) ?_
  intro ar hfar hbar
  refine V_dup F dX1_send_6 rfl ?_
  refine V_iconst (v := nI 0) F dX1_send_7 rfl ?_
  refine V_iload_n (i := 1) F dX1_send_8 rfl rfl ?_
  refine V_iastN F 0 dX1_send_9 rfl (hset_self (e := .inl (G.2.1 0, 1, .inl (fun _ => nI 0)))) (by decide) (by decide) ?_
  have hFr : Fr nM h ((hset (hset h ar (.inl (G.2.1 0, 1, .inl (fun _ => nI 0)))) (ar) (.inl (G.2.1 0, 1, .inl ((upd (fun _ => nI 0) 0 ((p)))))))) := (((Fr.rf (M := nM) (h := h)).nw (x := .inl (G.2.1 0, 1, .inl (fun _ => nI 0))) hfar).put (x := .inl (G.2.1 0, 1, .inl ((upd (fun _ => nI 0) 0 ((p)))))) (hset_self (e := .inl (G.2.1 0, 1, .inl (fun _ => nI 0)))) ⟨rfl, rfl⟩ rfl ((Fr.rf (M := nM) (h := h)).yo hfar))
  have har : ((hset (hset h ar (.inl (G.2.1 0, 1, .inl (fun _ => nI 0)))) (ar) (.inl (G.2.1 0, 1, .inl ((upd (fun _ => nI 0) 0 ((p)))))))) ar = some (.inl (G.2.1 0, 1, .inl (upd (fun _ => nI 0) 0 p))) := (hset_self (e := .inl (G.2.1 0, 1, .inl ((upd (fun _ => nI 0) 0 ((p)))))))
  refine V_xcVW (st := []) (nn := 2) F dX1_send_10 ⟨lw_VW q2264 q2266 qs30 q101 q2267, rfl, by decide +kernel⟩ (ct_X1_change (k := 6) hl0 (hC.fr0 hFr) (fun z hz => hP z (hFr.none hz)) hV hs8 (by decide) hGw1 har (by decide) (by decide)) ⟨1, _, _, _, rfl, .inl (hFr.get hx id rfl)⟩ rfl rfl (Nat.le_of_ble_eq_true rfl) (Nat.le_of_ble_eq_true rfl) (Nat.le_of_ble_eq_true rfl) (by omega) (by omega) ?_ ?_
  · rintro _ h3 ⟨v, g2, rfl, hcd, hCH, hC3, hx3⟩
    exact VV.rx (V_iret F dX1_send_13 rfl (by first | exact Nat.le_of_ble_eq_true rfl | omega) (by first | exact Nat.le_of_ble_eq_true rfl | omega) ⟨v, g2, rfl, hcd, hCH, hC3, (hFr.mono (fun _ z => z.elim) : Fr P h _).cal hx3 (fun z q => Or.inl q)⟩)
  · exact fun E q h2 hp => V_xout F (HT _) (by omega) (by omega) (XF.of hFr hp (fun hc => hc))
theorem ct_X1_collect {G : GG} {l : Launch} {h : AH} {P : Nat → Prop} {xo n : Nat} {g : Nat → Nat} {sn : Option (Nat → Nat)} {hs : List (Nat → Nat)} {l0 : List Nat} {ep fc : Int32} {ot : List Nat} {p : Int32}  (hl0 : l.stackTraces = false) (hC : CW G P h xo g sn hs l0 ep fc ot) (hP : ∀ z, h z = none → P z) (hV : INV n g) (hs8 : hs.length ≤ 8)  : CtX G l yX1_collect cX1_collect 2 (some .int) 16 (901) (24004) [.ref xo, .int p] h (fun r0 h2 => ∃ v g2, r0 = some (.int v) ∧ cdK 7 g (upd (fun _ => nI 0) 0 p) = 0 ∧ CHG 7 g (upd (fun _ => nI 0) 0 p) v g2 ∧ CW G P h2 xo g2 sn (pushH hs g) l0 ep fc ot ∧ Fr P h h2) (XF h (fun E => cdK 7 g (upd (fun _ => nI 0) 0 p) ≠ 0 ∧ E = (exK (kdK 7 (cdK 7 g (upd (fun _ => nI 0) 0 p)))).1)) := by
  refine CtX.of (by decide) (Nat.le_of_ble_eq_true rfl) (cat1 rfl) (fun X hXl F HT => ?_)
  subst hXl
  obtain ⟨r, so, hl, sb, o, mc, A, V, b, N, hx, hRG, hSN, hLL, hHR, hSB, hOU, hPx, hPl, hPA, hPs, hPb⟩ := id hC
  refine V_aload_n (i := 0) F dX1_collect_0 rfl rfl ?_
  refine V_ldcS F dX1_collect_1 q2784 ?_
  intro w1 hGw1
  refine V_iconst (v := nI 1) F dX1_collect_3 rfl ?_
  refine V_newaI F dX1_collect_4 (by decide) (by omega) (by omega) ?_
  intro ar hfar hbar
  refine V_dup F dX1_collect_6 rfl ?_
  refine V_iconst (v := nI 0) F dX1_collect_7 rfl ?_
  refine V_iload_n (i := 1) F dX1_collect_8 rfl rfl ?_
  refine V_iastN F 0 dX1_collect_9 rfl (hset_self (e := .inl (G.2.1 0, 1, .inl (fun _ => nI 0)))) (by decide) (by decide) ?_
  have hFr : Fr nM h ((hset (hset h ar (.inl (G.2.1 0, 1, .inl (fun _ => nI 0)))) (ar) (.inl (G.2.1 0, 1, .inl ((upd (fun _ => nI 0) 0 ((p)))))))) := (((Fr.rf (M := nM) (h := h)).nw (x := .inl (G.2.1 0, 1, .inl (fun _ => nI 0))) hfar).put (x := .inl (G.2.1 0, 1, .inl ((upd (fun _ => nI 0) 0 ((p)))))) (hset_self (e := .inl (G.2.1 0, 1, .inl (fun _ => nI 0)))) ⟨rfl, rfl⟩ rfl ((Fr.rf (M := nM) (h := h)).yo hfar))
  have har : ((hset (hset h ar (.inl (G.2.1 0, 1, .inl (fun _ => nI 0)))) (ar) (.inl (G.2.1 0, 1, .inl ((upd (fun _ => nI 0) 0 ((p)))))))) ar = some (.inl (G.2.1 0, 1, .inl (upd (fun _ => nI 0) 0 p))) := (hset_self (e := .inl (G.2.1 0, 1, .inl ((upd (fun _ => nI 0) 0 ((p)))))))
  refine V_xcVW (st := []) (nn := 2) F dX1_collect_10 ⟨lw_VW q2264 q2266 qs30 q101 q2267, rfl, by decide +kernel⟩ (ct_X1_change (k := 7) hl0 (hC.fr0 hFr) (fun z hz => hP z (hFr.none hz)) hV hs8 (by decide) hGw1 har (by decide) (by decide)) ⟨1, _, _, _, rfl, .inl (hFr.get hx id rfl)⟩ rfl rfl (Nat.le_of_ble_eq_true rfl) (Nat.le_of_ble_eq_true rfl) (Nat.le_of_ble_eq_true rfl) (by omega) (by omega) ?_ ?_
  · rintro _ h3 ⟨v, g2, rfl, hcd, hCH, hC3, hx3⟩
    exact VV.rx (V_iret F dX1_collect_13 rfl (by first | exact Nat.le_of_ble_eq_true rfl | omega) (by first | exact Nat.le_of_ble_eq_true rfl | omega) ⟨v, g2, rfl, hcd, hCH, hC3, (hFr.mono (fun _ z => z.elim) : Fr P h _).cal hx3 (fun z q => Or.inl q)⟩)
  · exact fun E q h2 hp => V_xout F (HT _) (by omega) (by omega) (XF.of hFr hp (fun hc => hc))
theorem ct_X1_book {G : GG} {l : Launch} {h : AH} {P : Nat → Prop} {xo n : Nat} {g : Nat → Nat} {sn : Option (Nat → Nat)} {hs : List (Nat → Nat)} {l0 : List Nat} {ep fc : Int32} {ot : List Nat} {p q0 u : Int32}  (hl0 : l.stackTraces = false) (hC : CW G P h xo g sn hs l0 ep fc ot) (hP : ∀ z, h z = none → P z) (hV : INV n g) (hs8 : hs.length ≤ 8)  : CtX G l yX1_book cX1_book 4 (some .int) 16 (901) (24004) [.ref xo, .int p, .int q0, .int u] h (fun r0 h2 => ∃ v g2, r0 = some (.int v) ∧ cdK 8 g (upd (upd (upd (fun _ => nI 0) 0 p) 1 q0) 2 u) = 0 ∧ CHG 8 g (upd (upd (upd (fun _ => nI 0) 0 p) 1 q0) 2 u) v g2 ∧ CW G P h2 xo g2 sn (pushH hs g) l0 ep fc ot ∧ Fr P h h2) (XF h (fun E => cdK 8 g (upd (upd (upd (fun _ => nI 0) 0 p) 1 q0) 2 u) ≠ 0 ∧ E = (exK (kdK 8 (cdK 8 g (upd (upd (upd (fun _ => nI 0) 0 p) 1 q0) 2 u)))).1)) := by
  refine CtX.of (by decide) (Nat.le_of_ble_eq_true rfl) (cat1 rfl) (fun X hXl F HT => ?_)
  subst hXl
  obtain ⟨r, so, hl, sb, o, mc, A, V, b, N, hx, hRG, hSN, hLL, hHR, hSB, hOU, hPx, hPl, hPA, hPs, hPb⟩ := id hC
  refine V_aload_n (i := 0) F dX1_book_0 rfl rfl ?_
  refine V_ldcS F dX1_book_1 q2792 ?_
  intro w1 hGw1
  refine V_iconst (v := nI 3) F dX1_book_3 rfl ?_
  refine V_newaI F dX1_book_4 (by decide) (by omega) (by omega) ?_
  intro ar hfar hbar
  refine V_dup F dX1_book_6 rfl ?_
  refine V_iconst (v := nI 0) F dX1_book_7 rfl ?_
  refine V_iload_n (i := 1) F dX1_book_8 rfl rfl ?_
  refine V_iastN F 0 dX1_book_9 rfl (hset_self (e := .inl (G.2.1 0, 3, .inl (fun _ => nI 0)))) (by decide) (by decide) ?_
  refine V_dup F dX1_book_10 rfl ?_
  refine V_iconst (v := nI 1) F dX1_book_11 rfl ?_
  refine V_iload_n (i := 2) F dX1_book_12 rfl rfl ?_
  refine V_iastN F 0 dX1_book_13 rfl (hset_self (e := .inl (G.2.1 0, 3, .inl ((upd (fun _ => nI 0) 0 ((p))))))) (by decide) (by decide) ?_
  refine V_dup F dX1_book_14 rfl ?_
  refine V_iconst (v := nI 2) F dX1_book_15 rfl ?_
  refine V_iload_n (i := 3) F dX1_book_16 rfl rfl ?_
  refine V_iastN F 0 dX1_book_17 rfl (hset_self (e := .inl (G.2.1 0, 3, .inl ((upd ((upd (fun _ => nI 0) 0 ((p)))) 1 ((q0))))))) (by decide) (by decide) ?_
  have hFr : Fr nM h ((hset (hset (hset (hset h ar (.inl (G.2.1 0, 3, .inl (fun _ => nI 0)))) (ar) (.inl (G.2.1 0, 3, .inl ((upd (fun _ => nI 0) 0 ((p))))))) (ar) (.inl (G.2.1 0, 3, .inl ((upd ((upd (fun _ => nI 0) 0 ((p)))) 1 ((q0))))))) (ar) (.inl (G.2.1 0, 3, .inl ((upd ((upd ((upd (fun _ => nI 0) 0 ((p)))) 1 ((q0)))) 2 ((u)))))))) := (((((Fr.rf (M := nM) (h := h)).nw (x := .inl (G.2.1 0, 3, .inl (fun _ => nI 0))) hfar).put (x := .inl (G.2.1 0, 3, .inl ((upd (fun _ => nI 0) 0 ((p)))))) (hset_self (e := .inl (G.2.1 0, 3, .inl (fun _ => nI 0)))) ⟨rfl, rfl⟩ rfl ((Fr.rf (M := nM) (h := h)).yo hfar)).put (x := .inl (G.2.1 0, 3, .inl ((upd ((upd (fun _ => nI 0) 0 ((p)))) 1 ((q0)))))) (hset_self (e := .inl (G.2.1 0, 3, .inl ((upd (fun _ => nI 0) 0 ((p))))))) ⟨rfl, rfl⟩ rfl ((Fr.rf (M := nM) (h := h)).yo hfar)).put (x := .inl (G.2.1 0, 3, .inl ((upd ((upd ((upd (fun _ => nI 0) 0 ((p)))) 1 ((q0)))) 2 ((u)))))) (hset_self (e := .inl (G.2.1 0, 3, .inl ((upd ((upd (fun _ => nI 0) 0 ((p)))) 1 ((q0))))))) ⟨rfl, rfl⟩ rfl ((Fr.rf (M := nM) (h := h)).yo hfar))
  have har : ((hset (hset (hset (hset h ar (.inl (G.2.1 0, 3, .inl (fun _ => nI 0)))) (ar) (.inl (G.2.1 0, 3, .inl ((upd (fun _ => nI 0) 0 ((p))))))) (ar) (.inl (G.2.1 0, 3, .inl ((upd ((upd (fun _ => nI 0) 0 ((p)))) 1 ((q0))))))) (ar) (.inl (G.2.1 0, 3, .inl ((upd ((upd ((upd (fun _ => nI 0) 0 ((p)))) 1 ((q0)))) 2 ((u)))))))) ar = some (.inl (G.2.1 0, 3, .inl (upd (upd (upd (fun _ => nI 0) 0 p) 1 q0) 2 u))) := (hset_self (e := .inl (G.2.1 0, 3, .inl ((upd ((upd ((upd (fun _ => nI 0) 0 ((p)))) 1 ((q0)))) 2 ((u)))))))
  refine V_xcVW (st := []) (nn := 2) F dX1_book_18 ⟨lw_VW q2264 q2266 qs30 q101 q2267, rfl, by decide +kernel⟩ (ct_X1_change (k := 8) hl0 (hC.fr0 hFr) (fun z hz => hP z (hFr.none hz)) hV hs8 (by decide) hGw1 har (by decide) (by decide)) ⟨1, _, _, _, rfl, .inl (hFr.get hx id rfl)⟩ rfl rfl (Nat.le_of_ble_eq_true rfl) (Nat.le_of_ble_eq_true rfl) (Nat.le_of_ble_eq_true rfl) (by omega) (by omega) ?_ ?_
  · rintro _ h3 ⟨v, g2, rfl, hcd, hCH, hC3, hx3⟩
    exact VV.rx (V_iret F dX1_book_21 rfl (by first | exact Nat.le_of_ble_eq_true rfl | omega) (by first | exact Nat.le_of_ble_eq_true rfl | omega) ⟨v, g2, rfl, hcd, hCH, hC3, (hFr.mono (fun _ z => z.elim) : Fr P h _).cal hx3 (fun z q => Or.inl q)⟩)
  · exact fun E q h2 hp => V_xout F (HT _) (by omega) (by omega) (XF.of hFr hp (fun hc => hc))
theorem ct_X1_cancelBooking {G : GG} {l : Launch} {h : AH} {P : Nat → Prop} {xo n : Nat} {g : Nat → Nat} {sn : Option (Nat → Nat)} {hs : List (Nat → Nat)} {l0 : List Nat} {ep fc : Int32} {ot : List Nat} {p : Int32}  (hl0 : l.stackTraces = false) (hC : CW G P h xo g sn hs l0 ep fc ot) (hP : ∀ z, h z = none → P z) (hV : INV n g) (hs8 : hs.length ≤ 8)  : CtX G l yX1_cancelBooking cX1_cancelBooking 2 (some .int) 16 (901) (24004) [.ref xo, .int p] h (fun r0 h2 => ∃ v g2, r0 = some (.int v) ∧ cdK 9 g (upd (fun _ => nI 0) 0 p) = 0 ∧ CHG 9 g (upd (fun _ => nI 0) 0 p) v g2 ∧ CW G P h2 xo g2 sn (pushH hs g) l0 ep fc ot ∧ Fr P h h2) (XF h (fun E => cdK 9 g (upd (fun _ => nI 0) 0 p) ≠ 0 ∧ E = (exK (kdK 9 (cdK 9 g (upd (fun _ => nI 0) 0 p)))).1)) := by
  refine CtX.of (by decide) (Nat.le_of_ble_eq_true rfl) (cat1 rfl) (fun X hXl F HT => ?_)
  subst hXl
  obtain ⟨r, so, hl, sb, o, mc, A, V, b, N, hx, hRG, hSN, hLL, hHR, hSB, hOU, hPx, hPl, hPA, hPs, hPb⟩ := id hC
  refine V_aload_n (i := 0) F dX1_cancelBooking_0 rfl rfl ?_
  refine V_ldcS F dX1_cancelBooking_1 q2800 ?_
  intro w1 hGw1
  refine V_iconst (v := nI 1) F dX1_cancelBooking_3 rfl ?_
  refine V_newaI F dX1_cancelBooking_4 (by decide) (by omega) (by omega) ?_
  intro ar hfar hbar
  refine V_dup F dX1_cancelBooking_6 rfl ?_
  refine V_iconst (v := nI 0) F dX1_cancelBooking_7 rfl ?_
  refine V_iload_n (i := 1) F dX1_cancelBooking_8 rfl rfl ?_
  refine V_iastN F 0 dX1_cancelBooking_9 rfl (hset_self (e := .inl (G.2.1 0, 1, .inl (fun _ => nI 0)))) (by decide) (by decide) ?_
  have hFr : Fr nM h ((hset (hset h ar (.inl (G.2.1 0, 1, .inl (fun _ => nI 0)))) (ar) (.inl (G.2.1 0, 1, .inl ((upd (fun _ => nI 0) 0 ((p)))))))) := (((Fr.rf (M := nM) (h := h)).nw (x := .inl (G.2.1 0, 1, .inl (fun _ => nI 0))) hfar).put (x := .inl (G.2.1 0, 1, .inl ((upd (fun _ => nI 0) 0 ((p)))))) (hset_self (e := .inl (G.2.1 0, 1, .inl (fun _ => nI 0)))) ⟨rfl, rfl⟩ rfl ((Fr.rf (M := nM) (h := h)).yo hfar))
  have har : ((hset (hset h ar (.inl (G.2.1 0, 1, .inl (fun _ => nI 0)))) (ar) (.inl (G.2.1 0, 1, .inl ((upd (fun _ => nI 0) 0 ((p)))))))) ar = some (.inl (G.2.1 0, 1, .inl (upd (fun _ => nI 0) 0 p))) := (hset_self (e := .inl (G.2.1 0, 1, .inl ((upd (fun _ => nI 0) 0 ((p)))))))
  refine V_xcVW (st := []) (nn := 2) F dX1_cancelBooking_10 ⟨lw_VW q2264 q2266 qs30 q101 q2267, rfl, by decide +kernel⟩ (ct_X1_change (k := 9) hl0 (hC.fr0 hFr) (fun z hz => hP z (hFr.none hz)) hV hs8 (by decide) hGw1 har (by decide) (by decide)) ⟨1, _, _, _, rfl, .inl (hFr.get hx id rfl)⟩ rfl rfl (Nat.le_of_ble_eq_true rfl) (Nat.le_of_ble_eq_true rfl) (Nat.le_of_ble_eq_true rfl) (by omega) (by omega) ?_ ?_
  · rintro _ h3 ⟨v, g2, rfl, hcd, hCH, hC3, hx3⟩
    exact VV.rx (V_iret F dX1_cancelBooking_13 rfl (by first | exact Nat.le_of_ble_eq_true rfl | omega) (by first | exact Nat.le_of_ble_eq_true rfl | omega) ⟨v, g2, rfl, hcd, hCH, hC3, (hFr.mono (fun _ z => z.elim) : Fr P h _).cal hx3 (fun z q => Or.inl q)⟩)
  · exact fun E q h2 hp => V_xout F (HT _) (by omega) (by omega) (XF.of hFr hp (fun hc => hc))
