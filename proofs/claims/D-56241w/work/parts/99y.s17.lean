set_option maxRecDepth 100000
/-! ===== runScript ===== -/
theorem CW.pe {G : GG} {P : Nat → Prop} {h : AH} {xo : Nat} {g : Nat → Nat} {sn : Option (Nat → Nat)} {hs : List (Nat → Nat)} {l : List Nat} {ep fc : Int32} {ot : List Nat} (hC : CW G P h xo g sn hs l ep fc ot) :
    ∃ (r : Nat) (so : Option Nat) (hl sb o : Nat), h xo = some (.inr (1, [.ref r, va_rf so, .ref hl, .ref sb, .int ep, .int fc, .ref o])) ∧
      ∀ ep2 fc2 : Int32, CW G P (hset h xo (.inr (1, [.ref r, va_rf so, .ref hl, .ref sb, .int ep2, .int fc2, .ref o]))) xo g sn hs l ep2 fc2 ot ∧ Fr P h (hset h xo (.inr (1, [.ref r, va_rf so, .ref hl, .ref sb, .int ep2, .int fc2, .ref o]))) := by
  obtain ⟨r, so, hl, sb, o, mc, A, V, b, N, hx, hRG, hSN, hLL, hHR, hSB, hOU, hPx, hPl, hPA, hPs, hPb⟩ := hC
  refine ⟨r, so, hl, sb, o, hx, fun ep2 fc2 => ?_⟩
  have k1 : Fr (m1 xo) h (hset h xo (.inr (1, [.ref r, va_rf so, .ref hl, .ref sb, .int ep2, .int fc2, .ref o]))) := Fr.rf.put (x := .inr (1, [.ref r, va_rf so, .ref hl, .ref sb, .int ep2, .int fc2, .ref o])) hx rfl rfl (Or.inl rfl)
  have km : KM G P (m1 xo) h := KM.m1o hx (by decide)
  exact ⟨⟨r, so, hl, sb, o, mc, A, V, b, N, hset_self, hRG.fr k1 km, hSN.fr k1 km, hLL.frk k1 (offK.m1 hx rfl) (offK.m1 hx rfl), hHR.fr k1 km, hSB.fr k1 (fun e => by obtain ⟨ml, c, z1, -⟩ := hSB; exact ne_oo z1 hx (by decide) e) (fun e => by obtain ⟨ml, c, z1, z2, -⟩ := hSB; exact ne_ao z2 hx e), hOU.fr1 hx (by decide) k1, hPx, hPl, hPA, hPs, hPb⟩, k1.mono (fun z e => e ▸ hPx)⟩
theorem CML.base {G : GG} {h0 h1 h : AH} {M : Nat → Prop} {al ar : Nat} {L : List (Nat × List Nat)} {fc : Nat → Nat} (hC : CML G h1 h al ar L fc) (hx : Fr M h0 h1) : CML G h0 h al ar L fc := ⟨hC.1, fun i hi => (hC.2 i hi).base hx⟩

theorem ct_X1_runScript {G : GG} {l : Launch} {h : AH} {P : Nat → Prop} {xo n : Nat} {g : Nat → Nat} {sn : Option (Nat → Nat)} {hs : List (Nat → Nat)} {l0 : List Nat} {ep fc : Int32} {ot : List Nat}  (hl0 : l.stackTraces = false) (hIP : INVP) (hC : CW G P h xo g sn hs l0 ep fc ot) (hP : ∀ z, h z = none → P z) (hV : INV n g) (hn9 : n ≤ 900) (hs8 : hs.length ≤ 8) (hl60 : l0.length ≤ 60)  : CtH G l yX1_runScript cX1_runScript 3 (some .int) [((16 : Nat), (31 : Nat), (32 : Nat), (416 : Nat)), ((16 : Nat), (31 : Nat), (46 : Nat), (397 : Nat))] 18 (400 + 800 * (l0.length / 7 + 2)) (4000 + 34100 * (l0.length / 7 + 2)) [.ref xo] h (fun r0 h2 => ∃ L g2, r0 = some (.int (nI L.length)) ∧ PRS l0 0 L ∧ 7 * L.length ≤ l0.length + 1 ∧ RUN L g g2 ∧ INV (n + L.length) g2 ∧ CW G P h2 xo g2 sn (pushH hs g) [] ep fc ot ∧ Fr P h h2) (fun E q h2 => h q = none ∧ Fr P h h2 ∧ ((∃ pos, PRN l0 0 pos ∧ E = eAR ∧ h2 q = some (.inr (35, [])) ∧ CW G P h2 xo g sn hs [] (nI pos) fc ot) ∨ (∃ L idx, PRS l0 0 L ∧ 7 * L.length ≤ l0.length + 1 ∧ RUX L g idx ∧ E = eST ∧ h2 q = some (.inr (36, [])) ∧ CW G P h2 xo g sn hs [] ep (nI idx) ot))) := by
  refine CtH.of (by decide) (Nat.le_of_ble_eq_true rfl) (cat1 rfl) (fun X hXl F HT => ?_)
  subst hXl
  obtain ⟨r, so, hl, sb, o, mc, A, V, b, N, hx, hRG, hSN, hLL, hHR, hSB, hOU, hPx, hPl, hPA, hPs, hPb⟩ := id hC
  have HTo : ∀ p, (p < 16 ∨ 31 ≤ p) → ∀ x ∈ (xc X).exceptionTable.toList, covers x p = false := fun p hp x hx => by
    rw [HT] at hx
    have k : ∀ y : ExceptionTableEntry, y.startPc = 16 → y.endPc = 31 → covers y p = false := fun y e1 e2 => by
      show (decide (y.startPc ≤ p) && decide (p < y.endPc)) = false
      rw [e1, e2]
      rcases hp with hp | hp <;> simp <;> omega
    rcases List.mem_cons.mp hx with e | hx
    · exact k x (by rw [e]) (by rw [e])
    · have e := List.mem_singleton.mp hx
      exact k x (by rw [e]) (by rw [e])
  refine V_aload_n (i := 0) F dX1_runScript_0 rfl rfl ?_
  refine V_getf F dX1_runScript_1 fc_X1_24_X1 (.inl hx) rfl ?_
  refine V_callV (st := []) (nn := 0) F dX1_runScript_4 lk_X1_380 (ct_J5_toString hSB (by omega)) hSB.isC rfl rfl (Nat.le_of_ble_eq_true rfl) (Nat.le_of_ble_eq_true rfl) (Nat.le_of_ble_eq_true rfl) (by omega) (by omega) ?_
  rintro _ h1 ⟨o1, rfl, ho1, hS1, -, hx1⟩
  have hx1x := hx1.get hx id rfl
  have hSB1 := hSB.fr0 hx1
  refine V_astore_n (i := 1) F dX1_runScript_7 rfl (Nat.le_of_ble_eq_true rfl) (Nat.le_of_ble_eq_true rfl) ?_
  refine V_aload_n (i := 0) F dX1_runScript_8 rfl rfl ?_
  refine V_getf F dX1_runScript_9 fc_X1_24_X1 (.inl hx1x) rfl ?_
  refine V_iconst (v := nI 0) F dX1_runScript_12 rfl ?_
  refine V_callV (st := []) (nn := 1) F dX1_runScript_13 lk_X1_402 (ct_J5_setLength0 hSB1) hSB1.isC rfl rfl (Nat.le_of_ble_eq_true rfl) (Nat.le_of_ble_eq_true rfl) (Nat.le_of_ble_eq_true rfl) (by omega) (by omega) ?_
  rintro _ h2 ⟨rfl, b2, N2, hSB2, hbb, hx2⟩
  obtain ⟨ml9, c9, z19, z29, -⟩ := id hSB1
  have hm : KM G P (m2 sb b) h1 := KM.sb hSB1
  have hx2m : Fr (m2 sb b) h1 h2 := hx2.mono (fun z e => Or.inl e)
  have hx21 := hx2.get hx1x (fun e => ne_oo hx1x z19 (by decide) e) rfl
  have hS2 := hS1.fr hx2 (offK.m1 z19 (kO_ne (by decide))) (fun v n c q _ e => ne_ao q z19 e)
  have hb2 : P b2 := hbb.elim (fun z => z.1 ▸ hPb) (fun z => hP _ (hx1.none z))
  have hC2 : CW G P h2 xo g sn hs [] ep fc ot := ⟨r, so, hl, sb, o, mc, A, V, b2, N2, hx21, (hRG.fr hx1 KM.nM).fr hx2m hm, (hSN.fr hx1 KM.nM).fr hx2m hm, (hLL.frm hx1 id (fun _ _ => id)).frk hx2m (hSB1.off (by decide)) (hSB1.off (by decide)), (hHR.fr hx1 KM.nM).fr hx2m hm, hSB2, (hOU.fr0 hx1).frS hSB1 hx2m (hbb.imp (fun z => z.1) id), hPx, hPl, hPA, hPs, hb2⟩
  have hF2 : Fr P h h2 := (hx1.mono (fun _ z => z.elim) : Fr P h h1).cal hx2 (fun z e => Or.inl (e ▸ hPs))
  refine V_aload_n (i := 0) F dX1_runScript_16 rfl rfl ?_
  refine V_new F dX1_runScript_17 nw_X1_405 (by omega) (by omega) ?_
  intro p hfp hbp
  refine V_dup F dX1_runScript_20 rfl ?_
  refine V_aload_n (i := 1) F dX1_runScript_21 rfl rfl ?_
  refine V_callI (st := [.ref (p), .ref (xo)]) (nn := 1) F dX1_runScript_22 lk_X1_407 (ct_X17_init (hset_self (e := .inr (14, [.null, .int 0])))) rfl rfl (Nat.le_of_ble_eq_true rfl) (Nat.le_of_ble_eq_true rfl) (Nat.le_of_ble_eq_true rfl) (by omega) (by omega) ?_
  rintro _ h3 ⟨rfl, hp3, hx3⟩
  have hN3 : Fr nM h2 h3 := (Fr.rf.nw (x := .inr (14, [.null, .int 0])) hfp).cal hx3 (Yo.m1 (Or.inr hfp))
  have hS3 := hS2.fr0 hN3
  refine V_xcV (st := [.ref (xo)]) (nn := 0) F dX1_runScript_25 lk_X1_408 (ct_X17_commands hl0 hp3 hS3) ⟨14, _, _, _, rfl, .inl hp3⟩ rfl rfl (Nat.le_of_ble_eq_true rfl) (Nat.le_of_ble_eq_true rfl) (Nat.le_of_ble_eq_true rfl) (by omega) (by omega) ?_ ?_
  · rintro _ h4 ⟨al, ar4, L4, fc4, rfl, hPR, hL4, hal4, h74, hx4⟩
    have hN4 : Fr nM h2 h4 := hN3.cal hx4 (Yo.m1 (Or.inr hfp))
    have hL4b := hL4.base hN3
    refine V_xcVW (st := []) (nn := 1) F dX1_runScript_28 ⟨lw_VW q3619 q3621 qs54 q101 q3622, rfl, by decide +kernel⟩ (ct_X1_execute hl0 hIP hC2 (fun z hz => hP z (hF2.none hz)) hN4 hL4b (by omega) hPR.k10 hV hn9 hs8) ⟨1, _, _, _, rfl, .inl (hN4.get hx21 id rfl)⟩ rfl rfl (Nat.le_of_ble_eq_true rfl) (Nat.le_of_ble_eq_true rfl) (Nat.le_of_ble_eq_true rfl) (by omega) (by omega) ?_ ?_
    · rintro _ h5 ⟨g5, rfl, hRU, hV5, hC5, hx5⟩
      exact VV.rx (V_iret F dX1_runScript_31 rfl (by first | exact Nat.le_of_ble_eq_true rfl | omega) (by first | exact Nat.le_of_ble_eq_true rfl | omega) ⟨L4, g5, rfl, hPR, h74, hRU, hV5, hC5, hF2.cal hx5 (fun z q => Or.inl q)⟩)
    · intro E q h7 hp9
      obtain ⟨rfl, hq0, ⟨idx, hRX, hq7⟩, hx7⟩ := hp9
      have hN7 : Fr nM h2 h7 := hN4.cal0 hx7
      refine V_xcatch F (name := "SleeperRailway$CommandFailure") [⟨16, 31, 32, 416⟩] ⟨16, 31, 46, 397⟩ [] (by rw [HT]; rfl) (fun z hz => by cases List.mem_singleton.mp hz; exact Or.inr ⟨by decide, "SleeperRailway$SyntaxFailure", q3366, nc_cs⟩) (by decide) (by decide) q3367 q3624 ?_
      have hC7 := hC2.fr0 hN7
      obtain ⟨r7, so7, hl7, sb7, o7, hx7c, hk7⟩ := hC7.pe
      obtain ⟨hC8, hF8⟩ := hk7 ep (nI idx)
      refine V_astore_n (i := 2) F dX1_runScript_46 rfl (Nat.le_of_ble_eq_true rfl) (Nat.le_of_ble_eq_true rfl) ?_
      refine V_aload_n (i := 0) F dX1_runScript_47 rfl rfl ?_
      refine V_aload_n (i := 2) F dX1_runScript_48 rfl rfl ?_
      refine V_callV (st := [.ref xo]) (nn := 0) F dX1_runScript_49 lk_X1_422 (ct_X19_index hq7) ⟨16, _, _, _, rfl, .inl hq7⟩ rfl rfl (Nat.le_of_ble_eq_true rfl) (Nat.le_of_ble_eq_true rfl) (Nat.le_of_ble_eq_true rfl) (by omega) (by omega) ?_
      refine PRk ?_
      refine V_putf F dX1_runScript_52 fp_X1_32_X1 hx7c rfl rfl (Nat.le_of_ble_eq_true rfl) ?_
      refine VV.heap (h' := hset h7 xo (.inr (1, [.ref r7, va_rf so7, .ref hl7, .ref sb7, .int ep, .int (nI idx), .ref o7]))) rfl ?_
      have hq8 : (hset h7 xo (.inr (1, [.ref r7, va_rf so7, .ref hl7, .ref sb7, .int ep, .int (nI idx), .ref o7]))) q = some (.inr (16, [.int (nI idx)])) := (hset_ne (ne_oo hq7 hx7c (by decide))).trans hq7
      refine V_aload_n (i := 2) F dX1_runScript_55 rfl rfl ?_
      refine V_callV (st := []) (nn := 0) F dX1_runScript_56 lk_X1_425 (ct_X19_pub hl0) ⟨16, _, _, _, rfl, .inl hq8⟩ rfl rfl (Nat.le_of_ble_eq_true rfl) (Nat.le_of_ble_eq_true rfl) (Nat.le_of_ble_eq_true rfl) (by omega) (by omega) ?_
      rintro _ h9 ⟨q9, rfl, hq9, hc9, hx9⟩
      refine V_athrow F dX1_runScript_59 ⟨36, _, _, _, rfl, .inl hc9⟩ ?_
      exact V_xout F (HTo 59 (by decide)) (by omega) (by omega) ⟨hF2.none (hN7.none (hF8.none hq9)), ((hF2.cal0 hN7).cal hF8 (fun z q => Or.inl q)).cal0 hx9, Or.inr ⟨L4, idx, hPR, h74, hRX, rfl, hc9, hC8.fr0 hx9⟩⟩
  · intro E q h7 hp9
    obtain ⟨rfl, hq0, ⟨pos, hpos, hq7⟩, hx7⟩ := hp9
    have hN7 : Fr nM h2 h7 := hN3.cal hx7 (Yo.m1 (Or.inr hfp))
    refine V_xcatch F (name := "SleeperRailway$SyntaxFailure") [] ⟨16, 31, 32, 416⟩ [⟨16, 31, 46, 397⟩] (by rw [HT]; rfl) (fun z hz => by cases hz) (by decide) (by decide) q3366 q3570 ?_
    have hC7 := hC2.fr0 hN7
    obtain ⟨r7, so7, hl7, sb7, o7, hx7c, hk7⟩ := hC7.pe
    obtain ⟨hC8, hF8⟩ := hk7 (nI pos) fc
    refine V_astore_n (i := 2) F dX1_runScript_32 rfl (Nat.le_of_ble_eq_true rfl) (Nat.le_of_ble_eq_true rfl) ?_
    refine V_aload_n (i := 0) F dX1_runScript_33 rfl rfl ?_
    refine V_aload_n (i := 2) F dX1_runScript_34 rfl rfl ?_
    refine V_callV (st := [.ref xo]) (nn := 0) F dX1_runScript_35 lk_X1_418 (ct_X18_position hq7) ⟨15, _, _, _, rfl, .inl hq7⟩ rfl rfl (Nat.le_of_ble_eq_true rfl) (Nat.le_of_ble_eq_true rfl) (Nat.le_of_ble_eq_true rfl) (by omega) (by omega) ?_
    refine PRk ?_
    refine V_putf F dX1_runScript_38 fp_X1_28_X1 hx7c rfl rfl (Nat.le_of_ble_eq_true rfl) ?_
    refine VV.heap (h' := hset h7 xo (.inr (1, [.ref r7, va_rf so7, .ref hl7, .ref sb7, .int (nI pos), .int fc, .ref o7]))) rfl ?_
    have hq8 : (hset h7 xo (.inr (1, [.ref r7, va_rf so7, .ref hl7, .ref sb7, .int (nI pos), .int fc, .ref o7]))) q = some (.inr (15, [.int (nI pos)])) := (hset_ne (ne_oo hq7 hx7c (by decide))).trans hq7
    refine V_aload_n (i := 2) F dX1_runScript_41 rfl rfl ?_
    refine V_callV (st := []) (nn := 0) F dX1_runScript_42 lk_X1_421 (ct_X18_pub hl0) ⟨15, _, _, _, rfl, .inl hq8⟩ rfl rfl (Nat.le_of_ble_eq_true rfl) (Nat.le_of_ble_eq_true rfl) (Nat.le_of_ble_eq_true rfl) (by omega) (by omega) ?_
    rintro _ h9 ⟨q9, rfl, hq9, hc9, hx9⟩
    refine V_athrow F dX1_runScript_45 ⟨35, _, _, _, rfl, .inl hc9⟩ ?_
    exact V_xout F (HTo 45 (by decide)) (by omega) (by omega) ⟨hF2.none (hN7.none (hF8.none hq9)), ((hF2.cal0 hN7).cal hF8 (fun z q => Or.inl q)).cal0 hx9, Or.inl ⟨pos, hpos, rfl, hc9, hC8.fr0 hx9⟩⟩
