set_option maxRecDepth 100000
/-! ===== the class in the law's form ===== -/
theorem vx_Tm {G : GG} {X1 X2 : String → Nat → AH → Prop} {st t : State} {q : Addr} {mc ms : Nat} {free : Addr → Prop} (hx : ∀ E h', X1 E q h' → X2 E q h') (z : vx_T (xcR G X1) st q t mc ms free) : vx_T (xcR G X2) st q t mc ms free := by
  obtain ⟨E, ce, L, ⟨h', p, s⟩, rest⟩ := z
  exact ⟨E, ce, L, ⟨h', hx E h' p, s⟩, rest⟩
theorem CtX.mono {G : GG} {l : Launch} {y : MethodName} {cc : ByteArray} {mL : Nat} {ret : Option FieldType} {d mc ms : Nat} {av : List Value} {h : AH} {P1 P2 : Option Value → AH → Prop} {X1 X2 : String → Nat → AH → Prop} (hc : CtX G l y cc mL ret d mc ms av h P1 X1) (hp : ∀ v h2, P1 v h2 → P2 v h2) (hx : ∀ E q h2, X1 E q h2 → X2 E q h2) : CtX G l y cc mL ret d mc ms av h P2 X2 := by
  have hc2 : MetFree l y (headSpec (ws_ y cc mL ret) (rmD d mc ms)) (preG G av h) (fun _ _ _ _ _ => True) (vx_Q (qcR G P1) (xcR G X1) mc ms (fr G)) := hc
  show MetFree l y (headSpec (ws_ y cc mL ret) (rmD d mc ms)) (preG G av h) (fun _ _ _ _ _ => True) (vx_Q (qcR G P2) (xcR G X2) mc ms (fr G))
  exact MetFree.mono hc2 (fun _ _ q => q) (fun _ _ _ _ _ q => q) (fun a st o t _ q => q.imp (fun z => ⟨by obtain ⟨⟨v, h', e, p, s⟩, -⟩ := z; exact ⟨v, h', e, hp v h' p, s⟩, z.2⟩) (fun ⟨q, e, z⟩ => ⟨q, e, vx_Tm (fun E h' p => hx E q h' p) z⟩))
theorem CtH.mono {G : GG} {l : Launch} {y : MethodName} {cc : ByteArray} {mL : Nat} {ret : Option FieldType} {hh : List (Nat × Nat × Nat × Nat)} {d mc ms : Nat} {av : List Value} {h : AH} {P1 P2 : Option Value → AH → Prop} {X1 X2 : String → Nat → AH → Prop} (hc : CtH G l y cc mL ret hh d mc ms av h P1 X1) (hp : ∀ v h2, P1 v h2 → P2 v h2) (hx : ∀ E q h2, X1 E q h2 → X2 E q h2) : CtH G l y cc mL ret hh d mc ms av h P2 X2 := by
  have hc2 : MetFree l y (headSpec (wsW_ y cc mL ret hh) (rmD d mc ms)) (preG G av h) (fun _ _ _ _ _ => True) (vx_Q (qcR G P1) (xcR G X1) mc ms (fr G)) := hc
  show MetFree l y (headSpec (wsW_ y cc mL ret hh) (rmD d mc ms)) (preG G av h) (fun _ _ _ _ _ => True) (vx_Q (qcR G P2) (xcR G X2) mc ms (fr G))
  exact MetFree.mono hc2 (fun _ _ q => q) (fun _ _ _ _ _ q => q) (fun a st o t _ q => q.imp (fun z => ⟨by obtain ⟨⟨v, h', e, p, s⟩, -⟩ := z; exact ⟨v, h', e, hp v h' p, s⟩, z.2⟩) (fun ⟨q, e, z⟩ => ⟨q, e, vx_Tm (fun E h' p => hx E q h' p) z⟩))
/-- cells that are none of the class's -/
def okM : va_E → Bool
  | .inl (_, _, .inr (.inr (.inr (.inr _)))) => false
  | .inl _ => true
  | .inr o => o.1 == 0
theorem okM_kO {c : Nat} (hc : c ≠ 0) {e : va_E} (h : kO c e = true) : okM e = false := by
  cases e with
  | inl x => cases h
  | inr o =>
    have h : (o.1 == c) = true := h
    have h := beq_iff_eq.mp h
    show (o.1 == 0) = false
    rw [h]; exact beq_false_of_ne hc
theorem okM_kQ {e : va_E} (h : kQ e = true) : okM e = false := by
  cases e with
  | inl x =>
    obtain ⟨c, n, a⟩ := x
    rcases a with a | a | a | a | a <;> first | rfl | cases h
  | inr o => cases h
/-- M keeps off the class's cells -/
def OFM (P M : Nat → Prop) (h : AH) : Prop := (∀ z, M z → ¬ P z) ∧ ∀ z e, M z → h z = some e → okM e = true
theorem OFM.o {P M : Nat → Prop} {h : AH} (hM : OFM P M h) {c : Nat} (hc : c ≠ 0) : offK M h (kO c) := fun a e ha hs q => by
  have h1 := hM.2 a e q ha
  rw [okM_kO hc hs] at h1; cases h1
theorem OFM.q {P M : Nat → Prop} {h : AH} (hM : OFM P M h) : offK M h kQ := fun a e ha hs q => by
  have h1 := hM.2 a e q ha
  rw [okM_kQ hs] at h1; cases h1
theorem OFM.km {G : GG} {P M : Nat → Prop} {h : AH} (hM : OFM P M h) : KM G P M h := ⟨⟨fun c hc => hM.o (by omega), hM.q⟩, fun z f hz hp q => hM.1 z q hp⟩
theorem CW.frX {G : GG} {P M : Nat → Prop} {h h2 : AH} {xo : Nat} {g : Nat → Nat} {sn : Option (Nat → Nat)} {hs : List (Nat → Nat)} {l : List Nat} {ep fc : Int32} {ot : List Nat} (hC : CW G P h xo g sn hs l ep fc ot) (hx : Fr M h h2) (hM : OFM P M h) : CW G P h2 xo g sn hs l ep fc ot := by
  obtain ⟨r, so, hl, sb, o, mc, A, V, b, N, q1, q2, q3, q4, q5, q6, q7, p1, p2, p3, p4, p5⟩ := hC
  have nP : ∀ z, P z → ¬ M z := fun z hp q => hM.1 z q hp
  exact ⟨r, so, hl, sb, o, mc, A, V, b, N, hx.get q1 (nP _ p1) rfl, q2.fr hx hM.km, q3.fr hx hM.km, q4.frm hx (nP _ p2) (fun i hi => nP _ (p3 i hi)), q5.fr hx hM.km, q6.fr hx (nP _ p4) (nP _ p5), q7.fr hx (hM.o (by decide)) (fun v hv _ => nP v hv), p1, p2, p3, p4, p5⟩
/-- the class's cells are told in the heap -/
theorem CW.isC {G : GG} {P : Nat → Prop} {h : AH} {xo : Nat} {g : Nat → Nat} {sn : Option (Nat → Nat)} {hs : List (Nat → Nat)} {l : List Nat} {ep fc : Int32} {ot : List Nat} (hC : CW G P h xo g sn hs l ep fc ot) : isC G h xo "SleeperRailway" := by
  obtain ⟨r, so, hl, sb, o, mc, A, V, b, N, q1, -⟩ := hC
  exact ⟨1, _, _, _, rfl, Or.inl q1⟩
/-- a query's normal and thrown ends -/
def SOK {T : Type} (G : GG) (P : Nat → Prop) (h : AH) (xo : Nat) (g : Nat → Nat) (sn : Option (Nat → Nat)) (hs : List (Nat → Nat)) (l : List Nat) (ep fc : Nat) (ot : List Nat) (c : Nat) (v : T) : T → AH → Prop := fun y h2 => c = 0 ∧ y = v ∧ CW G P h2 xo g sn hs l (rP ep) (rP fc) ot ∧ Fr P h h2
def SNO (G : GG) (P : Nat → Prop) (h : AH) (xo : Nat) (g : Nat → Nat) (sn : Option (Nat → Nat)) (hs : List (Nat → Nat)) (l : List Nat) (ep fc : Nat) (ot : List Nat) (c : Nat) : Nat → AH → Prop := fun k h2 => c = k ∧ CW G P h2 xo g sn hs l (rP ep) (rP fc) ot ∧ Fr P h h2
/-- a change's -/
def HOK (G : GG) (P : Nat → Prop) (h : AH) (xo : Nat) (g : Nat → Nat) (sn : Option (Nat → Nat)) (hs : List (Nat → Nat)) (l : List Nat) (ep fc : Nat) (ot : List Nat) (k : Nat) (f : Nat → Int32) : Int32 → AH → Prop := fun y h2 => cdK k g f = 0 ∧ ∃ g2, CHG k g f y g2 ∧ CW G P h2 xo g2 sn (pushH hs g) l (rP ep) (rP fc) ot ∧ Fr P h h2
theorem cdK_le {k : Nat} {g : Nat → Nat} {f : Nat → Int32} (hk : k < 10) : cdK k g f ≤ [2, 3, 3, 2, 3, 2, 2, 2, 4, 1].getD k 0 := by
  rcases ten hk with rfl | rfl | rfl | rfl | rfl | rfl | rfl | rfl | rfl | rfl
  · show cdAS g _ ≤ 2; unfold cdAS; (repeat' split) <;> decide
  · show cdAT g _ _ _ ≤ 3; unfold cdAT; (repeat' split) <;> decide
  · show cdET g _ _ _ _ ≤ 3; unfold cdET; (repeat' split) <;> decide
  · show cdDT g _ _ ≤ 2; unfold cdDT; (repeat' split) <;> decide
  · show cdAC g _ _ _ ≤ 3; unfold cdAC; (repeat' split) <;> decide
  · show ccRL g _ _ ≤ 2; unfold ccRL; (repeat' split) <;> decide
  · show ccSD g _ ≤ 2; unfold ccSD
    cases fdO g 232 (f 0) (g 2) with
    | none => show 1 ≤ 2; decide
    | some k => show (if _ then 0 else 2) ≤ 2; split <;> decide
  · show ccCO g _ ≤ 2; unfold ccCO
    cases fdO g 232 (f 0) (g 2) with
    | none => show 1 ≤ 2; decide
    | some k => show (if _ then 0 else 2) ≤ 2; split <;> decide
  · show cdBK g _ _ _ ≤ 4; unfold cdBK; (repeat' split) <;> decide
  · show ccCB g _ ≤ 1; unfold ccCB
    cases fdO g 264 (f 0) (g 3) with
    | none => show 1 ≤ 1; decide
    | some k => show 0 ≤ 1; decide
theorem exK_ix : (exK "index").1 = eIX := by unfold exK; rw [if_pos rfl]
theorem exK_ar : (exK "argument").1 = eAR := by unfold exK; rw [if_neg (by decide), if_pos rfl]
theorem exK_st : (exK "state").1 = eST := by unfold exK; rw [if_neg (by decide), if_neg (by decide), if_pos rfl]
theorem exK_el : (exK "element").1 = eEL := by unfold exK; rw [if_neg (by decide), if_neg (by decide), if_neg (by decide), if_pos rfl]
theorem exK_ru : (exK "rule").1 = eUO := by unfold exK; rw [if_neg (by decide), if_neg (by decide), if_neg (by decide), if_neg (by decide)]

theorem ck_transferTime {G : GG} {l : Launch} {h : AH} {P : Nat → Prop} {xo n : Nat} {g : Nat → Nat} {sn : Option (Nat → Nat)} {hs : List (Nat → Nat)} {tx : List Nat} {ep fc : Nat} {ot : List Nat} {p : Int32} (hl0 : l.stackTraces = false) (hC : CW G P h xo g sn hs tx (rP ep) (rP fc) ot) (hP : ∀ z, h z = none → P z) (hV : SVI n g sn hs tx ep fc ot)  : CtX G l yX1_transferTime cX1_transferTime 2 (some .int) 8 (1) (6) [.ref xo, .int p] h (fun r0 h2 => ∃ y : Int32, r0 = some (.int y) ∧ SOK G P h xo g sn hs tx ep fc ot (if ¬ iR p (g 0) then 1 else 0) (nI (g (8 + tn p))) y h2) (fun E q h2 => (E = eIX ∧ SNO G P h xo g sn hs tx ep fc ot (if ¬ iR p (g 0) then 1 else 0) 1 h2)) := by
  obtain ⟨r, so, hl, sb, o, mc, Al, Vl, b, N, q1, ⟨⟨⟨ti, tia, tf⟩, ⟨tt, tl, ta, x, A⟩, ⟨sm, smc, sA, sK, sV⟩, ⟨bm, bmc, bA, bK, bV⟩⟩, hRW, hPA⟩, hrest⟩ := id hC
  refine (ct_X1_transferTime hl0 q1 hRW hV.1.1).mono (fun r0 h2 hp => ?_) (fun E q h2 hp => ?_)
  · obtain ⟨z1, rfl, rfl⟩ := hp
    exact ⟨_, rfl, if_neg (fun w => w z1), rfl, hC, Fr.rf⟩
  · obtain ⟨⟨z1, rfl⟩, hx⟩ := hp
    exact ⟨rfl, if_pos z1, hC.fr0 hx, hx.mono (fun _ z => z.elim)⟩
theorem ck_stopCount {G : GG} {l : Launch} {h : AH} {P : Nat → Prop} {xo n : Nat} {g : Nat → Nat} {sn : Option (Nat → Nat)} {hs : List (Nat → Nat)} {tx : List Nat} {ep fc : Nat} {ot : List Nat} {p : Int32} (hl0 : l.stackTraces = false) (hC : CW G P h xo g sn hs tx (rP ep) (rP fc) ot) (hP : ∀ z, h z = none → P z) (hV : SVI n g sn hs tx ep fc ot)  : CtX G l yX1_stopCount cX1_stopCount 2 (some .int) 8 (1) (6) [.ref xo, .int p] h (fun r0 h2 => ∃ y : Int32, r0 = some (.int y) ∧ SOK G P h xo g sn hs tx ep fc ot (if ¬ iR p (g 1) then 1 else 0) (nI (g (16 + 36 * tn p + 3))) y h2) (fun E q h2 => (E = eIX ∧ SNO G P h xo g sn hs tx ep fc ot (if ¬ iR p (g 1) then 1 else 0) 1 h2)) := by
  obtain ⟨r, so, hl, sb, o, mc, Al, Vl, b, N, q1, ⟨⟨⟨ti, tia, tf⟩, ⟨tt, tl, ta, x, A⟩, ⟨sm, smc, sA, sK, sV⟩, ⟨bm, bmc, bA, bK, bV⟩⟩, hRW, hPA⟩, hrest⟩ := id hC
  refine (ct_X1_stopCount hl0 q1 hRW hV.1.1).mono (fun r0 h2 hp => ?_) (fun E q h2 hp => ?_)
  · obtain ⟨z1, rfl, rfl⟩ := hp
    exact ⟨_, rfl, if_neg (fun w => w z1), rfl, hC, Fr.rf⟩
  · obtain ⟨⟨z1, rfl⟩, hx⟩ := hp
    exact ⟨rfl, if_pos z1, hC.fr0 hx, hx.mono (fun _ z => z.elim)⟩
theorem ck_capacity {G : GG} {l : Launch} {h : AH} {P : Nat → Prop} {xo n : Nat} {g : Nat → Nat} {sn : Option (Nat → Nat)} {hs : List (Nat → Nat)} {tx : List Nat} {ep fc : Nat} {ot : List Nat} {p : Int32} (hl0 : l.stackTraces = false) (hC : CW G P h xo g sn hs tx (rP ep) (rP fc) ot) (hP : ∀ z, h z = none → P z) (hV : SVI n g sn hs tx ep fc ot)  : CtX G l yX1_capacity cX1_capacity 2 (some .int) 8 (1) (6) [.ref xo, .int p] h (fun r0 h2 => ∃ y : Int32, r0 = some (.int y) ∧ SOK G P h xo g sn hs tx ep fc ot (if ¬ iR p (g 1) then 1 else 0) (nI (g (16 + 36 * tn p + 0))) y h2) (fun E q h2 => (E = eIX ∧ SNO G P h xo g sn hs tx ep fc ot (if ¬ iR p (g 1) then 1 else 0) 1 h2)) := by
  obtain ⟨r, so, hl, sb, o, mc, Al, Vl, b, N, q1, ⟨⟨⟨ti, tia, tf⟩, ⟨tt, tl, ta, x, A⟩, ⟨sm, smc, sA, sK, sV⟩, ⟨bm, bmc, bA, bK, bV⟩⟩, hRW, hPA⟩, hrest⟩ := id hC
  refine (ct_X1_capacity hl0 q1 hRW hV.1.1).mono (fun r0 h2 hp => ?_) (fun E q h2 hp => ?_)
  · obtain ⟨z1, rfl, rfl⟩ := hp
    exact ⟨_, rfl, if_neg (fun w => w z1), rfl, hC, Fr.rf⟩
  · obtain ⟨⟨z1, rfl⟩, hx⟩ := hp
    exact ⟨rfl, if_pos z1, hC.fr0 hx, hx.mono (fun _ z => z.elim)⟩
theorem ck_delayOf {G : GG} {l : Launch} {h : AH} {P : Nat → Prop} {xo n : Nat} {g : Nat → Nat} {sn : Option (Nat → Nat)} {hs : List (Nat → Nat)} {tx : List Nat} {ep fc : Nat} {ot : List Nat} {p : Int32} (hl0 : l.stackTraces = false) (hC : CW G P h xo g sn hs tx (rP ep) (rP fc) ot) (hP : ∀ z, h z = none → P z) (hV : SVI n g sn hs tx ep fc ot)  : CtX G l yX1_delayOf cX1_delayOf 2 (some .int) 8 (1) (6) [.ref xo, .int p] h (fun r0 h2 => ∃ y : Int32, r0 = some (.int y) ∧ SOK G P h xo g sn hs tx ep fc ot (if ¬ iR p (g 1) then 1 else 0) (nI (g (16 + 36 * tn p + 2))) y h2) (fun E q h2 => (E = eIX ∧ SNO G P h xo g sn hs tx ep fc ot (if ¬ iR p (g 1) then 1 else 0) 1 h2)) := by
  obtain ⟨r, so, hl, sb, o, mc, Al, Vl, b, N, q1, ⟨⟨⟨ti, tia, tf⟩, ⟨tt, tl, ta, x, A⟩, ⟨sm, smc, sA, sK, sV⟩, ⟨bm, bmc, bA, bK, bV⟩⟩, hRW, hPA⟩, hrest⟩ := id hC
  refine (ct_X1_delayOf hl0 q1 hRW hV.1.1).mono (fun r0 h2 hp => ?_) (fun E q h2 hp => ?_)
  · obtain ⟨z1, rfl, rfl⟩ := hp
    exact ⟨_, rfl, if_neg (fun w => w z1), rfl, hC, Fr.rf⟩
  · obtain ⟨⟨z1, rfl⟩, hx⟩ := hp
    exact ⟨rfl, if_pos z1, hC.fr0 hx, hx.mono (fun _ z => z.elim)⟩
theorem ck_stationAt {G : GG} {l : Launch} {h : AH} {P : Nat → Prop} {xo n : Nat} {g : Nat → Nat} {sn : Option (Nat → Nat)} {hs : List (Nat → Nat)} {tx : List Nat} {ep fc : Nat} {ot : List Nat} {p : Int32} {q0 : Int32} (hl0 : l.stackTraces = false) (hC : CW G P h xo g sn hs tx (rP ep) (rP fc) ot) (hP : ∀ z, h z = none → P z) (hV : SVI n g sn hs tx ep fc ot)  : CtX G l yX1_stationAt cX1_stationAt 3 (some .int) 9 (4) (24) [.ref xo, .int p, .int q0] h (fun r0 h2 => ∃ y : Int32, r0 = some (.int y) ∧ SOK G P h xo g sn hs tx ep fc ot (if ¬ (iR p (g 1) ∧ iR q0 (g (16 + 36 * tn p + 3))) then 1 else 0) (nI (plG g (tn p) (tn q0))) y h2) (fun E q h2 => (E = eIX ∧ SNO G P h xo g sn hs tx ep fc ot (if ¬ (iR p (g 1) ∧ iR q0 (g (16 + 36 * tn p + 3))) then 1 else 0) 1 h2)) := by
  obtain ⟨r, so, hl, sb, o, mc, Al, Vl, b, N, q1, ⟨⟨⟨ti, tia, tf⟩, ⟨tt, tl, ta, x, A⟩, ⟨sm, smc, sA, sK, sV⟩, ⟨bm, bmc, bA, bK, bV⟩⟩, hRW, hPA⟩, hrest⟩ := id hC
  refine (ct_X1_stationAt hl0 q1 hRW hV.1.1).mono (fun r0 h2 hp => ?_) (fun E q h2 hp => ?_)
  · obtain ⟨z1, rfl, rfl⟩ := hp
    exact ⟨_, rfl, if_neg (fun w => w z1), rfl, hC, Fr.rf⟩
  · obtain ⟨⟨z1, rfl⟩, hx⟩ := hp
    exact ⟨rfl, if_pos z1, hC.fr0 hx, hx.mono (fun _ z => z.elim)⟩
theorem ck_load {G : GG} {l : Launch} {h : AH} {P : Nat → Prop} {xo n : Nat} {g : Nat → Nat} {sn : Option (Nat → Nat)} {hs : List (Nat → Nat)} {tx : List Nat} {ep fc : Nat} {ot : List Nat} {p : Int32} {q0 : Int32} (hl0 : l.stackTraces = false) (hC : CW G P h xo g sn hs tx (rP ep) (rP fc) ot) (hP : ∀ z, h z = none → P z) (hV : SVI n g sn hs tx ep fc ot)  : CtX G l yX1_load cX1_load 3 (some .int) 9 (4) (24) [.ref xo, .int p, .int q0] h (fun r0 h2 => ∃ y : Int32, r0 = some (.int y) ∧ SOK G P h xo g sn hs tx ep fc ot (if ¬ (iR p (g 1) ∧ iR q0 (g (16 + 36 * tn p + 3) - 1)) then 1 else 0) (nI (ldG g (tn p) (tn q0))) y h2) (fun E q h2 => (E = eIX ∧ SNO G P h xo g sn hs tx ep fc ot (if ¬ (iR p (g 1) ∧ iR q0 (g (16 + 36 * tn p + 3) - 1)) then 1 else 0) 1 h2)) := by
  obtain ⟨r, so, hl, sb, o, mc, Al, Vl, b, N, q1, ⟨⟨⟨ti, tia, tf⟩, ⟨tt, tl, ta, x, A⟩, ⟨sm, smc, sA, sK, sV⟩, ⟨bm, bmc, bA, bK, bV⟩⟩, hRW, hPA⟩, hrest⟩ := id hC
  refine (ct_X1_load hl0 q1 hRW hV.1.1).mono (fun r0 h2 hp => ?_) (fun E q h2 hp => ?_)
  · obtain ⟨z1, rfl, rfl⟩ := hp
    exact ⟨_, rfl, if_neg (fun w => w z1), rfl, hC, Fr.rf⟩
  · obtain ⟨⟨z1, rfl⟩, hx⟩ := hp
    exact ⟨rfl, if_pos z1, hC.fr0 hx, hx.mono (fun _ z => z.elim)⟩
theorem ck_arrivalAt {G : GG} {l : Launch} {h : AH} {P : Nat → Prop} {xo n : Nat} {g : Nat → Nat} {sn : Option (Nat → Nat)} {hs : List (Nat → Nat)} {tx : List Nat} {ep fc : Nat} {ot : List Nat} {p : Int32} {q0 : Int32} (hl0 : l.stackTraces = false) (hC : CW G P h xo g sn hs tx (rP ep) (rP fc) ot) (hP : ∀ z, h z = none → P z) (hV : SVI n g sn hs tx ep fc ot)  : CtX G l yX1_arrivalAt cX1_arrivalAt 4 (some .int) 9 (4) (24) [.ref xo, .int p, .int q0] h (fun r0 h2 => ∃ y : Int32, r0 = some (.int y) ∧ SOK G P h xo g sn hs tx ep fc ot (if ¬ (iR p (g 1) ∧ iR q0 (g (16 + 36 * tn p + 3))) then 1 else if tn q0 = 0 then 2 else 0) (nI (CmG g (tn p) (tn q0))) y h2) (fun E q h2 => (E = eIX ∧ SNO G P h xo g sn hs tx ep fc ot (if ¬ (iR p (g 1) ∧ iR q0 (g (16 + 36 * tn p + 3))) then 1 else if tn q0 = 0 then 2 else 0) 1 h2) ∨ (E = eEL ∧ SNO G P h xo g sn hs tx ep fc ot (if ¬ (iR p (g 1) ∧ iR q0 (g (16 + 36 * tn p + 3))) then 1 else if tn q0 = 0 then 2 else 0) 2 h2)) := by
  obtain ⟨r, so, hl, sb, o, mc, Al, Vl, b, N, q1, ⟨⟨⟨ti, tia, tf⟩, ⟨tt, tl, ta, x, A⟩, ⟨sm, smc, sA, sK, sV⟩, ⟨bm, bmc, bA, bK, bV⟩⟩, hRW, hPA⟩, hrest⟩ := id hC
  refine (ct_X1_arrivalAt hl0 q1 hRW hV.1.1).mono (fun r0 h2 hp => ?_) (fun E q h2 hp => ?_)
  · obtain ⟨z1, z2, rfl, rfl⟩ := hp
    exact ⟨_, rfl, by rw [if_neg (fun w => w z1), if_neg z2], rfl, hC, Fr.rf⟩
  · obtain ⟨⟨z1, rfl⟩ | ⟨z1, z2, rfl⟩, hx⟩ := hp
    · exact Or.inl ⟨rfl, if_pos z1, hC.fr0 hx, hx.mono (fun _ z => z.elim)⟩
    · exact Or.inr ⟨rfl, by rw [if_neg (fun w => w z1), if_pos z2], hC.fr0 hx, hx.mono (fun _ z => z.elim)⟩
theorem ck_departureAt {G : GG} {l : Launch} {h : AH} {P : Nat → Prop} {xo n : Nat} {g : Nat → Nat} {sn : Option (Nat → Nat)} {hs : List (Nat → Nat)} {tx : List Nat} {ep fc : Nat} {ot : List Nat} {p : Int32} {q0 : Int32} (hl0 : l.stackTraces = false) (hC : CW G P h xo g sn hs tx (rP ep) (rP fc) ot) (hP : ∀ z, h z = none → P z) (hV : SVI n g sn hs tx ep fc ot)  : CtX G l yX1_departureAt cX1_departureAt 4 (some .int) 9 (4) (24) [.ref xo, .int p, .int q0] h (fun r0 h2 => ∃ y : Int32, r0 = some (.int y) ∧ SOK G P h xo g sn hs tx ep fc ot (if ¬ (iR p (g 1) ∧ iR q0 (g (16 + 36 * tn p + 3))) then 1 else if tn q0 = g (16 + 36 * tn p + 3) - 1 then 2 else 0) (nI (LvG g (tn p) (tn q0))) y h2) (fun E q h2 => (E = eIX ∧ SNO G P h xo g sn hs tx ep fc ot (if ¬ (iR p (g 1) ∧ iR q0 (g (16 + 36 * tn p + 3))) then 1 else if tn q0 = g (16 + 36 * tn p + 3) - 1 then 2 else 0) 1 h2) ∨ (E = eEL ∧ SNO G P h xo g sn hs tx ep fc ot (if ¬ (iR p (g 1) ∧ iR q0 (g (16 + 36 * tn p + 3))) then 1 else if tn q0 = g (16 + 36 * tn p + 3) - 1 then 2 else 0) 2 h2)) := by
  obtain ⟨r, so, hl, sb, o, mc, Al, Vl, b, N, q1, ⟨⟨⟨ti, tia, tf⟩, ⟨tt, tl, ta, x, A⟩, ⟨sm, smc, sA, sK, sV⟩, ⟨bm, bmc, bA, bK, bV⟩⟩, hRW, hPA⟩, hrest⟩ := id hC
  refine (ct_X1_departureAt hl0 q1 hRW hV.1.1).mono (fun r0 h2 hp => ?_) (fun E q h2 hp => ?_)
  · obtain ⟨z1, z2, rfl, rfl⟩ := hp
    exact ⟨_, rfl, by rw [if_neg (fun w => w z1), if_neg z2], rfl, hC, Fr.rf⟩
  · obtain ⟨⟨z1, rfl⟩ | ⟨z1, z2, rfl⟩, hx⟩ := hp
    · exact Or.inl ⟨rfl, if_pos z1, hC.fr0 hx, hx.mono (fun _ z => z.elim)⟩
    · exact Or.inr ⟨rfl, by rw [if_neg (fun w => w z1), if_pos z2], hC.fr0 hx, hx.mono (fun _ z => z.elim)⟩
theorem ck_isFull {G : GG} {l : Launch} {h : AH} {P : Nat → Prop} {xo n : Nat} {g : Nat → Nat} {sn : Option (Nat → Nat)} {hs : List (Nat → Nat)} {tx : List Nat} {ep fc : Nat} {ot : List Nat} {p : Int32} {q0 : Int32} (hl0 : l.stackTraces = false) (hC : CW G P h xo g sn hs tx (rP ep) (rP fc) ot) (hP : ∀ z, h z = none → P z) (hV : SVI n g sn hs tx ep fc ot)  : CtX G l yX1_isFull cX1_isFull 3 (some .boolean) 9 (4) (24) [.ref xo, .int p, .int q0] h (fun r0 h2 => ∃ y : Int32, r0 = some (.int y) ∧ SOK G P h xo g sn hs tx ep fc ot (if ¬ (iR p (g 1) ∧ iR q0 (g (16 + 36 * tn p + 3) - 1)) then 1 else 0) (b2 (g (16 + 36 * tn p + 0) ≤ ldG g (tn p) (tn q0))) y h2) (fun E q h2 => (E = eIX ∧ SNO G P h xo g sn hs tx ep fc ot (if ¬ (iR p (g 1) ∧ iR q0 (g (16 + 36 * tn p + 3) - 1)) then 1 else 0) 1 h2)) := by
  obtain ⟨r, so, hl, sb, o, mc, Al, Vl, b, N, q1, ⟨⟨⟨ti, tia, tf⟩, ⟨tt, tl, ta, x, A⟩, ⟨sm, smc, sA, sK, sV⟩, ⟨bm, bmc, bA, bK, bV⟩⟩, hRW, hPA⟩, hrest⟩ := id hC
  refine (ct_X1_isFull hl0 q1 hRW hV.1.1).mono (fun r0 h2 hp => ?_) (fun E q h2 hp => ?_)
  · obtain ⟨z1, rfl, rfl⟩ := hp
    have hl : LEG g (tn p) (tn q0) := by
      obtain ⟨⟨a1, a2⟩, b1, b2⟩ := id z1
      exact ⟨by unfold tn; omega, by unfold tn at *; omega⟩
    refine ⟨_, rfl, if_neg (fun w => w z1), ?_, hC, Fr.rf⟩
    unfold b2
    by_cases w : ldG g (tn p) (tn q0) = g (16 + 36 * tn p + 0)
    · rw [if_pos w, if_pos ((fr_full hV.1.1.L hl).mp w)]
    · rw [if_neg w, if_neg (fun y => w ((fr_full hV.1.1.L hl).mpr y))]
  · obtain ⟨⟨z1, rfl⟩, hx⟩ := hp
    exact ⟨rfl, if_pos z1, hC.fr0 hx, hx.mono (fun _ z => z.elim)⟩
theorem ck_nextTrain {G : GG} {l : Launch} {h : AH} {P : Nat → Prop} {xo n : Nat} {g : Nat → Nat} {sn : Option (Nat → Nat)} {hs : List (Nat → Nat)} {tx : List Nat} {ep fc : Nat} {ot : List Nat} {p : Int32} {q0 : Int32} (hl0 : l.stackTraces = false) (hC : CW G P h xo g sn hs tx (rP ep) (rP fc) ot) (hP : ∀ z, h z = none → P z) (hV : SVI n g sn hs tx ep fc ot)  : CtX G l yX1_nextTrain cX1_nextTrain 3 (some .int) 8 (60) (400) [.ref xo, .int p, .int q0] h (fun r0 h2 => ∃ y : Int32, r0 = some (.int y) ∧ SOK G P h xo g sn hs tx ep fc ot (if ¬ iR p (g 0) then 1 else if ¬ (nI 0 ≤ q0 ∧ q0 ≤ nI 9999) then 2 else if (ntO g (tn p) (tn q0) (g 1)).1 = none then 3 else 0) (rO (ntO g (tn p) (tn q0) (g 1)).1) y h2) (fun E q h2 => (E = eIX ∧ SNO G P h xo g sn hs tx ep fc ot (if ¬ iR p (g 0) then 1 else if ¬ (nI 0 ≤ q0 ∧ q0 ≤ nI 9999) then 2 else if (ntO g (tn p) (tn q0) (g 1)).1 = none then 3 else 0) 1 h2) ∨ (E = eAR ∧ SNO G P h xo g sn hs tx ep fc ot (if ¬ iR p (g 0) then 1 else if ¬ (nI 0 ≤ q0 ∧ q0 ≤ nI 9999) then 2 else if (ntO g (tn p) (tn q0) (g 1)).1 = none then 3 else 0) 2 h2) ∨ (E = eEL ∧ SNO G P h xo g sn hs tx ep fc ot (if ¬ iR p (g 0) then 1 else if ¬ (nI 0 ≤ q0 ∧ q0 ≤ nI 9999) then 2 else if (ntO g (tn p) (tn q0) (g 1)).1 = none then 3 else 0) 3 h2)) := by
  obtain ⟨r, so, hl, sb, o, mc, Al, Vl, b, N, q1, ⟨⟨⟨ti, tia, tf⟩, ⟨tt, tl, ta, x, A⟩, ⟨sm, smc, sA, sK, sV⟩, ⟨bm, bmc, bA, bK, bV⟩⟩, hRW, hPA⟩, hrest⟩ := id hC
  refine (ct_X1_nextTrain hl0 q1 hRW hV.1.1).mono (fun r0 h2 hp => ?_) (fun E q h2 hp => ?_)
  · obtain ⟨z1, z2, z3, rfl, hx⟩ := hp
    rw [← ntO_lg] at z3 ⊢
    have z4 : ¬ (ntO g (tn p) (tn q0) (g 1)).1 = none := fun w => z3 (by rw [w]; rfl)
    exact ⟨_, rfl, by rw [if_neg (fun w => w z1), if_neg (fun w => w z2), if_neg z4], rfl, hC.fr0 hx, hx.mono (fun _ z => z.elim)⟩
  · obtain ⟨⟨z1, rfl⟩ | ⟨z1, z2, rfl⟩ | ⟨z1, z2, z3, rfl⟩, hx⟩ := hp
    · exact Or.inl ⟨rfl, if_pos z1, hC.fr0 hx, hx.mono (fun _ z => z.elim)⟩
    · exact Or.inr (Or.inl ⟨rfl, by rw [if_neg (fun w => w z1), if_pos z2], hC.fr0 hx, hx.mono (fun _ z => z.elim)⟩)
    · rw [← ntO_lg] at z3
      have z4 := (rO_none _ (ntO_o (g 1) hV.1.1.W.2.2.1)).mp z3
      exact Or.inr (Or.inr ⟨rfl, by rw [if_neg (fun w => w z1), if_neg (fun w => w z2), if_pos z4], hC.fr0 hx, hx.mono (fun _ z => z.elim)⟩)
theorem ck_canReach {G : GG} {l : Launch} {h : AH} {P : Nat → Prop} {xo n : Nat} {g : Nat → Nat} {sn : Option (Nat → Nat)} {hs : List (Nat → Nat)} {tx : List Nat} {ep fc : Nat} {ot : List Nat} {p : Int32} {q0 : Int32} {u : Int32} (hl0 : l.stackTraces = false) (hC : CW G P h xo g sn hs tx (rP ep) (rP fc) ot) (hP : ∀ z, h z = none → P z) (hV : SVI n g sn hs tx ep fc ot)  : CtX G l yX1_canReach cX1_canReach 4 (some .boolean) 12 (400) (13000) [.ref xo, .int p, .int q0, .int u] h (fun r0 h2 => ∃ y : Int32, r0 = some (.int y) ∧ SOK G P h xo g sn hs tx ep fc ot (cdJ g p q0 u) (b2 (aeG g (tn p) (tn u) (tn q0) < 1000000)) y h2) (fun E q h2 => (E = eIX ∧ SNO G P h xo g sn hs tx ep fc ot (cdJ g p q0 u) 1 h2) ∨ (E = eAR ∧ SNO G P h xo g sn hs tx ep fc ot (cdJ g p q0 u) 2 h2)) := by
  obtain ⟨r, so, hl, sb, o, mc, Al, Vl, b, N, q1, ⟨⟨⟨ti, tia, tf⟩, ⟨tt, tl, ta, x, A⟩, ⟨sm, smc, sA, sK, sV⟩, ⟨bm, bmc, bA, bK, bV⟩⟩, hRW, hPA⟩, hrest⟩ := id hC
  refine (ct_X1_canReach hl0 q1 hRW hV.1.1).mono (fun r0 h2 hp => ?_) (fun E q h2 hp => ?_)
  · obtain ⟨a, b', v, e, R, ⟨j1, j2, j3, rfl, rfl, rfl⟩, hA, rfl, hx⟩ := hp
    obtain ⟨c0, c1, c2, c3⟩ := cdJ_0X hV.1.1 j1 j2 j3
    rw [c1, c2, c3]
    exact ⟨_, rfl, c0, by rw [(arr_ae hV.1.1 j2 j3 hA).1], hC.fr0 hx, hx.mono (fun _ z => z.elim)⟩
  · obtain ⟨⟨z1, rfl⟩ | ⟨z1, z2, rfl⟩, hx⟩ := hp
    · have e : cdJ g p q0 u = 1 := by unfold cdJ; rw [if_pos (Classical.not_and_iff_not_or_not.mp z1)]
      exact Or.inl ⟨rfl, e, hC.fr0 hx, hx.mono (fun _ z => z.elim)⟩
    · have e : cdJ g p q0 u = 2 := by unfold cdJ; rw [if_neg (fun w => w.elim (fun w => w z1.1) (fun w => w z1.2)), if_pos z2]
      exact Or.inr ⟨rfl, e, hC.fr0 hx, hx.mono (fun _ z => z.elim)⟩
theorem ck_arrival {G : GG} {l : Launch} {h : AH} {P : Nat → Prop} {xo n : Nat} {g : Nat → Nat} {sn : Option (Nat → Nat)} {hs : List (Nat → Nat)} {tx : List Nat} {ep fc : Nat} {ot : List Nat} {p : Int32} {q0 : Int32} {u : Int32} (hl0 : l.stackTraces = false) (hC : CW G P h xo g sn hs tx (rP ep) (rP fc) ot) (hP : ∀ z, h z = none → P z) (hV : SVI n g sn hs tx ep fc ot)  : CtX G l yX1_arrival cX1_arrival 4 (some .int) 12 (400) (13000) [.ref xo, .int p, .int q0, .int u] h (fun r0 h2 => ∃ y : Int32, r0 = some (.int y) ∧ SOK G P h xo g sn hs tx ep fc ot (if cdJ g p q0 u ≠ 0 then cdJ g p q0 u else if aeG g (tn p) (tn u) (tn q0) = 1000000 then 3 else 0) (nI (aeG g (tn p) (tn u) (tn q0))) y h2) (fun E q h2 => (E = eIX ∧ SNO G P h xo g sn hs tx ep fc ot (if cdJ g p q0 u ≠ 0 then cdJ g p q0 u else if aeG g (tn p) (tn u) (tn q0) = 1000000 then 3 else 0) 1 h2) ∨ (E = eAR ∧ SNO G P h xo g sn hs tx ep fc ot (if cdJ g p q0 u ≠ 0 then cdJ g p q0 u else if aeG g (tn p) (tn u) (tn q0) = 1000000 then 3 else 0) 2 h2) ∨ (E = eEL ∧ SNO G P h xo g sn hs tx ep fc ot (if cdJ g p q0 u ≠ 0 then cdJ g p q0 u else if aeG g (tn p) (tn u) (tn q0) = 1000000 then 3 else 0) 3 h2)) := by
  obtain ⟨r, so, hl, sb, o, mc, Al, Vl, b, N, q1, ⟨⟨⟨ti, tia, tf⟩, ⟨tt, tl, ta, x, A⟩, ⟨sm, smc, sA, sK, sV⟩, ⟨bm, bmc, bA, bK, bV⟩⟩, hRW, hPA⟩, hrest⟩ := id hC
  refine (ct_X1_arrival hl0 q1 hRW hV.1.1).mono (fun r0 h2 hp => ?_) (fun E q h2 hp => ?_)
  · obtain ⟨a, b', v, e, R, ⟨j1, j2, j3, rfl, rfl, rfl⟩, hA, hlt, rfl, hx⟩ := hp
    obtain ⟨c0, c1, c2, c3⟩ := cdJ_0X hV.1.1 j1 j2 j3
    rw [c1, c2, c3]
    have e1 := (arr_ae hV.1.1 j2 j3 hA).1
    exact ⟨_, rfl, by rw [if_neg (fun w => w c0), if_neg (by omega)], by rw [e1], hC.fr0 hx, hx.mono (fun _ z => z.elim)⟩
  · obtain ⟨⟨z1, rfl⟩ | ⟨z1, z2, rfl⟩ | ⟨a, b', v, e, R, ⟨j1, j2, j3, rfl, rfl, rfl⟩, hA, hlt, rfl⟩, hx⟩ := hp
    · have e : cdJ g p q0 u = 1 := by unfold cdJ; rw [if_pos (Classical.not_and_iff_not_or_not.mp z1)]
      exact Or.inl ⟨rfl, by rw [e]; rfl, hC.fr0 hx, hx.mono (fun _ z => z.elim)⟩
    · have e : cdJ g p q0 u = 2 := by unfold cdJ; rw [if_neg (fun w => w.elim (fun w => w z1.1) (fun w => w z1.2)), if_pos z2]
      exact Or.inr (Or.inl ⟨rfl, by rw [e]; rfl, hC.fr0 hx, hx.mono (fun _ z => z.elim)⟩)
    · obtain ⟨c0, c1, c2, c3⟩ := cdJ_0X hV.1.1 j1 j2 j3
      have e1 := arr_ae hV.1.1 j2 j3 hA
      exact Or.inr (Or.inr ⟨rfl, by rw [c1, c2, c3, if_neg (fun w => w c0), if_pos (by omega)], hC.fr0 hx, hx.mono (fun _ z => z.elim)⟩)
theorem ck_arrivalByScanning {G : GG} {l : Launch} {h : AH} {P : Nat → Prop} {xo n : Nat} {g : Nat → Nat} {sn : Option (Nat → Nat)} {hs : List (Nat → Nat)} {tx : List Nat} {ep fc : Nat} {ot : List Nat} {p : Int32} {q0 : Int32} {u : Int32} (hl0 : l.stackTraces = false) (hC : CW G P h xo g sn hs tx (rP ep) (rP fc) ot) (hP : ∀ z, h z = none → P z) (hV : SVI n g sn hs tx ep fc ot)  : CtX G l yX1_arrivalByScanning cX1_arrivalByScanning 4 (some .int) 11 (400) (13000) [.ref xo, .int p, .int q0, .int u] h (fun r0 h2 => ∃ y : Int32, r0 = some (.int y) ∧ SOK G P h xo g sn hs tx ep fc ot (if cdJ g p q0 u ≠ 0 then cdJ g p q0 u else if aeG g (tn p) (tn u) (tn q0) = 1000000 then 3 else 0) (nI (aeG g (tn p) (tn u) (tn q0))) y h2) (fun E q h2 => (E = eIX ∧ SNO G P h xo g sn hs tx ep fc ot (if cdJ g p q0 u ≠ 0 then cdJ g p q0 u else if aeG g (tn p) (tn u) (tn q0) = 1000000 then 3 else 0) 1 h2) ∨ (E = eAR ∧ SNO G P h xo g sn hs tx ep fc ot (if cdJ g p q0 u ≠ 0 then cdJ g p q0 u else if aeG g (tn p) (tn u) (tn q0) = 1000000 then 3 else 0) 2 h2) ∨ (E = eEL ∧ SNO G P h xo g sn hs tx ep fc ot (if cdJ g p q0 u ≠ 0 then cdJ g p q0 u else if aeG g (tn p) (tn u) (tn q0) = 1000000 then 3 else 0) 3 h2)) := by
  obtain ⟨r, so, hl, sb, o, mc, Al, Vl, b, N, q1, ⟨⟨⟨ti, tia, tf⟩, ⟨tt, tl, ta, x, A⟩, ⟨sm, smc, sA, sK, sV⟩, ⟨bm, bmc, bA, bK, bV⟩⟩, hRW, hPA⟩, hrest⟩ := id hC
  refine (ct_X1_arrivalByScanning hl0 q1 hRW hV.1.1).mono (fun r0 h2 hp => ?_) (fun E q h2 hp => ?_)
  · obtain ⟨a, b', v, e, R, ⟨j1, j2, j3, rfl, rfl, rfl⟩, hA, hlt, rfl, hx⟩ := hp
    obtain ⟨c0, c1, c2, c3⟩ := cdJ_0X hV.1.1 j1 j2 j3
    rw [c1, c2, c3]
    have e1 := (arr_ae hV.1.1 j2 j3 hA).1
    exact ⟨_, rfl, by rw [if_neg (fun w => w c0), if_neg (by omega)], by rw [e1], hC.fr0 hx, hx.mono (fun _ z => z.elim)⟩
  · obtain ⟨⟨z1, rfl⟩ | ⟨z1, z2, rfl⟩ | ⟨a, b', v, e, R, ⟨j1, j2, j3, rfl, rfl, rfl⟩, hA, hlt, rfl⟩, hx⟩ := hp
    · have e : cdJ g p q0 u = 1 := by unfold cdJ; rw [if_pos (Classical.not_and_iff_not_or_not.mp z1)]
      exact Or.inl ⟨rfl, by rw [e]; rfl, hC.fr0 hx, hx.mono (fun _ z => z.elim)⟩
    · have e : cdJ g p q0 u = 2 := by unfold cdJ; rw [if_neg (fun w => w.elim (fun w => w z1.1) (fun w => w z1.2)), if_pos z2]
      exact Or.inr (Or.inl ⟨rfl, by rw [e]; rfl, hC.fr0 hx, hx.mono (fun _ z => z.elim)⟩)
    · obtain ⟨c0, c1, c2, c3⟩ := cdJ_0X hV.1.1 j1 j2 j3
      have e1 := arr_ae hV.1.1 j2 j3 hA
      exact Or.inr (Or.inr ⟨rfl, by rw [c1, c2, c3, if_neg (fun w => w c0), if_pos (by omega)], hC.fr0 hx, hx.mono (fun _ z => z.elim)⟩)
theorem ck_boardings {G : GG} {l : Launch} {h : AH} {P : Nat → Prop} {xo n : Nat} {g : Nat → Nat} {sn : Option (Nat → Nat)} {hs : List (Nat → Nat)} {tx : List Nat} {ep fc : Nat} {ot : List Nat} {p : Int32} {q0 : Int32} {u : Int32} (hl0 : l.stackTraces = false) (hC : CW G P h xo g sn hs tx (rP ep) (rP fc) ot) (hP : ∀ z, h z = none → P z) (hV : SVI n g sn hs tx ep fc ot)  : CtX G l yX1_boardings cX1_boardings 4 (some .int) 11 (300) (7000) [.ref xo, .int p, .int q0, .int u] h (fun r0 h2 => ∃ y : Int32, r0 = some (.int y) ∧ SOK G P h xo g sn hs tx ep fc ot (if cdJ g p q0 u ≠ 0 then cdJ g p q0 u else if (BWv g (tn p) (tn q0) (tn u)).2 (tn q0) = 1000000 then 3 else 0) (nI (BWv g (tn p) (tn q0) (tn u)).1) y h2) (fun E q h2 => (E = eIX ∧ SNO G P h xo g sn hs tx ep fc ot (if cdJ g p q0 u ≠ 0 then cdJ g p q0 u else if (BWv g (tn p) (tn q0) (tn u)).2 (tn q0) = 1000000 then 3 else 0) 1 h2) ∨ (E = eAR ∧ SNO G P h xo g sn hs tx ep fc ot (if cdJ g p q0 u ≠ 0 then cdJ g p q0 u else if (BWv g (tn p) (tn q0) (tn u)).2 (tn q0) = 1000000 then 3 else 0) 2 h2) ∨ (E = eEL ∧ SNO G P h xo g sn hs tx ep fc ot (if cdJ g p q0 u ≠ 0 then cdJ g p q0 u else if (BWv g (tn p) (tn q0) (tn u)).2 (tn q0) = 1000000 then 3 else 0) 3 h2)) := by
  obtain ⟨r, so, hl, sb, o, mc, Al, Vl, b, N, q1, ⟨⟨⟨ti, tia, tf⟩, ⟨tt, tl, ta, x, A⟩, ⟨sm, smc, sA, sK, sV⟩, ⟨bm, bmc, bA, bK, bV⟩⟩, hRW, hPA⟩, hrest⟩ := id hC
  refine (ct_X1_boardings hl0 q1 hRW hV.1.1).mono (fun r0 h2 hp => ?_) (fun E q h2 hp => ?_)
  · obtain ⟨a, b', v, ⟨j1, j2, j3, rfl, rfl, rfl⟩, hlt, rfl, hx⟩ := hp
    obtain ⟨c0, c1, c2, c3⟩ := cdJ_0X hV.1.1 j1 j2 j3
    rw [c1, c2, c3]
    have e1 : ¬ (BWv g a b' v).2 b' = 1000000 := fun w => hlt (if_pos w)
    exact ⟨_, rfl, by rw [if_neg (fun w => w c0), if_neg e1], by rw [if_neg e1], hC.fr0 hx, hx.mono (fun _ z => z.elim)⟩
  · obtain ⟨⟨z1, rfl⟩ | ⟨z1, z2, rfl⟩ | ⟨a, b', v, ⟨j1, j2, j3, rfl, rfl, rfl⟩, hlt, rfl⟩, hx⟩ := hp
    · have e : cdJ g p q0 u = 1 := by unfold cdJ; rw [if_pos (Classical.not_and_iff_not_or_not.mp z1)]
      exact Or.inl ⟨rfl, by rw [e]; rfl, hC.fr0 hx, hx.mono (fun _ z => z.elim)⟩
    · have e : cdJ g p q0 u = 2 := by unfold cdJ; rw [if_neg (fun w => w.elim (fun w => w z1.1) (fun w => w z1.2)), if_pos z2]
      exact Or.inr (Or.inl ⟨rfl, by rw [e]; rfl, hC.fr0 hx, hx.mono (fun _ z => z.elim)⟩)
    · obtain ⟨c0, c1, c2, c3⟩ := cdJ_0X hV.1.1 j1 j2 j3
      have e1 : (BWv g a b' v).2 b' = 1000000 := by
        apply Classical.byContradiction
        intro w
        rw [if_neg w] at hlt
        have := bwN_le (g := g) (a := a) (c := b') 49 0 (bgP a v (bgP a v (fun _ => 0) (g 0)) (g 0))
        exact nI_ne1 (k := (BWv g a b' v).1) (Nat.lt_of_le_of_lt this (by decide)) hlt
      exact Or.inr (Or.inr ⟨rfl, by rw [c1, c2, c3, if_neg (fun w => w c0), if_pos e1], hC.fr0 hx, hx.mono (fun _ z => z.elim)⟩)
theorem ck_stationOf {G : GG} {l : Launch} {h : AH} {P : Nat → Prop} {xo n : Nat} {g : Nat → Nat} {sn : Option (Nat → Nat)} {hs : List (Nat → Nat)} {tx : List Nat} {ep fc : Nat} {ot : List Nat} {p : Int32} (hl0 : l.stackTraces = false) (hC : CW G P h xo g sn hs tx (rP ep) (rP fc) ot) (hP : ∀ z, h z = none → P z) (hV : SVI n g sn hs tx ep fc ot)  : CtX G l yX1_stationOf cX1_stationOf 2 (some .int) 9 (4) (12) [.ref xo, .int p] h (fun r0 h2 => ∃ y : Int32, r0 = some (.int y) ∧ SOK G P h xo g sn hs tx ep fc ot ((fdO g 232 p (g 2)).elim 1 (fun _ => 0)) ((fdO g 232 p (g 2)).elim (nI 0) (fun k => nI (g (232 + 4 * k + 1)))) y h2) (fun E q h2 => (E = eEL ∧ SNO G P h xo g sn hs tx ep fc ot ((fdO g 232 p (g 2)).elim 1 (fun _ => 0)) 1 h2)) := by
  obtain ⟨r, so, hl, sb, o, mc, Al, Vl, b, N, q1, ⟨⟨⟨ti, tia, tf⟩, ⟨tt, tl, ta, x, A⟩, ⟨sm, smc, sA, sK, sV⟩, ⟨bm, bmc, bA, bK, bV⟩⟩, hRW, hPA⟩, hrest⟩ := id hC
  refine (ct_X1_stationOf hl0 q1 hRW hV.1.1).mono (fun r0 h2 hp => ?_) (fun E q h2 hp => ?_)
  · obtain ⟨k, hk, hf, rfl, hx⟩ := hp
    rw [hf]
    exact ⟨_, rfl, rfl, rfl, hC.fr0 hx, hx.mono (fun _ z => z.elim)⟩
  · obtain ⟨⟨hf, rfl⟩, hx⟩ := hp
    rw [hf]
    exact ⟨rfl, rfl, hC.fr0 hx, hx.mono (fun _ z => z.elim)⟩
theorem ck_destinationOf {G : GG} {l : Launch} {h : AH} {P : Nat → Prop} {xo n : Nat} {g : Nat → Nat} {sn : Option (Nat → Nat)} {hs : List (Nat → Nat)} {tx : List Nat} {ep fc : Nat} {ot : List Nat} {p : Int32} (hl0 : l.stackTraces = false) (hC : CW G P h xo g sn hs tx (rP ep) (rP fc) ot) (hP : ∀ z, h z = none → P z) (hV : SVI n g sn hs tx ep fc ot)  : CtX G l yX1_destinationOf cX1_destinationOf 2 (some .int) 9 (4) (12) [.ref xo, .int p] h (fun r0 h2 => ∃ y : Int32, r0 = some (.int y) ∧ SOK G P h xo g sn hs tx ep fc ot ((fdO g 232 p (g 2)).elim 1 (fun _ => 0)) ((fdO g 232 p (g 2)).elim (nI 0) (fun k => nI (g (232 + 4 * k + 2)))) y h2) (fun E q h2 => (E = eEL ∧ SNO G P h xo g sn hs tx ep fc ot ((fdO g 232 p (g 2)).elim 1 (fun _ => 0)) 1 h2)) := by
  obtain ⟨r, so, hl, sb, o, mc, Al, Vl, b, N, q1, ⟨⟨⟨ti, tia, tf⟩, ⟨tt, tl, ta, x, A⟩, ⟨sm, smc, sA, sK, sV⟩, ⟨bm, bmc, bA, bK, bV⟩⟩, hRW, hPA⟩, hrest⟩ := id hC
  refine (ct_X1_destinationOf hl0 q1 hRW hV.1.1).mono (fun r0 h2 hp => ?_) (fun E q h2 hp => ?_)
  · obtain ⟨k, hk, hf, rfl, hx⟩ := hp
    rw [hf]
    exact ⟨_, rfl, rfl, rfl, hC.fr0 hx, hx.mono (fun _ z => z.elim)⟩
  · obtain ⟨⟨hf, rfl⟩, hx⟩ := hp
    rw [hf]
    exact ⟨rfl, rfl, hC.fr0 hx, hx.mono (fun _ z => z.elim)⟩
theorem ck_readyAt {G : GG} {l : Launch} {h : AH} {P : Nat → Prop} {xo n : Nat} {g : Nat → Nat} {sn : Option (Nat → Nat)} {hs : List (Nat → Nat)} {tx : List Nat} {ep fc : Nat} {ot : List Nat} {p : Int32} (hl0 : l.stackTraces = false) (hC : CW G P h xo g sn hs tx (rP ep) (rP fc) ot) (hP : ∀ z, h z = none → P z) (hV : SVI n g sn hs tx ep fc ot)  : CtX G l yX1_readyAt cX1_readyAt 2 (some .int) 9 (4) (12) [.ref xo, .int p] h (fun r0 h2 => ∃ y : Int32, r0 = some (.int y) ∧ SOK G P h xo g sn hs tx ep fc ot ((fdO g 232 p (g 2)).elim 1 (fun _ => 0)) ((fdO g 232 p (g 2)).elim (nI 0) (fun k => nI (g (232 + 4 * k + 3)))) y h2) (fun E q h2 => (E = eEL ∧ SNO G P h xo g sn hs tx ep fc ot ((fdO g 232 p (g 2)).elim 1 (fun _ => 0)) 1 h2)) := by
  obtain ⟨r, so, hl, sb, o, mc, Al, Vl, b, N, q1, ⟨⟨⟨ti, tia, tf⟩, ⟨tt, tl, ta, x, A⟩, ⟨sm, smc, sA, sK, sV⟩, ⟨bm, bmc, bA, bK, bV⟩⟩, hRW, hPA⟩, hrest⟩ := id hC
  refine (ct_X1_readyAt hl0 q1 hRW hV.1.1).mono (fun r0 h2 hp => ?_) (fun E q h2 hp => ?_)
  · obtain ⟨k, hk, hf, rfl, hx⟩ := hp
    rw [hf]
    exact ⟨_, rfl, rfl, rfl, hC.fr0 hx, hx.mono (fun _ z => z.elim)⟩
  · obtain ⟨⟨hf, rfl⟩, hx⟩ := hp
    rw [hf]
    exact ⟨rfl, rfl, hC.fr0 hx, hx.mono (fun _ z => z.elim)⟩
theorem ck_isThere {G : GG} {l : Launch} {h : AH} {P : Nat → Prop} {xo n : Nat} {g : Nat → Nat} {sn : Option (Nat → Nat)} {hs : List (Nat → Nat)} {tx : List Nat} {ep fc : Nat} {ot : List Nat} {p : Int32} (hl0 : l.stackTraces = false) (hC : CW G P h xo g sn hs tx (rP ep) (rP fc) ot) (hP : ∀ z, h z = none → P z) (hV : SVI n g sn hs tx ep fc ot)  : CtX G l yX1_isThere cX1_isThere 2 (some .boolean) 9 (4) (12) [.ref xo, .int p] h (fun r0 h2 => ∃ y : Int32, r0 = some (.int y) ∧ SOK G P h xo g sn hs tx ep fc ot ((fdO g 232 p (g 2)).elim 1 (fun _ => 0)) ((fdO g 232 p (g 2)).elim (nI 0) (fun k => b2 (g (232 + 4 * k + 1) = g (232 + 4 * k + 2)))) y h2) (fun E q h2 => (E = eEL ∧ SNO G P h xo g sn hs tx ep fc ot ((fdO g 232 p (g 2)).elim 1 (fun _ => 0)) 1 h2)) := by
  obtain ⟨r, so, hl, sb, o, mc, Al, Vl, b, N, q1, ⟨⟨⟨ti, tia, tf⟩, ⟨tt, tl, ta, x, A⟩, ⟨sm, smc, sA, sK, sV⟩, ⟨bm, bmc, bA, bK, bV⟩⟩, hRW, hPA⟩, hrest⟩ := id hC
  refine (ct_X1_isThere hl0 q1 hRW hV.1.1).mono (fun r0 h2 hp => ?_) (fun E q h2 hp => ?_)
  · obtain ⟨k, hk, hf, rfl, hx⟩ := hp
    rw [hf]
    exact ⟨_, rfl, rfl, rfl, hC.fr0 hx, hx.mono (fun _ z => z.elim)⟩
  · obtain ⟨⟨hf, rfl⟩, hx⟩ := hp
    rw [hf]
    exact ⟨rfl, rfl, hC.fr0 hx, hx.mono (fun _ z => z.elim)⟩
theorem ck_suitcaseByReady {G : GG} {l : Launch} {h : AH} {P : Nat → Prop} {xo n : Nat} {g : Nat → Nat} {sn : Option (Nat → Nat)} {hs : List (Nat → Nat)} {tx : List Nat} {ep fc : Nat} {ot : List Nat} {p : Int32} (hl0 : l.stackTraces = false) (hC : CW G P h xo g sn hs tx (rP ep) (rP fc) ot) (hP : ∀ z, h z = none → P z) (hV : SVI n g sn hs tx ep fc ot)  : CtX G l yX1_suitcaseByReady cX1_suitcaseByReady 2 (some .int) 11 (70) (400) [.ref xo, .int p] h (fun r0 h2 => ∃ y : Int32, r0 = some (.int y) ∧ SOK G P h xo g sn hs tx ep fc ot ((fdP (fun i => nI (rkG g i (g 2)) = p) (g 2)).elim 1 (fun _ => 0)) ((fdP (fun i => nI (rkG g i (g 2)) = p) (g 2)).elim (nI 0) (fun k => nI (g (232 + 4 * k + 0)))) y h2) (fun E q h2 => (E = eEL ∧ SNO G P h xo g sn hs tx ep fc ot ((fdP (fun i => nI (rkG g i (g 2)) = p) (g 2)).elim 1 (fun _ => 0)) 1 h2)) := by
  obtain ⟨r, so, hl, sb, o, mc, Al, Vl, b, N, q1, ⟨⟨⟨ti, tia, tf⟩, ⟨tt, tl, ta, x, A⟩, ⟨sm, smc, sA, sK, sV⟩, ⟨bm, bmc, bA, bK, bV⟩⟩, hRW, hPA⟩, hrest⟩ := id hC
  refine (ct_X1_suitcaseByReady hl0 q1 hRW hV.1.1).mono (fun r0 h2 hp => ?_) (fun E q h2 hp => ?_)
  · obtain ⟨⟨S, hS, k, hk, rfl, rfl⟩, hx⟩ := hp
    rw [rk_join hV.1.1 hS hk]
    exact ⟨_, rfl, rfl, rfl, hC.fr0 hx, hx.mono (fun _ z => z.elim)⟩
  · obtain ⟨⟨hf, rfl⟩, hx⟩ := hp
    rw [rk_none hV.1.1 hf]
    exact ⟨rfl, rfl, hC.fr0 hx, hx.mono (fun _ z => z.elim)⟩
theorem ck_berthsNeeded {G : GG} {l : Launch} {h : AH} {P : Nat → Prop} {xo n : Nat} {g : Nat → Nat} {sn : Option (Nat → Nat)} {hs : List (Nat → Nat)} {tx : List Nat} {ep fc : Nat} {ot : List Nat} {p : Int32} (hl0 : l.stackTraces = false) (hC : CW G P h xo g sn hs tx (rP ep) (rP fc) ot) (hP : ∀ z, h z = none → P z) (hV : SVI n g sn hs tx ep fc ot)  : CtX G l yX1_berthsNeeded cX1_berthsNeeded 2 (some .int) 13 (380) (2200) [.ref xo, .int p] h (fun r0 h2 => ∃ y : Int32, r0 = some (.int y) ∧ SOK G P h xo g sn hs tx ep fc ot (if ¬ iR p (g 1) then 1 else 0) (nI (ndG g (tn p) 8)) y h2) (fun E q h2 => (E = eIX ∧ SNO G P h xo g sn hs tx ep fc ot (if ¬ iR p (g 1) then 1 else 0) 1 h2)) := by
  obtain ⟨r, so, hl, sb, o, mc, Al, Vl, b, N, q1, ⟨⟨⟨ti, tia, tf⟩, ⟨tt, tl, ta, x, A⟩, ⟨sm, smc, sA, sK, sV⟩, ⟨bm, bmc, bA, bK, bV⟩⟩, hRW, hPA⟩, hrest⟩ := id hC
  refine (ct_X1_berthsNeeded hl0 q1 hRW hV.1.1).mono (fun r0 h2 hp => ?_) (fun E q h2 hp => ?_)
  · obtain ⟨z1, ⟨S, N, nd, hB, rfl⟩, hx⟩ := hp
    have ht : tn p < g 1 := by obtain ⟨a1, a2⟩ := z1; unfold tn; omega
    exact ⟨_, rfl, if_neg (fun w => w z1), by rw [nd_join hV.1.1 ht, nd_most hV.1.1 ht hB], hC.fr0 hx, hx.mono (fun _ z => z.elim)⟩
  · obtain ⟨⟨z1, rfl⟩, hx⟩ := hp
    exact ⟨rfl, if_pos z1, hC.fr0 hx, hx.mono (fun _ z => z.elim)⟩
theorem ck_berthsNeededByLegs {G : GG} {l : Launch} {h : AH} {P : Nat → Prop} {xo n : Nat} {g : Nat → Nat} {sn : Option (Nat → Nat)} {hs : List (Nat → Nat)} {tx : List Nat} {ep fc : Nat} {ot : List Nat} {p : Int32} (hl0 : l.stackTraces = false) (hC : CW G P h xo g sn hs tx (rP ep) (rP fc) ot) (hP : ∀ z, h z = none → P z) (hV : SVI n g sn hs tx ep fc ot)  : CtX G l yX1_berthsNeededByLegs cX1_berthsNeededByLegs 2 (some .int) 8 (2) (12) [.ref xo, .int p] h (fun r0 h2 => ∃ y : Int32, r0 = some (.int y) ∧ SOK G P h xo g sn hs tx ep fc ot (if ¬ iR p (g 1) then 1 else 0) (nI (ndG g (tn p) 8)) y h2) (fun E q h2 => (E = eIX ∧ SNO G P h xo g sn hs tx ep fc ot (if ¬ iR p (g 1) then 1 else 0) 1 h2)) := by
  obtain ⟨r, so, hl, sb, o, mc, Al, Vl, b, N, q1, ⟨⟨⟨ti, tia, tf⟩, ⟨tt, tl, ta, x, A⟩, ⟨sm, smc, sA, sK, sV⟩, ⟨bm, bmc, bA, bK, bV⟩⟩, hRW, hPA⟩, hrest⟩ := id hC
  refine (ct_X1_berthsNeededByLegs hl0 q1 hRW hV.1.1).mono (fun r0 h2 hp => ?_) (fun E q h2 hp => ?_)
  · obtain ⟨z1, rfl, rfl⟩ := hp
    have ht : tn p < g 1 := by obtain ⟨a1, a2⟩ := z1; unfold tn; omega
    exact ⟨_, rfl, if_neg (fun w => w z1), by rw [nd_join hV.1.1 ht], hC, Fr.rf⟩
  · obtain ⟨⟨z1, rfl⟩, hx⟩ := hp
    exact ⟨rfl, if_pos z1, hC.fr0 hx, hx.mono (fun _ z => z.elim)⟩
theorem ck_berthOf {G : GG} {l : Launch} {h : AH} {P : Nat → Prop} {xo n : Nat} {g : Nat → Nat} {sn : Option (Nat → Nat)} {hs : List (Nat → Nat)} {tx : List Nat} {ep fc : Nat} {ot : List Nat} {p : Int32} (hl0 : l.stackTraces = false) (hC : CW G P h xo g sn hs tx (rP ep) (rP fc) ot) (hP : ∀ z, h z = none → P z) (hV : SVI n g sn hs tx ep fc ot)  : CtX G l yX1_berthOf cX1_berthOf 3 (some .int) 13 (390) (2300) [.ref xo, .int p] h (fun r0 h2 => ∃ y : Int32, r0 = some (.int y) ∧ SOK G P h xo g sn hs tx ep fc ot ((fdO g 264 p (g 3)).elim 1 (fun _ => 0)) ((fdO g 264 p (g 3)).elim (nI 0) (fun k => rP (gvB g (g (264 + 4 * k + 1)) (fun _ => 0) k))) y h2) (fun E q h2 => (E = eEL ∧ SNO G P h xo g sn hs tx ep fc ot ((fdO g 264 p (g 3)).elim 1 (fun _ => 0)) 1 h2)) := by
  obtain ⟨r, so, hl, sb, o, mc, Al, Vl, b, N, q1, ⟨⟨⟨ti, tia, tf⟩, ⟨tt, tl, ta, x, A⟩, ⟨sm, smc, sA, sK, sV⟩, ⟨bm, bmc, bA, bK, bV⟩⟩, hRW, hPA⟩, hrest⟩ := id hC
  refine (ct_X1_berthOf hl0 q1 hRW hV.1.1).mono (fun r0 h2 hp => ?_) (fun E q h2 hp => ?_)
  · obtain ⟨⟨k, hk, hf, S, N, nd, pp, hB, hpp, e, rfl⟩, hx⟩ := hp
    rw [hf]
    have e1 := gv_join (b0 := fun _ => 0) hV.1.1 (hV.1.1.bv k hk).1 hB hpp
    rw [e] at e1
    exact ⟨_, rfl, rfl, by show nI (N pp) = rP (gvB g (g (264 + 4 * k + 1)) (fun _ => 0) k); rw [e1]; rfl, hC.fr0 hx, hx.mono (fun _ z => z.elim)⟩
  · obtain ⟨⟨hf, rfl⟩, hx⟩ := hp
    rw [hf]
    exact ⟨rfl, rfl, hC.fr0 hx, hx.mono (fun _ z => z.elim)⟩
theorem ck_meanLoad {G : GG} {l : Launch} {h : AH} {P : Nat → Prop} {xo n : Nat} {g : Nat → Nat} {sn : Option (Nat → Nat)} {hs : List (Nat → Nat)} {tx : List Nat} {ep fc : Nat} {ot : List Nat}  (hl0 : l.stackTraces = false) (hC : CW G P h xo g sn hs tx (rP ep) (rP fc) ot) (hP : ∀ z, h z = none → P z) (hV : SVI n g sn hs tx ep fc ot)  : CtX G l yX1_meanLoad cX1_meanLoad 2 (some .double) 7 (60) (400) [.ref xo] h (fun r0 h2 => ∃ y : UInt64, r0 = some (.double y) ∧ SOK G P h xo g sn hs tx ep fc ot (if lgG g (g 1) = 0 then 1 else 0) (FP.ddiv (FP.i2d (nI (smG g (g 1)))) (FP.i2d (nI (lgG g (g 1))))) y h2) (fun E q h2 => (E = eMA ∧ SNO G P h xo g sn hs tx ep fc ot (if lgG g (g 1) = 0 then 1 else 0) 1 h2)) := by
  obtain ⟨r, so, hl, sb, o, mc, Al, Vl, b, N, q1, ⟨⟨⟨ti, tia, tf⟩, ⟨tt, tl, ta, x, A⟩, ⟨sm, smc, sA, sK, sV⟩, ⟨bm, bmc, bA, bK, bV⟩⟩, hRW, hPA⟩, hrest⟩ := id hC
  refine (ct_X1_meanLoad hl0 q1 hRW hV.1.1 (sm_210 hV.1.1)).mono (fun r0 h2 hp => ?_) (fun E q h2 hp => ?_)
  · obtain ⟨z1, rfl, hx⟩ := hp
    rw [← lgG_len] at z1 ⊢
    exact ⟨_, rfl, if_neg z1, by rw [sm_join], hC.fr0 hx, hx.mono (fun _ z => z.elim)⟩
  · obtain ⟨⟨z1, rfl⟩, hx⟩ := hp
    rw [← lgG_len] at z1
    exact ⟨rfl, if_pos z1, hC.fr0 hx, hx.mono (fun _ z => z.elim)⟩
theorem ck_fullShare {G : GG} {l : Launch} {h : AH} {P : Nat → Prop} {xo n : Nat} {g : Nat → Nat} {sn : Option (Nat → Nat)} {hs : List (Nat → Nat)} {tx : List Nat} {ep fc : Nat} {ot : List Nat}  (hl0 : l.stackTraces = false) (hC : CW G P h xo g sn hs tx (rP ep) (rP fc) ot) (hP : ∀ z, h z = none → P z) (hV : SVI n g sn hs tx ep fc ot)  : CtX G l yX1_fullShare cX1_fullShare 2 (some .float) 7 (60) (400) [.ref xo] h (fun r0 h2 => ∃ y : UInt32, r0 = some (.float y) ∧ SOK G P h xo g sn hs tx ep fc ot (if lgG g (g 1) = 0 then 1 else 0) (FP.fdiv (FP.i2f (nI (fuG g (g 1)))) (FP.i2f (nI (lgG g (g 1))))) y h2) (fun E q h2 => (E = eMA ∧ SNO G P h xo g sn hs tx ep fc ot (if lgG g (g 1) = 0 then 1 else 0) 1 h2)) := by
  obtain ⟨r, so, hl, sb, o, mc, Al, Vl, b, N, q1, ⟨⟨⟨ti, tia, tf⟩, ⟨tt, tl, ta, x, A⟩, ⟨sm, smc, sA, sK, sV⟩, ⟨bm, bmc, bA, bK, bV⟩⟩, hRW, hPA⟩, hrest⟩ := id hC
  refine (ct_X1_fullShare hl0 q1 hRW hV.1.1 (fu_42 hV.1.1)).mono (fun r0 h2 hp => ?_) (fun E q h2 hp => ?_)
  · obtain ⟨z1, rfl, hx⟩ := hp
    rw [← lgG_len] at z1 ⊢
    exact ⟨_, rfl, if_neg z1, by rw [fu_join hV.1.1], hC.fr0 hx, hx.mono (fun _ z => z.elim)⟩
  · obtain ⟨⟨z1, rfl⟩, hx⟩ := hp
    rw [← lgG_len] at z1
    exact ⟨rfl, if_pos z1, hC.fr0 hx, hx.mono (fun _ z => z.elim)⟩
theorem ck_errorPosition {G : GG} {l : Launch} {h : AH} {P : Nat → Prop} {xo n : Nat} {g : Nat → Nat} {sn : Option (Nat → Nat)} {hs : List (Nat → Nat)} {tx : List Nat} {ep fc : Nat} {ot : List Nat}  (hl0 : l.stackTraces = false) (hC : CW G P h xo g sn hs tx (rP ep) (rP fc) ot) (hP : ∀ z, h z = none → P z) (hV : SVI n g sn hs tx ep fc ot)  : CtX G l yX1_errorPosition cX1_errorPosition 1 (some .int) 8 (1) (6) [.ref xo] h (fun r0 h2 => ∃ y : Int32, r0 = some (.int y) ∧ SOK G P h xo g sn hs tx ep fc ot (if ep = 0 then 1 else 0) (rP ep) y h2) (fun E q h2 => (E = eEL ∧ SNO G P h xo g sn hs tx ep fc ot (if ep = 0 then 1 else 0) 1 h2)) := by
  obtain ⟨r, so, hl, sb, o, mc, Al, Vl, b, N, q1, ⟨⟨⟨ti, tia, tf⟩, ⟨tt, tl, ta, x, A⟩, ⟨sm, smc, sA, sK, sV⟩, ⟨bm, bmc, bA, bK, bV⟩⟩, hRW, hPA⟩, hrest⟩ := id hC
  refine (ct_X1_errorPosition hl0 q1 hRW hV.1.1).mono (fun r0 h2 hp => ?_) (fun E q h2 hp => ?_)
  · obtain ⟨z1, rfl, rfl⟩ := hp
    exact ⟨_, rfl, if_neg (fun w => z1 (by rw [w]; rfl)), rfl, hC, Fr.rf⟩
  · obtain ⟨⟨z1, rfl⟩, hx⟩ := hp
    have e : ep = 0 := by
      cases ep with
      | zero => rfl
      | succ j => exact absurd z1 (nI_ne1 (by have : j + 1 ≤ 100 := hV.2.2.2.2.2.2.1; omega))
    exact ⟨rfl, if_pos e, hC.fr0 hx, hx.mono (fun _ z => z.elim)⟩
theorem ck_failedCommand {G : GG} {l : Launch} {h : AH} {P : Nat → Prop} {xo n : Nat} {g : Nat → Nat} {sn : Option (Nat → Nat)} {hs : List (Nat → Nat)} {tx : List Nat} {ep fc : Nat} {ot : List Nat}  (hl0 : l.stackTraces = false) (hC : CW G P h xo g sn hs tx (rP ep) (rP fc) ot) (hP : ∀ z, h z = none → P z) (hV : SVI n g sn hs tx ep fc ot)  : CtX G l yX1_failedCommand cX1_failedCommand 1 (some .int) 8 (1) (6) [.ref xo] h (fun r0 h2 => ∃ y : Int32, r0 = some (.int y) ∧ SOK G P h xo g sn hs tx ep fc ot (if fc = 0 then 1 else 0) (rP fc) y h2) (fun E q h2 => (E = eEL ∧ SNO G P h xo g sn hs tx ep fc ot (if fc = 0 then 1 else 0) 1 h2)) := by
  obtain ⟨r, so, hl, sb, o, mc, Al, Vl, b, N, q1, ⟨⟨⟨ti, tia, tf⟩, ⟨tt, tl, ta, x, A⟩, ⟨sm, smc, sA, sK, sV⟩, ⟨bm, bmc, bA, bK, bV⟩⟩, hRW, hPA⟩, hrest⟩ := id hC
  refine (ct_X1_failedCommand hl0 q1 hRW hV.1.1).mono (fun r0 h2 hp => ?_) (fun E q h2 hp => ?_)
  · obtain ⟨z1, rfl, rfl⟩ := hp
    exact ⟨_, rfl, if_neg (fun w => z1 (by rw [w]; rfl)), rfl, hC, Fr.rf⟩
  · obtain ⟨⟨z1, rfl⟩, hx⟩ := hp
    have e : fc = 0 := by
      cases fc with
      | zero => rfl
      | succ j => exact absurd z1 (nI_ne1 (by have : j + 1 ≤ 100 := hV.2.2.2.2.2.2.2.1; omega))
    exact ⟨rfl, if_pos e, hC.fr0 hx, hx.mono (fun _ z => z.elim)⟩
theorem ck_outputAt {G : GG} {l : Launch} {h : AH} {P : Nat → Prop} {xo n : Nat} {g : Nat → Nat} {sn : Option (Nat → Nat)} {hs : List (Nat → Nat)} {tx : List Nat} {ep fc : Nat} {ot : List Nat} {p : Int32} (hl0 : l.stackTraces = false) (hC : CW G P h xo g sn hs tx (rP ep) (rP fc) ot) (hP : ∀ z, h z = none → P z) (hV : SVI n g sn hs tx ep fc ot)  : CtX G l yX1_outputAt cX1_outputAt 2 (some .char) 7 (1) (6) [.ref xo, .int p] h (fun r0 h2 => ∃ y : Int32, r0 = some (.int y) ∧ SOK G P h xo g sn hs tx ep fc ot (if ¬ iR p ot.length then 1 else 0) (nI (ot.getD (tn p) 0)) y h2) (fun E q h2 => (E = eIX ∧ SNO G P h xo g sn hs tx ep fc ot (if ¬ iR p ot.length then 1 else 0) 1 h2)) := by
  obtain ⟨r, so, hl, sb, o, mc, Al, Vl, b, N, q1, ⟨⟨⟨ti, tia, tf⟩, ⟨tt, tl, ta, x, A⟩, ⟨sm, smc, sA, sK, sV⟩, ⟨bm, bmc, bA, bK, bV⟩⟩, hRW, hPA⟩, hrest⟩ := id hC
  refine (ct_X1_outputAt (n := n) hl0 hC hP).mono (fun r0 h2 hp => ?_) (fun E q h2 hp => ?_)
  · obtain ⟨z1, rfl, rfl⟩ := hp
    exact ⟨_, rfl, if_neg (fun w => w z1), rfl, hC, Fr.rf⟩
  · obtain ⟨⟨z1, rfl⟩, hx⟩ := hp
    exact ⟨rfl, if_pos z1, hC.fr0 hx, hx.mono (fun _ z => z.elim)⟩
theorem ck_addStation {G : GG} {l : Launch} {h : AH} {P : Nat → Prop} {xo n : Nat} {g : Nat → Nat} {sn : Option (Nat → Nat)} {hs : List (Nat → Nat)} {tx : List Nat} {ep fc : Nat} {ot : List Nat} {p : Int32} (hl0 : l.stackTraces = false) (hC : CW G P h xo g sn hs tx (rP ep) (rP fc) ot) (hP : ∀ z, h z = none → P z) (hV : SVI n g sn hs tx ep fc ot)  : CtX G l yX1_addStation cX1_addStation 2 (some .int) 16 (901) (24004) [.ref xo, .int p] h (fun r0 h2 => ∃ y : Int32, r0 = some (.int y) ∧ HOK G P h xo g sn hs tx ep fc ot 0 (upd (fun _ => nI 0) 0 p) y h2) (fun E q h2 => (E = eAR ∧ SNO G P h xo g sn hs tx ep fc ot (cdK 0 g (upd (fun _ => nI 0) 0 p)) 1 h2) ∨ (E = eST ∧ SNO G P h xo g sn hs tx ep fc ot (cdK 0 g (upd (fun _ => nI 0) 0 p)) 2 h2)) := by
  refine (ct_X1_addStation (n := n) hl0 hC hP hV.1.1 hV.2.2.2.1).mono (fun r0 h2 hp => ?_) (fun E q h2 hp => ?_)
  · obtain ⟨v, g2, rfl, z1, z2, z3, z4⟩ := hp
    exact ⟨v, rfl, z1, g2, z2, z3, z4⟩
  · obtain ⟨⟨z1, z2⟩, hx⟩ := hp
    have hle : cdK 0 g (upd (fun _ => nI 0) 0 p) ≤ 2 := cdK_le (by decide)
    have hc : cdK 0 g (upd (fun _ => nI 0) 0 p) = 1 ∨ cdK 0 g (upd (fun _ => nI 0) 0 p) = 2 := by omega
    rcases hc with hc | hc
    · have z3 : E = eAR := by rw [z2, hc, ← exK_ar]; rfl
      exact Or.inl ⟨z3, hc, hC.fr0 hx, hx.mono (fun _ z => z.elim)⟩
    · have z3 : E = eST := by rw [z2, hc, ← exK_st]; rfl
      exact Or.inr (⟨z3, hc, hC.fr0 hx, hx.mono (fun _ z => z.elim)⟩)
theorem ck_addTrain {G : GG} {l : Launch} {h : AH} {P : Nat → Prop} {xo n : Nat} {g : Nat → Nat} {sn : Option (Nat → Nat)} {hs : List (Nat → Nat)} {tx : List Nat} {ep fc : Nat} {ot : List Nat} {p : Int32} {q0 : Int32} {u : Int32} (hl0 : l.stackTraces = false) (hC : CW G P h xo g sn hs tx (rP ep) (rP fc) ot) (hP : ∀ z, h z = none → P z) (hV : SVI n g sn hs tx ep fc ot)  : CtX G l yX1_addTrain cX1_addTrain 4 (some .int) 16 (901) (24004) [.ref xo, .int p, .int q0, .int u] h (fun r0 h2 => ∃ y : Int32, r0 = some (.int y) ∧ HOK G P h xo g sn hs tx ep fc ot 1 (upd (upd (upd (fun _ => nI 0) 0 p) 1 q0) 2 u) y h2) (fun E q h2 => (E = eIX ∧ SNO G P h xo g sn hs tx ep fc ot (cdK 1 g (upd (upd (upd (fun _ => nI 0) 0 p) 1 q0) 2 u)) 1 h2) ∨ (E = eAR ∧ SNO G P h xo g sn hs tx ep fc ot (cdK 1 g (upd (upd (upd (fun _ => nI 0) 0 p) 1 q0) 2 u)) 2 h2) ∨ (E = eST ∧ SNO G P h xo g sn hs tx ep fc ot (cdK 1 g (upd (upd (upd (fun _ => nI 0) 0 p) 1 q0) 2 u)) 3 h2)) := by
  refine (ct_X1_addTrain (n := n) hl0 hC hP hV.1.1 hV.2.2.2.1).mono (fun r0 h2 hp => ?_) (fun E q h2 hp => ?_)
  · obtain ⟨v, g2, rfl, z1, z2, z3, z4⟩ := hp
    exact ⟨v, rfl, z1, g2, z2, z3, z4⟩
  · obtain ⟨⟨z1, z2⟩, hx⟩ := hp
    have hle : cdK 1 g (upd (upd (upd (fun _ => nI 0) 0 p) 1 q0) 2 u) ≤ 3 := cdK_le (by decide)
    have hc : cdK 1 g (upd (upd (upd (fun _ => nI 0) 0 p) 1 q0) 2 u) = 1 ∨ cdK 1 g (upd (upd (upd (fun _ => nI 0) 0 p) 1 q0) 2 u) = 2 ∨ cdK 1 g (upd (upd (upd (fun _ => nI 0) 0 p) 1 q0) 2 u) = 3 := by omega
    rcases hc with hc | hc | hc
    · have z3 : E = eIX := by rw [z2, hc, ← exK_ix]; rfl
      exact Or.inl ⟨z3, hc, hC.fr0 hx, hx.mono (fun _ z => z.elim)⟩
    · have z3 : E = eAR := by rw [z2, hc, ← exK_ar]; rfl
      exact Or.inr (Or.inl ⟨z3, hc, hC.fr0 hx, hx.mono (fun _ z => z.elim)⟩)
    · have z3 : E = eST := by rw [z2, hc, ← exK_st]; rfl
      exact Or.inr (Or.inr (⟨z3, hc, hC.fr0 hx, hx.mono (fun _ z => z.elim)⟩))
theorem ck_extendTrain {G : GG} {l : Launch} {h : AH} {P : Nat → Prop} {xo n : Nat} {g : Nat → Nat} {sn : Option (Nat → Nat)} {hs : List (Nat → Nat)} {tx : List Nat} {ep fc : Nat} {ot : List Nat} {p : Int32} {q0 : Int32} {u : Int32} {v0 : Int32} (hl0 : l.stackTraces = false) (hC : CW G P h xo g sn hs tx (rP ep) (rP fc) ot) (hP : ∀ z, h z = none → P z) (hV : SVI n g sn hs tx ep fc ot)  : CtX G l yX1_extendTrain cX1_extendTrain 5 (some .int) 16 (901) (24004) [.ref xo, .int p, .int q0, .int u, .int v0] h (fun r0 h2 => ∃ y : Int32, r0 = some (.int y) ∧ HOK G P h xo g sn hs tx ep fc ot 2 (upd (upd (upd (upd (fun _ => nI 0) 0 p) 1 q0) 2 u) 3 v0) y h2) (fun E q h2 => (E = eIX ∧ SNO G P h xo g sn hs tx ep fc ot (cdK 2 g (upd (upd (upd (upd (fun _ => nI 0) 0 p) 1 q0) 2 u) 3 v0)) 1 h2) ∨ (E = eAR ∧ SNO G P h xo g sn hs tx ep fc ot (cdK 2 g (upd (upd (upd (upd (fun _ => nI 0) 0 p) 1 q0) 2 u) 3 v0)) 2 h2) ∨ (E = eST ∧ SNO G P h xo g sn hs tx ep fc ot (cdK 2 g (upd (upd (upd (upd (fun _ => nI 0) 0 p) 1 q0) 2 u) 3 v0)) 3 h2)) := by
  refine (ct_X1_extendTrain (n := n) hl0 hC hP hV.1.1 hV.2.2.2.1).mono (fun r0 h2 hp => ?_) (fun E q h2 hp => ?_)
  · obtain ⟨v, g2, rfl, z1, z2, z3, z4⟩ := hp
    exact ⟨v, rfl, z1, g2, z2, z3, z4⟩
  · obtain ⟨⟨z1, z2⟩, hx⟩ := hp
    have hle : cdK 2 g (upd (upd (upd (upd (fun _ => nI 0) 0 p) 1 q0) 2 u) 3 v0) ≤ 3 := cdK_le (by decide)
    have hc : cdK 2 g (upd (upd (upd (upd (fun _ => nI 0) 0 p) 1 q0) 2 u) 3 v0) = 1 ∨ cdK 2 g (upd (upd (upd (upd (fun _ => nI 0) 0 p) 1 q0) 2 u) 3 v0) = 2 ∨ cdK 2 g (upd (upd (upd (upd (fun _ => nI 0) 0 p) 1 q0) 2 u) 3 v0) = 3 := by omega
    rcases hc with hc | hc | hc
    · have z3 : E = eIX := by rw [z2, hc, ← exK_ix]; rfl
      exact Or.inl ⟨z3, hc, hC.fr0 hx, hx.mono (fun _ z => z.elim)⟩
    · have z3 : E = eAR := by rw [z2, hc, ← exK_ar]; rfl
      exact Or.inr (Or.inl ⟨z3, hc, hC.fr0 hx, hx.mono (fun _ z => z.elim)⟩)
    · have z3 : E = eST := by rw [z2, hc, ← exK_st]; rfl
      exact Or.inr (Or.inr (⟨z3, hc, hC.fr0 hx, hx.mono (fun _ z => z.elim)⟩))
theorem ck_delayTrain {G : GG} {l : Launch} {h : AH} {P : Nat → Prop} {xo n : Nat} {g : Nat → Nat} {sn : Option (Nat → Nat)} {hs : List (Nat → Nat)} {tx : List Nat} {ep fc : Nat} {ot : List Nat} {p : Int32} {q0 : Int32} (hl0 : l.stackTraces = false) (hC : CW G P h xo g sn hs tx (rP ep) (rP fc) ot) (hP : ∀ z, h z = none → P z) (hV : SVI n g sn hs tx ep fc ot)  : CtX G l yX1_delayTrain cX1_delayTrain 3 (some .int) 16 (901) (24004) [.ref xo, .int p, .int q0] h (fun r0 h2 => ∃ y : Int32, r0 = some (.int y) ∧ HOK G P h xo g sn hs tx ep fc ot 3 (upd (upd (fun _ => nI 0) 0 p) 1 q0) y h2) (fun E q h2 => (E = eIX ∧ SNO G P h xo g sn hs tx ep fc ot (cdK 3 g (upd (upd (fun _ => nI 0) 0 p) 1 q0)) 1 h2) ∨ (E = eAR ∧ SNO G P h xo g sn hs tx ep fc ot (cdK 3 g (upd (upd (fun _ => nI 0) 0 p) 1 q0)) 2 h2)) := by
  refine (ct_X1_delayTrain (n := n) hl0 hC hP hV.1.1 hV.2.2.2.1).mono (fun r0 h2 hp => ?_) (fun E q h2 hp => ?_)
  · obtain ⟨v, g2, rfl, z1, z2, z3, z4⟩ := hp
    exact ⟨v, rfl, z1, g2, z2, z3, z4⟩
  · obtain ⟨⟨z1, z2⟩, hx⟩ := hp
    have hle : cdK 3 g (upd (upd (fun _ => nI 0) 0 p) 1 q0) ≤ 2 := cdK_le (by decide)
    have hc : cdK 3 g (upd (upd (fun _ => nI 0) 0 p) 1 q0) = 1 ∨ cdK 3 g (upd (upd (fun _ => nI 0) 0 p) 1 q0) = 2 := by omega
    rcases hc with hc | hc
    · have z3 : E = eIX := by rw [z2, hc, ← exK_ix]; rfl
      exact Or.inl ⟨z3, hc, hC.fr0 hx, hx.mono (fun _ z => z.elim)⟩
    · have z3 : E = eAR := by rw [z2, hc, ← exK_ar]; rfl
      exact Or.inr (⟨z3, hc, hC.fr0 hx, hx.mono (fun _ z => z.elim)⟩)
theorem ck_addSuitcase {G : GG} {l : Launch} {h : AH} {P : Nat → Prop} {xo n : Nat} {g : Nat → Nat} {sn : Option (Nat → Nat)} {hs : List (Nat → Nat)} {tx : List Nat} {ep fc : Nat} {ot : List Nat} {p : Int32} {q0 : Int32} {u : Int32} (hl0 : l.stackTraces = false) (hC : CW G P h xo g sn hs tx (rP ep) (rP fc) ot) (hP : ∀ z, h z = none → P z) (hV : SVI n g sn hs tx ep fc ot)  : CtX G l yX1_addSuitcase cX1_addSuitcase 4 (some .int) 16 (901) (24004) [.ref xo, .int p, .int q0, .int u] h (fun r0 h2 => ∃ y : Int32, r0 = some (.int y) ∧ HOK G P h xo g sn hs tx ep fc ot 4 (upd (upd (upd (fun _ => nI 0) 0 p) 1 q0) 2 u) y h2) (fun E q h2 => (E = eIX ∧ SNO G P h xo g sn hs tx ep fc ot (cdK 4 g (upd (upd (upd (fun _ => nI 0) 0 p) 1 q0) 2 u)) 1 h2) ∨ (E = eAR ∧ SNO G P h xo g sn hs tx ep fc ot (cdK 4 g (upd (upd (upd (fun _ => nI 0) 0 p) 1 q0) 2 u)) 2 h2) ∨ (E = eST ∧ SNO G P h xo g sn hs tx ep fc ot (cdK 4 g (upd (upd (upd (fun _ => nI 0) 0 p) 1 q0) 2 u)) 3 h2)) := by
  refine (ct_X1_addSuitcase (n := n) hl0 hC hP hV.1.1 hV.2.2.2.1).mono (fun r0 h2 hp => ?_) (fun E q h2 hp => ?_)
  · obtain ⟨v, g2, rfl, z1, z2, z3, z4⟩ := hp
    exact ⟨v, rfl, z1, g2, z2, z3, z4⟩
  · obtain ⟨⟨z1, z2⟩, hx⟩ := hp
    have hle : cdK 4 g (upd (upd (upd (fun _ => nI 0) 0 p) 1 q0) 2 u) ≤ 3 := cdK_le (by decide)
    have hc : cdK 4 g (upd (upd (upd (fun _ => nI 0) 0 p) 1 q0) 2 u) = 1 ∨ cdK 4 g (upd (upd (upd (fun _ => nI 0) 0 p) 1 q0) 2 u) = 2 ∨ cdK 4 g (upd (upd (upd (fun _ => nI 0) 0 p) 1 q0) 2 u) = 3 := by omega
    rcases hc with hc | hc | hc
    · have z3 : E = eIX := by rw [z2, hc, ← exK_ix]; rfl
      exact Or.inl ⟨z3, hc, hC.fr0 hx, hx.mono (fun _ z => z.elim)⟩
    · have z3 : E = eAR := by rw [z2, hc, ← exK_ar]; rfl
      exact Or.inr (Or.inl ⟨z3, hc, hC.fr0 hx, hx.mono (fun _ z => z.elim)⟩)
    · have z3 : E = eST := by rw [z2, hc, ← exK_st]; rfl
      exact Or.inr (Or.inr (⟨z3, hc, hC.fr0 hx, hx.mono (fun _ z => z.elim)⟩))
theorem ck_relabel {G : GG} {l : Launch} {h : AH} {P : Nat → Prop} {xo n : Nat} {g : Nat → Nat} {sn : Option (Nat → Nat)} {hs : List (Nat → Nat)} {tx : List Nat} {ep fc : Nat} {ot : List Nat} {p : Int32} {q0 : Int32} (hl0 : l.stackTraces = false) (hC : CW G P h xo g sn hs tx (rP ep) (rP fc) ot) (hP : ∀ z, h z = none → P z) (hV : SVI n g sn hs tx ep fc ot)  : CtX G l yX1_relabel cX1_relabel 3 (some .int) 16 (901) (24004) [.ref xo, .int p, .int q0] h (fun r0 h2 => ∃ y : Int32, r0 = some (.int y) ∧ HOK G P h xo g sn hs tx ep fc ot 5 (upd (upd (fun _ => nI 0) 0 p) 1 q0) y h2) (fun E q h2 => (E = eEL ∧ SNO G P h xo g sn hs tx ep fc ot (cdK 5 g (upd (upd (fun _ => nI 0) 0 p) 1 q0)) 1 h2) ∨ (E = eIX ∧ SNO G P h xo g sn hs tx ep fc ot (cdK 5 g (upd (upd (fun _ => nI 0) 0 p) 1 q0)) 2 h2)) := by
  refine (ct_X1_relabel (n := n) hl0 hC hP hV.1.1 hV.2.2.2.1).mono (fun r0 h2 hp => ?_) (fun E q h2 hp => ?_)
  · obtain ⟨v, g2, rfl, z1, z2, z3, z4⟩ := hp
    exact ⟨v, rfl, z1, g2, z2, z3, z4⟩
  · obtain ⟨⟨z1, z2⟩, hx⟩ := hp
    have hle : cdK 5 g (upd (upd (fun _ => nI 0) 0 p) 1 q0) ≤ 2 := cdK_le (by decide)
    have hc : cdK 5 g (upd (upd (fun _ => nI 0) 0 p) 1 q0) = 1 ∨ cdK 5 g (upd (upd (fun _ => nI 0) 0 p) 1 q0) = 2 := by omega
    rcases hc with hc | hc
    · have z3 : E = eEL := by rw [z2, hc, ← exK_el]; rfl
      exact Or.inl ⟨z3, hc, hC.fr0 hx, hx.mono (fun _ z => z.elim)⟩
    · have z3 : E = eIX := by rw [z2, hc, ← exK_ix]; rfl
      exact Or.inr (⟨z3, hc, hC.fr0 hx, hx.mono (fun _ z => z.elim)⟩)
theorem ck_send {G : GG} {l : Launch} {h : AH} {P : Nat → Prop} {xo n : Nat} {g : Nat → Nat} {sn : Option (Nat → Nat)} {hs : List (Nat → Nat)} {tx : List Nat} {ep fc : Nat} {ot : List Nat} {p : Int32} (hl0 : l.stackTraces = false) (hC : CW G P h xo g sn hs tx (rP ep) (rP fc) ot) (hP : ∀ z, h z = none → P z) (hV : SVI n g sn hs tx ep fc ot)  : CtX G l yX1_send cX1_send 2 (some .int) 16 (901) (24004) [.ref xo, .int p] h (fun r0 h2 => ∃ y : Int32, r0 = some (.int y) ∧ HOK G P h xo g sn hs tx ep fc ot 6 (upd (fun _ => nI 0) 0 p) y h2) (fun E q h2 => (E = eEL ∧ SNO G P h xo g sn hs tx ep fc ot (cdK 6 g (upd (fun _ => nI 0) 0 p)) 1 h2) ∨ (E = eUO ∧ SNO G P h xo g sn hs tx ep fc ot (cdK 6 g (upd (fun _ => nI 0) 0 p)) 2 h2)) := by
  refine (ct_X1_send (n := n) hl0 hC hP hV.1.1 hV.2.2.2.1).mono (fun r0 h2 hp => ?_) (fun E q h2 hp => ?_)
  · obtain ⟨v, g2, rfl, z1, z2, z3, z4⟩ := hp
    exact ⟨v, rfl, z1, g2, z2, z3, z4⟩
  · obtain ⟨⟨z1, z2⟩, hx⟩ := hp
    have hle : cdK 6 g (upd (fun _ => nI 0) 0 p) ≤ 2 := cdK_le (by decide)
    have hc : cdK 6 g (upd (fun _ => nI 0) 0 p) = 1 ∨ cdK 6 g (upd (fun _ => nI 0) 0 p) = 2 := by omega
    rcases hc with hc | hc
    · have z3 : E = eEL := by rw [z2, hc, ← exK_el]; rfl
      exact Or.inl ⟨z3, hc, hC.fr0 hx, hx.mono (fun _ z => z.elim)⟩
    · have z3 : E = eUO := by rw [z2, hc, ← exK_ru]; rfl
      exact Or.inr (⟨z3, hc, hC.fr0 hx, hx.mono (fun _ z => z.elim)⟩)
theorem ck_collect {G : GG} {l : Launch} {h : AH} {P : Nat → Prop} {xo n : Nat} {g : Nat → Nat} {sn : Option (Nat → Nat)} {hs : List (Nat → Nat)} {tx : List Nat} {ep fc : Nat} {ot : List Nat} {p : Int32} (hl0 : l.stackTraces = false) (hC : CW G P h xo g sn hs tx (rP ep) (rP fc) ot) (hP : ∀ z, h z = none → P z) (hV : SVI n g sn hs tx ep fc ot)  : CtX G l yX1_collect cX1_collect 2 (some .int) 16 (901) (24004) [.ref xo, .int p] h (fun r0 h2 => ∃ y : Int32, r0 = some (.int y) ∧ HOK G P h xo g sn hs tx ep fc ot 7 (upd (fun _ => nI 0) 0 p) y h2) (fun E q h2 => (E = eEL ∧ SNO G P h xo g sn hs tx ep fc ot (cdK 7 g (upd (fun _ => nI 0) 0 p)) 1 h2) ∨ (E = eST ∧ SNO G P h xo g sn hs tx ep fc ot (cdK 7 g (upd (fun _ => nI 0) 0 p)) 2 h2)) := by
  refine (ct_X1_collect (n := n) hl0 hC hP hV.1.1 hV.2.2.2.1).mono (fun r0 h2 hp => ?_) (fun E q h2 hp => ?_)
  · obtain ⟨v, g2, rfl, z1, z2, z3, z4⟩ := hp
    exact ⟨v, rfl, z1, g2, z2, z3, z4⟩
  · obtain ⟨⟨z1, z2⟩, hx⟩ := hp
    have hle : cdK 7 g (upd (fun _ => nI 0) 0 p) ≤ 2 := cdK_le (by decide)
    have hc : cdK 7 g (upd (fun _ => nI 0) 0 p) = 1 ∨ cdK 7 g (upd (fun _ => nI 0) 0 p) = 2 := by omega
    rcases hc with hc | hc
    · have z3 : E = eEL := by rw [z2, hc, ← exK_el]; rfl
      exact Or.inl ⟨z3, hc, hC.fr0 hx, hx.mono (fun _ z => z.elim)⟩
    · have z3 : E = eST := by rw [z2, hc, ← exK_st]; rfl
      exact Or.inr (⟨z3, hc, hC.fr0 hx, hx.mono (fun _ z => z.elim)⟩)
theorem ck_book {G : GG} {l : Launch} {h : AH} {P : Nat → Prop} {xo n : Nat} {g : Nat → Nat} {sn : Option (Nat → Nat)} {hs : List (Nat → Nat)} {tx : List Nat} {ep fc : Nat} {ot : List Nat} {p : Int32} {q0 : Int32} {u : Int32} (hl0 : l.stackTraces = false) (hC : CW G P h xo g sn hs tx (rP ep) (rP fc) ot) (hP : ∀ z, h z = none → P z) (hV : SVI n g sn hs tx ep fc ot)  : CtX G l yX1_book cX1_book 4 (some .int) 16 (901) (24004) [.ref xo, .int p, .int q0, .int u] h (fun r0 h2 => ∃ y : Int32, r0 = some (.int y) ∧ HOK G P h xo g sn hs tx ep fc ot 8 (upd (upd (upd (fun _ => nI 0) 0 p) 1 q0) 2 u) y h2) (fun E q h2 => (E = eIX ∧ SNO G P h xo g sn hs tx ep fc ot (cdK 8 g (upd (upd (upd (fun _ => nI 0) 0 p) 1 q0) 2 u)) 1 h2) ∨ (E = eAR ∧ SNO G P h xo g sn hs tx ep fc ot (cdK 8 g (upd (upd (upd (fun _ => nI 0) 0 p) 1 q0) 2 u)) 2 h2) ∨ (E = eST ∧ SNO G P h xo g sn hs tx ep fc ot (cdK 8 g (upd (upd (upd (fun _ => nI 0) 0 p) 1 q0) 2 u)) 3 h2) ∨ (E = eUO ∧ SNO G P h xo g sn hs tx ep fc ot (cdK 8 g (upd (upd (upd (fun _ => nI 0) 0 p) 1 q0) 2 u)) 4 h2)) := by
  refine (ct_X1_book (n := n) hl0 hC hP hV.1.1 hV.2.2.2.1).mono (fun r0 h2 hp => ?_) (fun E q h2 hp => ?_)
  · obtain ⟨v, g2, rfl, z1, z2, z3, z4⟩ := hp
    exact ⟨v, rfl, z1, g2, z2, z3, z4⟩
  · obtain ⟨⟨z1, z2⟩, hx⟩ := hp
    have hle : cdK 8 g (upd (upd (upd (fun _ => nI 0) 0 p) 1 q0) 2 u) ≤ 4 := cdK_le (by decide)
    have hc : cdK 8 g (upd (upd (upd (fun _ => nI 0) 0 p) 1 q0) 2 u) = 1 ∨ cdK 8 g (upd (upd (upd (fun _ => nI 0) 0 p) 1 q0) 2 u) = 2 ∨ cdK 8 g (upd (upd (upd (fun _ => nI 0) 0 p) 1 q0) 2 u) = 3 ∨ cdK 8 g (upd (upd (upd (fun _ => nI 0) 0 p) 1 q0) 2 u) = 4 := by omega
    rcases hc with hc | hc | hc | hc
    · have z3 : E = eIX := by rw [z2, hc, ← exK_ix]; rfl
      exact Or.inl ⟨z3, hc, hC.fr0 hx, hx.mono (fun _ z => z.elim)⟩
    · have z3 : E = eAR := by rw [z2, hc, ← exK_ar]; rfl
      exact Or.inr (Or.inl ⟨z3, hc, hC.fr0 hx, hx.mono (fun _ z => z.elim)⟩)
    · have z3 : E = eST := by rw [z2, hc, ← exK_st]; rfl
      exact Or.inr (Or.inr (Or.inl ⟨z3, hc, hC.fr0 hx, hx.mono (fun _ z => z.elim)⟩))
    · have z3 : E = eUO := by rw [z2, hc, ← exK_ru]; rfl
      exact Or.inr (Or.inr (Or.inr (⟨z3, hc, hC.fr0 hx, hx.mono (fun _ z => z.elim)⟩)))
theorem ck_cancelBooking {G : GG} {l : Launch} {h : AH} {P : Nat → Prop} {xo n : Nat} {g : Nat → Nat} {sn : Option (Nat → Nat)} {hs : List (Nat → Nat)} {tx : List Nat} {ep fc : Nat} {ot : List Nat} {p : Int32} (hl0 : l.stackTraces = false) (hC : CW G P h xo g sn hs tx (rP ep) (rP fc) ot) (hP : ∀ z, h z = none → P z) (hV : SVI n g sn hs tx ep fc ot)  : CtX G l yX1_cancelBooking cX1_cancelBooking 2 (some .int) 16 (901) (24004) [.ref xo, .int p] h (fun r0 h2 => ∃ y : Int32, r0 = some (.int y) ∧ HOK G P h xo g sn hs tx ep fc ot 9 (upd (fun _ => nI 0) 0 p) y h2) (fun E q h2 => (E = eEL ∧ SNO G P h xo g sn hs tx ep fc ot (cdK 9 g (upd (fun _ => nI 0) 0 p)) 1 h2)) := by
  refine (ct_X1_cancelBooking (n := n) hl0 hC hP hV.1.1 hV.2.2.2.1).mono (fun r0 h2 hp => ?_) (fun E q h2 hp => ?_)
  · obtain ⟨v, g2, rfl, z1, z2, z3, z4⟩ := hp
    exact ⟨v, rfl, z1, g2, z2, z3, z4⟩
  · obtain ⟨⟨z1, z2⟩, hx⟩ := hp
    have hle : cdK 9 g (upd (fun _ => nI 0) 0 p) ≤ 1 := cdK_le (by decide)
    have hc : cdK 9 g (upd (fun _ => nI 0) 0 p) = 1 := by omega
    have z3 : E = eEL := by rw [z2, hc, ← exK_el]; rfl
    exact ⟨z3, hc, hC.fr0 hx, hx.mono (fun _ z => z.elim)⟩
