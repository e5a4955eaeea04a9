set_option maxRecDepth 100000
/-! ===== the parser's commands ===== -/
def itP (i : Nat) (l : List Nat) (a : Nat) : Nat ⊕ (Nat × Nat) := if i = 0 then dsP l a else if i = 1 then dg1P l a else nuP l a
def sqP (l : List Nat) : List Nat → Nat → Nat ⊕ (List Nat × Nat)
  | [], a => .inr ([], a)
  | i :: is, a => match itP i l a with
    | .inl e => .inl e
    | .inr (v, a1) => match sqP l is a1 with
      | .inl e => .inl e
      | .inr (vs, a2) => .inr (v :: vs, a2)
/-- what follows a word: 0 a digit behind a space, 1 a digit, 2 a number -/
def itemsK (k : Nat) : List Nat := [[2], [0, 2, 0], [0, 1, 2, 2], [0, 2], [0, 1, 2], [2, 0], [2], [2], [0, 0, 1], [2]].getD k []
def CMok (l : List Nat) (a k : Nat) (vs : List Nat) (a2 : Nat) : Prop := ∃ w a1, wdP l a = .inr (w, a1) ∧ k < 10 ∧ w = txl (wdS k) ∧ a + w.length ≤ a1 ∧ sqP l (itemsK k) a1 = .inr (vs, a2)
def CMno (l : List Nat) (a pos : Nat) : Prop := wdP l a = .inl pos ∨ ∃ w a1 k, wdP l a = .inr (w, a1) ∧ k < 10 ∧ w = txl (wdS k) ∧ sqP l (itemsK k) a1 = .inl pos
/-- a command at c, new since h -/
def CMD (G : GG) (h h2 : AH) (k : Nat) (vs : List Nat) (c : Nat) : Prop := ∃ wa ar f nA, h c = none ∧ h wa = none ∧ h ar = none ∧ h2 c = some (.inr (6, [.ref wa, .ref ar])) ∧ h2 ar = some (.inl (G.2.1 0, nA, .inl f)) ∧ arK k ≤ nA ∧ nA < 100 ∧ STH G h2 wa (txl (wdS k)) ∧ ∀ i, i < arK k → f i = nI (vs.getD i 0)
theorem dsP_ok {l : List Nat} {a v a2 : Nat} (h : dsP l a = .inr (v, a2)) : a + 2 = a2 := by
  unfold dsP at h
  cases q : tkP 32 l a with
  | inl e => rw [q] at h; cases h
  | inr a1 =>
    rw [q] at h
    have h1 := (dg1P_ok h).2.1
    unfold tkP at q
    split at q
    · injection q with q; omega
    · cases q
theorem nuL_le {l : List Nat} : ∀ k v a, a ≤ (nuL l k v a).2
  | 0, _, _ => Nat.le_refl _
  | k + 1, v, a => by
    show a ≤ (if _ then _ else _ : Nat × Nat).2
    split
    · have := nuL_le (l := l) k (10 * v + (curP l a - 48)) (a + 1); omega
    · exact Nat.le_refl _
theorem nuP_ok {l : List Nat} {a v a2 : Nat} (h : nuP l a = .inr (v, a2)) : a + 2 ≤ a2 := by
  unfold nuP at h
  cases q : dsP l a with
  | inl e => rw [q] at h; cases h
  | inr p =>
    obtain ⟨v1, a1⟩ := p
    rw [q] at h
    have h1 := dsP_ok q
    injection h with h
    have h2 := nuL_le (l := l) 3 v1 a1
    rw [h] at h2
    show a + 2 ≤ a2
    have h3 : a1 ≤ a2 := h2
    omega

theorem cmd_0 {G : GG} {X : CX} {h h1 : AH} {p tx a0 a1 o : Nat} {l0 : List Nat} (F : Fx G X cX17_command 15 yX17_command.cls (some (.object "SleeperRailway$Command")) 16 170 12500) (HT : ∀ p, ∀ x ∈ (xc X).exceptionTable.toList, covers x p = false) (hl0 : (xl X).stackTraces = false) (hp : h p = some (.inr (14, [.ref tx, .int (nI a0)]))) (hS : STR G h tx l0) (hwd : wdP l0 a0 = .inr (txl "station", a1)) (hwa : a0 + (txl "station").length ≤ a1) (ho0 : h o = none) (hSo : STR G h1 o (txl "station")) (hp1 : h1 p = some (.inr (14, [.ref tx, .int (nI a1)]))) (ha1 : a1 ≤ l0.length) (hG1 : Fr (m1 p) h h1) : VV G X 15 (EQX G X (170) (12500) (fun r h2 => ∃ k vs a2 c, CMok l0 a0 k vs a2 ∧ r = some (.ref c) ∧ CMD G h h2 k vs c ∧ h2 p = some (.inr (14, [.ref tx, .int (nI a2)])) ∧ a2 ≤ l0.length ∧ Fr (m1 p) h h2) (PF h p (fun pos => CMno l0 a0 pos))) h1 (0 + 120) (0 + 12000) [some (.ref (p)), none, none, none, none, none, none, none, none, none, none, none, none, none, none] [.ref o] 4 := by
  refine V_astore_n (i := 1) F dX17_command_4 rfl (Nat.le_of_ble_eq_true rfl) (Nat.le_of_ble_eq_true rfl) ?_
  refine V_aload_n (i := 1) F dX17_command_5 rfl rfl ?_
  refine V_astore_n (i := 2) F dX17_command_6 rfl (Nat.le_of_ble_eq_true rfl) (Nat.le_of_ble_eq_true rfl) ?_
  refine V_iconst (v := -1) F dX17_command_7 rfl ?_
  refine V_istore_n (i := 3) F dX17_command_8 rfl (Nat.le_of_ble_eq_true rfl) (Nat.le_of_ble_eq_true rfl) ?_
  refine V_aload_n (i := 2) F dX17_command_9 rfl rfl ?_
  refine V_callV (st := []) (nn := 0) F dX17_command_10 lk_X17_83 (ct_J6_hashCode hSo (by rw [hx_station]; decide) (by rw [tx_station]; decide)) hSo.isC rfl rfl (Nat.le_of_ble_eq_true rfl) (Nat.le_of_ble_eq_true rfl) (Nat.le_of_ble_eq_true rfl) (by omega) (by omega) ?_
  rintro _ hw ⟨rfl, hSow, hxw⟩
  have hpw := hxw.get hp1 (fun z => by obtain ⟨e, fs, q⟩ := z; rw [← e, hp1] at q; cases q) rfl
  have hGw : Fr (m1 p) h hw := hG1.cal hxw (fun z q => Or.inr (q.1 ▸ ho0))
  have hSw := hS.fr hGw (offK.m1 hp (kO_ne (by decide))) (fun v n c q _ e => ne_ao q hp e)
  refine V_lookup (tgt := 153) F dX17_command_13 (by decide) (off := 140) (by rw [hx_station]; decide +kernel) (by decide) ?_
  refine V_iload_n (i := 3) F dX17_command_153 rfl rfl ?_
  refine V_tableOut (tgt := 427) F dX17_command_154 (by decide) (by decide) ?_
  refine V_new F dX17_command_427 nw_X17_105 (by omega) (by omega) ?_
  intro c hfc hbc
  have hcw : hw c = none := (Fr.rf (M := m1 p) (h := hw)).none hfc
  refine V_dup F dX17_command_430 rfl ?_
  refine V_aload_n (i := 1) F dX17_command_431 rfl rfl ?_
  refine V_iconst (v := nI 1) F dX17_command_432 rfl ?_
  refine V_newaI F dX17_command_433 (by decide) (by omega) (by omega) ?_
  intro ar hfar hbar
  have p1 : (hset hw c (.inr (6, [.null, .null]))) p = some (.inr (14, [.ref (tx), .int (nI (a1))])) := ((hset_ne (ne_nw hpw hfc)).trans hpw)
  have p2 : (hset hw c (.inr (6, [.null, .null]))) c = some (.inr (6, [.null, .null])) := (hset_self (e := .inr (6, [.null, .null])))
  have harw : hw ar = none := ((Fr.rf (M := m1 p) (h := hw)).nw (x := .inr (6, [.null, .null])) hfc).none hfar
  refine V_dup F dX17_command_435 rfl ?_
  have hcw : hw c = none := (Fr.rf (M := m1 p) (h := hw)).none hfc
  refine V_iconst (v := nI 0) F dX17_command_436 rfl ?_
  refine V_aload_n (i := 0) F dX17_command_437 rfl rfl ?_
  have hp3 : ((hset (hset hw c (.inr (6, [.null, .null]))) ar (.inl (G.2.1 0, 1, .inl (fun _ => nI 0))))) p = some (.inr (14, [.ref (tx), .int (nI (a1))])) := ((hset_ne (ne_nw p1 hfar)).trans p1)
  have f3 : Fr (m1 p) hw ((hset (hset hw c (.inr (6, [.null, .null]))) ar (.inl (G.2.1 0, 1, .inl (fun _ => nI 0))))) := (((Fr.rf (M := m1 p) (h := hw)).nw (x := .inr (6, [.null, .null])) hfc).nw (x := .inl (G.2.1 0, 1, .inl (fun _ => nI 0))) hfar)
  have hG3 : Fr (m1 p) h ((hset (hset hw c (.inr (6, [.null, .null]))) ar (.inl (G.2.1 0, 1, .inl (fun _ => nI 0))))) := hGw.cal f3 (fun z q => Or.inl q)
  have hS3 := hSw.fr f3 (offK.m1 hpw (kO_ne (by decide))) (fun v n c q _ e => ne_ao q hpw e)
  have kc3 : ((hset (hset hw c (.inr (6, [.null, .null]))) ar (.inl (G.2.1 0, 1, .inl (fun _ => nI 0))))) c = some (.inr (6, [.null, .null])) := ((hset_ne (ne_nw p2 hfar)).trans p2)
  have kar3 : ((hset (hset hw c (.inr (6, [.null, .null]))) ar (.inl (G.2.1 0, 1, .inl (fun _ => nI 0))))) ar = some (.inl (G.2.1 0, 1, .inl (fun _ => nI 0))) := (hset_self (e := .inl (G.2.1 0, 1, .inl (fun _ => nI 0))))
  refine V_xcV (st := [.int (nI (0)), .ref (ar), .ref (ar), .ref (o), .ref (c), .ref (c)]) (nn := 0) F dX17_command_438 lk_X17_102 (ct_X17_number hl0 hp3 hS3 ha1) ⟨14, _, _, _, rfl, .inl hp3⟩ rfl rfl (Nat.le_of_ble_eq_true rfl) (Nat.le_of_ble_eq_true rfl) (Nat.le_of_ble_eq_true rfl) (by omega) (by omega) ?_ ?_
  · rintro _ h4 ⟨v4, a4, he4, rfl, hp4, ha4, hx4⟩
    have f4 : Fr (m1 p) hw h4 := f3.cal hx4 (fun z q => Or.inl q)
    have kc4 := hx4.get kc3 (fun e => ne_oo kc3 hp3 (by decide) e) rfl
    have kar4 := hx4.get kar3 (fun e => ne_ao kar3 hp3 e) rfl
    refine V_iastN F 0 dX17_command_441 rfl kar4 (by decide) (by decide) ?_
    have hp5 : ((hset h4 (ar) (.inl (G.2.1 0, 1, .inl ((upd (fun _ => nI 0) 0 ((nI (v4))))))))) p = some (.inr (14, [.ref (tx), .int (nI (a4))])) := ((hset_ne (ne_oa hp4 kar4)).trans hp4)
    have f5 : Fr (m1 p) hw ((hset h4 (ar) (.inl (G.2.1 0, 1, .inl ((upd (fun _ => nI 0) 0 ((nI (v4))))))))) := (f4.put (x := .inl (G.2.1 0, 1, .inl ((upd (fun _ => nI 0) 0 ((nI (v4))))))) kar4 ⟨rfl, rfl⟩ rfl (((Fr.rf (M := m1 p) (h := hw)).nw (x := .inr (6, [.null, .null])) hfc).yo hfar))
    have hG5 : Fr (m1 p) h ((hset h4 (ar) (.inl (G.2.1 0, 1, .inl ((upd (fun _ => nI 0) 0 ((nI (v4))))))))) := hGw.cal f5 (fun z q => Or.inl q)
    have hS5 := hSw.fr f5 (offK.m1 hpw (kO_ne (by decide))) (fun v n c q _ e => ne_ao q hpw e)
    have kc5 : ((hset h4 (ar) (.inl (G.2.1 0, 1, .inl ((upd (fun _ => nI 0) 0 ((nI (v4))))))))) c = some (.inr (6, [.null, .null])) := ((hset_ne (ne_oa kc4 kar4)).trans kc4)
    have kar5 : ((hset h4 (ar) (.inl (G.2.1 0, 1, .inl ((upd (fun _ => nI 0) 0 ((nI (v4))))))))) ar = some (.inl (G.2.1 0, 1, .inl ((upd (fun _ => nI 0) 0 ((nI (v4))))))) := (hset_self (e := .inl (G.2.1 0, 1, .inl ((upd (fun _ => nI 0) 0 ((nI (v4))))))))
    refine V_callI (st := [.ref (c)]) (nn := 2) F dX17_command_442 lk_X17_107 (ct_Co_init kc5) rfl rfl (Nat.le_of_ble_eq_true rfl) (Nat.le_of_ble_eq_true rfl) (Nat.le_of_ble_eq_true rfl) (by omega) (by omega) ?_
    rintro _ h6 ⟨rfl, hcz, hx6⟩
    have f6 : Fr (m1 p) hw h6 := f5.cal hx6 (Yo.m1 (Or.inr hcw))
    have hpz := hx6.get hp5 (fun e => ne_oo hp5 kc5 (by decide) e) rfl
    have harz := hx6.get kar5 (fun e => ne_ao kar5 kc5 e) rfl
    have hSoz := hSow.fr f6 (offK.m1 hpw (kO_ne (by decide))) (fun v n c q _ e => ne_ao q hpw e)
    have hsq : sqP l0 (itemsK 0) a1 = .inr ([v4], a4) := by simp [sqP, itP, itemsK, he4]
    exact VV.rx (V_aret F dX17_command_445 (Or.inl ⟨_, rfl⟩) (Or.inr ⟨_, rfl⟩) (by omega) (by omega) ⟨0, [v4], a4, c, ⟨_, _, hwd, by decide, rfl, hwa, hsq⟩, rfl, ⟨o, ar, _, 1, hGw.none hcw, ho0, hGw.none harw, hcz, harz, (by decide), (by decide), hSoz, (fun i hi => by have hi : i < 1 := hi; have h9 : i = 0 := (by omega); subst h9; rfl)⟩, hpz, ha4, hGw.cal f6 (fun z q => Or.inl q)⟩)
  · exact fun E q h2 hp9 => V_xout F (HT _) (by omega) (by omega) (PF.of hG3 hp9 (fun pos hR => Or.inr ⟨_, _, 0, hwd, by decide, rfl, by simp [sqP, itP, itemsK, hR]⟩))
theorem cmd_1 {G : GG} {X : CX} {h h1 : AH} {p tx a0 a1 o : Nat} {l0 : List Nat} (F : Fx G X cX17_command 15 yX17_command.cls (some (.object "SleeperRailway$Command")) 16 170 12500) (HT : ∀ p, ∀ x ∈ (xc X).exceptionTable.toList, covers x p = false) (hl0 : (xl X).stackTraces = false) (hp : h p = some (.inr (14, [.ref tx, .int (nI a0)]))) (hS : STR G h tx l0) (hwd : wdP l0 a0 = .inr (txl "train", a1)) (hwa : a0 + (txl "train").length ≤ a1) (ho0 : h o = none) (hSo : STR G h1 o (txl "train")) (hp1 : h1 p = some (.inr (14, [.ref tx, .int (nI a1)]))) (ha1 : a1 ≤ l0.length) (hG1 : Fr (m1 p) h h1) : VV G X 15 (EQX G X (170) (12500) (fun r h2 => ∃ k vs a2 c, CMok l0 a0 k vs a2 ∧ r = some (.ref c) ∧ CMD G h h2 k vs c ∧ h2 p = some (.inr (14, [.ref tx, .int (nI a2)])) ∧ a2 ≤ l0.length ∧ Fr (m1 p) h h2) (PF h p (fun pos => CMno l0 a0 pos))) h1 (0 + 120) (0 + 12000) [some (.ref (p)), none, none, none, none, none, none, none, none, none, none, none, none, none, none] [.ref o] 4 := by
  refine V_astore_n (i := 1) F dX17_command_4 rfl (Nat.le_of_ble_eq_true rfl) (Nat.le_of_ble_eq_true rfl) ?_
  refine V_aload_n (i := 1) F dX17_command_5 rfl rfl ?_
  refine V_astore_n (i := 2) F dX17_command_6 rfl (Nat.le_of_ble_eq_true rfl) (Nat.le_of_ble_eq_true rfl) ?_
  refine V_iconst (v := -1) F dX17_command_7 rfl ?_
  refine V_istore_n (i := 3) F dX17_command_8 rfl (Nat.le_of_ble_eq_true rfl) (Nat.le_of_ble_eq_true rfl) ?_
  refine V_aload_n (i := 2) F dX17_command_9 rfl rfl ?_
  refine V_callV (st := []) (nn := 0) F dX17_command_10 lk_X17_83 (ct_J6_hashCode hSo (by rw [hx_train]; decide) (by rw [tx_train]; decide)) hSo.isC rfl rfl (Nat.le_of_ble_eq_true rfl) (Nat.le_of_ble_eq_true rfl) (Nat.le_of_ble_eq_true rfl) (by omega) (by omega) ?_
  rintro _ hw ⟨rfl, hSow, hxw⟩
  have hpw := hxw.get hp1 (fun z => by obtain ⟨e, fs, q⟩ := z; rw [← e, hp1] at q; cases q) rfl
  have hGw : Fr (m1 p) h hw := hG1.cal hxw (fun z q => Or.inr (q.1 ▸ ho0))
  have hSw := hS.fr hGw (offK.m1 hp (kO_ne (by decide))) (fun v n c q _ e => ne_ao q hp e)
  refine V_lookup (tgt := 72) F dX17_command_13 (by decide) (off := 59) (by rw [hx_train]; decide +kernel) (by decide) ?_
  refine V_aload_n (i := 2) F dX17_command_72 rfl rfl ?_
  refine V_ldcS F dX17_command_73 q3588 ?_
  intro w1 hGw1
  refine V_callV (st := []) (nn := 1) F dX17_command_75 lk_X17_88 (ct_J6_equals hSow.str (hGw1.str (asc_of (by decide +kernel)) (by decide +kernel))) hSow.str.isC rfl rfl (Nat.le_of_ble_eq_true rfl) (Nat.le_of_ble_eq_true rfl) (Nat.le_of_ble_eq_true rfl) (by omega) (by omega) ?_
  refine PRk ?_
  refine V_if_eqN (tgt := 153) F dX17_command_78 (by decide) (by omega) (fun c_78 => absurd c_78 (by decide)) (fun c_78 => ?_)
  refine V_iconst (v := nI 0) F dX17_command_81 rfl ?_
  refine V_istore_n (i := 3) F dX17_command_82 rfl (Nat.le_of_ble_eq_true rfl) (Nat.le_of_ble_eq_true rfl) ?_
  refine V_goto (tgt := 153) F dX17_command_83 (by decide) ?_
  refine V_iload_n (i := 3) F dX17_command_153 rfl rfl ?_
  refine V_tableIn (tgt := 192) (off := 38) F dX17_command_154 (by decide) (by decide) (by decide +kernel) (by decide) ?_
  refine V_aload_n (i := 0) F dX17_command_192 rfl rfl ?_
  have hp2 : (hw) p = some (.inr (14, [.ref (tx), .int (nI (a1))])) := hpw
  have f2 : Fr (m1 p) hw (hw) := (Fr.rf (M := m1 p) (h := hw))
  have hG2 : Fr (m1 p) h (hw) := hGw.cal f2 (fun z q => Or.inl q)
  have hS2 := hSw.fr f2 (offK.m1 hpw (kO_ne (by decide))) (fun v n c q _ e => ne_ao q hpw e)
  refine V_xcV (st := []) (nn := 0) F dX17_command_193 lk_X17_51 (ct_X17_digitAfterSpace hl0 hp2 hS2 ha1) ⟨14, _, _, _, rfl, .inl hp2⟩ rfl rfl (Nat.le_of_ble_eq_true rfl) (Nat.le_of_ble_eq_true rfl) (Nat.le_of_ble_eq_true rfl) (by omega) (by omega) ?_ ?_
  · rintro _ h3 ⟨v3, a3, he3, rfl, hp3, ha3, hx3⟩
    have f3 : Fr (m1 p) hw h3 := f2.cal hx3 (fun z q => Or.inl q)
    refine V_istore (i := 4) F dX17_command_196 (Nat.le_of_ble_eq_true rfl) (Nat.le_of_ble_eq_true rfl) ?_
    refine V_aload_n (i := 0) F dX17_command_198 rfl rfl ?_
    have hp4 : (h3) p = some (.inr (14, [.ref (tx), .int (nI (a3))])) := hp3
    have f4 : Fr (m1 p) hw (h3) := f3
    have hG4 : Fr (m1 p) h (h3) := hGw.cal f4 (fun z q => Or.inl q)
    have hS4 := hSw.fr f4 (offK.m1 hpw (kO_ne (by decide))) (fun v n c q _ e => ne_ao q hpw e)
    refine V_xcV (st := []) (nn := 0) F dX17_command_199 lk_X17_102 (ct_X17_number hl0 hp4 hS4 ha3) ⟨14, _, _, _, rfl, .inl hp4⟩ rfl rfl (Nat.le_of_ble_eq_true rfl) (Nat.le_of_ble_eq_true rfl) (Nat.le_of_ble_eq_true rfl) (by omega) (by omega) ?_ ?_
    · rintro _ h5 ⟨v5, a5, he5, rfl, hp5, ha5, hx5⟩
      have f5 : Fr (m1 p) hw h5 := f4.cal hx5 (fun z q => Or.inl q)
      refine V_istore (i := 5) F dX17_command_202 (Nat.le_of_ble_eq_true rfl) (Nat.le_of_ble_eq_true rfl) ?_
      refine V_new F dX17_command_204 nw_X17_105 (by omega) (by omega) ?_
      intro c hfc hbc
      have hcw : hw c = none := f5.none hfc
      refine V_dup F dX17_command_207 rfl ?_
      refine V_aload_n (i := 1) F dX17_command_208 rfl rfl ?_
      refine V_iconst (v := nI 3) F dX17_command_209 rfl ?_
      refine V_newaI F dX17_command_210 (by decide) (by omega) (by omega) ?_
      intro ar hfar hbar
      have p6 : (hset h5 c (.inr (6, [.null, .null]))) p = some (.inr (14, [.ref (tx), .int (nI (a5))])) := ((hset_ne (ne_nw hp5 hfc)).trans hp5)
      have p7 : (hset h5 c (.inr (6, [.null, .null]))) c = some (.inr (6, [.null, .null])) := (hset_self (e := .inr (6, [.null, .null])))
      have harw : hw ar = none := (f5.nw (x := .inr (6, [.null, .null])) hfc).none hfar
      refine V_dup F dX17_command_212 rfl ?_
      have hcw : hw c = none := f5.none hfc
      refine V_iconst (v := nI 0) F dX17_command_213 rfl ?_
      refine V_iload (i := 4) F dX17_command_214 rfl ?_
      refine V_iastN F 0 dX17_command_216 rfl (hset_self (e := .inl (G.2.1 0, 3, .inl (fun _ => nI 0)))) (by decide) (by decide) ?_
      refine V_dup F dX17_command_217 rfl ?_
      refine V_iconst (v := nI 1) F dX17_command_218 rfl ?_
      refine V_iload (i := 5) F dX17_command_219 rfl ?_
      refine V_iastN F 0 dX17_command_221 rfl (hset_self (e := .inl (G.2.1 0, 3, .inl ((upd (fun _ => nI 0) 0 ((nI (v3)))))))) (by decide) (by decide) ?_
      refine V_dup F dX17_command_222 rfl ?_
      refine V_iconst (v := nI 2) F dX17_command_223 rfl ?_
      refine V_aload_n (i := 0) F dX17_command_224 rfl rfl ?_
      have hp8 : ((hset (hset (hset (hset h5 c (.inr (6, [.null, .null]))) ar (.inl (G.2.1 0, 3, .inl (fun _ => nI 0)))) (ar) (.inl (G.2.1 0, 3, .inl ((upd (fun _ => nI 0) 0 ((nI (v3)))))))) (ar) (.inl (G.2.1 0, 3, .inl ((upd ((upd (fun _ => nI 0) 0 ((nI (v3))))) 1 ((nI (v5))))))))) p = some (.inr (14, [.ref (tx), .int (nI (a5))])) := ((hset_ne (ne_nw p6 hfar)).trans ((hset_ne (ne_nw p6 hfar)).trans ((hset_ne (ne_nw p6 hfar)).trans p6)))
      have f8 : Fr (m1 p) hw ((hset (hset (hset (hset h5 c (.inr (6, [.null, .null]))) ar (.inl (G.2.1 0, 3, .inl (fun _ => nI 0)))) (ar) (.inl (G.2.1 0, 3, .inl ((upd (fun _ => nI 0) 0 ((nI (v3)))))))) (ar) (.inl (G.2.1 0, 3, .inl ((upd ((upd (fun _ => nI 0) 0 ((nI (v3))))) 1 ((nI (v5))))))))) := ((((f5.nw (x := .inr (6, [.null, .null])) hfc).nw (x := .inl (G.2.1 0, 3, .inl (fun _ => nI 0))) hfar).put (x := .inl (G.2.1 0, 3, .inl ((upd (fun _ => nI 0) 0 ((nI (v3))))))) (hset_self (e := .inl (G.2.1 0, 3, .inl (fun _ => nI 0)))) ⟨rfl, rfl⟩ rfl ((f5.nw (x := .inr (6, [.null, .null])) hfc).yo hfar)).put (x := .inl (G.2.1 0, 3, .inl ((upd ((upd (fun _ => nI 0) 0 ((nI (v3))))) 1 ((nI (v5))))))) (hset_self (e := .inl (G.2.1 0, 3, .inl ((upd (fun _ => nI 0) 0 ((nI (v3)))))))) ⟨rfl, rfl⟩ rfl ((f5.nw (x := .inr (6, [.null, .null])) hfc).yo hfar))
      have hG8 : Fr (m1 p) h ((hset (hset (hset (hset h5 c (.inr (6, [.null, .null]))) ar (.inl (G.2.1 0, 3, .inl (fun _ => nI 0)))) (ar) (.inl (G.2.1 0, 3, .inl ((upd (fun _ => nI 0) 0 ((nI (v3)))))))) (ar) (.inl (G.2.1 0, 3, .inl ((upd ((upd (fun _ => nI 0) 0 ((nI (v3))))) 1 ((nI (v5))))))))) := hGw.cal f8 (fun z q => Or.inl q)
      have hS8 := hSw.fr f8 (offK.m1 hpw (kO_ne (by decide))) (fun v n c q _ e => ne_ao q hpw e)
      have kc8 : ((hset (hset (hset (hset h5 c (.inr (6, [.null, .null]))) ar (.inl (G.2.1 0, 3, .inl (fun _ => nI 0)))) (ar) (.inl (G.2.1 0, 3, .inl ((upd (fun _ => nI 0) 0 ((nI (v3)))))))) (ar) (.inl (G.2.1 0, 3, .inl ((upd ((upd (fun _ => nI 0) 0 ((nI (v3))))) 1 ((nI (v5))))))))) c = some (.inr (6, [.null, .null])) := ((hset_ne (ne_nw p7 hfar)).trans ((hset_ne (ne_nw p7 hfar)).trans ((hset_ne (ne_nw p7 hfar)).trans p7)))
      have kar8 : ((hset (hset (hset (hset h5 c (.inr (6, [.null, .null]))) ar (.inl (G.2.1 0, 3, .inl (fun _ => nI 0)))) (ar) (.inl (G.2.1 0, 3, .inl ((upd (fun _ => nI 0) 0 ((nI (v3)))))))) (ar) (.inl (G.2.1 0, 3, .inl ((upd ((upd (fun _ => nI 0) 0 ((nI (v3))))) 1 ((nI (v5))))))))) ar = some (.inl (G.2.1 0, 3, .inl ((upd ((upd (fun _ => nI 0) 0 ((nI (v3))))) 1 ((nI (v5))))))) := (hset_self (e := .inl (G.2.1 0, 3, .inl ((upd ((upd (fun _ => nI 0) 0 ((nI (v3))))) 1 ((nI (v5))))))))
      refine V_xcV (st := [.int (nI (2)), .ref (ar), .ref (ar), .ref (o), .ref (c), .ref (c)]) (nn := 0) F dX17_command_225 lk_X17_51 (ct_X17_digitAfterSpace hl0 hp8 hS8 ha5) ⟨14, _, _, _, rfl, .inl hp8⟩ rfl rfl (Nat.le_of_ble_eq_true rfl) (Nat.le_of_ble_eq_true rfl) (Nat.le_of_ble_eq_true rfl) (by omega) (by omega) ?_ ?_
      · rintro _ h9 ⟨v9, a9, he9, rfl, hp9, ha9, hx9⟩
        have f9 : Fr (m1 p) hw h9 := f8.cal hx9 (fun z q => Or.inl q)
        have kc9 := hx9.get kc8 (fun e => ne_oo kc8 hp8 (by decide) e) rfl
        have kar9 := hx9.get kar8 (fun e => ne_ao kar8 hp8 e) rfl
        refine V_iastN F 0 dX17_command_228 rfl kar9 (by decide) (by decide) ?_
        have hp10 : ((hset h9 (ar) (.inl (G.2.1 0, 3, .inl ((upd ((upd ((upd (fun _ => nI 0) 0 ((nI (v3))))) 1 ((nI (v5))))) 2 ((nI (v9))))))))) p = some (.inr (14, [.ref (tx), .int (nI (a9))])) := ((hset_ne (ne_oa hp9 kar9)).trans hp9)
        have f10 : Fr (m1 p) hw ((hset h9 (ar) (.inl (G.2.1 0, 3, .inl ((upd ((upd ((upd (fun _ => nI 0) 0 ((nI (v3))))) 1 ((nI (v5))))) 2 ((nI (v9))))))))) := (f9.put (x := .inl (G.2.1 0, 3, .inl ((upd ((upd ((upd (fun _ => nI 0) 0 ((nI (v3))))) 1 ((nI (v5))))) 2 ((nI (v9))))))) kar9 ⟨rfl, rfl⟩ rfl ((f5.nw (x := .inr (6, [.null, .null])) hfc).yo hfar))
        have hG10 : Fr (m1 p) h ((hset h9 (ar) (.inl (G.2.1 0, 3, .inl ((upd ((upd ((upd (fun _ => nI 0) 0 ((nI (v3))))) 1 ((nI (v5))))) 2 ((nI (v9))))))))) := hGw.cal f10 (fun z q => Or.inl q)
        have hS10 := hSw.fr f10 (offK.m1 hpw (kO_ne (by decide))) (fun v n c q _ e => ne_ao q hpw e)
        have kc10 : ((hset h9 (ar) (.inl (G.2.1 0, 3, .inl ((upd ((upd ((upd (fun _ => nI 0) 0 ((nI (v3))))) 1 ((nI (v5))))) 2 ((nI (v9))))))))) c = some (.inr (6, [.null, .null])) := ((hset_ne (ne_oa kc9 kar9)).trans kc9)
        have kar10 : ((hset h9 (ar) (.inl (G.2.1 0, 3, .inl ((upd ((upd ((upd (fun _ => nI 0) 0 ((nI (v3))))) 1 ((nI (v5))))) 2 ((nI (v9))))))))) ar = some (.inl (G.2.1 0, 3, .inl ((upd ((upd ((upd (fun _ => nI 0) 0 ((nI (v3))))) 1 ((nI (v5))))) 2 ((nI (v9))))))) := (hset_self (e := .inl (G.2.1 0, 3, .inl ((upd ((upd ((upd (fun _ => nI 0) 0 ((nI (v3))))) 1 ((nI (v5))))) 2 ((nI (v9))))))))
        refine V_callI (st := [.ref (c)]) (nn := 2) F dX17_command_229 lk_X17_107 (ct_Co_init kc10) rfl rfl (Nat.le_of_ble_eq_true rfl) (Nat.le_of_ble_eq_true rfl) (Nat.le_of_ble_eq_true rfl) (by omega) (by omega) ?_
        rintro _ h11 ⟨rfl, hcz, hx11⟩
        have f11 : Fr (m1 p) hw h11 := f10.cal hx11 (Yo.m1 (Or.inr hcw))
        have hpz := hx11.get hp10 (fun e => ne_oo hp10 kc10 (by decide) e) rfl
        have harz := hx11.get kar10 (fun e => ne_ao kar10 kc10 e) rfl
        have hSoz := hSow.fr f11 (offK.m1 hpw (kO_ne (by decide))) (fun v n c q _ e => ne_ao q hpw e)
        have hsq : sqP l0 (itemsK 1) a1 = .inr ([v3, v5, v9], a9) := by simp [sqP, itP, itemsK, he3, he5, he9]
        exact VV.rx (V_aret F dX17_command_232 (Or.inl ⟨_, rfl⟩) (Or.inr ⟨_, rfl⟩) (by omega) (by omega) ⟨1, [v3, v5, v9], a9, c, ⟨_, _, hwd, by decide, rfl, hwa, hsq⟩, rfl, ⟨o, ar, _, 3, hGw.none hcw, ho0, hGw.none harw, hcz, harz, (by decide), (by decide), hSoz, (fun i hi => by have hi : i < 3 := hi; have h9 : i = 0 ∨ i = 1 ∨ i = 2 := (by omega); rcases h9 with rfl | rfl | rfl <;> rfl)⟩, hpz, ha9, hGw.cal f11 (fun z q => Or.inl q)⟩)
      · exact fun E q h2 hp9 => V_xout F (HT _) (by omega) (by omega) (PF.of hG8 hp9 (fun pos hR => Or.inr ⟨_, _, 1, hwd, by decide, rfl, by simp [sqP, itP, itemsK, he3, he5, hR]⟩))
    · exact fun E q h2 hp9 => V_xout F (HT _) (by omega) (by omega) (PF.of hG4 hp9 (fun pos hR => Or.inr ⟨_, _, 1, hwd, by decide, rfl, by simp [sqP, itP, itemsK, he3, hR]⟩))
  · exact fun E q h2 hp9 => V_xout F (HT _) (by omega) (by omega) (PF.of hG2 hp9 (fun pos hR => Or.inr ⟨_, _, 1, hwd, by decide, rfl, by simp [sqP, itP, itemsK, hR]⟩))
theorem cmd_2 {G : GG} {X : CX} {h h1 : AH} {p tx a0 a1 o : Nat} {l0 : List Nat} (F : Fx G X cX17_command 15 yX17_command.cls (some (.object "SleeperRailway$Command")) 16 170 12500) (HT : ∀ p, ∀ x ∈ (xc X).exceptionTable.toList, covers x p = false) (hl0 : (xl X).stackTraces = false) (hp : h p = some (.inr (14, [.ref tx, .int (nI a0)]))) (hS : STR G h tx l0) (hwd : wdP l0 a0 = .inr (txl "stop", a1)) (hwa : a0 + (txl "stop").length ≤ a1) (ho0 : h o = none) (hSo : STR G h1 o (txl "stop")) (hp1 : h1 p = some (.inr (14, [.ref tx, .int (nI a1)]))) (ha1 : a1 ≤ l0.length) (hG1 : Fr (m1 p) h h1) : VV G X 15 (EQX G X (170) (12500) (fun r h2 => ∃ k vs a2 c, CMok l0 a0 k vs a2 ∧ r = some (.ref c) ∧ CMD G h h2 k vs c ∧ h2 p = some (.inr (14, [.ref tx, .int (nI a2)])) ∧ a2 ≤ l0.length ∧ Fr (m1 p) h h2) (PF h p (fun pos => CMno l0 a0 pos))) h1 (0 + 120) (0 + 12000) [some (.ref (p)), none, none, none, none, none, none, none, none, none, none, none, none, none, none] [.ref o] 4 := by
  refine V_astore_n (i := 1) F dX17_command_4 rfl (Nat.le_of_ble_eq_true rfl) (Nat.le_of_ble_eq_true rfl) ?_
  refine V_aload_n (i := 1) F dX17_command_5 rfl rfl ?_
  refine V_astore_n (i := 2) F dX17_command_6 rfl (Nat.le_of_ble_eq_true rfl) (Nat.le_of_ble_eq_true rfl) ?_
  refine V_iconst (v := -1) F dX17_command_7 rfl ?_
  refine V_istore_n (i := 3) F dX17_command_8 rfl (Nat.le_of_ble_eq_true rfl) (Nat.le_of_ble_eq_true rfl) ?_
  refine V_aload_n (i := 2) F dX17_command_9 rfl rfl ?_
  refine V_callV (st := []) (nn := 0) F dX17_command_10 lk_X17_83 (ct_J6_hashCode hSo (by rw [hx_stop]; decide) (by rw [tx_stop]; decide)) hSo.isC rfl rfl (Nat.le_of_ble_eq_true rfl) (Nat.le_of_ble_eq_true rfl) (Nat.le_of_ble_eq_true rfl) (by omega) (by omega) ?_
  rintro _ hw ⟨rfl, hSow, hxw⟩
  have hpw := hxw.get hp1 (fun z => by obtain ⟨e, fs, q⟩ := z; rw [← e, hp1] at q; cases q) rfl
  have hGw : Fr (m1 p) h hw := hG1.cal hxw (fun z q => Or.inr (q.1 ▸ ho0))
  have hSw := hS.fr hGw (offK.m1 hp (kO_ne (by decide))) (fun v n c q _ e => ne_ao q hp e)
  refine V_lookup (tgt := 86) F dX17_command_13 (by decide) (off := 73) (by rw [hx_stop]; decide +kernel) (by decide) ?_
  refine V_aload_n (i := 2) F dX17_command_86 rfl rfl ?_
  refine V_ldcS F dX17_command_87 q3590 ?_
  intro w1 hGw1
  refine V_callV (st := []) (nn := 1) F dX17_command_89 lk_X17_88 (ct_J6_equals hSow.str (hGw1.str (asc_of (by decide +kernel)) (by decide +kernel))) hSow.str.isC rfl rfl (Nat.le_of_ble_eq_true rfl) (Nat.le_of_ble_eq_true rfl) (Nat.le_of_ble_eq_true rfl) (by omega) (by omega) ?_
  refine PRk ?_
  refine V_if_eqN (tgt := 153) F dX17_command_92 (by decide) (by omega) (fun c_92 => absurd c_92 (by decide)) (fun c_92 => ?_)
  refine V_iconst (v := nI 1) F dX17_command_95 rfl ?_
  refine V_istore_n (i := 3) F dX17_command_96 rfl (Nat.le_of_ble_eq_true rfl) (Nat.le_of_ble_eq_true rfl) ?_
  refine V_goto (tgt := 153) F dX17_command_97 (by decide) ?_
  refine V_iload_n (i := 3) F dX17_command_153 rfl rfl ?_
  refine V_tableIn (tgt := 233) (off := 79) F dX17_command_154 (by decide) (by decide) (by decide +kernel) (by decide) ?_
  refine V_aload_n (i := 0) F dX17_command_233 rfl rfl ?_
  have hp2 : (hw) p = some (.inr (14, [.ref (tx), .int (nI (a1))])) := hpw
  have f2 : Fr (m1 p) hw (hw) := (Fr.rf (M := m1 p) (h := hw))
  have hG2 : Fr (m1 p) h (hw) := hGw.cal f2 (fun z q => Or.inl q)
  have hS2 := hSw.fr f2 (offK.m1 hpw (kO_ne (by decide))) (fun v n c q _ e => ne_ao q hpw e)
  refine V_xcV (st := []) (nn := 0) F dX17_command_234 lk_X17_51 (ct_X17_digitAfterSpace hl0 hp2 hS2 ha1) ⟨14, _, _, _, rfl, .inl hp2⟩ rfl rfl (Nat.le_of_ble_eq_true rfl) (Nat.le_of_ble_eq_true rfl) (Nat.le_of_ble_eq_true rfl) (by omega) (by omega) ?_ ?_
  · rintro _ h3 ⟨v3, a3, he3, rfl, hp3, ha3, hx3⟩
    have f3 : Fr (m1 p) hw h3 := f2.cal hx3 (fun z q => Or.inl q)
    refine V_istore (i := 6) F dX17_command_237 (Nat.le_of_ble_eq_true rfl) (Nat.le_of_ble_eq_true rfl) ?_
    refine V_aload_n (i := 0) F dX17_command_239 rfl rfl ?_
    have hp4 : (h3) p = some (.inr (14, [.ref (tx), .int (nI (a3))])) := hp3
    have f4 : Fr (m1 p) hw (h3) := f3
    have hG4 : Fr (m1 p) h (h3) := hGw.cal f4 (fun z q => Or.inl q)
    have hS4 := hSw.fr f4 (offK.m1 hpw (kO_ne (by decide))) (fun v n c q _ e => ne_ao q hpw e)
    refine V_xcV (st := []) (nn := 0) F dX17_command_240 lk_X17_48 (ct_X17_digit hl0 hp4 hS4 ha3) ⟨14, _, _, _, rfl, .inl hp4⟩ rfl rfl (Nat.le_of_ble_eq_true rfl) (Nat.le_of_ble_eq_true rfl) (Nat.le_of_ble_eq_true rfl) (by omega) (by omega) ?_ ?_
    · rintro _ h5 ⟨v5, a5, he5, rfl, hp5, ha5, hx5⟩
      have f5 : Fr (m1 p) hw h5 := f4.cal hx5 (fun z q => Or.inl q)
      refine V_istore (i := 7) F dX17_command_243 (Nat.le_of_ble_eq_true rfl) (Nat.le_of_ble_eq_true rfl) ?_
      refine V_aload_n (i := 0) F dX17_command_245 rfl rfl ?_
      have hp6 : (h5) p = some (.inr (14, [.ref (tx), .int (nI (a5))])) := hp5
      have f6 : Fr (m1 p) hw (h5) := f5
      have hG6 : Fr (m1 p) h (h5) := hGw.cal f6 (fun z q => Or.inl q)
      have hS6 := hSw.fr f6 (offK.m1 hpw (kO_ne (by decide))) (fun v n c q _ e => ne_ao q hpw e)
      refine V_xcV (st := []) (nn := 0) F dX17_command_246 lk_X17_102 (ct_X17_number hl0 hp6 hS6 ha5) ⟨14, _, _, _, rfl, .inl hp6⟩ rfl rfl (Nat.le_of_ble_eq_true rfl) (Nat.le_of_ble_eq_true rfl) (Nat.le_of_ble_eq_true rfl) (by omega) (by omega) ?_ ?_
      · rintro _ h7 ⟨v7, a7, he7, rfl, hp7, ha7, hx7⟩
        have f7 : Fr (m1 p) hw h7 := f6.cal hx7 (fun z q => Or.inl q)
        refine V_istore (i := 8) F dX17_command_249 (Nat.le_of_ble_eq_true rfl) (Nat.le_of_ble_eq_true rfl) ?_
        refine V_new F dX17_command_251 nw_X17_105 (by omega) (by omega) ?_
        intro c hfc hbc
        have hcw : hw c = none := f7.none hfc
        refine V_dup F dX17_command_254 rfl ?_
        refine V_aload_n (i := 1) F dX17_command_255 rfl rfl ?_
        refine V_iconst (v := nI 4) F dX17_command_256 rfl ?_
        refine V_newaI F dX17_command_257 (by decide) (by omega) (by omega) ?_
        intro ar hfar hbar
        have p8 : (hset h7 c (.inr (6, [.null, .null]))) p = some (.inr (14, [.ref (tx), .int (nI (a7))])) := ((hset_ne (ne_nw hp7 hfc)).trans hp7)
        have p9 : (hset h7 c (.inr (6, [.null, .null]))) c = some (.inr (6, [.null, .null])) := (hset_self (e := .inr (6, [.null, .null])))
        have harw : hw ar = none := (f7.nw (x := .inr (6, [.null, .null])) hfc).none hfar
        refine V_dup F dX17_command_259 rfl ?_
        have hcw : hw c = none := f7.none hfc
        refine V_iconst (v := nI 0) F dX17_command_260 rfl ?_
        refine V_iload (i := 6) F dX17_command_261 rfl ?_
        refine V_iastN F 0 dX17_command_263 rfl (hset_self (e := .inl (G.2.1 0, 4, .inl (fun _ => nI 0)))) (by decide) (by decide) ?_
        refine V_dup F dX17_command_264 rfl ?_
        refine V_iconst (v := nI 1) F dX17_command_265 rfl ?_
        refine V_iload (i := 7) F dX17_command_266 rfl ?_
        refine V_iastN F 0 dX17_command_268 rfl (hset_self (e := .inl (G.2.1 0, 4, .inl ((upd (fun _ => nI 0) 0 ((nI (v3)))))))) (by decide) (by decide) ?_
        refine V_dup F dX17_command_269 rfl ?_
        refine V_iconst (v := nI 2) F dX17_command_270 rfl ?_
        refine V_iload (i := 8) F dX17_command_271 rfl ?_
        refine V_iastN F 0 dX17_command_273 rfl (hset_self (e := .inl (G.2.1 0, 4, .inl ((upd ((upd (fun _ => nI 0) 0 ((nI (v3))))) 1 ((nI (v5)))))))) (by decide) (by decide) ?_
        refine V_dup F dX17_command_274 rfl ?_
        refine V_iconst (v := nI 3) F dX17_command_275 rfl ?_
        refine V_aload_n (i := 0) F dX17_command_276 rfl rfl ?_
        have hp10 : ((hset (hset (hset (hset (hset h7 c (.inr (6, [.null, .null]))) ar (.inl (G.2.1 0, 4, .inl (fun _ => nI 0)))) (ar) (.inl (G.2.1 0, 4, .inl ((upd (fun _ => nI 0) 0 ((nI (v3)))))))) (ar) (.inl (G.2.1 0, 4, .inl ((upd ((upd (fun _ => nI 0) 0 ((nI (v3))))) 1 ((nI (v5)))))))) (ar) (.inl (G.2.1 0, 4, .inl ((upd ((upd ((upd (fun _ => nI 0) 0 ((nI (v3))))) 1 ((nI (v5))))) 2 ((nI (v7))))))))) p = some (.inr (14, [.ref (tx), .int (nI (a7))])) := ((hset_ne (ne_nw p8 hfar)).trans ((hset_ne (ne_nw p8 hfar)).trans ((hset_ne (ne_nw p8 hfar)).trans ((hset_ne (ne_nw p8 hfar)).trans p8))))
        have f10 : Fr (m1 p) hw ((hset (hset (hset (hset (hset h7 c (.inr (6, [.null, .null]))) ar (.inl (G.2.1 0, 4, .inl (fun _ => nI 0)))) (ar) (.inl (G.2.1 0, 4, .inl ((upd (fun _ => nI 0) 0 ((nI (v3)))))))) (ar) (.inl (G.2.1 0, 4, .inl ((upd ((upd (fun _ => nI 0) 0 ((nI (v3))))) 1 ((nI (v5)))))))) (ar) (.inl (G.2.1 0, 4, .inl ((upd ((upd ((upd (fun _ => nI 0) 0 ((nI (v3))))) 1 ((nI (v5))))) 2 ((nI (v7))))))))) := (((((f7.nw (x := .inr (6, [.null, .null])) hfc).nw (x := .inl (G.2.1 0, 4, .inl (fun _ => nI 0))) hfar).put (x := .inl (G.2.1 0, 4, .inl ((upd (fun _ => nI 0) 0 ((nI (v3))))))) (hset_self (e := .inl (G.2.1 0, 4, .inl (fun _ => nI 0)))) ⟨rfl, rfl⟩ rfl ((f7.nw (x := .inr (6, [.null, .null])) hfc).yo hfar)).put (x := .inl (G.2.1 0, 4, .inl ((upd ((upd (fun _ => nI 0) 0 ((nI (v3))))) 1 ((nI (v5))))))) (hset_self (e := .inl (G.2.1 0, 4, .inl ((upd (fun _ => nI 0) 0 ((nI (v3)))))))) ⟨rfl, rfl⟩ rfl ((f7.nw (x := .inr (6, [.null, .null])) hfc).yo hfar)).put (x := .inl (G.2.1 0, 4, .inl ((upd ((upd ((upd (fun _ => nI 0) 0 ((nI (v3))))) 1 ((nI (v5))))) 2 ((nI (v7))))))) (hset_self (e := .inl (G.2.1 0, 4, .inl ((upd ((upd (fun _ => nI 0) 0 ((nI (v3))))) 1 ((nI (v5)))))))) ⟨rfl, rfl⟩ rfl ((f7.nw (x := .inr (6, [.null, .null])) hfc).yo hfar))
        have hG10 : Fr (m1 p) h ((hset (hset (hset (hset (hset h7 c (.inr (6, [.null, .null]))) ar (.inl (G.2.1 0, 4, .inl (fun _ => nI 0)))) (ar) (.inl (G.2.1 0, 4, .inl ((upd (fun _ => nI 0) 0 ((nI (v3)))))))) (ar) (.inl (G.2.1 0, 4, .inl ((upd ((upd (fun _ => nI 0) 0 ((nI (v3))))) 1 ((nI (v5)))))))) (ar) (.inl (G.2.1 0, 4, .inl ((upd ((upd ((upd (fun _ => nI 0) 0 ((nI (v3))))) 1 ((nI (v5))))) 2 ((nI (v7))))))))) := hGw.cal f10 (fun z q => Or.inl q)
        have hS10 := hSw.fr f10 (offK.m1 hpw (kO_ne (by decide))) (fun v n c q _ e => ne_ao q hpw e)
        have kc10 : ((hset (hset (hset (hset (hset h7 c (.inr (6, [.null, .null]))) ar (.inl (G.2.1 0, 4, .inl (fun _ => nI 0)))) (ar) (.inl (G.2.1 0, 4, .inl ((upd (fun _ => nI 0) 0 ((nI (v3)))))))) (ar) (.inl (G.2.1 0, 4, .inl ((upd ((upd (fun _ => nI 0) 0 ((nI (v3))))) 1 ((nI (v5)))))))) (ar) (.inl (G.2.1 0, 4, .inl ((upd ((upd ((upd (fun _ => nI 0) 0 ((nI (v3))))) 1 ((nI (v5))))) 2 ((nI (v7))))))))) c = some (.inr (6, [.null, .null])) := ((hset_ne (ne_nw p9 hfar)).trans ((hset_ne (ne_nw p9 hfar)).trans ((hset_ne (ne_nw p9 hfar)).trans ((hset_ne (ne_nw p9 hfar)).trans p9))))
        have kar10 : ((hset (hset (hset (hset (hset h7 c (.inr (6, [.null, .null]))) ar (.inl (G.2.1 0, 4, .inl (fun _ => nI 0)))) (ar) (.inl (G.2.1 0, 4, .inl ((upd (fun _ => nI 0) 0 ((nI (v3)))))))) (ar) (.inl (G.2.1 0, 4, .inl ((upd ((upd (fun _ => nI 0) 0 ((nI (v3))))) 1 ((nI (v5)))))))) (ar) (.inl (G.2.1 0, 4, .inl ((upd ((upd ((upd (fun _ => nI 0) 0 ((nI (v3))))) 1 ((nI (v5))))) 2 ((nI (v7))))))))) ar = some (.inl (G.2.1 0, 4, .inl ((upd ((upd ((upd (fun _ => nI 0) 0 ((nI (v3))))) 1 ((nI (v5))))) 2 ((nI (v7))))))) := (hset_self (e := .inl (G.2.1 0, 4, .inl ((upd ((upd ((upd (fun _ => nI 0) 0 ((nI (v3))))) 1 ((nI (v5))))) 2 ((nI (v7))))))))
        refine V_xcV (st := [.int (nI (3)), .ref (ar), .ref (ar), .ref (o), .ref (c), .ref (c)]) (nn := 0) F dX17_command_277 lk_X17_102 (ct_X17_number hl0 hp10 hS10 ha7) ⟨14, _, _, _, rfl, .inl hp10⟩ rfl rfl (Nat.le_of_ble_eq_true rfl) (Nat.le_of_ble_eq_true rfl) (Nat.le_of_ble_eq_true rfl) (by omega) (by omega) ?_ ?_
        · rintro _ h11 ⟨v11, a11, he11, rfl, hp11, ha11, hx11⟩
          have f11 : Fr (m1 p) hw h11 := f10.cal hx11 (fun z q => Or.inl q)
          have kc11 := hx11.get kc10 (fun e => ne_oo kc10 hp10 (by decide) e) rfl
          have kar11 := hx11.get kar10 (fun e => ne_ao kar10 hp10 e) rfl
          refine V_iastN F 0 dX17_command_280 rfl kar11 (by decide) (by decide) ?_
          have hp12 : ((hset h11 (ar) (.inl (G.2.1 0, 4, .inl ((upd ((upd ((upd ((upd (fun _ => nI 0) 0 ((nI (v3))))) 1 ((nI (v5))))) 2 ((nI (v7))))) 3 ((nI (v11))))))))) p = some (.inr (14, [.ref (tx), .int (nI (a11))])) := ((hset_ne (ne_oa hp11 kar11)).trans hp11)
          have f12 : Fr (m1 p) hw ((hset h11 (ar) (.inl (G.2.1 0, 4, .inl ((upd ((upd ((upd ((upd (fun _ => nI 0) 0 ((nI (v3))))) 1 ((nI (v5))))) 2 ((nI (v7))))) 3 ((nI (v11))))))))) := (f11.put (x := .inl (G.2.1 0, 4, .inl ((upd ((upd ((upd ((upd (fun _ => nI 0) 0 ((nI (v3))))) 1 ((nI (v5))))) 2 ((nI (v7))))) 3 ((nI (v11))))))) kar11 ⟨rfl, rfl⟩ rfl ((f7.nw (x := .inr (6, [.null, .null])) hfc).yo hfar))
          have hG12 : Fr (m1 p) h ((hset h11 (ar) (.inl (G.2.1 0, 4, .inl ((upd ((upd ((upd ((upd (fun _ => nI 0) 0 ((nI (v3))))) 1 ((nI (v5))))) 2 ((nI (v7))))) 3 ((nI (v11))))))))) := hGw.cal f12 (fun z q => Or.inl q)
          have hS12 := hSw.fr f12 (offK.m1 hpw (kO_ne (by decide))) (fun v n c q _ e => ne_ao q hpw e)
          have kc12 : ((hset h11 (ar) (.inl (G.2.1 0, 4, .inl ((upd ((upd ((upd ((upd (fun _ => nI 0) 0 ((nI (v3))))) 1 ((nI (v5))))) 2 ((nI (v7))))) 3 ((nI (v11))))))))) c = some (.inr (6, [.null, .null])) := ((hset_ne (ne_oa kc11 kar11)).trans kc11)
          have kar12 : ((hset h11 (ar) (.inl (G.2.1 0, 4, .inl ((upd ((upd ((upd ((upd (fun _ => nI 0) 0 ((nI (v3))))) 1 ((nI (v5))))) 2 ((nI (v7))))) 3 ((nI (v11))))))))) ar = some (.inl (G.2.1 0, 4, .inl ((upd ((upd ((upd ((upd (fun _ => nI 0) 0 ((nI (v3))))) 1 ((nI (v5))))) 2 ((nI (v7))))) 3 ((nI (v11))))))) := (hset_self (e := .inl (G.2.1 0, 4, .inl ((upd ((upd ((upd ((upd (fun _ => nI 0) 0 ((nI (v3))))) 1 ((nI (v5))))) 2 ((nI (v7))))) 3 ((nI (v11))))))))
          refine V_callI (st := [.ref (c)]) (nn := 2) F dX17_command_281 lk_X17_107 (ct_Co_init kc12) rfl rfl (Nat.le_of_ble_eq_true rfl) (Nat.le_of_ble_eq_true rfl) (Nat.le_of_ble_eq_true rfl) (by omega) (by omega) ?_
          rintro _ h13 ⟨rfl, hcz, hx13⟩
          have f13 : Fr (m1 p) hw h13 := f12.cal hx13 (Yo.m1 (Or.inr hcw))
          have hpz := hx13.get hp12 (fun e => ne_oo hp12 kc12 (by decide) e) rfl
          have harz := hx13.get kar12 (fun e => ne_ao kar12 kc12 e) rfl
          have hSoz := hSow.fr f13 (offK.m1 hpw (kO_ne (by decide))) (fun v n c q _ e => ne_ao q hpw e)
          have hsq : sqP l0 (itemsK 2) a1 = .inr ([v3, v5, v7, v11], a11) := by simp [sqP, itP, itemsK, he3, he5, he7, he11]
          exact VV.rx (V_aret F dX17_command_284 (Or.inl ⟨_, rfl⟩) (Or.inr ⟨_, rfl⟩) (by omega) (by omega) ⟨2, [v3, v5, v7, v11], a11, c, ⟨_, _, hwd, by decide, rfl, hwa, hsq⟩, rfl, ⟨o, ar, _, 4, hGw.none hcw, ho0, hGw.none harw, hcz, harz, (by decide), (by decide), hSoz, (fun i hi => by have hi : i < 4 := hi; have h9 : i = 0 ∨ i = 1 ∨ i = 2 ∨ i = 3 := (by omega); rcases h9 with rfl | rfl | rfl | rfl <;> rfl)⟩, hpz, ha11, hGw.cal f13 (fun z q => Or.inl q)⟩)
        · exact fun E q h2 hp9 => V_xout F (HT _) (by omega) (by omega) (PF.of hG10 hp9 (fun pos hR => Or.inr ⟨_, _, 2, hwd, by decide, rfl, by simp [sqP, itP, itemsK, he3, he5, he7, hR]⟩))
      · exact fun E q h2 hp9 => V_xout F (HT _) (by omega) (by omega) (PF.of hG6 hp9 (fun pos hR => Or.inr ⟨_, _, 2, hwd, by decide, rfl, by simp [sqP, itP, itemsK, he3, he5, hR]⟩))
    · exact fun E q h2 hp9 => V_xout F (HT _) (by omega) (by omega) (PF.of hG4 hp9 (fun pos hR => Or.inr ⟨_, _, 2, hwd, by decide, rfl, by simp [sqP, itP, itemsK, he3, hR]⟩))
  · exact fun E q h2 hp9 => V_xout F (HT _) (by omega) (by omega) (PF.of hG2 hp9 (fun pos hR => Or.inr ⟨_, _, 2, hwd, by decide, rfl, by simp [sqP, itP, itemsK, hR]⟩))
theorem cmd_3 {G : GG} {X : CX} {h h1 : AH} {p tx a0 a1 o : Nat} {l0 : List Nat} (F : Fx G X cX17_command 15 yX17_command.cls (some (.object "SleeperRailway$Command")) 16 170 12500) (HT : ∀ p, ∀ x ∈ (xc X).exceptionTable.toList, covers x p = false) (hl0 : (xl X).stackTraces = false) (hp : h p = some (.inr (14, [.ref tx, .int (nI a0)]))) (hS : STR G h tx l0) (hwd : wdP l0 a0 = .inr (txl "late", a1)) (hwa : a0 + (txl "late").length ≤ a1) (ho0 : h o = none) (hSo : STR G h1 o (txl "late")) (hp1 : h1 p = some (.inr (14, [.ref tx, .int (nI a1)]))) (ha1 : a1 ≤ l0.length) (hG1 : Fr (m1 p) h h1) : VV G X 15 (EQX G X (170) (12500) (fun r h2 => ∃ k vs a2 c, CMok l0 a0 k vs a2 ∧ r = some (.ref c) ∧ CMD G h h2 k vs c ∧ h2 p = some (.inr (14, [.ref tx, .int (nI a2)])) ∧ a2 ≤ l0.length ∧ Fr (m1 p) h h2) (PF h p (fun pos => CMno l0 a0 pos))) h1 (0 + 120) (0 + 12000) [some (.ref (p)), none, none, none, none, none, none, none, none, none, none, none, none, none, none] [.ref o] 4 := by
  refine V_astore_n (i := 1) F dX17_command_4 rfl (Nat.le_of_ble_eq_true rfl) (Nat.le_of_ble_eq_true rfl) ?_
  refine V_aload_n (i := 1) F dX17_command_5 rfl rfl ?_
  refine V_astore_n (i := 2) F dX17_command_6 rfl (Nat.le_of_ble_eq_true rfl) (Nat.le_of_ble_eq_true rfl) ?_
  refine V_iconst (v := -1) F dX17_command_7 rfl ?_
  refine V_istore_n (i := 3) F dX17_command_8 rfl (Nat.le_of_ble_eq_true rfl) (Nat.le_of_ble_eq_true rfl) ?_
  refine V_aload_n (i := 2) F dX17_command_9 rfl rfl ?_
  refine V_callV (st := []) (nn := 0) F dX17_command_10 lk_X17_83 (ct_J6_hashCode hSo (by rw [hx_late]; decide) (by rw [tx_late]; decide)) hSo.isC rfl rfl (Nat.le_of_ble_eq_true rfl) (Nat.le_of_ble_eq_true rfl) (Nat.le_of_ble_eq_true rfl) (by omega) (by omega) ?_
  rintro _ hw ⟨rfl, hSow, hxw⟩
  have hpw := hxw.get hp1 (fun z => by obtain ⟨e, fs, q⟩ := z; rw [← e, hp1] at q; cases q) rfl
  have hGw : Fr (m1 p) h hw := hG1.cal hxw (fun z q => Or.inr (q.1 ▸ ho0))
  have hSw := hS.fr hGw (offK.m1 hp (kO_ne (by decide))) (fun v n c q _ e => ne_ao q hp e)
  refine V_lookup (tgt := 100) F dX17_command_13 (by decide) (off := 87) (by rw [hx_late]; decide +kernel) (by decide) ?_
  refine V_aload_n (i := 2) F dX17_command_100 rfl rfl ?_
  refine V_ldcS F dX17_command_101 q3591 ?_
  intro w1 hGw1
  refine V_callV (st := []) (nn := 1) F dX17_command_103 lk_X17_88 (ct_J6_equals hSow.str (hGw1.str (asc_of (by decide +kernel)) (by decide +kernel))) hSow.str.isC rfl rfl (Nat.le_of_ble_eq_true rfl) (Nat.le_of_ble_eq_true rfl) (Nat.le_of_ble_eq_true rfl) (by omega) (by omega) ?_
  refine PRk ?_
  refine V_if_eqN (tgt := 153) F dX17_command_106 (by decide) (by omega) (fun c_106 => absurd c_106 (by decide)) (fun c_106 => ?_)
  refine V_iconst (v := nI 2) F dX17_command_109 rfl ?_
  refine V_istore_n (i := 3) F dX17_command_110 rfl (Nat.le_of_ble_eq_true rfl) (Nat.le_of_ble_eq_true rfl) ?_
  refine V_goto (tgt := 153) F dX17_command_111 (by decide) ?_
  refine V_iload_n (i := 3) F dX17_command_153 rfl rfl ?_
  refine V_tableIn (tgt := 285) (off := 131) F dX17_command_154 (by decide) (by decide) (by decide +kernel) (by decide) ?_
  refine V_aload_n (i := 0) F dX17_command_285 rfl rfl ?_
  have hp2 : (hw) p = some (.inr (14, [.ref (tx), .int (nI (a1))])) := hpw
  have f2 : Fr (m1 p) hw (hw) := (Fr.rf (M := m1 p) (h := hw))
  have hG2 : Fr (m1 p) h (hw) := hGw.cal f2 (fun z q => Or.inl q)
  have hS2 := hSw.fr f2 (offK.m1 hpw (kO_ne (by decide))) (fun v n c q _ e => ne_ao q hpw e)
  refine V_xcV (st := []) (nn := 0) F dX17_command_286 lk_X17_51 (ct_X17_digitAfterSpace hl0 hp2 hS2 ha1) ⟨14, _, _, _, rfl, .inl hp2⟩ rfl rfl (Nat.le_of_ble_eq_true rfl) (Nat.le_of_ble_eq_true rfl) (Nat.le_of_ble_eq_true rfl) (by omega) (by omega) ?_ ?_
  · rintro _ h3 ⟨v3, a3, he3, rfl, hp3, ha3, hx3⟩
    have f3 : Fr (m1 p) hw h3 := f2.cal hx3 (fun z q => Or.inl q)
    refine V_istore (i := 9) F dX17_command_289 (Nat.le_of_ble_eq_true rfl) (Nat.le_of_ble_eq_true rfl) ?_
    refine V_new F dX17_command_291 nw_X17_105 (by omega) (by omega) ?_
    intro c hfc hbc
    have hcw : hw c = none := f3.none hfc
    refine V_dup F dX17_command_294 rfl ?_
    refine V_aload_n (i := 1) F dX17_command_295 rfl rfl ?_
    refine V_iconst (v := nI 2) F dX17_command_296 rfl ?_
    refine V_newaI F dX17_command_297 (by decide) (by omega) (by omega) ?_
    intro ar hfar hbar
    have p4 : (hset h3 c (.inr (6, [.null, .null]))) p = some (.inr (14, [.ref (tx), .int (nI (a3))])) := ((hset_ne (ne_nw hp3 hfc)).trans hp3)
    have p5 : (hset h3 c (.inr (6, [.null, .null]))) c = some (.inr (6, [.null, .null])) := (hset_self (e := .inr (6, [.null, .null])))
    have harw : hw ar = none := (f3.nw (x := .inr (6, [.null, .null])) hfc).none hfar
    refine V_dup F dX17_command_299 rfl ?_
    have hcw : hw c = none := f3.none hfc
    refine V_iconst (v := nI 0) F dX17_command_300 rfl ?_
    refine V_iload (i := 9) F dX17_command_301 rfl ?_
    refine V_iastN F 0 dX17_command_303 rfl (hset_self (e := .inl (G.2.1 0, 2, .inl (fun _ => nI 0)))) (by decide) (by decide) ?_
    refine V_dup F dX17_command_304 rfl ?_
    refine V_iconst (v := nI 1) F dX17_command_305 rfl ?_
    refine V_aload_n (i := 0) F dX17_command_306 rfl rfl ?_
    have hp6 : ((hset (hset (hset h3 c (.inr (6, [.null, .null]))) ar (.inl (G.2.1 0, 2, .inl (fun _ => nI 0)))) (ar) (.inl (G.2.1 0, 2, .inl ((upd (fun _ => nI 0) 0 ((nI (v3))))))))) p = some (.inr (14, [.ref (tx), .int (nI (a3))])) := ((hset_ne (ne_nw p4 hfar)).trans ((hset_ne (ne_nw p4 hfar)).trans p4))
    have f6 : Fr (m1 p) hw ((hset (hset (hset h3 c (.inr (6, [.null, .null]))) ar (.inl (G.2.1 0, 2, .inl (fun _ => nI 0)))) (ar) (.inl (G.2.1 0, 2, .inl ((upd (fun _ => nI 0) 0 ((nI (v3))))))))) := (((f3.nw (x := .inr (6, [.null, .null])) hfc).nw (x := .inl (G.2.1 0, 2, .inl (fun _ => nI 0))) hfar).put (x := .inl (G.2.1 0, 2, .inl ((upd (fun _ => nI 0) 0 ((nI (v3))))))) (hset_self (e := .inl (G.2.1 0, 2, .inl (fun _ => nI 0)))) ⟨rfl, rfl⟩ rfl ((f3.nw (x := .inr (6, [.null, .null])) hfc).yo hfar))
    have hG6 : Fr (m1 p) h ((hset (hset (hset h3 c (.inr (6, [.null, .null]))) ar (.inl (G.2.1 0, 2, .inl (fun _ => nI 0)))) (ar) (.inl (G.2.1 0, 2, .inl ((upd (fun _ => nI 0) 0 ((nI (v3))))))))) := hGw.cal f6 (fun z q => Or.inl q)
    have hS6 := hSw.fr f6 (offK.m1 hpw (kO_ne (by decide))) (fun v n c q _ e => ne_ao q hpw e)
    have kc6 : ((hset (hset (hset h3 c (.inr (6, [.null, .null]))) ar (.inl (G.2.1 0, 2, .inl (fun _ => nI 0)))) (ar) (.inl (G.2.1 0, 2, .inl ((upd (fun _ => nI 0) 0 ((nI (v3))))))))) c = some (.inr (6, [.null, .null])) := ((hset_ne (ne_nw p5 hfar)).trans ((hset_ne (ne_nw p5 hfar)).trans p5))
    have kar6 : ((hset (hset (hset h3 c (.inr (6, [.null, .null]))) ar (.inl (G.2.1 0, 2, .inl (fun _ => nI 0)))) (ar) (.inl (G.2.1 0, 2, .inl ((upd (fun _ => nI 0) 0 ((nI (v3))))))))) ar = some (.inl (G.2.1 0, 2, .inl ((upd (fun _ => nI 0) 0 ((nI (v3))))))) := (hset_self (e := .inl (G.2.1 0, 2, .inl ((upd (fun _ => nI 0) 0 ((nI (v3))))))))
    refine V_xcV (st := [.int (nI (1)), .ref (ar), .ref (ar), .ref (o), .ref (c), .ref (c)]) (nn := 0) F dX17_command_307 lk_X17_102 (ct_X17_number hl0 hp6 hS6 ha3) ⟨14, _, _, _, rfl, .inl hp6⟩ rfl rfl (Nat.le_of_ble_eq_true rfl) (Nat.le_of_ble_eq_true rfl) (Nat.le_of_ble_eq_true rfl) (by omega) (by omega) ?_ ?_
    · rintro _ h7 ⟨v7, a7, he7, rfl, hp7, ha7, hx7⟩
      have f7 : Fr (m1 p) hw h7 := f6.cal hx7 (fun z q => Or.inl q)
      have kc7 := hx7.get kc6 (fun e => ne_oo kc6 hp6 (by decide) e) rfl
      have kar7 := hx7.get kar6 (fun e => ne_ao kar6 hp6 e) rfl
      refine V_iastN F 0 dX17_command_310 rfl kar7 (by decide) (by decide) ?_
      have hp8 : ((hset h7 (ar) (.inl (G.2.1 0, 2, .inl ((upd ((upd (fun _ => nI 0) 0 ((nI (v3))))) 1 ((nI (v7))))))))) p = some (.inr (14, [.ref (tx), .int (nI (a7))])) := ((hset_ne (ne_oa hp7 kar7)).trans hp7)
      have f8 : Fr (m1 p) hw ((hset h7 (ar) (.inl (G.2.1 0, 2, .inl ((upd ((upd (fun _ => nI 0) 0 ((nI (v3))))) 1 ((nI (v7))))))))) := (f7.put (x := .inl (G.2.1 0, 2, .inl ((upd ((upd (fun _ => nI 0) 0 ((nI (v3))))) 1 ((nI (v7))))))) kar7 ⟨rfl, rfl⟩ rfl ((f3.nw (x := .inr (6, [.null, .null])) hfc).yo hfar))
      have hG8 : Fr (m1 p) h ((hset h7 (ar) (.inl (G.2.1 0, 2, .inl ((upd ((upd (fun _ => nI 0) 0 ((nI (v3))))) 1 ((nI (v7))))))))) := hGw.cal f8 (fun z q => Or.inl q)
      have hS8 := hSw.fr f8 (offK.m1 hpw (kO_ne (by decide))) (fun v n c q _ e => ne_ao q hpw e)
      have kc8 : ((hset h7 (ar) (.inl (G.2.1 0, 2, .inl ((upd ((upd (fun _ => nI 0) 0 ((nI (v3))))) 1 ((nI (v7))))))))) c = some (.inr (6, [.null, .null])) := ((hset_ne (ne_oa kc7 kar7)).trans kc7)
      have kar8 : ((hset h7 (ar) (.inl (G.2.1 0, 2, .inl ((upd ((upd (fun _ => nI 0) 0 ((nI (v3))))) 1 ((nI (v7))))))))) ar = some (.inl (G.2.1 0, 2, .inl ((upd ((upd (fun _ => nI 0) 0 ((nI (v3))))) 1 ((nI (v7))))))) := (hset_self (e := .inl (G.2.1 0, 2, .inl ((upd ((upd (fun _ => nI 0) 0 ((nI (v3))))) 1 ((nI (v7))))))))
      refine V_callI (st := [.ref (c)]) (nn := 2) F dX17_command_311 lk_X17_107 (ct_Co_init kc8) rfl rfl (Nat.le_of_ble_eq_true rfl) (Nat.le_of_ble_eq_true rfl) (Nat.le_of_ble_eq_true rfl) (by omega) (by omega) ?_
      rintro _ h9 ⟨rfl, hcz, hx9⟩
      have f9 : Fr (m1 p) hw h9 := f8.cal hx9 (Yo.m1 (Or.inr hcw))
      have hpz := hx9.get hp8 (fun e => ne_oo hp8 kc8 (by decide) e) rfl
      have harz := hx9.get kar8 (fun e => ne_ao kar8 kc8 e) rfl
      have hSoz := hSow.fr f9 (offK.m1 hpw (kO_ne (by decide))) (fun v n c q _ e => ne_ao q hpw e)
      have hsq : sqP l0 (itemsK 3) a1 = .inr ([v3, v7], a7) := by simp [sqP, itP, itemsK, he3, he7]
      exact VV.rx (V_aret F dX17_command_314 (Or.inl ⟨_, rfl⟩) (Or.inr ⟨_, rfl⟩) (by omega) (by omega) ⟨3, [v3, v7], a7, c, ⟨_, _, hwd, by decide, rfl, hwa, hsq⟩, rfl, ⟨o, ar, _, 2, hGw.none hcw, ho0, hGw.none harw, hcz, harz, (by decide), (by decide), hSoz, (fun i hi => by have hi : i < 2 := hi; have h9 : i = 0 ∨ i = 1 := (by omega); rcases h9 with rfl | rfl <;> rfl)⟩, hpz, ha7, hGw.cal f9 (fun z q => Or.inl q)⟩)
    · exact fun E q h2 hp9 => V_xout F (HT _) (by omega) (by omega) (PF.of hG6 hp9 (fun pos hR => Or.inr ⟨_, _, 3, hwd, by decide, rfl, by simp [sqP, itP, itemsK, he3, hR]⟩))
  · exact fun E q h2 hp9 => V_xout F (HT _) (by omega) (by omega) (PF.of hG2 hp9 (fun pos hR => Or.inr ⟨_, _, 3, hwd, by decide, rfl, by simp [sqP, itP, itemsK, hR]⟩))
theorem cmd_4 {G : GG} {X : CX} {h h1 : AH} {p tx a0 a1 o : Nat} {l0 : List Nat} (F : Fx G X cX17_command 15 yX17_command.cls (some (.object "SleeperRailway$Command")) 16 170 12500) (HT : ∀ p, ∀ x ∈ (xc X).exceptionTable.toList, covers x p = false) (hl0 : (xl X).stackTraces = false) (hp : h p = some (.inr (14, [.ref tx, .int (nI a0)]))) (hS : STR G h tx l0) (hwd : wdP l0 a0 = .inr (txl "case", a1)) (hwa : a0 + (txl "case").length ≤ a1) (ho0 : h o = none) (hSo : STR G h1 o (txl "case")) (hp1 : h1 p = some (.inr (14, [.ref tx, .int (nI a1)]))) (ha1 : a1 ≤ l0.length) (hG1 : Fr (m1 p) h h1) : VV G X 15 (EQX G X (170) (12500) (fun r h2 => ∃ k vs a2 c, CMok l0 a0 k vs a2 ∧ r = some (.ref c) ∧ CMD G h h2 k vs c ∧ h2 p = some (.inr (14, [.ref tx, .int (nI a2)])) ∧ a2 ≤ l0.length ∧ Fr (m1 p) h h2) (PF h p (fun pos => CMno l0 a0 pos))) h1 (0 + 120) (0 + 12000) [some (.ref (p)), none, none, none, none, none, none, none, none, none, none, none, none, none, none] [.ref o] 4 := by
  refine V_astore_n (i := 1) F dX17_command_4 rfl (Nat.le_of_ble_eq_true rfl) (Nat.le_of_ble_eq_true rfl) ?_
  refine V_aload_n (i := 1) F dX17_command_5 rfl rfl ?_
  refine V_astore_n (i := 2) F dX17_command_6 rfl (Nat.le_of_ble_eq_true rfl) (Nat.le_of_ble_eq_true rfl) ?_
  refine V_iconst (v := -1) F dX17_command_7 rfl ?_
  refine V_istore_n (i := 3) F dX17_command_8 rfl (Nat.le_of_ble_eq_true rfl) (Nat.le_of_ble_eq_true rfl) ?_
  refine V_aload_n (i := 2) F dX17_command_9 rfl rfl ?_
  refine V_callV (st := []) (nn := 0) F dX17_command_10 lk_X17_83 (ct_J6_hashCode hSo (by rw [hx_case]; decide) (by rw [tx_case]; decide)) hSo.isC rfl rfl (Nat.le_of_ble_eq_true rfl) (Nat.le_of_ble_eq_true rfl) (Nat.le_of_ble_eq_true rfl) (by omega) (by omega) ?_
  rintro _ hw ⟨rfl, hSow, hxw⟩
  have hpw := hxw.get hp1 (fun z => by obtain ⟨e, fs, q⟩ := z; rw [← e, hp1] at q; cases q) rfl
  have hGw : Fr (m1 p) h hw := hG1.cal hxw (fun z q => Or.inr (q.1 ▸ ho0))
  have hSw := hS.fr hGw (offK.m1 hp (kO_ne (by decide))) (fun v n c q _ e => ne_ao q hp e)
  refine V_lookup (tgt := 114) F dX17_command_13 (by decide) (off := 101) (by rw [hx_case]; decide +kernel) (by decide) ?_
  refine V_aload_n (i := 2) F dX17_command_114 rfl rfl ?_
  refine V_ldcS F dX17_command_115 q3592 ?_
  intro w1 hGw1
  refine V_callV (st := []) (nn := 1) F dX17_command_117 lk_X17_88 (ct_J6_equals hSow.str (hGw1.str (asc_of (by decide +kernel)) (by decide +kernel))) hSow.str.isC rfl rfl (Nat.le_of_ble_eq_true rfl) (Nat.le_of_ble_eq_true rfl) (Nat.le_of_ble_eq_true rfl) (by omega) (by omega) ?_
  refine PRk ?_
  refine V_if_eqN (tgt := 153) F dX17_command_120 (by decide) (by omega) (fun c_120 => absurd c_120 (by decide)) (fun c_120 => ?_)
  refine V_iconst (v := nI 3) F dX17_command_123 rfl ?_
  refine V_istore_n (i := 3) F dX17_command_124 rfl (Nat.le_of_ble_eq_true rfl) (Nat.le_of_ble_eq_true rfl) ?_
  refine V_goto (tgt := 153) F dX17_command_125 (by decide) ?_
  refine V_iload_n (i := 3) F dX17_command_153 rfl rfl ?_
  refine V_tableIn (tgt := 315) (off := 161) F dX17_command_154 (by decide) (by decide) (by decide +kernel) (by decide) ?_
  refine V_aload_n (i := 0) F dX17_command_315 rfl rfl ?_
  have hp2 : (hw) p = some (.inr (14, [.ref (tx), .int (nI (a1))])) := hpw
  have f2 : Fr (m1 p) hw (hw) := (Fr.rf (M := m1 p) (h := hw))
  have hG2 : Fr (m1 p) h (hw) := hGw.cal f2 (fun z q => Or.inl q)
  have hS2 := hSw.fr f2 (offK.m1 hpw (kO_ne (by decide))) (fun v n c q _ e => ne_ao q hpw e)
  refine V_xcV (st := []) (nn := 0) F dX17_command_316 lk_X17_51 (ct_X17_digitAfterSpace hl0 hp2 hS2 ha1) ⟨14, _, _, _, rfl, .inl hp2⟩ rfl rfl (Nat.le_of_ble_eq_true rfl) (Nat.le_of_ble_eq_true rfl) (Nat.le_of_ble_eq_true rfl) (by omega) (by omega) ?_ ?_
  · rintro _ h3 ⟨v3, a3, he3, rfl, hp3, ha3, hx3⟩
    have f3 : Fr (m1 p) hw h3 := f2.cal hx3 (fun z q => Or.inl q)
    refine V_istore (i := 10) F dX17_command_319 (Nat.le_of_ble_eq_true rfl) (Nat.le_of_ble_eq_true rfl) ?_
    refine V_aload_n (i := 0) F dX17_command_321 rfl rfl ?_
    have hp4 : (h3) p = some (.inr (14, [.ref (tx), .int (nI (a3))])) := hp3
    have f4 : Fr (m1 p) hw (h3) := f3
    have hG4 : Fr (m1 p) h (h3) := hGw.cal f4 (fun z q => Or.inl q)
    have hS4 := hSw.fr f4 (offK.m1 hpw (kO_ne (by decide))) (fun v n c q _ e => ne_ao q hpw e)
    refine V_xcV (st := []) (nn := 0) F dX17_command_322 lk_X17_48 (ct_X17_digit hl0 hp4 hS4 ha3) ⟨14, _, _, _, rfl, .inl hp4⟩ rfl rfl (Nat.le_of_ble_eq_true rfl) (Nat.le_of_ble_eq_true rfl) (Nat.le_of_ble_eq_true rfl) (by omega) (by omega) ?_ ?_
    · rintro _ h5 ⟨v5, a5, he5, rfl, hp5, ha5, hx5⟩
      have f5 : Fr (m1 p) hw h5 := f4.cal hx5 (fun z q => Or.inl q)
      refine V_istore (i := 11) F dX17_command_325 (Nat.le_of_ble_eq_true rfl) (Nat.le_of_ble_eq_true rfl) ?_
      refine V_new F dX17_command_327 nw_X17_105 (by omega) (by omega) ?_
      intro c hfc hbc
      have hcw : hw c = none := f5.none hfc
      refine V_dup F dX17_command_330 rfl ?_
      refine V_aload_n (i := 1) F dX17_command_331 rfl rfl ?_
      refine V_iconst (v := nI 3) F dX17_command_332 rfl ?_
      refine V_newaI F dX17_command_333 (by decide) (by omega) (by omega) ?_
      intro ar hfar hbar
      have p6 : (hset h5 c (.inr (6, [.null, .null]))) p = some (.inr (14, [.ref (tx), .int (nI (a5))])) := ((hset_ne (ne_nw hp5 hfc)).trans hp5)
      have p7 : (hset h5 c (.inr (6, [.null, .null]))) c = some (.inr (6, [.null, .null])) := (hset_self (e := .inr (6, [.null, .null])))
      have harw : hw ar = none := (f5.nw (x := .inr (6, [.null, .null])) hfc).none hfar
      refine V_dup F dX17_command_335 rfl ?_
      have hcw : hw c = none := f5.none hfc
      refine V_iconst (v := nI 0) F dX17_command_336 rfl ?_
      refine V_iload (i := 10) F dX17_command_337 rfl ?_
      refine V_iastN F 0 dX17_command_339 rfl (hset_self (e := .inl (G.2.1 0, 3, .inl (fun _ => nI 0)))) (by decide) (by decide) ?_
      refine V_dup F dX17_command_340 rfl ?_
      refine V_iconst (v := nI 1) F dX17_command_341 rfl ?_
      refine V_iload (i := 11) F dX17_command_342 rfl ?_
      refine V_iastN F 0 dX17_command_344 rfl (hset_self (e := .inl (G.2.1 0, 3, .inl ((upd (fun _ => nI 0) 0 ((nI (v3)))))))) (by decide) (by decide) ?_
      refine V_dup F dX17_command_345 rfl ?_
      refine V_iconst (v := nI 2) F dX17_command_346 rfl ?_
      refine V_aload_n (i := 0) F dX17_command_347 rfl rfl ?_
      have hp8 : ((hset (hset (hset (hset h5 c (.inr (6, [.null, .null]))) ar (.inl (G.2.1 0, 3, .inl (fun _ => nI 0)))) (ar) (.inl (G.2.1 0, 3, .inl ((upd (fun _ => nI 0) 0 ((nI (v3)))))))) (ar) (.inl (G.2.1 0, 3, .inl ((upd ((upd (fun _ => nI 0) 0 ((nI (v3))))) 1 ((nI (v5))))))))) p = some (.inr (14, [.ref (tx), .int (nI (a5))])) := ((hset_ne (ne_nw p6 hfar)).trans ((hset_ne (ne_nw p6 hfar)).trans ((hset_ne (ne_nw p6 hfar)).trans p6)))
      have f8 : Fr (m1 p) hw ((hset (hset (hset (hset h5 c (.inr (6, [.null, .null]))) ar (.inl (G.2.1 0, 3, .inl (fun _ => nI 0)))) (ar) (.inl (G.2.1 0, 3, .inl ((upd (fun _ => nI 0) 0 ((nI (v3)))))))) (ar) (.inl (G.2.1 0, 3, .inl ((upd ((upd (fun _ => nI 0) 0 ((nI (v3))))) 1 ((nI (v5))))))))) := ((((f5.nw (x := .inr (6, [.null, .null])) hfc).nw (x := .inl (G.2.1 0, 3, .inl (fun _ => nI 0))) hfar).put (x := .inl (G.2.1 0, 3, .inl ((upd (fun _ => nI 0) 0 ((nI (v3))))))) (hset_self (e := .inl (G.2.1 0, 3, .inl (fun _ => nI 0)))) ⟨rfl, rfl⟩ rfl ((f5.nw (x := .inr (6, [.null, .null])) hfc).yo hfar)).put (x := .inl (G.2.1 0, 3, .inl ((upd ((upd (fun _ => nI 0) 0 ((nI (v3))))) 1 ((nI (v5))))))) (hset_self (e := .inl (G.2.1 0, 3, .inl ((upd (fun _ => nI 0) 0 ((nI (v3)))))))) ⟨rfl, rfl⟩ rfl ((f5.nw (x := .inr (6, [.null, .null])) hfc).yo hfar))
      have hG8 : Fr (m1 p) h ((hset (hset (hset (hset h5 c (.inr (6, [.null, .null]))) ar (.inl (G.2.1 0, 3, .inl (fun _ => nI 0)))) (ar) (.inl (G.2.1 0, 3, .inl ((upd (fun _ => nI 0) 0 ((nI (v3)))))))) (ar) (.inl (G.2.1 0, 3, .inl ((upd ((upd (fun _ => nI 0) 0 ((nI (v3))))) 1 ((nI (v5))))))))) := hGw.cal f8 (fun z q => Or.inl q)
      have hS8 := hSw.fr f8 (offK.m1 hpw (kO_ne (by decide))) (fun v n c q _ e => ne_ao q hpw e)
      have kc8 : ((hset (hset (hset (hset h5 c (.inr (6, [.null, .null]))) ar (.inl (G.2.1 0, 3, .inl (fun _ => nI 0)))) (ar) (.inl (G.2.1 0, 3, .inl ((upd (fun _ => nI 0) 0 ((nI (v3)))))))) (ar) (.inl (G.2.1 0, 3, .inl ((upd ((upd (fun _ => nI 0) 0 ((nI (v3))))) 1 ((nI (v5))))))))) c = some (.inr (6, [.null, .null])) := ((hset_ne (ne_nw p7 hfar)).trans ((hset_ne (ne_nw p7 hfar)).trans ((hset_ne (ne_nw p7 hfar)).trans p7)))
      have kar8 : ((hset (hset (hset (hset h5 c (.inr (6, [.null, .null]))) ar (.inl (G.2.1 0, 3, .inl (fun _ => nI 0)))) (ar) (.inl (G.2.1 0, 3, .inl ((upd (fun _ => nI 0) 0 ((nI (v3)))))))) (ar) (.inl (G.2.1 0, 3, .inl ((upd ((upd (fun _ => nI 0) 0 ((nI (v3))))) 1 ((nI (v5))))))))) ar = some (.inl (G.2.1 0, 3, .inl ((upd ((upd (fun _ => nI 0) 0 ((nI (v3))))) 1 ((nI (v5))))))) := (hset_self (e := .inl (G.2.1 0, 3, .inl ((upd ((upd (fun _ => nI 0) 0 ((nI (v3))))) 1 ((nI (v5))))))))
      refine V_xcV (st := [.int (nI (2)), .ref (ar), .ref (ar), .ref (o), .ref (c), .ref (c)]) (nn := 0) F dX17_command_348 lk_X17_102 (ct_X17_number hl0 hp8 hS8 ha5) ⟨14, _, _, _, rfl, .inl hp8⟩ rfl rfl (Nat.le_of_ble_eq_true rfl) (Nat.le_of_ble_eq_true rfl) (Nat.le_of_ble_eq_true rfl) (by omega) (by omega) ?_ ?_
      · rintro _ h9 ⟨v9, a9, he9, rfl, hp9, ha9, hx9⟩
        have f9 : Fr (m1 p) hw h9 := f8.cal hx9 (fun z q => Or.inl q)
        have kc9 := hx9.get kc8 (fun e => ne_oo kc8 hp8 (by decide) e) rfl
        have kar9 := hx9.get kar8 (fun e => ne_ao kar8 hp8 e) rfl
        refine V_iastN F 0 dX17_command_351 rfl kar9 (by decide) (by decide) ?_
        have hp10 : ((hset h9 (ar) (.inl (G.2.1 0, 3, .inl ((upd ((upd ((upd (fun _ => nI 0) 0 ((nI (v3))))) 1 ((nI (v5))))) 2 ((nI (v9))))))))) p = some (.inr (14, [.ref (tx), .int (nI (a9))])) := ((hset_ne (ne_oa hp9 kar9)).trans hp9)
        have f10 : Fr (m1 p) hw ((hset h9 (ar) (.inl (G.2.1 0, 3, .inl ((upd ((upd ((upd (fun _ => nI 0) 0 ((nI (v3))))) 1 ((nI (v5))))) 2 ((nI (v9))))))))) := (f9.put (x := .inl (G.2.1 0, 3, .inl ((upd ((upd ((upd (fun _ => nI 0) 0 ((nI (v3))))) 1 ((nI (v5))))) 2 ((nI (v9))))))) kar9 ⟨rfl, rfl⟩ rfl ((f5.nw (x := .inr (6, [.null, .null])) hfc).yo hfar))
        have hG10 : Fr (m1 p) h ((hset h9 (ar) (.inl (G.2.1 0, 3, .inl ((upd ((upd ((upd (fun _ => nI 0) 0 ((nI (v3))))) 1 ((nI (v5))))) 2 ((nI (v9))))))))) := hGw.cal f10 (fun z q => Or.inl q)
        have hS10 := hSw.fr f10 (offK.m1 hpw (kO_ne (by decide))) (fun v n c q _ e => ne_ao q hpw e)
        have kc10 : ((hset h9 (ar) (.inl (G.2.1 0, 3, .inl ((upd ((upd ((upd (fun _ => nI 0) 0 ((nI (v3))))) 1 ((nI (v5))))) 2 ((nI (v9))))))))) c = some (.inr (6, [.null, .null])) := ((hset_ne (ne_oa kc9 kar9)).trans kc9)
        have kar10 : ((hset h9 (ar) (.inl (G.2.1 0, 3, .inl ((upd ((upd ((upd (fun _ => nI 0) 0 ((nI (v3))))) 1 ((nI (v5))))) 2 ((nI (v9))))))))) ar = some (.inl (G.2.1 0, 3, .inl ((upd ((upd ((upd (fun _ => nI 0) 0 ((nI (v3))))) 1 ((nI (v5))))) 2 ((nI (v9))))))) := (hset_self (e := .inl (G.2.1 0, 3, .inl ((upd ((upd ((upd (fun _ => nI 0) 0 ((nI (v3))))) 1 ((nI (v5))))) 2 ((nI (v9))))))))
        refine V_callI (st := [.ref (c)]) (nn := 2) F dX17_command_352 lk_X17_107 (ct_Co_init kc10) rfl rfl (Nat.le_of_ble_eq_true rfl) (Nat.le_of_ble_eq_true rfl) (Nat.le_of_ble_eq_true rfl) (by omega) (by omega) ?_
        rintro _ h11 ⟨rfl, hcz, hx11⟩
        have f11 : Fr (m1 p) hw h11 := f10.cal hx11 (Yo.m1 (Or.inr hcw))
        have hpz := hx11.get hp10 (fun e => ne_oo hp10 kc10 (by decide) e) rfl
        have harz := hx11.get kar10 (fun e => ne_ao kar10 kc10 e) rfl
        have hSoz := hSow.fr f11 (offK.m1 hpw (kO_ne (by decide))) (fun v n c q _ e => ne_ao q hpw e)
        have hsq : sqP l0 (itemsK 4) a1 = .inr ([v3, v5, v9], a9) := by simp [sqP, itP, itemsK, he3, he5, he9]
        exact VV.rx (V_aret F dX17_command_355 (Or.inl ⟨_, rfl⟩) (Or.inr ⟨_, rfl⟩) (by omega) (by omega) ⟨4, [v3, v5, v9], a9, c, ⟨_, _, hwd, by decide, rfl, hwa, hsq⟩, rfl, ⟨o, ar, _, 3, hGw.none hcw, ho0, hGw.none harw, hcz, harz, (by decide), (by decide), hSoz, (fun i hi => by have hi : i < 3 := hi; have h9 : i = 0 ∨ i = 1 ∨ i = 2 := (by omega); rcases h9 with rfl | rfl | rfl <;> rfl)⟩, hpz, ha9, hGw.cal f11 (fun z q => Or.inl q)⟩)
      · exact fun E q h2 hp9 => V_xout F (HT _) (by omega) (by omega) (PF.of hG8 hp9 (fun pos hR => Or.inr ⟨_, _, 4, hwd, by decide, rfl, by simp [sqP, itP, itemsK, he3, he5, hR]⟩))
    · exact fun E q h2 hp9 => V_xout F (HT _) (by omega) (by omega) (PF.of hG4 hp9 (fun pos hR => Or.inr ⟨_, _, 4, hwd, by decide, rfl, by simp [sqP, itP, itemsK, he3, hR]⟩))
  · exact fun E q h2 hp9 => V_xout F (HT _) (by omega) (by omega) (PF.of hG2 hp9 (fun pos hR => Or.inr ⟨_, _, 4, hwd, by decide, rfl, by simp [sqP, itP, itemsK, hR]⟩))
theorem cmd_5 {G : GG} {X : CX} {h h1 : AH} {p tx a0 a1 o : Nat} {l0 : List Nat} (F : Fx G X cX17_command 15 yX17_command.cls (some (.object "SleeperRailway$Command")) 16 170 12500) (HT : ∀ p, ∀ x ∈ (xc X).exceptionTable.toList, covers x p = false) (hl0 : (xl X).stackTraces = false) (hp : h p = some (.inr (14, [.ref tx, .int (nI a0)]))) (hS : STR G h tx l0) (hwd : wdP l0 a0 = .inr (txl "label", a1)) (hwa : a0 + (txl "label").length ≤ a1) (ho0 : h o = none) (hSo : STR G h1 o (txl "label")) (hp1 : h1 p = some (.inr (14, [.ref tx, .int (nI a1)]))) (ha1 : a1 ≤ l0.length) (hG1 : Fr (m1 p) h h1) : VV G X 15 (EQX G X (170) (12500) (fun r h2 => ∃ k vs a2 c, CMok l0 a0 k vs a2 ∧ r = some (.ref c) ∧ CMD G h h2 k vs c ∧ h2 p = some (.inr (14, [.ref tx, .int (nI a2)])) ∧ a2 ≤ l0.length ∧ Fr (m1 p) h h2) (PF h p (fun pos => CMno l0 a0 pos))) h1 (0 + 120) (0 + 12000) [some (.ref (p)), none, none, none, none, none, none, none, none, none, none, none, none, none, none] [.ref o] 4 := by
  refine V_astore_n (i := 1) F dX17_command_4 rfl (Nat.le_of_ble_eq_true rfl) (Nat.le_of_ble_eq_true rfl) ?_
  refine V_aload_n (i := 1) F dX17_command_5 rfl rfl ?_
  refine V_astore_n (i := 2) F dX17_command_6 rfl (Nat.le_of_ble_eq_true rfl) (Nat.le_of_ble_eq_true rfl) ?_
  refine V_iconst (v := -1) F dX17_command_7 rfl ?_
  refine V_istore_n (i := 3) F dX17_command_8 rfl (Nat.le_of_ble_eq_true rfl) (Nat.le_of_ble_eq_true rfl) ?_
  refine V_aload_n (i := 2) F dX17_command_9 rfl rfl ?_
  refine V_callV (st := []) (nn := 0) F dX17_command_10 lk_X17_83 (ct_J6_hashCode hSo (by rw [hx_label]; decide) (by rw [tx_label]; decide)) hSo.isC rfl rfl (Nat.le_of_ble_eq_true rfl) (Nat.le_of_ble_eq_true rfl) (Nat.le_of_ble_eq_true rfl) (by omega) (by omega) ?_
  rintro _ hw ⟨rfl, hSow, hxw⟩
  have hpw := hxw.get hp1 (fun z => by obtain ⟨e, fs, q⟩ := z; rw [← e, hp1] at q; cases q) rfl
  have hGw : Fr (m1 p) h hw := hG1.cal hxw (fun z q => Or.inr (q.1 ▸ ho0))
  have hSw := hS.fr hGw (offK.m1 hp (kO_ne (by decide))) (fun v n c q _ e => ne_ao q hp e)
  refine V_lookup (tgt := 128) F dX17_command_13 (by decide) (off := 115) (by rw [hx_label]; decide +kernel) (by decide) ?_
  refine V_aload_n (i := 2) F dX17_command_128 rfl rfl ?_
  refine V_ldcS F dX17_command_129 q3593 ?_
  intro w1 hGw1
  refine V_callV (st := []) (nn := 1) F dX17_command_131 lk_X17_88 (ct_J6_equals hSow.str (hGw1.str (asc_of (by decide +kernel)) (by decide +kernel))) hSow.str.isC rfl rfl (Nat.le_of_ble_eq_true rfl) (Nat.le_of_ble_eq_true rfl) (Nat.le_of_ble_eq_true rfl) (by omega) (by omega) ?_
  refine PRk ?_
  refine V_if_eqN (tgt := 153) F dX17_command_134 (by decide) (by omega) (fun c_134 => absurd c_134 (by decide)) (fun c_134 => ?_)
  refine V_iconst (v := nI 4) F dX17_command_137 rfl ?_
  refine V_istore_n (i := 3) F dX17_command_138 rfl (Nat.le_of_ble_eq_true rfl) (Nat.le_of_ble_eq_true rfl) ?_
  refine V_goto (tgt := 153) F dX17_command_139 (by decide) ?_
  refine V_iload_n (i := 3) F dX17_command_153 rfl rfl ?_
  refine V_tableIn (tgt := 356) (off := 202) F dX17_command_154 (by decide) (by decide) (by decide +kernel) (by decide) ?_
  refine V_aload_n (i := 0) F dX17_command_356 rfl rfl ?_
  have hp2 : (hw) p = some (.inr (14, [.ref (tx), .int (nI (a1))])) := hpw
  have f2 : Fr (m1 p) hw (hw) := (Fr.rf (M := m1 p) (h := hw))
  have hG2 : Fr (m1 p) h (hw) := hGw.cal f2 (fun z q => Or.inl q)
  have hS2 := hSw.fr f2 (offK.m1 hpw (kO_ne (by decide))) (fun v n c q _ e => ne_ao q hpw e)
  refine V_xcV (st := []) (nn := 0) F dX17_command_357 lk_X17_102 (ct_X17_number hl0 hp2 hS2 ha1) ⟨14, _, _, _, rfl, .inl hp2⟩ rfl rfl (Nat.le_of_ble_eq_true rfl) (Nat.le_of_ble_eq_true rfl) (Nat.le_of_ble_eq_true rfl) (by omega) (by omega) ?_ ?_
  · rintro _ h3 ⟨v3, a3, he3, rfl, hp3, ha3, hx3⟩
    have f3 : Fr (m1 p) hw h3 := f2.cal hx3 (fun z q => Or.inl q)
    refine V_istore (i := 12) F dX17_command_360 (Nat.le_of_ble_eq_true rfl) (Nat.le_of_ble_eq_true rfl) ?_
    refine V_new F dX17_command_362 nw_X17_105 (by omega) (by omega) ?_
    intro c hfc hbc
    have hcw : hw c = none := f3.none hfc
    refine V_dup F dX17_command_365 rfl ?_
    refine V_aload_n (i := 1) F dX17_command_366 rfl rfl ?_
    refine V_iconst (v := nI 2) F dX17_command_367 rfl ?_
    refine V_newaI F dX17_command_368 (by decide) (by omega) (by omega) ?_
    intro ar hfar hbar
    have p4 : (hset h3 c (.inr (6, [.null, .null]))) p = some (.inr (14, [.ref (tx), .int (nI (a3))])) := ((hset_ne (ne_nw hp3 hfc)).trans hp3)
    have p5 : (hset h3 c (.inr (6, [.null, .null]))) c = some (.inr (6, [.null, .null])) := (hset_self (e := .inr (6, [.null, .null])))
    have harw : hw ar = none := (f3.nw (x := .inr (6, [.null, .null])) hfc).none hfar
    refine V_dup F dX17_command_370 rfl ?_
    have hcw : hw c = none := f3.none hfc
    refine V_iconst (v := nI 0) F dX17_command_371 rfl ?_
    refine V_iload (i := 12) F dX17_command_372 rfl ?_
    refine V_iastN F 0 dX17_command_374 rfl (hset_self (e := .inl (G.2.1 0, 2, .inl (fun _ => nI 0)))) (by decide) (by decide) ?_
    refine V_dup F dX17_command_375 rfl ?_
    refine V_iconst (v := nI 1) F dX17_command_376 rfl ?_
    refine V_aload_n (i := 0) F dX17_command_377 rfl rfl ?_
    have hp6 : ((hset (hset (hset h3 c (.inr (6, [.null, .null]))) ar (.inl (G.2.1 0, 2, .inl (fun _ => nI 0)))) (ar) (.inl (G.2.1 0, 2, .inl ((upd (fun _ => nI 0) 0 ((nI (v3))))))))) p = some (.inr (14, [.ref (tx), .int (nI (a3))])) := ((hset_ne (ne_nw p4 hfar)).trans ((hset_ne (ne_nw p4 hfar)).trans p4))
    have f6 : Fr (m1 p) hw ((hset (hset (hset h3 c (.inr (6, [.null, .null]))) ar (.inl (G.2.1 0, 2, .inl (fun _ => nI 0)))) (ar) (.inl (G.2.1 0, 2, .inl ((upd (fun _ => nI 0) 0 ((nI (v3))))))))) := (((f3.nw (x := .inr (6, [.null, .null])) hfc).nw (x := .inl (G.2.1 0, 2, .inl (fun _ => nI 0))) hfar).put (x := .inl (G.2.1 0, 2, .inl ((upd (fun _ => nI 0) 0 ((nI (v3))))))) (hset_self (e := .inl (G.2.1 0, 2, .inl (fun _ => nI 0)))) ⟨rfl, rfl⟩ rfl ((f3.nw (x := .inr (6, [.null, .null])) hfc).yo hfar))
    have hG6 : Fr (m1 p) h ((hset (hset (hset h3 c (.inr (6, [.null, .null]))) ar (.inl (G.2.1 0, 2, .inl (fun _ => nI 0)))) (ar) (.inl (G.2.1 0, 2, .inl ((upd (fun _ => nI 0) 0 ((nI (v3))))))))) := hGw.cal f6 (fun z q => Or.inl q)
    have hS6 := hSw.fr f6 (offK.m1 hpw (kO_ne (by decide))) (fun v n c q _ e => ne_ao q hpw e)
    have kc6 : ((hset (hset (hset h3 c (.inr (6, [.null, .null]))) ar (.inl (G.2.1 0, 2, .inl (fun _ => nI 0)))) (ar) (.inl (G.2.1 0, 2, .inl ((upd (fun _ => nI 0) 0 ((nI (v3))))))))) c = some (.inr (6, [.null, .null])) := ((hset_ne (ne_nw p5 hfar)).trans ((hset_ne (ne_nw p5 hfar)).trans p5))
    have kar6 : ((hset (hset (hset h3 c (.inr (6, [.null, .null]))) ar (.inl (G.2.1 0, 2, .inl (fun _ => nI 0)))) (ar) (.inl (G.2.1 0, 2, .inl ((upd (fun _ => nI 0) 0 ((nI (v3))))))))) ar = some (.inl (G.2.1 0, 2, .inl ((upd (fun _ => nI 0) 0 ((nI (v3))))))) := (hset_self (e := .inl (G.2.1 0, 2, .inl ((upd (fun _ => nI 0) 0 ((nI (v3))))))))
    refine V_xcV (st := [.int (nI (1)), .ref (ar), .ref (ar), .ref (o), .ref (c), .ref (c)]) (nn := 0) F dX17_command_378 lk_X17_51 (ct_X17_digitAfterSpace hl0 hp6 hS6 ha3) ⟨14, _, _, _, rfl, .inl hp6⟩ rfl rfl (Nat.le_of_ble_eq_true rfl) (Nat.le_of_ble_eq_true rfl) (Nat.le_of_ble_eq_true rfl) (by omega) (by omega) ?_ ?_
    · rintro _ h7 ⟨v7, a7, he7, rfl, hp7, ha7, hx7⟩
      have f7 : Fr (m1 p) hw h7 := f6.cal hx7 (fun z q => Or.inl q)
      have kc7 := hx7.get kc6 (fun e => ne_oo kc6 hp6 (by decide) e) rfl
      have kar7 := hx7.get kar6 (fun e => ne_ao kar6 hp6 e) rfl
      refine V_iastN F 0 dX17_command_381 rfl kar7 (by decide) (by decide) ?_
      have hp8 : ((hset h7 (ar) (.inl (G.2.1 0, 2, .inl ((upd ((upd (fun _ => nI 0) 0 ((nI (v3))))) 1 ((nI (v7))))))))) p = some (.inr (14, [.ref (tx), .int (nI (a7))])) := ((hset_ne (ne_oa hp7 kar7)).trans hp7)
      have f8 : Fr (m1 p) hw ((hset h7 (ar) (.inl (G.2.1 0, 2, .inl ((upd ((upd (fun _ => nI 0) 0 ((nI (v3))))) 1 ((nI (v7))))))))) := (f7.put (x := .inl (G.2.1 0, 2, .inl ((upd ((upd (fun _ => nI 0) 0 ((nI (v3))))) 1 ((nI (v7))))))) kar7 ⟨rfl, rfl⟩ rfl ((f3.nw (x := .inr (6, [.null, .null])) hfc).yo hfar))
      have hG8 : Fr (m1 p) h ((hset h7 (ar) (.inl (G.2.1 0, 2, .inl ((upd ((upd (fun _ => nI 0) 0 ((nI (v3))))) 1 ((nI (v7))))))))) := hGw.cal f8 (fun z q => Or.inl q)
      have hS8 := hSw.fr f8 (offK.m1 hpw (kO_ne (by decide))) (fun v n c q _ e => ne_ao q hpw e)
      have kc8 : ((hset h7 (ar) (.inl (G.2.1 0, 2, .inl ((upd ((upd (fun _ => nI 0) 0 ((nI (v3))))) 1 ((nI (v7))))))))) c = some (.inr (6, [.null, .null])) := ((hset_ne (ne_oa kc7 kar7)).trans kc7)
      have kar8 : ((hset h7 (ar) (.inl (G.2.1 0, 2, .inl ((upd ((upd (fun _ => nI 0) 0 ((nI (v3))))) 1 ((nI (v7))))))))) ar = some (.inl (G.2.1 0, 2, .inl ((upd ((upd (fun _ => nI 0) 0 ((nI (v3))))) 1 ((nI (v7))))))) := (hset_self (e := .inl (G.2.1 0, 2, .inl ((upd ((upd (fun _ => nI 0) 0 ((nI (v3))))) 1 ((nI (v7))))))))
      refine V_callI (st := [.ref (c)]) (nn := 2) F dX17_command_382 lk_X17_107 (ct_Co_init kc8) rfl rfl (Nat.le_of_ble_eq_true rfl) (Nat.le_of_ble_eq_true rfl) (Nat.le_of_ble_eq_true rfl) (by omega) (by omega) ?_
      rintro _ h9 ⟨rfl, hcz, hx9⟩
      have f9 : Fr (m1 p) hw h9 := f8.cal hx9 (Yo.m1 (Or.inr hcw))
      have hpz := hx9.get hp8 (fun e => ne_oo hp8 kc8 (by decide) e) rfl
      have harz := hx9.get kar8 (fun e => ne_ao kar8 kc8 e) rfl
      have hSoz := hSow.fr f9 (offK.m1 hpw (kO_ne (by decide))) (fun v n c q _ e => ne_ao q hpw e)
      have hsq : sqP l0 (itemsK 5) a1 = .inr ([v3, v7], a7) := by simp [sqP, itP, itemsK, he3, he7]
      exact VV.rx (V_aret F dX17_command_385 (Or.inl ⟨_, rfl⟩) (Or.inr ⟨_, rfl⟩) (by omega) (by omega) ⟨5, [v3, v7], a7, c, ⟨_, _, hwd, by decide, rfl, hwa, hsq⟩, rfl, ⟨o, ar, _, 2, hGw.none hcw, ho0, hGw.none harw, hcz, harz, (by decide), (by decide), hSoz, (fun i hi => by have hi : i < 2 := hi; have h9 : i = 0 ∨ i = 1 := (by omega); rcases h9 with rfl | rfl <;> rfl)⟩, hpz, ha7, hGw.cal f9 (fun z q => Or.inl q)⟩)
    · exact fun E q h2 hp9 => V_xout F (HT _) (by omega) (by omega) (PF.of hG6 hp9 (fun pos hR => Or.inr ⟨_, _, 5, hwd, by decide, rfl, by simp [sqP, itP, itemsK, he3, hR]⟩))
  · exact fun E q h2 hp9 => V_xout F (HT _) (by omega) (by omega) (PF.of hG2 hp9 (fun pos hR => Or.inr ⟨_, _, 5, hwd, by decide, rfl, by simp [sqP, itP, itemsK, hR]⟩))
theorem cmd_6 {G : GG} {X : CX} {h h1 : AH} {p tx a0 a1 o : Nat} {l0 : List Nat} (F : Fx G X cX17_command 15 yX17_command.cls (some (.object "SleeperRailway$Command")) 16 170 12500) (HT : ∀ p, ∀ x ∈ (xc X).exceptionTable.toList, covers x p = false) (hl0 : (xl X).stackTraces = false) (hp : h p = some (.inr (14, [.ref tx, .int (nI a0)]))) (hS : STR G h tx l0) (hwd : wdP l0 a0 = .inr (txl "send", a1)) (hwa : a0 + (txl "send").length ≤ a1) (ho0 : h o = none) (hSo : STR G h1 o (txl "send")) (hp1 : h1 p = some (.inr (14, [.ref tx, .int (nI a1)]))) (ha1 : a1 ≤ l0.length) (hG1 : Fr (m1 p) h h1) : VV G X 15 (EQX G X (170) (12500) (fun r h2 => ∃ k vs a2 c, CMok l0 a0 k vs a2 ∧ r = some (.ref c) ∧ CMD G h h2 k vs c ∧ h2 p = some (.inr (14, [.ref tx, .int (nI a2)])) ∧ a2 ≤ l0.length ∧ Fr (m1 p) h h2) (PF h p (fun pos => CMno l0 a0 pos))) h1 (0 + 120) (0 + 12000) [some (.ref (p)), none, none, none, none, none, none, none, none, none, none, none, none, none, none] [.ref o] 4 := by
  refine V_astore_n (i := 1) F dX17_command_4 rfl (Nat.le_of_ble_eq_true rfl) (Nat.le_of_ble_eq_true rfl) ?_
  refine V_aload_n (i := 1) F dX17_command_5 rfl rfl ?_
  refine V_astore_n (i := 2) F dX17_command_6 rfl (Nat.le_of_ble_eq_true rfl) (Nat.le_of_ble_eq_true rfl) ?_
  refine V_iconst (v := -1) F dX17_command_7 rfl ?_
  refine V_istore_n (i := 3) F dX17_command_8 rfl (Nat.le_of_ble_eq_true rfl) (Nat.le_of_ble_eq_true rfl) ?_
  refine V_aload_n (i := 2) F dX17_command_9 rfl rfl ?_
  refine V_callV (st := []) (nn := 0) F dX17_command_10 lk_X17_83 (ct_J6_hashCode hSo (by rw [hx_send]; decide) (by rw [tx_send]; decide)) hSo.isC rfl rfl (Nat.le_of_ble_eq_true rfl) (Nat.le_of_ble_eq_true rfl) (Nat.le_of_ble_eq_true rfl) (by omega) (by omega) ?_
  rintro _ hw ⟨rfl, hSow, hxw⟩
  have hpw := hxw.get hp1 (fun z => by obtain ⟨e, fs, q⟩ := z; rw [← e, hp1] at q; cases q) rfl
  have hGw : Fr (m1 p) h hw := hG1.cal hxw (fun z q => Or.inr (q.1 ▸ ho0))
  have hSw := hS.fr hGw (offK.m1 hp (kO_ne (by decide))) (fun v n c q _ e => ne_ao q hp e)
  refine V_lookup (tgt := 153) F dX17_command_13 (by decide) (off := 140) (by rw [hx_send]; decide +kernel) (by decide) ?_
  refine V_iload_n (i := 3) F dX17_command_153 rfl rfl ?_
  refine V_tableOut (tgt := 427) F dX17_command_154 (by decide) (by decide) ?_
  refine V_new F dX17_command_427 nw_X17_105 (by omega) (by omega) ?_
  intro c hfc hbc
  have hcw : hw c = none := (Fr.rf (M := m1 p) (h := hw)).none hfc
  refine V_dup F dX17_command_430 rfl ?_
  refine V_aload_n (i := 1) F dX17_command_431 rfl rfl ?_
  refine V_iconst (v := nI 1) F dX17_command_432 rfl ?_
  refine V_newaI F dX17_command_433 (by decide) (by omega) (by omega) ?_
  intro ar hfar hbar
  have p1 : (hset hw c (.inr (6, [.null, .null]))) p = some (.inr (14, [.ref (tx), .int (nI (a1))])) := ((hset_ne (ne_nw hpw hfc)).trans hpw)
  have p2 : (hset hw c (.inr (6, [.null, .null]))) c = some (.inr (6, [.null, .null])) := (hset_self (e := .inr (6, [.null, .null])))
  have harw : hw ar = none := ((Fr.rf (M := m1 p) (h := hw)).nw (x := .inr (6, [.null, .null])) hfc).none hfar
  refine V_dup F dX17_command_435 rfl ?_
  have hcw : hw c = none := (Fr.rf (M := m1 p) (h := hw)).none hfc
  refine V_iconst (v := nI 0) F dX17_command_436 rfl ?_
  refine V_aload_n (i := 0) F dX17_command_437 rfl rfl ?_
  have hp3 : ((hset (hset hw c (.inr (6, [.null, .null]))) ar (.inl (G.2.1 0, 1, .inl (fun _ => nI 0))))) p = some (.inr (14, [.ref (tx), .int (nI (a1))])) := ((hset_ne (ne_nw p1 hfar)).trans p1)
  have f3 : Fr (m1 p) hw ((hset (hset hw c (.inr (6, [.null, .null]))) ar (.inl (G.2.1 0, 1, .inl (fun _ => nI 0))))) := (((Fr.rf (M := m1 p) (h := hw)).nw (x := .inr (6, [.null, .null])) hfc).nw (x := .inl (G.2.1 0, 1, .inl (fun _ => nI 0))) hfar)
  have hG3 : Fr (m1 p) h ((hset (hset hw c (.inr (6, [.null, .null]))) ar (.inl (G.2.1 0, 1, .inl (fun _ => nI 0))))) := hGw.cal f3 (fun z q => Or.inl q)
  have hS3 := hSw.fr f3 (offK.m1 hpw (kO_ne (by decide))) (fun v n c q _ e => ne_ao q hpw e)
  have kc3 : ((hset (hset hw c (.inr (6, [.null, .null]))) ar (.inl (G.2.1 0, 1, .inl (fun _ => nI 0))))) c = some (.inr (6, [.null, .null])) := ((hset_ne (ne_nw p2 hfar)).trans p2)
  have kar3 : ((hset (hset hw c (.inr (6, [.null, .null]))) ar (.inl (G.2.1 0, 1, .inl (fun _ => nI 0))))) ar = some (.inl (G.2.1 0, 1, .inl (fun _ => nI 0))) := (hset_self (e := .inl (G.2.1 0, 1, .inl (fun _ => nI 0))))
  refine V_xcV (st := [.int (nI (0)), .ref (ar), .ref (ar), .ref (o), .ref (c), .ref (c)]) (nn := 0) F dX17_command_438 lk_X17_102 (ct_X17_number hl0 hp3 hS3 ha1) ⟨14, _, _, _, rfl, .inl hp3⟩ rfl rfl (Nat.le_of_ble_eq_true rfl) (Nat.le_of_ble_eq_true rfl) (Nat.le_of_ble_eq_true rfl) (by omega) (by omega) ?_ ?_
  · rintro _ h4 ⟨v4, a4, he4, rfl, hp4, ha4, hx4⟩
    have f4 : Fr (m1 p) hw h4 := f3.cal hx4 (fun z q => Or.inl q)
    have kc4 := hx4.get kc3 (fun e => ne_oo kc3 hp3 (by decide) e) rfl
    have kar4 := hx4.get kar3 (fun e => ne_ao kar3 hp3 e) rfl
    refine V_iastN F 0 dX17_command_441 rfl kar4 (by decide) (by decide) ?_
    have hp5 : ((hset h4 (ar) (.inl (G.2.1 0, 1, .inl ((upd (fun _ => nI 0) 0 ((nI (v4))))))))) p = some (.inr (14, [.ref (tx), .int (nI (a4))])) := ((hset_ne (ne_oa hp4 kar4)).trans hp4)
    have f5 : Fr (m1 p) hw ((hset h4 (ar) (.inl (G.2.1 0, 1, .inl ((upd (fun _ => nI 0) 0 ((nI (v4))))))))) := (f4.put (x := .inl (G.2.1 0, 1, .inl ((upd (fun _ => nI 0) 0 ((nI (v4))))))) kar4 ⟨rfl, rfl⟩ rfl (((Fr.rf (M := m1 p) (h := hw)).nw (x := .inr (6, [.null, .null])) hfc).yo hfar))
    have hG5 : Fr (m1 p) h ((hset h4 (ar) (.inl (G.2.1 0, 1, .inl ((upd (fun _ => nI 0) 0 ((nI (v4))))))))) := hGw.cal f5 (fun z q => Or.inl q)
    have hS5 := hSw.fr f5 (offK.m1 hpw (kO_ne (by decide))) (fun v n c q _ e => ne_ao q hpw e)
    have kc5 : ((hset h4 (ar) (.inl (G.2.1 0, 1, .inl ((upd (fun _ => nI 0) 0 ((nI (v4))))))))) c = some (.inr (6, [.null, .null])) := ((hset_ne (ne_oa kc4 kar4)).trans kc4)
    have kar5 : ((hset h4 (ar) (.inl (G.2.1 0, 1, .inl ((upd (fun _ => nI 0) 0 ((nI (v4))))))))) ar = some (.inl (G.2.1 0, 1, .inl ((upd (fun _ => nI 0) 0 ((nI (v4))))))) := (hset_self (e := .inl (G.2.1 0, 1, .inl ((upd (fun _ => nI 0) 0 ((nI (v4))))))))
    refine V_callI (st := [.ref (c)]) (nn := 2) F dX17_command_442 lk_X17_107 (ct_Co_init kc5) rfl rfl (Nat.le_of_ble_eq_true rfl) (Nat.le_of_ble_eq_true rfl) (Nat.le_of_ble_eq_true rfl) (by omega) (by omega) ?_
    rintro _ h6 ⟨rfl, hcz, hx6⟩
    have f6 : Fr (m1 p) hw h6 := f5.cal hx6 (Yo.m1 (Or.inr hcw))
    have hpz := hx6.get hp5 (fun e => ne_oo hp5 kc5 (by decide) e) rfl
    have harz := hx6.get kar5 (fun e => ne_ao kar5 kc5 e) rfl
    have hSoz := hSow.fr f6 (offK.m1 hpw (kO_ne (by decide))) (fun v n c q _ e => ne_ao q hpw e)
    have hsq : sqP l0 (itemsK 6) a1 = .inr ([v4], a4) := by simp [sqP, itP, itemsK, he4]
    exact VV.rx (V_aret F dX17_command_445 (Or.inl ⟨_, rfl⟩) (Or.inr ⟨_, rfl⟩) (by omega) (by omega) ⟨6, [v4], a4, c, ⟨_, _, hwd, by decide, rfl, hwa, hsq⟩, rfl, ⟨o, ar, _, 1, hGw.none hcw, ho0, hGw.none harw, hcz, harz, (by decide), (by decide), hSoz, (fun i hi => by have hi : i < 1 := hi; have h9 : i = 0 := (by omega); subst h9; rfl)⟩, hpz, ha4, hGw.cal f6 (fun z q => Or.inl q)⟩)
  · exact fun E q h2 hp9 => V_xout F (HT _) (by omega) (by omega) (PF.of hG3 hp9 (fun pos hR => Or.inr ⟨_, _, 6, hwd, by decide, rfl, by simp [sqP, itP, itemsK, hR]⟩))
theorem cmd_7 {G : GG} {X : CX} {h h1 : AH} {p tx a0 a1 o : Nat} {l0 : List Nat} (F : Fx G X cX17_command 15 yX17_command.cls (some (.object "SleeperRailway$Command")) 16 170 12500) (HT : ∀ p, ∀ x ∈ (xc X).exceptionTable.toList, covers x p = false) (hl0 : (xl X).stackTraces = false) (hp : h p = some (.inr (14, [.ref tx, .int (nI a0)]))) (hS : STR G h tx l0) (hwd : wdP l0 a0 = .inr (txl "take", a1)) (hwa : a0 + (txl "take").length ≤ a1) (ho0 : h o = none) (hSo : STR G h1 o (txl "take")) (hp1 : h1 p = some (.inr (14, [.ref tx, .int (nI a1)]))) (ha1 : a1 ≤ l0.length) (hG1 : Fr (m1 p) h h1) : VV G X 15 (EQX G X (170) (12500) (fun r h2 => ∃ k vs a2 c, CMok l0 a0 k vs a2 ∧ r = some (.ref c) ∧ CMD G h h2 k vs c ∧ h2 p = some (.inr (14, [.ref tx, .int (nI a2)])) ∧ a2 ≤ l0.length ∧ Fr (m1 p) h h2) (PF h p (fun pos => CMno l0 a0 pos))) h1 (0 + 120) (0 + 12000) [some (.ref (p)), none, none, none, none, none, none, none, none, none, none, none, none, none, none] [.ref o] 4 := by
  refine V_astore_n (i := 1) F dX17_command_4 rfl (Nat.le_of_ble_eq_true rfl) (Nat.le_of_ble_eq_true rfl) ?_
  refine V_aload_n (i := 1) F dX17_command_5 rfl rfl ?_
  refine V_astore_n (i := 2) F dX17_command_6 rfl (Nat.le_of_ble_eq_true rfl) (Nat.le_of_ble_eq_true rfl) ?_
  refine V_iconst (v := -1) F dX17_command_7 rfl ?_
  refine V_istore_n (i := 3) F dX17_command_8 rfl (Nat.le_of_ble_eq_true rfl) (Nat.le_of_ble_eq_true rfl) ?_
  refine V_aload_n (i := 2) F dX17_command_9 rfl rfl ?_
  refine V_callV (st := []) (nn := 0) F dX17_command_10 lk_X17_83 (ct_J6_hashCode hSo (by rw [hx_take]; decide) (by rw [tx_take]; decide)) hSo.isC rfl rfl (Nat.le_of_ble_eq_true rfl) (Nat.le_of_ble_eq_true rfl) (Nat.le_of_ble_eq_true rfl) (by omega) (by omega) ?_
  rintro _ hw ⟨rfl, hSow, hxw⟩
  have hpw := hxw.get hp1 (fun z => by obtain ⟨e, fs, q⟩ := z; rw [← e, hp1] at q; cases q) rfl
  have hGw : Fr (m1 p) h hw := hG1.cal hxw (fun z q => Or.inr (q.1 ▸ ho0))
  have hSw := hS.fr hGw (offK.m1 hp (kO_ne (by decide))) (fun v n c q _ e => ne_ao q hp e)
  refine V_lookup (tgt := 153) F dX17_command_13 (by decide) (off := 140) (by rw [hx_take]; decide +kernel) (by decide) ?_
  refine V_iload_n (i := 3) F dX17_command_153 rfl rfl ?_
  refine V_tableOut (tgt := 427) F dX17_command_154 (by decide) (by decide) ?_
  refine V_new F dX17_command_427 nw_X17_105 (by omega) (by omega) ?_
  intro c hfc hbc
  have hcw : hw c = none := (Fr.rf (M := m1 p) (h := hw)).none hfc
  refine V_dup F dX17_command_430 rfl ?_
  refine V_aload_n (i := 1) F dX17_command_431 rfl rfl ?_
  refine V_iconst (v := nI 1) F dX17_command_432 rfl ?_
  refine V_newaI F dX17_command_433 (by decide) (by omega) (by omega) ?_
  intro ar hfar hbar
  have p1 : (hset hw c (.inr (6, [.null, .null]))) p = some (.inr (14, [.ref (tx), .int (nI (a1))])) := ((hset_ne (ne_nw hpw hfc)).trans hpw)
  have p2 : (hset hw c (.inr (6, [.null, .null]))) c = some (.inr (6, [.null, .null])) := (hset_self (e := .inr (6, [.null, .null])))
  have harw : hw ar = none := ((Fr.rf (M := m1 p) (h := hw)).nw (x := .inr (6, [.null, .null])) hfc).none hfar
  refine V_dup F dX17_command_435 rfl ?_
  have hcw : hw c = none := (Fr.rf (M := m1 p) (h := hw)).none hfc
  refine V_iconst (v := nI 0) F dX17_command_436 rfl ?_
  refine V_aload_n (i := 0) F dX17_command_437 rfl rfl ?_
  have hp3 : ((hset (hset hw c (.inr (6, [.null, .null]))) ar (.inl (G.2.1 0, 1, .inl (fun _ => nI 0))))) p = some (.inr (14, [.ref (tx), .int (nI (a1))])) := ((hset_ne (ne_nw p1 hfar)).trans p1)
  have f3 : Fr (m1 p) hw ((hset (hset hw c (.inr (6, [.null, .null]))) ar (.inl (G.2.1 0, 1, .inl (fun _ => nI 0))))) := (((Fr.rf (M := m1 p) (h := hw)).nw (x := .inr (6, [.null, .null])) hfc).nw (x := .inl (G.2.1 0, 1, .inl (fun _ => nI 0))) hfar)
  have hG3 : Fr (m1 p) h ((hset (hset hw c (.inr (6, [.null, .null]))) ar (.inl (G.2.1 0, 1, .inl (fun _ => nI 0))))) := hGw.cal f3 (fun z q => Or.inl q)
  have hS3 := hSw.fr f3 (offK.m1 hpw (kO_ne (by decide))) (fun v n c q _ e => ne_ao q hpw e)
  have kc3 : ((hset (hset hw c (.inr (6, [.null, .null]))) ar (.inl (G.2.1 0, 1, .inl (fun _ => nI 0))))) c = some (.inr (6, [.null, .null])) := ((hset_ne (ne_nw p2 hfar)).trans p2)
  have kar3 : ((hset (hset hw c (.inr (6, [.null, .null]))) ar (.inl (G.2.1 0, 1, .inl (fun _ => nI 0))))) ar = some (.inl (G.2.1 0, 1, .inl (fun _ => nI 0))) := (hset_self (e := .inl (G.2.1 0, 1, .inl (fun _ => nI 0))))
  refine V_xcV (st := [.int (nI (0)), .ref (ar), .ref (ar), .ref (o), .ref (c), .ref (c)]) (nn := 0) F dX17_command_438 lk_X17_102 (ct_X17_number hl0 hp3 hS3 ha1) ⟨14, _, _, _, rfl, .inl hp3⟩ rfl rfl (Nat.le_of_ble_eq_true rfl) (Nat.le_of_ble_eq_true rfl) (Nat.le_of_ble_eq_true rfl) (by omega) (by omega) ?_ ?_
  · rintro _ h4 ⟨v4, a4, he4, rfl, hp4, ha4, hx4⟩
    have f4 : Fr (m1 p) hw h4 := f3.cal hx4 (fun z q => Or.inl q)
    have kc4 := hx4.get kc3 (fun e => ne_oo kc3 hp3 (by decide) e) rfl
    have kar4 := hx4.get kar3 (fun e => ne_ao kar3 hp3 e) rfl
    refine V_iastN F 0 dX17_command_441 rfl kar4 (by decide) (by decide) ?_
    have hp5 : ((hset h4 (ar) (.inl (G.2.1 0, 1, .inl ((upd (fun _ => nI 0) 0 ((nI (v4))))))))) p = some (.inr (14, [.ref (tx), .int (nI (a4))])) := ((hset_ne (ne_oa hp4 kar4)).trans hp4)
    have f5 : Fr (m1 p) hw ((hset h4 (ar) (.inl (G.2.1 0, 1, .inl ((upd (fun _ => nI 0) 0 ((nI (v4))))))))) := (f4.put (x := .inl (G.2.1 0, 1, .inl ((upd (fun _ => nI 0) 0 ((nI (v4))))))) kar4 ⟨rfl, rfl⟩ rfl (((Fr.rf (M := m1 p) (h := hw)).nw (x := .inr (6, [.null, .null])) hfc).yo hfar))
    have hG5 : Fr (m1 p) h ((hset h4 (ar) (.inl (G.2.1 0, 1, .inl ((upd (fun _ => nI 0) 0 ((nI (v4))))))))) := hGw.cal f5 (fun z q => Or.inl q)
    have hS5 := hSw.fr f5 (offK.m1 hpw (kO_ne (by decide))) (fun v n c q _ e => ne_ao q hpw e)
    have kc5 : ((hset h4 (ar) (.inl (G.2.1 0, 1, .inl ((upd (fun _ => nI 0) 0 ((nI (v4))))))))) c = some (.inr (6, [.null, .null])) := ((hset_ne (ne_oa kc4 kar4)).trans kc4)
    have kar5 : ((hset h4 (ar) (.inl (G.2.1 0, 1, .inl ((upd (fun _ => nI 0) 0 ((nI (v4))))))))) ar = some (.inl (G.2.1 0, 1, .inl ((upd (fun _ => nI 0) 0 ((nI (v4))))))) := (hset_self (e := .inl (G.2.1 0, 1, .inl ((upd (fun _ => nI 0) 0 ((nI (v4))))))))
    refine V_callI (st := [.ref (c)]) (nn := 2) F dX17_command_442 lk_X17_107 (ct_Co_init kc5) rfl rfl (Nat.le_of_ble_eq_true rfl) (Nat.le_of_ble_eq_true rfl) (Nat.le_of_ble_eq_true rfl) (by omega) (by omega) ?_
    rintro _ h6 ⟨rfl, hcz, hx6⟩
    have f6 : Fr (m1 p) hw h6 := f5.cal hx6 (Yo.m1 (Or.inr hcw))
    have hpz := hx6.get hp5 (fun e => ne_oo hp5 kc5 (by decide) e) rfl
    have harz := hx6.get kar5 (fun e => ne_ao kar5 kc5 e) rfl
    have hSoz := hSow.fr f6 (offK.m1 hpw (kO_ne (by decide))) (fun v n c q _ e => ne_ao q hpw e)
    have hsq : sqP l0 (itemsK 7) a1 = .inr ([v4], a4) := by simp [sqP, itP, itemsK, he4]
    exact VV.rx (V_aret F dX17_command_445 (Or.inl ⟨_, rfl⟩) (Or.inr ⟨_, rfl⟩) (by omega) (by omega) ⟨7, [v4], a4, c, ⟨_, _, hwd, by decide, rfl, hwa, hsq⟩, rfl, ⟨o, ar, _, 1, hGw.none hcw, ho0, hGw.none harw, hcz, harz, (by decide), (by decide), hSoz, (fun i hi => by have hi : i < 1 := hi; have h9 : i = 0 := (by omega); subst h9; rfl)⟩, hpz, ha4, hGw.cal f6 (fun z q => Or.inl q)⟩)
  · exact fun E q h2 hp9 => V_xout F (HT _) (by omega) (by omega) (PF.of hG3 hp9 (fun pos hR => Or.inr ⟨_, _, 7, hwd, by decide, rfl, by simp [sqP, itP, itemsK, hR]⟩))
theorem cmd_8 {G : GG} {X : CX} {h h1 : AH} {p tx a0 a1 o : Nat} {l0 : List Nat} (F : Fx G X cX17_command 15 yX17_command.cls (some (.object "SleeperRailway$Command")) 16 170 12500) (HT : ∀ p, ∀ x ∈ (xc X).exceptionTable.toList, covers x p = false) (hl0 : (xl X).stackTraces = false) (hp : h p = some (.inr (14, [.ref tx, .int (nI a0)]))) (hS : STR G h tx l0) (hwd : wdP l0 a0 = .inr (txl "book", a1)) (hwa : a0 + (txl "book").length ≤ a1) (ho0 : h o = none) (hSo : STR G h1 o (txl "book")) (hp1 : h1 p = some (.inr (14, [.ref tx, .int (nI a1)]))) (ha1 : a1 ≤ l0.length) (hG1 : Fr (m1 p) h h1) : VV G X 15 (EQX G X (170) (12500) (fun r h2 => ∃ k vs a2 c, CMok l0 a0 k vs a2 ∧ r = some (.ref c) ∧ CMD G h h2 k vs c ∧ h2 p = some (.inr (14, [.ref tx, .int (nI a2)])) ∧ a2 ≤ l0.length ∧ Fr (m1 p) h h2) (PF h p (fun pos => CMno l0 a0 pos))) h1 (0 + 120) (0 + 12000) [some (.ref (p)), none, none, none, none, none, none, none, none, none, none, none, none, none, none] [.ref o] 4 := by
  refine V_astore_n (i := 1) F dX17_command_4 rfl (Nat.le_of_ble_eq_true rfl) (Nat.le_of_ble_eq_true rfl) ?_
  refine V_aload_n (i := 1) F dX17_command_5 rfl rfl ?_
  refine V_astore_n (i := 2) F dX17_command_6 rfl (Nat.le_of_ble_eq_true rfl) (Nat.le_of_ble_eq_true rfl) ?_
  refine V_iconst (v := -1) F dX17_command_7 rfl ?_
  refine V_istore_n (i := 3) F dX17_command_8 rfl (Nat.le_of_ble_eq_true rfl) (Nat.le_of_ble_eq_true rfl) ?_
  refine V_aload_n (i := 2) F dX17_command_9 rfl rfl ?_
  refine V_callV (st := []) (nn := 0) F dX17_command_10 lk_X17_83 (ct_J6_hashCode hSo (by rw [hx_book]; decide) (by rw [tx_book]; decide)) hSo.isC rfl rfl (Nat.le_of_ble_eq_true rfl) (Nat.le_of_ble_eq_true rfl) (Nat.le_of_ble_eq_true rfl) (by omega) (by omega) ?_
  rintro _ hw ⟨rfl, hSow, hxw⟩
  have hpw := hxw.get hp1 (fun z => by obtain ⟨e, fs, q⟩ := z; rw [← e, hp1] at q; cases q) rfl
  have hGw : Fr (m1 p) h hw := hG1.cal hxw (fun z q => Or.inr (q.1 ▸ ho0))
  have hSw := hS.fr hGw (offK.m1 hp (kO_ne (by decide))) (fun v n c q _ e => ne_ao q hp e)
  refine V_lookup (tgt := 142) F dX17_command_13 (by decide) (off := 129) (by rw [hx_book]; decide +kernel) (by decide) ?_
  refine V_aload_n (i := 2) F dX17_command_142 rfl rfl ?_
  refine V_ldcS F dX17_command_143 q3594 ?_
  intro w1 hGw1
  refine V_callV (st := []) (nn := 1) F dX17_command_145 lk_X17_88 (ct_J6_equals hSow.str (hGw1.str (asc_of (by decide +kernel)) (by decide +kernel))) hSow.str.isC rfl rfl (Nat.le_of_ble_eq_true rfl) (Nat.le_of_ble_eq_true rfl) (Nat.le_of_ble_eq_true rfl) (by omega) (by omega) ?_
  refine PRk ?_
  refine V_if_eqN (tgt := 153) F dX17_command_148 (by decide) (by omega) (fun c_148 => absurd c_148 (by decide)) (fun c_148 => ?_)
  refine V_iconst (v := nI 5) F dX17_command_151 rfl ?_
  refine V_istore_n (i := 3) F dX17_command_152 rfl (Nat.le_of_ble_eq_true rfl) (Nat.le_of_ble_eq_true rfl) ?_
  refine V_iload_n (i := 3) F dX17_command_153 rfl rfl ?_
  refine V_tableIn (tgt := 386) (off := 232) F dX17_command_154 (by decide) (by decide) (by decide +kernel) (by decide) ?_
  refine V_aload_n (i := 0) F dX17_command_386 rfl rfl ?_
  have hp2 : (hw) p = some (.inr (14, [.ref (tx), .int (nI (a1))])) := hpw
  have f2 : Fr (m1 p) hw (hw) := (Fr.rf (M := m1 p) (h := hw))
  have hG2 : Fr (m1 p) h (hw) := hGw.cal f2 (fun z q => Or.inl q)
  have hS2 := hSw.fr f2 (offK.m1 hpw (kO_ne (by decide))) (fun v n c q _ e => ne_ao q hpw e)
  refine V_xcV (st := []) (nn := 0) F dX17_command_387 lk_X17_51 (ct_X17_digitAfterSpace hl0 hp2 hS2 ha1) ⟨14, _, _, _, rfl, .inl hp2⟩ rfl rfl (Nat.le_of_ble_eq_true rfl) (Nat.le_of_ble_eq_true rfl) (Nat.le_of_ble_eq_true rfl) (by omega) (by omega) ?_ ?_
  · rintro _ h3 ⟨v3, a3, he3, rfl, hp3, ha3, hx3⟩
    have f3 : Fr (m1 p) hw h3 := f2.cal hx3 (fun z q => Or.inl q)
    refine V_istore (i := 13) F dX17_command_390 (Nat.le_of_ble_eq_true rfl) (Nat.le_of_ble_eq_true rfl) ?_
    refine V_aload_n (i := 0) F dX17_command_392 rfl rfl ?_
    have hp4 : (h3) p = some (.inr (14, [.ref (tx), .int (nI (a3))])) := hp3
    have f4 : Fr (m1 p) hw (h3) := f3
    have hG4 : Fr (m1 p) h (h3) := hGw.cal f4 (fun z q => Or.inl q)
    have hS4 := hSw.fr f4 (offK.m1 hpw (kO_ne (by decide))) (fun v n c q _ e => ne_ao q hpw e)
    refine V_xcV (st := []) (nn := 0) F dX17_command_393 lk_X17_51 (ct_X17_digitAfterSpace hl0 hp4 hS4 ha3) ⟨14, _, _, _, rfl, .inl hp4⟩ rfl rfl (Nat.le_of_ble_eq_true rfl) (Nat.le_of_ble_eq_true rfl) (Nat.le_of_ble_eq_true rfl) (by omega) (by omega) ?_ ?_
    · rintro _ h5 ⟨v5, a5, he5, rfl, hp5, ha5, hx5⟩
      have f5 : Fr (m1 p) hw h5 := f4.cal hx5 (fun z q => Or.inl q)
      refine V_istore (i := 14) F dX17_command_396 (Nat.le_of_ble_eq_true rfl) (Nat.le_of_ble_eq_true rfl) ?_
      refine V_new F dX17_command_398 nw_X17_105 (by omega) (by omega) ?_
      intro c hfc hbc
      have hcw : hw c = none := f5.none hfc
      refine V_dup F dX17_command_401 rfl ?_
      refine V_aload_n (i := 1) F dX17_command_402 rfl rfl ?_
      refine V_iconst (v := nI 3) F dX17_command_403 rfl ?_
      refine V_newaI F dX17_command_404 (by decide) (by omega) (by omega) ?_
      intro ar hfar hbar
      have p6 : (hset h5 c (.inr (6, [.null, .null]))) p = some (.inr (14, [.ref (tx), .int (nI (a5))])) := ((hset_ne (ne_nw hp5 hfc)).trans hp5)
      have p7 : (hset h5 c (.inr (6, [.null, .null]))) c = some (.inr (6, [.null, .null])) := (hset_self (e := .inr (6, [.null, .null])))
      have harw : hw ar = none := (f5.nw (x := .inr (6, [.null, .null])) hfc).none hfar
      refine V_dup F dX17_command_406 rfl ?_
      have hcw : hw c = none := f5.none hfc
      refine V_iconst (v := nI 0) F dX17_command_407 rfl ?_
      refine V_iload (i := 13) F dX17_command_408 rfl ?_
      refine V_iastN F 0 dX17_command_410 rfl (hset_self (e := .inl (G.2.1 0, 3, .inl (fun _ => nI 0)))) (by decide) (by decide) ?_
      refine V_dup F dX17_command_411 rfl ?_
      refine V_iconst (v := nI 1) F dX17_command_412 rfl ?_
      refine V_iload (i := 14) F dX17_command_413 rfl ?_
      refine V_iastN F 0 dX17_command_415 rfl (hset_self (e := .inl (G.2.1 0, 3, .inl ((upd (fun _ => nI 0) 0 ((nI (v3)))))))) (by decide) (by decide) ?_
      refine V_dup F dX17_command_416 rfl ?_
      refine V_iconst (v := nI 2) F dX17_command_417 rfl ?_
      refine V_aload_n (i := 0) F dX17_command_418 rfl rfl ?_
      have hp8 : ((hset (hset (hset (hset h5 c (.inr (6, [.null, .null]))) ar (.inl (G.2.1 0, 3, .inl (fun _ => nI 0)))) (ar) (.inl (G.2.1 0, 3, .inl ((upd (fun _ => nI 0) 0 ((nI (v3)))))))) (ar) (.inl (G.2.1 0, 3, .inl ((upd ((upd (fun _ => nI 0) 0 ((nI (v3))))) 1 ((nI (v5))))))))) p = some (.inr (14, [.ref (tx), .int (nI (a5))])) := ((hset_ne (ne_nw p6 hfar)).trans ((hset_ne (ne_nw p6 hfar)).trans ((hset_ne (ne_nw p6 hfar)).trans p6)))
      have f8 : Fr (m1 p) hw ((hset (hset (hset (hset h5 c (.inr (6, [.null, .null]))) ar (.inl (G.2.1 0, 3, .inl (fun _ => nI 0)))) (ar) (.inl (G.2.1 0, 3, .inl ((upd (fun _ => nI 0) 0 ((nI (v3)))))))) (ar) (.inl (G.2.1 0, 3, .inl ((upd ((upd (fun _ => nI 0) 0 ((nI (v3))))) 1 ((nI (v5))))))))) := ((((f5.nw (x := .inr (6, [.null, .null])) hfc).nw (x := .inl (G.2.1 0, 3, .inl (fun _ => nI 0))) hfar).put (x := .inl (G.2.1 0, 3, .inl ((upd (fun _ => nI 0) 0 ((nI (v3))))))) (hset_self (e := .inl (G.2.1 0, 3, .inl (fun _ => nI 0)))) ⟨rfl, rfl⟩ rfl ((f5.nw (x := .inr (6, [.null, .null])) hfc).yo hfar)).put (x := .inl (G.2.1 0, 3, .inl ((upd ((upd (fun _ => nI 0) 0 ((nI (v3))))) 1 ((nI (v5))))))) (hset_self (e := .inl (G.2.1 0, 3, .inl ((upd (fun _ => nI 0) 0 ((nI (v3)))))))) ⟨rfl, rfl⟩ rfl ((f5.nw (x := .inr (6, [.null, .null])) hfc).yo hfar))
      have hG8 : Fr (m1 p) h ((hset (hset (hset (hset h5 c (.inr (6, [.null, .null]))) ar (.inl (G.2.1 0, 3, .inl (fun _ => nI 0)))) (ar) (.inl (G.2.1 0, 3, .inl ((upd (fun _ => nI 0) 0 ((nI (v3)))))))) (ar) (.inl (G.2.1 0, 3, .inl ((upd ((upd (fun _ => nI 0) 0 ((nI (v3))))) 1 ((nI (v5))))))))) := hGw.cal f8 (fun z q => Or.inl q)
      have hS8 := hSw.fr f8 (offK.m1 hpw (kO_ne (by decide))) (fun v n c q _ e => ne_ao q hpw e)
      have kc8 : ((hset (hset (hset (hset h5 c (.inr (6, [.null, .null]))) ar (.inl (G.2.1 0, 3, .inl (fun _ => nI 0)))) (ar) (.inl (G.2.1 0, 3, .inl ((upd (fun _ => nI 0) 0 ((nI (v3)))))))) (ar) (.inl (G.2.1 0, 3, .inl ((upd ((upd (fun _ => nI 0) 0 ((nI (v3))))) 1 ((nI (v5))))))))) c = some (.inr (6, [.null, .null])) := ((hset_ne (ne_nw p7 hfar)).trans ((hset_ne (ne_nw p7 hfar)).trans ((hset_ne (ne_nw p7 hfar)).trans p7)))
      have kar8 : ((hset (hset (hset (hset h5 c (.inr (6, [.null, .null]))) ar (.inl (G.2.1 0, 3, .inl (fun _ => nI 0)))) (ar) (.inl (G.2.1 0, 3, .inl ((upd (fun _ => nI 0) 0 ((nI (v3)))))))) (ar) (.inl (G.2.1 0, 3, .inl ((upd ((upd (fun _ => nI 0) 0 ((nI (v3))))) 1 ((nI (v5))))))))) ar = some (.inl (G.2.1 0, 3, .inl ((upd ((upd (fun _ => nI 0) 0 ((nI (v3))))) 1 ((nI (v5))))))) := (hset_self (e := .inl (G.2.1 0, 3, .inl ((upd ((upd (fun _ => nI 0) 0 ((nI (v3))))) 1 ((nI (v5))))))))
      refine V_xcV (st := [.int (nI (2)), .ref (ar), .ref (ar), .ref (o), .ref (c), .ref (c)]) (nn := 0) F dX17_command_419 lk_X17_48 (ct_X17_digit hl0 hp8 hS8 ha5) ⟨14, _, _, _, rfl, .inl hp8⟩ rfl rfl (Nat.le_of_ble_eq_true rfl) (Nat.le_of_ble_eq_true rfl) (Nat.le_of_ble_eq_true rfl) (by omega) (by omega) ?_ ?_
      · rintro _ h9 ⟨v9, a9, he9, rfl, hp9, ha9, hx9⟩
        have f9 : Fr (m1 p) hw h9 := f8.cal hx9 (fun z q => Or.inl q)
        have kc9 := hx9.get kc8 (fun e => ne_oo kc8 hp8 (by decide) e) rfl
        have kar9 := hx9.get kar8 (fun e => ne_ao kar8 hp8 e) rfl
        refine V_iastN F 0 dX17_command_422 rfl kar9 (by decide) (by decide) ?_
        have hp10 : ((hset h9 (ar) (.inl (G.2.1 0, 3, .inl ((upd ((upd ((upd (fun _ => nI 0) 0 ((nI (v3))))) 1 ((nI (v5))))) 2 ((nI (v9))))))))) p = some (.inr (14, [.ref (tx), .int (nI (a9))])) := ((hset_ne (ne_oa hp9 kar9)).trans hp9)
        have f10 : Fr (m1 p) hw ((hset h9 (ar) (.inl (G.2.1 0, 3, .inl ((upd ((upd ((upd (fun _ => nI 0) 0 ((nI (v3))))) 1 ((nI (v5))))) 2 ((nI (v9))))))))) := (f9.put (x := .inl (G.2.1 0, 3, .inl ((upd ((upd ((upd (fun _ => nI 0) 0 ((nI (v3))))) 1 ((nI (v5))))) 2 ((nI (v9))))))) kar9 ⟨rfl, rfl⟩ rfl ((f5.nw (x := .inr (6, [.null, .null])) hfc).yo hfar))
        have hG10 : Fr (m1 p) h ((hset h9 (ar) (.inl (G.2.1 0, 3, .inl ((upd ((upd ((upd (fun _ => nI 0) 0 ((nI (v3))))) 1 ((nI (v5))))) 2 ((nI (v9))))))))) := hGw.cal f10 (fun z q => Or.inl q)
        have hS10 := hSw.fr f10 (offK.m1 hpw (kO_ne (by decide))) (fun v n c q _ e => ne_ao q hpw e)
        have kc10 : ((hset h9 (ar) (.inl (G.2.1 0, 3, .inl ((upd ((upd ((upd (fun _ => nI 0) 0 ((nI (v3))))) 1 ((nI (v5))))) 2 ((nI (v9))))))))) c = some (.inr (6, [.null, .null])) := ((hset_ne (ne_oa kc9 kar9)).trans kc9)
        have kar10 : ((hset h9 (ar) (.inl (G.2.1 0, 3, .inl ((upd ((upd ((upd (fun _ => nI 0) 0 ((nI (v3))))) 1 ((nI (v5))))) 2 ((nI (v9))))))))) ar = some (.inl (G.2.1 0, 3, .inl ((upd ((upd ((upd (fun _ => nI 0) 0 ((nI (v3))))) 1 ((nI (v5))))) 2 ((nI (v9))))))) := (hset_self (e := .inl (G.2.1 0, 3, .inl ((upd ((upd ((upd (fun _ => nI 0) 0 ((nI (v3))))) 1 ((nI (v5))))) 2 ((nI (v9))))))))
        refine V_callI (st := [.ref (c)]) (nn := 2) F dX17_command_423 lk_X17_107 (ct_Co_init kc10) rfl rfl (Nat.le_of_ble_eq_true rfl) (Nat.le_of_ble_eq_true rfl) (Nat.le_of_ble_eq_true rfl) (by omega) (by omega) ?_
        rintro _ h11 ⟨rfl, hcz, hx11⟩
        have f11 : Fr (m1 p) hw h11 := f10.cal hx11 (Yo.m1 (Or.inr hcw))
        have hpz := hx11.get hp10 (fun e => ne_oo hp10 kc10 (by decide) e) rfl
        have harz := hx11.get kar10 (fun e => ne_ao kar10 kc10 e) rfl
        have hSoz := hSow.fr f11 (offK.m1 hpw (kO_ne (by decide))) (fun v n c q _ e => ne_ao q hpw e)
        have hsq : sqP l0 (itemsK 8) a1 = .inr ([v3, v5, v9], a9) := by simp [sqP, itP, itemsK, he3, he5, he9]
        exact VV.rx (V_aret F dX17_command_426 (Or.inl ⟨_, rfl⟩) (Or.inr ⟨_, rfl⟩) (by omega) (by omega) ⟨8, [v3, v5, v9], a9, c, ⟨_, _, hwd, by decide, rfl, hwa, hsq⟩, rfl, ⟨o, ar, _, 3, hGw.none hcw, ho0, hGw.none harw, hcz, harz, (by decide), (by decide), hSoz, (fun i hi => by have hi : i < 3 := hi; have h9 : i = 0 ∨ i = 1 ∨ i = 2 := (by omega); rcases h9 with rfl | rfl | rfl <;> rfl)⟩, hpz, ha9, hGw.cal f11 (fun z q => Or.inl q)⟩)
      · exact fun E q h2 hp9 => V_xout F (HT _) (by omega) (by omega) (PF.of hG8 hp9 (fun pos hR => Or.inr ⟨_, _, 8, hwd, by decide, rfl, by simp [sqP, itP, itemsK, he3, he5, hR]⟩))
    · exact fun E q h2 hp9 => V_xout F (HT _) (by omega) (by omega) (PF.of hG4 hp9 (fun pos hR => Or.inr ⟨_, _, 8, hwd, by decide, rfl, by simp [sqP, itP, itemsK, he3, hR]⟩))
  · exact fun E q h2 hp9 => V_xout F (HT _) (by omega) (by omega) (PF.of hG2 hp9 (fun pos hR => Or.inr ⟨_, _, 8, hwd, by decide, rfl, by simp [sqP, itP, itemsK, hR]⟩))
theorem cmd_9 {G : GG} {X : CX} {h h1 : AH} {p tx a0 a1 o : Nat} {l0 : List Nat} (F : Fx G X cX17_command 15 yX17_command.cls (some (.object "SleeperRailway$Command")) 16 170 12500) (HT : ∀ p, ∀ x ∈ (xc X).exceptionTable.toList, covers x p = false) (hl0 : (xl X).stackTraces = false) (hp : h p = some (.inr (14, [.ref tx, .int (nI a0)]))) (hS : STR G h tx l0) (hwd : wdP l0 a0 = .inr (txl "drop", a1)) (hwa : a0 + (txl "drop").length ≤ a1) (ho0 : h o = none) (hSo : STR G h1 o (txl "drop")) (hp1 : h1 p = some (.inr (14, [.ref tx, .int (nI a1)]))) (ha1 : a1 ≤ l0.length) (hG1 : Fr (m1 p) h h1) : VV G X 15 (EQX G X (170) (12500) (fun r h2 => ∃ k vs a2 c, CMok l0 a0 k vs a2 ∧ r = some (.ref c) ∧ CMD G h h2 k vs c ∧ h2 p = some (.inr (14, [.ref tx, .int (nI a2)])) ∧ a2 ≤ l0.length ∧ Fr (m1 p) h h2) (PF h p (fun pos => CMno l0 a0 pos))) h1 (0 + 120) (0 + 12000) [some (.ref (p)), none, none, none, none, none, none, none, none, none, none, none, none, none, none] [.ref o] 4 := by
  refine V_astore_n (i := 1) F dX17_command_4 rfl (Nat.le_of_ble_eq_true rfl) (Nat.le_of_ble_eq_true rfl) ?_
  refine V_aload_n (i := 1) F dX17_command_5 rfl rfl ?_
  refine V_astore_n (i := 2) F dX17_command_6 rfl (Nat.le_of_ble_eq_true rfl) (Nat.le_of_ble_eq_true rfl) ?_
  refine V_iconst (v := -1) F dX17_command_7 rfl ?_
  refine V_istore_n (i := 3) F dX17_command_8 rfl (Nat.le_of_ble_eq_true rfl) (Nat.le_of_ble_eq_true rfl) ?_
  refine V_aload_n (i := 2) F dX17_command_9 rfl rfl ?_
  refine V_callV (st := []) (nn := 0) F dX17_command_10 lk_X17_83 (ct_J6_hashCode hSo (by rw [hx_drop]; decide) (by rw [tx_drop]; decide)) hSo.isC rfl rfl (Nat.le_of_ble_eq_true rfl) (Nat.le_of_ble_eq_true rfl) (Nat.le_of_ble_eq_true rfl) (by omega) (by omega) ?_
  rintro _ hw ⟨rfl, hSow, hxw⟩
  have hpw := hxw.get hp1 (fun z => by obtain ⟨e, fs, q⟩ := z; rw [← e, hp1] at q; cases q) rfl
  have hGw : Fr (m1 p) h hw := hG1.cal hxw (fun z q => Or.inr (q.1 ▸ ho0))
  have hSw := hS.fr hGw (offK.m1 hp (kO_ne (by decide))) (fun v n c q _ e => ne_ao q hp e)
  refine V_lookup (tgt := 153) F dX17_command_13 (by decide) (off := 140) (by rw [hx_drop]; decide +kernel) (by decide) ?_
  refine V_iload_n (i := 3) F dX17_command_153 rfl rfl ?_
  refine V_tableOut (tgt := 427) F dX17_command_154 (by decide) (by decide) ?_
  refine V_new F dX17_command_427 nw_X17_105 (by omega) (by omega) ?_
  intro c hfc hbc
  have hcw : hw c = none := (Fr.rf (M := m1 p) (h := hw)).none hfc
  refine V_dup F dX17_command_430 rfl ?_
  refine V_aload_n (i := 1) F dX17_command_431 rfl rfl ?_
  refine V_iconst (v := nI 1) F dX17_command_432 rfl ?_
  refine V_newaI F dX17_command_433 (by decide) (by omega) (by omega) ?_
  intro ar hfar hbar
  have p1 : (hset hw c (.inr (6, [.null, .null]))) p = some (.inr (14, [.ref (tx), .int (nI (a1))])) := ((hset_ne (ne_nw hpw hfc)).trans hpw)
  have p2 : (hset hw c (.inr (6, [.null, .null]))) c = some (.inr (6, [.null, .null])) := (hset_self (e := .inr (6, [.null, .null])))
  have harw : hw ar = none := ((Fr.rf (M := m1 p) (h := hw)).nw (x := .inr (6, [.null, .null])) hfc).none hfar
  refine V_dup F dX17_command_435 rfl ?_
  have hcw : hw c = none := (Fr.rf (M := m1 p) (h := hw)).none hfc
  refine V_iconst (v := nI 0) F dX17_command_436 rfl ?_
  refine V_aload_n (i := 0) F dX17_command_437 rfl rfl ?_
  have hp3 : ((hset (hset hw c (.inr (6, [.null, .null]))) ar (.inl (G.2.1 0, 1, .inl (fun _ => nI 0))))) p = some (.inr (14, [.ref (tx), .int (nI (a1))])) := ((hset_ne (ne_nw p1 hfar)).trans p1)
  have f3 : Fr (m1 p) hw ((hset (hset hw c (.inr (6, [.null, .null]))) ar (.inl (G.2.1 0, 1, .inl (fun _ => nI 0))))) := (((Fr.rf (M := m1 p) (h := hw)).nw (x := .inr (6, [.null, .null])) hfc).nw (x := .inl (G.2.1 0, 1, .inl (fun _ => nI 0))) hfar)
  have hG3 : Fr (m1 p) h ((hset (hset hw c (.inr (6, [.null, .null]))) ar (.inl (G.2.1 0, 1, .inl (fun _ => nI 0))))) := hGw.cal f3 (fun z q => Or.inl q)
  have hS3 := hSw.fr f3 (offK.m1 hpw (kO_ne (by decide))) (fun v n c q _ e => ne_ao q hpw e)
  have kc3 : ((hset (hset hw c (.inr (6, [.null, .null]))) ar (.inl (G.2.1 0, 1, .inl (fun _ => nI 0))))) c = some (.inr (6, [.null, .null])) := ((hset_ne (ne_nw p2 hfar)).trans p2)
  have kar3 : ((hset (hset hw c (.inr (6, [.null, .null]))) ar (.inl (G.2.1 0, 1, .inl (fun _ => nI 0))))) ar = some (.inl (G.2.1 0, 1, .inl (fun _ => nI 0))) := (hset_self (e := .inl (G.2.1 0, 1, .inl (fun _ => nI 0))))
  refine V_xcV (st := [.int (nI (0)), .ref (ar), .ref (ar), .ref (o), .ref (c), .ref (c)]) (nn := 0) F dX17_command_438 lk_X17_102 (ct_X17_number hl0 hp3 hS3 ha1) ⟨14, _, _, _, rfl, .inl hp3⟩ rfl rfl (Nat.le_of_ble_eq_true rfl) (Nat.le_of_ble_eq_true rfl) (Nat.le_of_ble_eq_true rfl) (by omega) (by omega) ?_ ?_
  · rintro _ h4 ⟨v4, a4, he4, rfl, hp4, ha4, hx4⟩
    have f4 : Fr (m1 p) hw h4 := f3.cal hx4 (fun z q => Or.inl q)
    have kc4 := hx4.get kc3 (fun e => ne_oo kc3 hp3 (by decide) e) rfl
    have kar4 := hx4.get kar3 (fun e => ne_ao kar3 hp3 e) rfl
    refine V_iastN F 0 dX17_command_441 rfl kar4 (by decide) (by decide) ?_
    have hp5 : ((hset h4 (ar) (.inl (G.2.1 0, 1, .inl ((upd (fun _ => nI 0) 0 ((nI (v4))))))))) p = some (.inr (14, [.ref (tx), .int (nI (a4))])) := ((hset_ne (ne_oa hp4 kar4)).trans hp4)
    have f5 : Fr (m1 p) hw ((hset h4 (ar) (.inl (G.2.1 0, 1, .inl ((upd (fun _ => nI 0) 0 ((nI (v4))))))))) := (f4.put (x := .inl (G.2.1 0, 1, .inl ((upd (fun _ => nI 0) 0 ((nI (v4))))))) kar4 ⟨rfl, rfl⟩ rfl (((Fr.rf (M := m1 p) (h := hw)).nw (x := .inr (6, [.null, .null])) hfc).yo hfar))
    have hG5 : Fr (m1 p) h ((hset h4 (ar) (.inl (G.2.1 0, 1, .inl ((upd (fun _ => nI 0) 0 ((nI (v4))))))))) := hGw.cal f5 (fun z q => Or.inl q)
    have hS5 := hSw.fr f5 (offK.m1 hpw (kO_ne (by decide))) (fun v n c q _ e => ne_ao q hpw e)
    have kc5 : ((hset h4 (ar) (.inl (G.2.1 0, 1, .inl ((upd (fun _ => nI 0) 0 ((nI (v4))))))))) c = some (.inr (6, [.null, .null])) := ((hset_ne (ne_oa kc4 kar4)).trans kc4)
    have kar5 : ((hset h4 (ar) (.inl (G.2.1 0, 1, .inl ((upd (fun _ => nI 0) 0 ((nI (v4))))))))) ar = some (.inl (G.2.1 0, 1, .inl ((upd (fun _ => nI 0) 0 ((nI (v4))))))) := (hset_self (e := .inl (G.2.1 0, 1, .inl ((upd (fun _ => nI 0) 0 ((nI (v4))))))))
    refine V_callI (st := [.ref (c)]) (nn := 2) F dX17_command_442 lk_X17_107 (ct_Co_init kc5) rfl rfl (Nat.le_of_ble_eq_true rfl) (Nat.le_of_ble_eq_true rfl) (Nat.le_of_ble_eq_true rfl) (by omega) (by omega) ?_
    rintro _ h6 ⟨rfl, hcz, hx6⟩
    have f6 : Fr (m1 p) hw h6 := f5.cal hx6 (Yo.m1 (Or.inr hcw))
    have hpz := hx6.get hp5 (fun e => ne_oo hp5 kc5 (by decide) e) rfl
    have harz := hx6.get kar5 (fun e => ne_ao kar5 kc5 e) rfl
    have hSoz := hSow.fr f6 (offK.m1 hpw (kO_ne (by decide))) (fun v n c q _ e => ne_ao q hpw e)
    have hsq : sqP l0 (itemsK 9) a1 = .inr ([v4], a4) := by simp [sqP, itP, itemsK, he4]
    exact VV.rx (V_aret F dX17_command_445 (Or.inl ⟨_, rfl⟩) (Or.inr ⟨_, rfl⟩) (by omega) (by omega) ⟨9, [v4], a4, c, ⟨_, _, hwd, by decide, rfl, hwa, hsq⟩, rfl, ⟨o, ar, _, 1, hGw.none hcw, ho0, hGw.none harw, hcz, harz, (by decide), (by decide), hSoz, (fun i hi => by have hi : i < 1 := hi; have h9 : i = 0 := (by omega); subst h9; rfl)⟩, hpz, ha4, hGw.cal f6 (fun z q => Or.inl q)⟩)
  · exact fun E q h2 hp9 => V_xout F (HT _) (by omega) (by omega) (PF.of hG3 hp9 (fun pos hR => Or.inr ⟨_, _, 9, hwd, by decide, rfl, by simp [sqP, itP, itemsK, hR]⟩))
theorem ct_X17_command {G : GG} {l : Launch} {h : AH} {p tx a0 : Nat} {l0 : List Nat}  (hl0 : l.stackTraces = false) (hp : h p = some (.inr (14, [.ref tx, .int (nI a0)]))) (hS : STR G h tx l0) (ha : a0 ≤ l0.length)  : CtX G l yX17_command cX17_command 15 (some (.object "SleeperRailway$Command")) 16 (170) (12500) [.ref p] h (fun r h2 => ∃ k vs a2 c, CMok l0 a0 k vs a2 ∧ r = some (.ref c) ∧ CMD G h h2 k vs c ∧ h2 p = some (.inr (14, [.ref tx, .int (nI a2)])) ∧ a2 ≤ l0.length ∧ Fr (m1 p) h h2) (PF h p (fun pos => CMno l0 a0 pos)) := by
  refine CtX.of (by decide) (Nat.le_of_ble_eq_true rfl) (cat1 rfl) (fun X hXl F HT => ?_)
  subst hXl
  obtain ⟨-, -, -, -, -, -, -, -, hasl, hl200, -⟩ := id hS
  refine V_aload_n (i := 0) F dX17_command_0 rfl rfl ?_
  refine V_xcV (st := []) (nn := 0) F dX17_command_1 lk_X17_80 (ct_X17_word hl0 hp hS ha) ⟨14, _, _, _, rfl, .inl hp⟩ rfl rfl (Nat.le_of_ble_eq_true rfl) (Nat.le_of_ble_eq_true rfl) (Nat.le_of_ble_eq_true rfl) (by omega) (by omega) ?_ ?_
  · rintro _ h1 ⟨w, a1, o, k, hwd, rfl, ho0, hSo, hk, rfl, hp1, ha1, hwa, hG1⟩
    have hk9 : k = 0 ∨ k = 1 ∨ k = 2 ∨ k = 3 ∨ k = 4 ∨ k = 5 ∨ k = 6 ∨ k = 7 ∨ k = 8 ∨ k = 9 := by omega
    rcases hk9 with rfl | rfl | rfl | rfl | rfl | rfl | rfl | rfl | rfl | rfl
    · exact cmd_0 F HT hl0 hp hS hwd hwa ho0 hSo hp1 ha1 hG1
    · exact cmd_1 F HT hl0 hp hS hwd hwa ho0 hSo hp1 ha1 hG1
    · exact cmd_2 F HT hl0 hp hS hwd hwa ho0 hSo hp1 ha1 hG1
    · exact cmd_3 F HT hl0 hp hS hwd hwa ho0 hSo hp1 ha1 hG1
    · exact cmd_4 F HT hl0 hp hS hwd hwa ho0 hSo hp1 ha1 hG1
    · exact cmd_5 F HT hl0 hp hS hwd hwa ho0 hSo hp1 ha1 hG1
    · exact cmd_6 F HT hl0 hp hS hwd hwa ho0 hSo hp1 ha1 hG1
    · exact cmd_7 F HT hl0 hp hS hwd hwa ho0 hSo hp1 ha1 hG1
    · exact cmd_8 F HT hl0 hp hS hwd hwa ho0 hSo hp1 ha1 hG1
    · exact cmd_9 F HT hl0 hp hS hwd hwa ho0 hSo hp1 ha1 hG1
  · exact fun E q h2 hp9 => V_xout F (HT _) (by omega) (by omega) (PF.of Fr.rf hp9 (fun pos hR => Or.inl hR))
