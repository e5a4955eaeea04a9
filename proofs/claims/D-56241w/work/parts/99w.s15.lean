set_option maxRecDepth 100000
/-! ===== the parser's list of commands ===== -/
theorem sq_len {l : List Nat} {k a a2 : Nat} {vs : List Nat} (hk : k < 10) (h : sqP l (itemsK k) a = .inr (vs, a2)) : a + 2 ≤ a2 := by
  have key : ∀ is a vs a2, sqP l is a = .inr (vs, a2) → a ≤ a2 := by
    intro is
    induction is with
    | nil => intro a vs a2 h; injection h with h; injection h with h1 h2; omega
    | cons i is ih =>
      intro a vs a2 h
      unfold sqP at h
      cases q : itP i l a with
      | inl e => rw [q] at h; cases h
      | inr p =>
        obtain ⟨v, a1⟩ := p
        rw [q] at h
        cases q2 : sqP l is a1 with
        | inl e => simp only [q2] at h; cases h
        | inr p2 =>
          obtain ⟨vs2, a3⟩ := p2
          simp only [q2] at h
          injection h with h
          injection h with h1 h2
          have h3 := ih _ _ _ q2
          have h4 : a ≤ a1 := by
            unfold itP at q
            split at q
            · have := dsP_ok q; omega
            · split at q
              · have := (dg1P_ok q).2.1; omega
              · have := nuP_ok q; omega
          omega
  obtain ⟨i, is, e, hi⟩ : ∃ i is, itemsK k = i :: is ∧ i ≠ 1 := by
    have hk9 : k = 0 ∨ k = 1 ∨ k = 2 ∨ k = 3 ∨ k = 4 ∨ k = 5 ∨ k = 6 ∨ k = 7 ∨ k = 8 ∨ k = 9 := by omega
    rcases hk9 with rfl | rfl | rfl | rfl | rfl | rfl | rfl | rfl | rfl | rfl <;> exact ⟨_, _, rfl, by decide⟩
  rw [e] at h
  unfold sqP at h
  cases q : itP i l a with
  | inl e => rw [q] at h; cases h
  | inr p =>
    obtain ⟨v, a1⟩ := p
    rw [q] at h
    cases q2 : sqP l is a1 with
    | inl e => simp only [q2] at h; cases h
    | inr p2 =>
      obtain ⟨vs2, a3⟩ := p2
      simp only [q2] at h
      injection h with h
      injection h with h1 h2
      have h3 := key _ _ _ _ q2
      have h4 : a + 2 ≤ a1 := by
        unfold itP at q
        split at q
        · have := dsP_ok q; omega
        · first | (have := nuP_ok q; omega) | (rw [if_neg hi] at q; have := nuP_ok q; omega)
      omega
theorem wd_len {k : Nat} (hk : k < 10) : 4 ≤ (txl (wdS k)).length := by
  have hk9 : k = 0 ∨ k = 1 ∨ k = 2 ∨ k = 3 ∨ k = 4 ∨ k = 5 ∨ k = 6 ∨ k = 7 ∨ k = 8 ∨ k = 9 := by omega
  rcases hk9 with rfl | rfl | rfl | rfl | rfl | rfl | rfl | rfl | rfl | rfl <;> decide +kernel
theorem CMok.len {l : List Nat} {a k a2 : Nat} {vs : List Nat} (h : CMok l a k vs a2) : a + 6 ≤ a2 := by
  obtain ⟨w, a1, h1, hk, rfl, h3, h4⟩ := h
  have := wd_len hk
  have := sq_len hk h4
  omega
/-- commands behind semicolons from a to a2 -/
def CMT (l : List Nat) : List (Nat × List Nat) → Nat → Nat → Prop
  | [], a, a2 => a = a2
  | x :: L, a, a2 => ∃ a1 b, tkP 59 l a = .inr a1 ∧ CMok l a1 x.1 x.2 b ∧ CMT l L b a2
theorem CMT.snoc {l : List Nat} {x : Nat × List Nat} {b a1 c : Nat} (h1 : tkP 59 l b = .inr a1) (h2 : CMok l a1 x.1 x.2 c) : ∀ {L : List (Nat × List Nat)} {a : Nat}, CMT l L a b → CMT l (L ++ [x]) a c
  | [], a, h => by
    have e : a = b := h
    subst e
    exact ⟨a1, c, h1, h2, rfl⟩
  | y :: L, a, h => by
    obtain ⟨a3, b3, q1, q2, q3⟩ := h
    exact ⟨a3, b3, q1, q2, CMT.snoc h1 h2 q3⟩
/-- the text's commands -/
def PRS (l : List Nat) (a0 : Nat) (L : List (Nat × List Nat)) : Prop := ∃ x L' a1, L = x :: L' ∧ CMok l a0 x.1 x.2 a1 ∧ CMT l L' a1 l.length
/-- where the text fails -/
def PRN (l : List Nat) (a0 pos : Nat) : Prop := CMno l a0 pos ∨ ∃ (x : Nat × List Nat) (L' : List (Nat × List Nat)) (a1 a2 : Nat), CMok l a0 x.1 x.2 a1 ∧ CMT l L' a1 a2 ∧ a2 < l.length ∧ (tkP 59 l a2 = .inl pos ∨ ∃ a3, tkP 59 l a2 = .inr a3 ∧ CMno l a3 pos)
theorem CMD.fr {G : GG} {M : Nat → Prop} {h0 h h2 : AH} {k c : Nat} {vs : List Nat} (hC : CMD G h0 h k vs c) (hx : Fr M h h2) (h6 : offK M h (kO 6)) (h22 : offK M h (kO 22)) (hI : offK M h kI) : CMD G h0 h2 k vs c := by
  obtain ⟨wa, ar, f, nA, c0, w0, a0, hc, ha, h1, h2', hS, hf⟩ := hC
  exact ⟨wa, ar, f, nA, c0, w0, a0, hx.get hc (h6.o hc) rfl, hx.get ha (hI _ _ ha rfl) rfl, h1, h2', hS.fr hx h22 (fun v n c q _ => hI v _ q rfl), hf⟩
theorem CMD.fr1 {G : GG} {h0 h h2 : AH} {k c a ci : Nat} {vs : List Nat} {fs : List Value} (hC : CMD G h0 h k vs c) (hx : Fr (m1 a) h h2) (ha : h a = some (.inr (ci, fs))) (hci : ci ≠ 6 ∧ ci ≠ 22) : CMD G h0 h2 k vs c :=
  hC.fr hx (offK.m1 ha (kO_ne hci.1)) (offK.m1 ha (kO_ne hci.2)) (offK.m1 ha rfl)
theorem CMD.base {G : GG} {h0 h1 h : AH} {M : Nat → Prop} {k c : Nat} {vs : List Nat} (hC : CMD G h1 h k vs c) (hx : Fr M h0 h1) : CMD G h0 h k vs c := by
  obtain ⟨wa, ar, f, nA, c0, w0, a0, q⟩ := hC
  exact ⟨wa, ar, f, nA, hx.none c0, hx.none w0, hx.none a0, q⟩
/-- a list of commands -/
def CML (G : GG) (h0 h : AH) (al ar : Nat) (L : List (Nat × List Nat)) (fc : Nat → Nat) : Prop := ALs G h al ar L.length L.length fc ∧ ∀ i, i < L.length → CMD G h0 h (L.getD i (0, [])).1 (L.getD i (0, [])).2 (fc i)
theorem CML.frp {G : GG} {h0 h h2 : AH} {al ar p : Nat} {L : List (Nat × List Nat)} {fc : Nat → Nat} {fs : List Value} (hC : CML G h0 h al ar L fc) (hx : Fr (m1 p) h h2) (hp : h p = some (.inr (14, fs))) : CML G h0 h2 al ar L fc :=
  ⟨hC.1.frQ hx (fun e => ne_oo hC.1.1 hp (by decide) e) (fun c f q e => ne_ao q hp e), fun i hi => (hC.2 i hi).fr1 hx hp (by decide)⟩
theorem CML.snoc {G : GG} {h0 h h2 : AH} {al ar ar2 c : Nat} {x : Nat × List Nat} {L : List (Nat × List Nat)} {fc : Nat → Nat} (hC : CML G h0 h al ar L fc) (hB : HB G h) (hx : CMD G h0 h x.1 x.2 c) (hA : ALs G h2 al ar2 (L.length + 1) (L.length + 1) (up fc L.length c)) (hF : Fr (m2 al ar) h h2) : CML G h0 h2 al ar2 (L ++ [x]) (up fc L.length c) := by
  have hk : ∀ {S : va_E → Bool}, (∀ f, S (.inr (18, f)) = false) → (∀ c n f, S (.inl (c, n, .inr (.inr (.inr (.inr f))))) = false) → offK (m2 al ar) h S := fun h1 h2 => offK.al hC.1 hB h1 h2
  refine ⟨by rw [List.length_append]; exact hA, fun i hi => ?_⟩
  rw [List.length_append, List.length_singleton] at hi
  by_cases e : i = L.length
  · subst e
    rw [up_s, List.getD_eq_getElem?_getD, List.getElem?_append_right (Nat.le_refl _), Nat.sub_self]
    exact hx.fr hF (hk (fun _ => rfl) (fun _ _ _ => rfl)) (hk (fun _ => rfl) (fun _ _ _ => rfl)) (hk (fun _ => rfl) (fun _ _ _ => rfl))
  · rw [up_n e, List.getD_eq_getElem?_getD, List.getElem?_append_left (by omega), ← List.getD_eq_getElem?_getD]
    exact (hC.2 i (by omega)).fr hF (hk (fun _ => rfl) (fun _ _ _ => rfl)) (hk (fun _ => rfl) (fun _ _ _ => rfl)) (hk (fun _ => rfl) (fun _ _ _ => rfl))

theorem ct_X17_init {G : GG} {l : Launch} {h : AH} {p tx : Nat}  (hp : h p = some (.inr (14, [.null, .int (nI 0)]))) : Ct G l yX17_init cX17_init 2 none 1 (0) (0) [.ref p, .ref tx] h (fun r h2 => r = none ∧ h2 p = some (.inr (14, [.ref tx, .int (nI 0)])) ∧ Fr (m1 p) h h2) := by
  refine Ct.of (by decide) (Nat.le_of_ble_eq_true rfl) (cat1 rfl) (fun X hXl F HN => ?_)
  subst hXl
  refine V_aload_n (i := 0) F dX17_init_0 rfl rfl ?_
  refine V_objInit F dX17_init_1 q3425 q180 q181 (Nat.le_of_ble_eq_true rfl) (Nat.le_of_ble_eq_true rfl) ?_
  refine V_aload_n (i := 0) F dX17_init_4 rfl rfl ?_
  refine V_aload_n (i := 1) F dX17_init_5 rfl rfl ?_
  refine V_putF F dX17_init_6 ff_X17_7_X17 hp HN rfl rfl (Nat.le_of_ble_eq_true rfl) ?_
  refine VV.heap (h' := (hset h (p) (.inr (14, [.ref (tx), .int (nI (0))])))) rfl ?_
  have qp : (hset h (p) (.inr (14, [.ref (tx), .int (nI (0))]))) p = some (.inr (14, [.ref (tx), .int (nI (0))])) := (hset_self (e := .inr (14, [.ref (tx), .int (nI (0))])))
  have qf := ((Fr.rf (M := m1 p) (h := h)).put (x := .inr (14, [.ref (tx), .int (nI (0))])) hp rfl rfl (Or.inl rfl))
  exact V_vret F dX17_init_9 (by first | exact Nat.le_of_ble_eq_true rfl | omega) (by first | exact Nat.le_of_ble_eq_true rfl | omega) ⟨rfl, qp, qf⟩
theorem ct_X17_commands {G : GG} {l : Launch} {h : AH} {p tx : Nat} {l0 : List Nat}  (hl0 : l.stackTraces = false) (hp : h p = some (.inr (14, [.ref tx, .int (nI 0)]))) (hS : STR G h tx l0)  : CtX G l yX17_commands cX17_commands 2 (some (.object "java/util/List")) 17 (10 + 180 * (l0.length / 7 + 2)) (10 + 13000 * (l0.length / 7 + 2)) [.ref p] h (fun r h2 => ∃ al ar L fc, r = some (.ref al) ∧ PRS l0 0 L ∧ CML G h h2 al ar L fc ∧ h al = none ∧ 7 * L.length ≤ l0.length + 1 ∧ Fr (m1 p) h h2) (PF h p (fun pos => PRN l0 0 pos)) := by
  refine CtX.of (by decide) (Nat.le_of_ble_eq_true rfl) (cat1 rfl) (fun X hXl F HT => ?_)
  subst hXl
  obtain ⟨-, -, -, -, -, -, -, -, hasl, hl200, -⟩ := id hS
  refine VV.bs (fun hB0 => ?_)
  have harr : h (ad G 1) = none := hB0.no F.gb.2.1
  refine V_new F dX17_commands_0 nw_X17_110 (by omega) (by omega) ?_
  intro al hfal hbal
  refine V_dup F dX17_commands_3 rfl ?_
  refine V_callI (st := [.ref (al)]) (nn := 0) F dX17_commands_4 lk_X17_112 (ct_AL_init (fun _ => 0) (hset_self (e := .inr (18, [.int 0, .null, .int 0])))) rfl rfl (Nat.le_of_ble_eq_true rfl) (Nat.le_of_ble_eq_true rfl) (Nat.le_of_ble_eq_true rfl) (by omega) (by omega) ?_
  rintro _ h1 ⟨rfl, hA1, hx1⟩
  have hN1 : Fr nM h h1 := (Fr.rf.nw (x := .inr (18, [.int 0, .null, .int 0])) hfal).cal hx1 (Yo.m1 (Or.inr hfal))
  have hp1 := hN1.get hp id rfl
  have hS1 := hS.fr0 hN1
  have hG1 : Fr (m1 p) h h1 := hN1.mono (fun _ z => z.elim)
  refine V_astore_n (i := 1) F dX17_commands_7 rfl (Nat.le_of_ble_eq_true rfl) (Nat.le_of_ble_eq_true rfl) ?_
  refine V_aload_n (i := 1) F dX17_commands_8 rfl rfl ?_
  have hC1 : CML G h h1 al (ad G 1) [] (fun _ => 0) := ⟨hA1, fun i hi => absurd hi (Nat.not_lt_zero i)⟩
  refine V_aload_n (i := 0) F dX17_commands_9 rfl rfl ?_
  refine V_xcV (st := [.ref (al)]) (nn := 0) F dX17_commands_10 lk_X17_113 (ct_X17_command hl0 hp1 hS1 (Nat.zero_le _)) ⟨14, _, _, _, rfl, .inl hp1⟩ rfl rfl (Nat.le_of_ble_eq_true rfl) (Nat.le_of_ble_eq_true rfl) (Nat.le_of_ble_eq_true rfl) (by omega) (by omega) ?_ ?_
  · rintro _ h6 ⟨k6, vs6, a6, c6, hok6, rfl, hcm6, hp6, ha6, hx6⟩
    have hG6 : Fr (m1 p) h h6 := hG1.cal hx6 (fun z q => Or.inl q)
    have hS6 := hS.fr hG6 (offK.m1 hp (kO_ne (by decide))) (fun v n c q _ e => ne_ao q hp e)
    have hC6 := CML.frp hC1 hx6 hp1
    have hb6 := hcm6.base hG1
    have hcc6 := hcm6
    obtain ⟨wa9, ar9, f9, nA9, -, -, -, hcc6, -⟩ := hcc6
    refine VV.bs (fun hB7 => ?_)
    have hal0 : h al = none := hfal
    have hLn : ([] : List (Nat × List Nat)).length = 0 := rfl
    refine V_callF (st := []) (nn := 1) F dX17_commands_13 ⟨lw_F q3618 q1176 q1178 q111 q1180, ⟨q1175, List.mem_append_left _ q1174, q1179, q1177, q387⟩, (by decide +kernel), (by decide +kernel)⟩ (ct_AL_add hC6.1 (isO_comm hcc6) (by simp only [List.length_cons, List.length_nil]; omega)) hC6.1.isC rfl rfl (Nat.le_of_ble_eq_true rfl) (Nat.le_of_ble_eq_true rfl) (Nat.le_of_ble_eq_true rfl) (by omega) (by omega) ?_
    rintro _ h7 ⟨rfl, ar7, hA7, hx7, hq7⟩
    have hC7 := hC6.snoc hB7 (x := (k6, vs6)) hb6 hA7 hx7
    have hG7 : Fr (m1 p) h h7 := hG6.cal hx7 (Yo.m2 (Or.inr hal0) (Or.inr harr))
    have hp7 := hx7.get hp6 ((offK.al (S := kO 14) hC6.1 hB7 (fun _ => rfl) (fun _ _ _ => rfl)).o hp6) rfl
    have hS7 := hS.fr hG7 (offK.m1 hp (kO_ne (by decide))) (fun v n c q _ e => ne_ao q hp e)
    have har7 : h ar7 = none := hq7.elim (fun e => e ▸ harr) (fun z => hG6.none z.1)
    obtain ⟨x0, hx0⟩ : ∃ x, x = (k6, vs6) := ⟨_, rfl⟩
    obtain ⟨b0, hb0⟩ : ∃ b, b = a6 := ⟨_, rfl⟩
    have hc0 : CMok l0 0 x0.1 x0.2 b0 := by rw [hx0, hb0]; exact hok6
    refine V_pop F dX17_commands_18 rfl ?_
    have loop_19 : ∀ (nn : Nat) (L : List (Nat × List Nat)) (a : Nat) (hh : AH) (arr : Nat) (fc : Nat → Nat), l0.length + 1 - a < nn → hh p = some (.inr (14, [.ref tx, .int (nI a)])) → STR G hh tx l0 → a ≤ l0.length → Fr (m1 p) h hh → CML G h hh al arr (x0 :: L) fc → CMT l0 L b0 a → 7 * L.length + 6 ≤ a → h arr = none → VV G X 2 ((EQX G X (10 + 180 * (l0.length / 7 + 2)) (10 + 13000 * (l0.length / 7 + 2)) (fun r h2 => ∃ al ar L fc, r = some (.ref al) ∧ PRS l0 0 L ∧ CML G h h2 al ar L fc ∧ h al = none ∧ 7 * L.length ≤ l0.length + 1 ∧ Fr (m1 p) h h2) (PF h p (fun pos => PRN l0 0 pos)))) hh (10 + 180 * (L.length + 1)) (10 + 13000 * (L.length + 1)) [some (.ref (p)), some (.ref (al))] [] 19 := by
      intro nn
      induction nn with
      | zero => intro L a hh arr fc hm hpj hSj haj hFj hCj hCT h7 harr; exact absurd hm (by omega)
      | succ nn ih_19 =>
        intro L a hh arr fc hm hpj hSj haj hFj hCj hCT h7 harr
        refine V_aload_n (i := 0) F dX17_commands_19 rfl rfl ?_
        refine V_getf F dX17_commands_20 fc_X17_13_X17 (.inl hpj) rfl ?_
        refine V_aload_n (i := 0) F dX17_commands_23 rfl rfl ?_
        refine V_getf F dX17_commands_24 fc_X17_7_X17 (.inl hpj) rfl ?_
        refine V_callV (st := [.int (nI (a))]) (nn := 0) F dX17_commands_27 lk_X17_17 (ct_STR_len hSj) hSj.isC rfl rfl (Nat.le_of_ble_eq_true rfl) (Nat.le_of_ble_eq_true rfl) (Nat.le_of_ble_eq_true rfl) (by omega) (by omega) ?_
        refine PRk ?_
        refine V_icmp_geN (tgt := 53) F dX17_commands_30 (by decide) (by omega) (by omega) (fun c_30 => ?_) (fun c_30 => ?_)
        · refine V_aload_n (i := 1) F dX17_commands_53 rfl rfl ?_
          exact VV.rx (V_aret F dX17_commands_54 (Or.inl ⟨_, rfl⟩) (Or.inr ⟨_, rfl⟩) (by first | exact Nat.le_of_ble_eq_true rfl | omega) (by first | exact Nat.le_of_ble_eq_true rfl | omega) ⟨al, arr, x0 :: L, fc, rfl, ⟨x0, L, b0, rfl, hc0, by rw [show l0.length = a by omega]; exact hCT⟩, hCj, hal0, by rw [List.length_cons]; omega, hFj⟩)
        · refine V_aload_n (i := 0) F dX17_commands_33 rfl rfl ?_
          refine V_bipush (v := nI 59) F dX17_commands_34 rfl ?_
          refine V_xcV (st := []) (nn := 1) F dX17_commands_36 lk_X17_44 (ct_X17_take hl0 hpj hSj haj (by decide) (by decide)) ⟨14, _, _, _, rfl, .inl hpj⟩ rfl rfl (Nat.le_of_ble_eq_true rfl) (Nat.le_of_ble_eq_true rfl) (Nat.le_of_ble_eq_true rfl) (by omega) (by omega) ?_ ?_
          · rintro _ h1 ⟨heT, rfl, hp1, ha1, hx1⟩
            have hG1 : Fr (m1 p) h h1 := hFj.cal hx1 (fun z q => Or.inl q)
            have hS1 := hS.fr hG1 (offK.m1 hp (kO_ne (by decide))) (fun v n c q _ e => ne_ao q hp e)
            have hC1 := CML.frp hCj hx1 hpj
            refine V_aload_n (i := 1) F dX17_commands_39 rfl rfl ?_
            refine V_aload_n (i := 0) F dX17_commands_40 rfl rfl ?_
            refine V_xcV (st := [.ref (al)]) (nn := 0) F dX17_commands_41 lk_X17_113 (ct_X17_command hl0 hp1 hS1 ha1) ⟨14, _, _, _, rfl, .inl hp1⟩ rfl rfl (Nat.le_of_ble_eq_true rfl) (Nat.le_of_ble_eq_true rfl) (Nat.le_of_ble_eq_true rfl) (by omega) (by omega) ?_ ?_
            · rintro _ h2 ⟨k2, vs2, a2, c2, hok2, rfl, hcm2, hp2, ha2, hx2⟩
              have hG2 : Fr (m1 p) h h2 := hG1.cal hx2 (fun z q => Or.inl q)
              have hS2 := hS.fr hG2 (offK.m1 hp (kO_ne (by decide))) (fun v n c q _ e => ne_ao q hp e)
              have hC2 := CML.frp hC1 hx2 hp1
              have hb2 := hcm2.base hG1
              have hcc2 := hcm2
              obtain ⟨wa9, ar9, f9, nA9, -, -, -, hcc2, -⟩ := hcc2
              refine VV.bs (fun hB3 => ?_)
              have hLn : (x0 :: L).length = L.length + 1 := rfl
              refine V_callF (st := []) (nn := 1) F dX17_commands_44 ⟨lw_F q3618 q1176 q1178 q111 q1180, ⟨q1175, List.mem_append_left _ q1174, q1179, q1177, q387⟩, (by decide +kernel), (by decide +kernel)⟩ (ct_AL_add hC2.1 (isO_comm hcc2) (by simp only [List.length_cons, List.length_nil]; omega)) hC2.1.isC rfl rfl (Nat.le_of_ble_eq_true rfl) (Nat.le_of_ble_eq_true rfl) (Nat.le_of_ble_eq_true rfl) (by omega) (by omega) ?_
              rintro _ h3 ⟨rfl, ar3, hA3, hx3, hq3⟩
              have hC3 := hC2.snoc hB3 (x := (k2, vs2)) hb2 hA3 hx3
              have hG3 : Fr (m1 p) h h3 := hG2.cal hx3 (Yo.m2 (Or.inr hal0) (Or.inr harr))
              have hp3 := hx3.get hp2 ((offK.al (S := kO 14) hC2.1 hB3 (fun _ => rfl) (fun _ _ _ => rfl)).o hp2) rfl
              have hS3 := hS.fr hG3 (offK.m1 hp (kO_ne (by decide))) (fun v n c q _ e => ne_ao q hp e)
              have har3 : h ar3 = none := hq3.elim (fun e => e ▸ harr) (fun z => hG2.none z.1)
              refine V_pop F dX17_commands_49 rfl ?_
              refine V_goto (tgt := 19) F dX17_commands_50 (by decide) ?_
              have hle2 := hok2.len
              refine VV.wide (by rw [List.length_append, List.length_singleton]; omega) (by rw [List.length_append, List.length_singleton]; omega) (ih_19 (L ++ [(k2, vs2)]) _ _ _ _ (by omega) hp3 hS3 ha2 hG3 hC3 (CMT.snoc heT (x := (k2, vs2)) hok2 hCT) (by rw [List.length_append, List.length_singleton]; omega) har3)
            · exact fun E q h2 hp9 => V_xout F (HT _) (by omega) (by omega) (PF.of hG1 hp9 (fun pos hR => Or.inr ⟨x0, L, b0, a, hc0, hCT, by omega, Or.inr ⟨a + 1, heT, hR⟩⟩))
          · exact fun E q h2 hp9 => V_xout F (HT _) (by omega) (by omega) (PF.of hFj hp9 (fun pos hR => Or.inr ⟨x0, L, b0, a, hc0, hCT, by omega, Or.inl hR⟩))
    refine VV.weak (L' := [some (.ref (p)), some (.ref (al))]) (LW.c1 (LW.c1 LW.nil)) ?_
    have hle6 := hok6.len
    refine VV.wide (by omega) (by omega) (loop_19 (l0.length + 2) [] _ _ _ _ (by omega) hp7 hS7 ha6 hG7 (by rw [hx0]; exact hC7) (show CMT l0 [] b0 _ from hb0) (by simp only [List.length_nil]; omega) har7)
  · exact fun E q h2 hp9 => V_xout F (HT _) (by omega) (by omega) (PF.of hG1 hp9 (fun pos hR => Or.inl hR))
