set_option maxRecDepth 100000
/-! ===== the parser ===== -/
def curP (l : List Nat) (a : Nat) : Nat := if a < l.length then l.getD a 0 else 10
def tkP (c : Nat) (l : List Nat) (a : Nat) : Nat ⊕ Nat := if curP l a = c then .inr (a + 1) else .inl a
def dg1P (l : List Nat) (a : Nat) : Nat ⊕ (Nat × Nat) := if 48 ≤ curP l a ∧ curP l a ≤ 57 then .inr (curP l a - 48, a + 1) else .inl a
def dsP (l : List Nat) (a : Nat) : Nat ⊕ (Nat × Nat) := match tkP 32 l a with
  | .inl e => .inl e
  | .inr a1 => dg1P l a1
def nuL (l : List Nat) : Nat → Nat → Nat → Nat × Nat
  | 0, v, a => (v, a)
  | k + 1, v, a => if 48 ≤ curP l a ∧ curP l a ≤ 57 then nuL l k (10 * v + (curP l a - 48)) (a + 1) else (v, a)
def nuP (l : List Nat) (a : Nat) : Nat ⊕ (Nat × Nat) := match dsP l a with
  | .inl e => .inl e
  | .inr (v, a1) => .inr (nuL l 3 v a1)
theorem curP_lt {l : List Nat} {a c : Nat} (h : curP l a = c) (hc : c ≠ 10) : a < l.length := by
  unfold curP at h
  by_cases q : a < l.length
  · exact q
  · rw [if_neg q] at h; exact absurd h.symm hc
theorem curP_128 {l : List Nat} {a : Nat} (hl : asc l) : curP l a < 128 := by
  unfold curP
  split
  · exact asc.getD hl (by assumption)
  · decide
theorem dg1P_ok {l : List Nat} {a v a2 : Nat} (h : dg1P l a = .inr (v, a2)) : v < 10 ∧ a2 = a + 1 ∧ a < l.length ∧ v = curP l a - 48 ∧ 48 ≤ curP l a := by
  unfold dg1P at h
  by_cases q : 48 ≤ curP l a ∧ curP l a ≤ 57
  · rw [if_pos q] at h
    injection h with h
    injection h with h1 h2
    refine ⟨by omega, h2.symm, curP_lt rfl (by omega), h1.symm, q.1⟩
  · rw [if_neg q] at h; cases h
/-- a syntax failure: its position -/
def PF (h : AH) (p : Nat) (R : Nat → Prop) : String → Nat → AH → Prop := fun E q h2 => E = "SleeperRailway$SyntaxFailure" ∧ h q = none ∧ (∃ pos, R pos ∧ h2 q = some (.inr (15, [.int (nI pos)]))) ∧ Fr (m1 p) h h2
theorem PF.of {h h1 h2 : AH} {p : Nat} {R R2 : Nat → Prop} {E : String} {q : Nat} (hx : Fr (m1 p) h h1) (hp : PF h1 p R E q h2) (hR : ∀ pos, R pos → R2 pos) : PF h p R2 E q h2 := by
  obtain ⟨e1, e2, ⟨pos, e3, e4⟩, e5⟩ := hp
  exact ⟨e1, hx.none e2, ⟨pos, hR pos e3, e4⟩, hx.cal e5 (fun z q => Or.inl q)⟩
def RQ (h : AH) (a : Nat) (v : Int32) : String → Nat → AH → Prop := fun E q h2 => v = 0 ∧ E = "SleeperRailway$SyntaxFailure" ∧ h q = none ∧ h2 q = some (.inr (15, [.int (nI a)])) ∧ Fr nM h h2
theorem PF.rq {h h1 h2 : AH} {p a : Nat} {v : Int32} {R : Nat → Prop} {E : String} {q : Nat} (hx : Fr (m1 p) h h1) (hp : RQ h1 a v E q h2) (hR : v = 0 → R a) : PF h p R E q h2 := by
  obtain ⟨e0, e1, e2, e3, e4⟩ := hp
  exact ⟨e1, hx.none e2, ⟨a, hR e0, e3⟩, hx.cal0 e4⟩
theorem ct_X17_require {G : GG} {l : Launch} {h : AH} {p tx a0 : Nat} {v : Int32} (hl0 : l.stackTraces = false) (hp : h p = some (.inr (14, [.ref tx, .int (nI a0)]))) : CtX G l yX17_require cX17_require 2 none 12 1 7 [.ref p, .int v] h (fun r h2 => r = none ∧ h = h2 ∧ v ≠ 0) (RQ h a0 v) := by
  refine CtX.of (by decide) (Nat.le_of_ble_eq_true rfl) (cat1 rfl) (fun X hXl F HT => ?_)
  subst hXl
  refine V_iload_n (i := 1) F dX17_require_0 rfl rfl ?_
  refine V_if_ne (tgt := 16) F dX17_require_1 (by decide) (fun c => ?_) (fun c => ?_)
  · exact VV.rx (V_vret F dX17_require_16 (Nat.zero_le _) (Nat.zero_le _) ⟨rfl, rfl, c⟩)
  · refine V_newF F dX17_require_4 nw_X17_27 rfl (by decide) (by decide) ?_
    intro q hfq hbq
    refine VS_dup F dX17_require_7 rfl ?_
    refine VS_aload_n (i := 0) F dX17_require_8 rfl rfl ?_
    refine VS_getf F dX17_require_9 fc_X17_13_X17 (.inl hp) (fun H hH => hH.1) rfl ?_
    refine VS_callF (nn := 1) (As := [.int (nI a0)]) F dX17_require_12 lk_X17_29 (ct_X18_init hl0 hfq hbq) (fun H hH => hH) rfl rfl (Nat.le_of_ble_eq_true rfl) (by decide) (by decide) (by decide) (by decide) ?_
    rintro _ _ ⟨rfl, rfl⟩
    refine V_athrow F dX17_require_15 ⟨15, _, _, _, rfl, .inl hset_self⟩ ?_
    exact V_xout F (HT _) (by decide) (by decide) ⟨c, rfl, hfq, hset_self, Fr.rf.nw hfq⟩

theorem ct_X17_current {G : GG} {l : Launch} {h : AH} {p tx a0 : Nat} {l0 : List Nat}  (hp : h p = some (.inr (14, [.ref tx, .int (nI a0)]))) (hS : STR G h tx l0) (ha : a0 ≤ l0.length) : Ct G l yX17_current cX17_current 1 (some .char) 4 (0) (0) [.ref p] h (PR (.int (nI (curP l0 a0))) h) := by
  refine Ct.of (by decide) (Nat.le_of_ble_eq_true rfl) (cat1 rfl) (fun X hXl F HN => ?_)
  subst hXl
  obtain ⟨-, -, -, -, -, -, -, -, hasl, hl200, -⟩ := id hS
  refine VV.bs (fun _ => ?_)
  refine V_aload_n (i := 0) F dX17_current_0 rfl rfl ?_
  refine V_getf F dX17_current_1 fc_X17_13_X17 (.inl hp) rfl ?_
  refine V_aload_n (i := 0) F dX17_current_4 rfl rfl ?_
  refine V_getf F dX17_current_5 fc_X17_7_X17 (.inl hp) rfl ?_
  refine V_callV (st := [.int (nI (a0))]) (nn := 0) F dX17_current_8 lk_X17_17 (ct_STR_len hS) hS.isC rfl rfl (Nat.le_of_ble_eq_true rfl) (Nat.le_of_ble_eq_true rfl) (Nat.le_of_ble_eq_true rfl) (by omega) (by omega) ?_
  refine PRk ?_
  refine V_icmp_geN (tgt := 28) F dX17_current_11 (by decide) (by omega) (by omega) (fun c_11 => ?_) (fun c_11 => ?_)
  · refine V_bipush (v := nI 10) F dX17_current_28 rfl ?_
    exact V_iret F dX17_current_30 (nar_c (by decide)) (by omega) (by omega) ⟨by unfold curP; rw [if_neg (by omega)], rfl⟩
  · refine V_aload_n (i := 0) F dX17_current_14 rfl rfl ?_
    refine V_getf F dX17_current_15 fc_X17_7_X17 (.inl hp) rfl ?_
    refine V_aload_n (i := 0) F dX17_current_18 rfl rfl ?_
    refine V_getf F dX17_current_19 fc_X17_13_X17 (.inl hp) rfl ?_
    refine V_callV (st := []) (nn := 1) F dX17_current_22 lk_X17_23 (ct_STR_at hS (by omega)) hS.isC rfl rfl (Nat.le_of_ble_eq_true rfl) (Nat.le_of_ble_eq_true rfl) (Nat.le_of_ble_eq_true rfl) (by omega) (by omega) ?_
    refine PRk ?_
    refine V_goto (tgt := 30) F dX17_current_25 (by decide) ?_
    exact V_iret F dX17_current_30 (nar_c (by have := asc.getD hasl (show a0 < l0.length by omega); omega)) (by omega) (by omega) ⟨by unfold curP; rw [if_pos (by omega)], rfl⟩
theorem ct_X17_take {G : GG} {l : Launch} {h : AH} {p tx a0 : Nat} {l0 : List Nat} {c : Nat}  (hl0 : l.stackTraces = false) (hp : h p = some (.inr (14, [.ref tx, .int (nI a0)]))) (hS : STR G h tx l0) (ha : a0 ≤ l0.length) (hc : c < 128) (hc10 : c ≠ 10) : CtX G l yX17_take cX17_take 2 none 13 (1) (7) [.ref p, .int (nI c)] h (fun r h2 => tkP c l0 a0 = .inr (a0 + 1) ∧ r = none ∧ h2 p = some (.inr (14, [.ref tx, .int (nI (a0 + 1))])) ∧ a0 + 1 ≤ l0.length ∧ Fr (m1 p) h h2) (PF h p (fun pos => tkP c l0 a0 = .inl pos)) := by
  refine CtX.of (by decide) (Nat.le_of_ble_eq_true rfl) (cat1 rfl) (fun X hXl F HT => ?_)
  subst hXl
  obtain ⟨-, -, -, -, -, -, -, -, hasl, hl200, -⟩ := id hS
  refine V_aload_n (i := 0) F dX17_take_0 rfl rfl ?_
  refine V_aload_n (i := 0) F dX17_take_1 rfl rfl ?_
  have hc128 := curP_128 (a := a0) hasl
  refine V_callV (st := [.ref (p)]) (nn := 0) F dX17_take_2 lk_X17_32 (ct_X17_current hp hS ha) ⟨14, _, _, _, rfl, .inl hp⟩ rfl rfl (Nat.le_of_ble_eq_true rfl) (Nat.le_of_ble_eq_true rfl) (Nat.le_of_ble_eq_true rfl) (by omega) (by omega) ?_
  refine PRk ?_
  refine V_iload_n (i := 1) F dX17_take_5 rfl rfl ?_
  refine V_icmp_neN (tgt := 13) F dX17_take_6 (by decide) (by omega) (by omega) (fun c_6 => ?_) (fun c_6 => ?_)
  · refine V_iconst (v := nI 0) F dX17_take_13 rfl ?_
    refine V_xcV (st := []) (nn := 1) F dX17_take_14 lk_X17_36 (ct_X17_require hl0 hp) ⟨14, _, _, _, rfl, .inl hp⟩ rfl rfl (Nat.le_of_ble_eq_true rfl) (Nat.le_of_ble_eq_true rfl) (Nat.le_of_ble_eq_true rfl) (by omega) (by omega) ?_ ?_
    · rintro _ _ ⟨rfl, rfl, hd⟩
      exact absurd rfl hd
    · exact fun E q h2 hp9 => V_xout F (HT _) (by omega) (by omega) (PF.rq Fr.rf hp9 (fun hz => by unfold tkP; rw [if_neg c_6]))
  · refine V_iconst (v := nI 1) F dX17_take_9 rfl ?_
    refine V_goto (tgt := 14) F dX17_take_10 (by decide) ?_
    refine V_xcV (st := []) (nn := 1) F dX17_take_14 lk_X17_36 (ct_X17_require hl0 hp) ⟨14, _, _, _, rfl, .inl hp⟩ rfl rfl (Nat.le_of_ble_eq_true rfl) (Nat.le_of_ble_eq_true rfl) (Nat.le_of_ble_eq_true rfl) (by omega) (by omega) ?_ ?_
    · rintro _ _ ⟨rfl, rfl, hd⟩
      refine V_aload_n (i := 0) F dX17_take_17 rfl rfl ?_
      refine V_dup F dX17_take_18 rfl ?_
      refine V_getf F dX17_take_19 fc_X17_13_X17 (.inl hp) rfl ?_
      refine V_iconst (v := nI 1) F dX17_take_22 rfl ?_
      refine V_iaddN F dX17_take_23 ?_
      refine V_putf F dX17_take_24 fp_X17_13_X17 hp rfl rfl (Nat.le_of_ble_eq_true rfl) ?_
      refine VV.heap (h' := (hset h (p) (.inr (14, [.ref (tx), .int (nI (a0 + 1))])))) rfl ?_
      have qp : (hset h (p) (.inr (14, [.ref (tx), .int (nI (a0 + 1))]))) p = some (.inr (14, [.ref (tx), .int (nI (a0 + 1))])) := (hset_self (e := .inr (14, [.ref (tx), .int (nI (a0 + 1))])))
      have qf := ((Fr.rf (M := m1 p) (h := h)).put (x := .inr (14, [.ref (tx), .int (nI (a0 + 1))])) hp rfl rfl (Or.inl rfl))
      exact VV.rx (V_vret F dX17_take_27 (by first | exact Nat.le_of_ble_eq_true rfl | omega) (by first | exact Nat.le_of_ble_eq_true rfl | omega) ⟨by unfold tkP; rw [if_pos (by omega)], rfl, qp, curP_lt (c := c) (by omega) hc10, qf⟩)
    · exact fun E q h2 hp9 => absurd hp9.1 (by decide)
theorem ct_X17_isAtDigit {G : GG} {l : Launch} {h : AH} {p tx a0 : Nat} {l0 : List Nat}  (hp : h p = some (.inr (14, [.ref tx, .int (nI a0)]))) (hS : STR G h tx l0) (ha : a0 ≤ l0.length) : Ct G l yX17_isAtDigit cX17_isAtDigit 1 (some .boolean) 5 (0) (0) [.ref p] h (PR (.int (b2 (48 ≤ curP l0 a0 ∧ curP l0 a0 ≤ 57))) h) := by
  refine Ct.of (by decide) (Nat.le_of_ble_eq_true rfl) (cat1 rfl) (fun X hXl F HN => ?_)
  subst hXl
  obtain ⟨-, -, -, -, -, -, -, -, hasl, hl200, -⟩ := id hS
  refine V_aload_n (i := 0) F dX17_isAtDigit_0 rfl rfl ?_
  have hc128 := curP_128 (a := a0) hasl
  refine V_callV (st := []) (nn := 0) F dX17_isAtDigit_1 lk_X17_32 (ct_X17_current hp hS ha) ⟨14, _, _, _, rfl, .inl hp⟩ rfl rfl (Nat.le_of_ble_eq_true rfl) (Nat.le_of_ble_eq_true rfl) (Nat.le_of_ble_eq_true rfl) (by omega) (by omega) ?_
  refine PRk ?_
  refine V_bipush (v := nI 48) F dX17_isAtDigit_4 rfl ?_
  refine V_icmp_ltN (tgt := 22) F dX17_isAtDigit_6 (by decide) (by omega) (by decide) (fun c_6 => ?_) (fun c_6 => ?_)
  · refine V_iconst (v := nI 0) F dX17_isAtDigit_22 rfl ?_
    exact V_iret F dX17_isAtDigit_23 rfl (by first | exact Nat.le_of_ble_eq_true rfl | omega) (by first | exact Nat.le_of_ble_eq_true rfl | omega) ⟨by rw [b2_f (by omega)] <;> rfl, rfl⟩
  · refine V_aload_n (i := 0) F dX17_isAtDigit_9 rfl rfl ?_
    refine V_callV (st := []) (nn := 0) F dX17_isAtDigit_10 lk_X17_32 (ct_X17_current hp hS ha) ⟨14, _, _, _, rfl, .inl hp⟩ rfl rfl (Nat.le_of_ble_eq_true rfl) (Nat.le_of_ble_eq_true rfl) (Nat.le_of_ble_eq_true rfl) (by omega) (by omega) ?_
    refine PRk ?_
    refine V_bipush (v := nI 57) F dX17_isAtDigit_13 rfl ?_
    refine V_icmp_gtN (tgt := 22) F dX17_isAtDigit_15 (by decide) (by omega) (by decide) (fun c_15 => ?_) (fun c_15 => ?_)
    · refine V_iconst (v := nI 0) F dX17_isAtDigit_22 rfl ?_
      exact V_iret F dX17_isAtDigit_23 rfl (by first | exact Nat.le_of_ble_eq_true rfl | omega) (by first | exact Nat.le_of_ble_eq_true rfl | omega) ⟨by rw [b2_f (by omega)] <;> rfl, rfl⟩
    · refine V_iconst (v := nI 1) F dX17_isAtDigit_18 rfl ?_
      refine V_goto (tgt := 23) F dX17_isAtDigit_19 (by decide) ?_
      exact V_iret F dX17_isAtDigit_23 rfl (by first | exact Nat.le_of_ble_eq_true rfl | omega) (by first | exact Nat.le_of_ble_eq_true rfl | omega) ⟨by rw [b2_t (by omega)] <;> rfl, rfl⟩
theorem ct_X17_digit {G : GG} {l : Launch} {h : AH} {p tx a0 : Nat} {l0 : List Nat}  (hl0 : l.stackTraces = false) (hp : h p = some (.inr (14, [.ref tx, .int (nI a0)]))) (hS : STR G h tx l0) (ha : a0 ≤ l0.length)  : CtX G l yX17_digit cX17_digit 1 (some .int) 13 (1) (7) [.ref p] h (fun r h2 => ∃ v a2, dg1P l0 a0 = .inr (v, a2) ∧ r = some (.int (nI v)) ∧ h2 p = some (.inr (14, [.ref tx, .int (nI a2)])) ∧ a2 ≤ l0.length ∧ Fr (m1 p) h h2) (PF h p (fun pos => dg1P l0 a0 = .inl pos)) := by
  refine CtX.of (by decide) (Nat.le_of_ble_eq_true rfl) (cat1 rfl) (fun X hXl F HT => ?_)
  subst hXl
  obtain ⟨-, -, -, -, -, -, -, -, hasl, hl200, -⟩ := id hS
  refine V_aload_n (i := 0) F dX17_digit_0 rfl rfl ?_
  refine V_aload_n (i := 0) F dX17_digit_1 rfl rfl ?_
  refine V_callV (st := [.ref (p)]) (nn := 0) F dX17_digit_2 lk_X17_40 (ct_X17_isAtDigit hp hS ha) ⟨14, _, _, _, rfl, .inl hp⟩ rfl rfl (Nat.le_of_ble_eq_true rfl) (Nat.le_of_ble_eq_true rfl) (Nat.le_of_ble_eq_true rfl) (by omega) (by omega) ?_
  refine PRk ?_
  refine V_xcV (st := []) (nn := 1) F dX17_digit_5 lk_X17_36 (ct_X17_require hl0 hp) ⟨14, _, _, _, rfl, .inl hp⟩ rfl rfl (Nat.le_of_ble_eq_true rfl) (Nat.le_of_ble_eq_true rfl) (Nat.le_of_ble_eq_true rfl) (by omega) (by omega) ?_ ?_
  · rintro _ _ ⟨rfl, rfl, hd⟩
    have hP_5 : 48 ≤ curP l0 a0 ∧ curP l0 a0 ≤ 57 := b2_nz hd
    refine V_aload_n (i := 0) F dX17_digit_8 rfl rfl ?_
    refine V_dup F dX17_digit_9 rfl ?_
    refine V_getf F dX17_digit_10 fc_X17_13_X17 (.inl hp) rfl ?_
    refine V_iconst (v := nI 1) F dX17_digit_13 rfl ?_
    refine V_iaddN F dX17_digit_14 ?_
    refine V_putf F dX17_digit_15 fp_X17_13_X17 hp rfl rfl (Nat.le_of_ble_eq_true rfl) ?_
    refine VV.heap (h' := (hset h (p) (.inr (14, [.ref (tx), .int (nI (a0 + 1))])))) rfl ?_
    have qp : (hset h (p) (.inr (14, [.ref (tx), .int (nI (a0 + 1))]))) p = some (.inr (14, [.ref (tx), .int (nI (a0 + 1))])) := (hset_self (e := .inr (14, [.ref (tx), .int (nI (a0 + 1))])))
    have qf := ((Fr.rf (M := m1 p) (h := h)).put (x := .inr (14, [.ref (tx), .int (nI (a0 + 1))])) hp rfl rfl (Or.inl rfl))
    have hlt := curP_lt (l := l0) (a := a0) rfl (by omega)
    have hS9 := hS.fr qf (offK.m1 hp (kO_ne (by decide))) (fun v n c q _ e => ne_ao q hp e)
    have hcu : curP l0 a0 = l0.getD a0 0 := by unfold curP; rw [if_pos hlt]
    refine V_aload_n (i := 0) F dX17_digit_18 rfl rfl ?_
    refine V_getf F dX17_digit_19 fc_X17_7_X17 (.inl (hset_self (e := .inr (14, [.ref (tx), .int (nI (a0 + 1))])))) rfl ?_
    refine V_aload_n (i := 0) F dX17_digit_22 rfl rfl ?_
    refine V_getf F dX17_digit_23 fc_X17_13_X17 (.inl (hset_self (e := .inr (14, [.ref (tx), .int (nI (a0 + 1))])))) rfl ?_
    refine V_iconst (v := nI 1) F dX17_digit_26 rfl ?_
    refine V_isubN F dX17_digit_27 (by omega) ?_
    refine V_callV (st := []) (nn := 1) F dX17_digit_28 lk_X17_23 (ct_STR_at (k := a0 + 1 - 1) hS9 (by omega)) hS9.isC rfl rfl (Nat.le_of_ble_eq_true rfl) (Nat.le_of_ble_eq_true rfl) (Nat.le_of_ble_eq_true rfl) (by omega) (by omega) ?_
    refine PRk ?_
    refine V_bipush (v := nI 48) F dX17_digit_31 rfl ?_
    refine VV.stk (st' := [.int (nI 48), .int (nI (curP l0 a0))]) (by rw [hcu]; rfl) ?_
    refine V_isubN F dX17_digit_33 (by omega) ?_
    exact VV.rx (V_iret F dX17_digit_34 rfl (by first | exact Nat.le_of_ble_eq_true rfl | omega) (by first | exact Nat.le_of_ble_eq_true rfl | omega) ⟨_, _, by unfold dg1P; rw [if_pos hP_5], rfl, qp, hlt, qf⟩)
  · exact fun E q h2 hp9 => V_xout F (HT _) (by omega) (by omega) (PF.rq Fr.rf hp9 (fun hz => by unfold dg1P; rw [if_neg (b2_z hz)]))
theorem ct_X17_digitAfterSpace {G : GG} {l : Launch} {h : AH} {p tx a0 : Nat} {l0 : List Nat}  (hl0 : l.stackTraces = false) (hp : h p = some (.inr (14, [.ref tx, .int (nI a0)]))) (hS : STR G h tx l0) (ha : a0 ≤ l0.length)  : CtX G l yX17_digitAfterSpace cX17_digitAfterSpace 1 (some .int) 14 (2) (14) [.ref p] h (fun r h2 => ∃ v a2, dsP l0 a0 = .inr (v, a2) ∧ r = some (.int (nI v)) ∧ h2 p = some (.inr (14, [.ref tx, .int (nI a2)])) ∧ a2 ≤ l0.length ∧ Fr (m1 p) h h2) (PF h p (fun pos => dsP l0 a0 = .inl pos)) := by
  refine CtX.of (by decide) (Nat.le_of_ble_eq_true rfl) (cat1 rfl) (fun X hXl F HT => ?_)
  subst hXl
  obtain ⟨-, -, -, -, -, -, -, -, hasl, hl200, -⟩ := id hS
  refine V_aload_n (i := 0) F dX17_digitAfterSpace_0 rfl rfl ?_
  refine V_bipush (v := nI 32) F dX17_digitAfterSpace_1 rfl ?_
  refine V_xcV (st := []) (nn := 1) F dX17_digitAfterSpace_3 lk_X17_44 (ct_X17_take hl0 hp hS ha (by decide) (by decide)) ⟨14, _, _, _, rfl, .inl hp⟩ rfl rfl (Nat.le_of_ble_eq_true rfl) (Nat.le_of_ble_eq_true rfl) (Nat.le_of_ble_eq_true rfl) (by omega) (by omega) ?_ ?_
  · rintro _ h1 ⟨he1, rfl, hp1, ha1, hx1⟩
    have hG1 : Fr (m1 p) h h1 := Fr.rf.cal hx1 (fun z q => Or.inl q)
    have hS1 := hS.fr hx1 (offK.m1 hp (kO_ne (by decide))) (fun v n c q _ e => ne_ao q hp e)
    have heT := he1
    refine V_aload_n (i := 0) F dX17_digitAfterSpace_6 rfl rfl ?_
    refine V_xcV (st := []) (nn := 0) F dX17_digitAfterSpace_7 lk_X17_48 (ct_X17_digit hl0 hp1 hS1 ha1) ⟨14, _, _, _, rfl, .inl hp1⟩ rfl rfl (Nat.le_of_ble_eq_true rfl) (Nat.le_of_ble_eq_true rfl) (Nat.le_of_ble_eq_true rfl) (by omega) (by omega) ?_ ?_
    · rintro _ h2 ⟨v2, a2, he2, rfl, hp2, ha2, hx2⟩
      have hG2 : Fr (m1 p) h h2 := hG1.cal hx2 (fun z q => Or.inl q)
      have hS2 := hS1.fr hx2 (offK.m1 hp1 (kO_ne (by decide))) (fun v n c q _ e => ne_ao q hp1 e)
      exact VV.rx (V_iret F dX17_digitAfterSpace_10 rfl (by first | exact Nat.le_of_ble_eq_true rfl | omega) (by first | exact Nat.le_of_ble_eq_true rfl | omega) ⟨_, _, by unfold dsP; rw [heT]; exact he2, rfl, hp2, ha2, hG2⟩)
    · exact fun E q h2 hp9 => V_xout F (HT _) (by omega) (by omega) (PF.of hG1 hp9 (fun pos hR => by unfold dsP; rw [heT]; exact hR))
  · exact fun E q h2 hp9 => V_xout F (HT _) (by omega) (by omega) (PF.of Fr.rf hp9 (fun pos hR => by unfold dsP; rw [hR]))
theorem dsP_v {l : List Nat} {a v a2 : Nat} (h : dsP l a = .inr (v, a2)) : v < 10 := by
  unfold dsP at h
  split at h
  · cases h
  · exact (dg1P_ok h).1
theorem ct_X17_number {G : GG} {l : Launch} {h : AH} {p tx a0 : Nat} {l0 : List Nat}  (hl0 : l.stackTraces = false) (hp : h p = some (.inr (14, [.ref tx, .int (nI a0)]))) (hS : STR G h tx l0) (ha : a0 ≤ l0.length)  : CtX G l yX17_number cX17_number 3 (some .int) 15 (5) (40) [.ref p] h (fun r h2 => ∃ v a2, nuP l0 a0 = .inr (v, a2) ∧ r = some (.int (nI v)) ∧ h2 p = some (.inr (14, [.ref tx, .int (nI a2)])) ∧ a2 ≤ l0.length ∧ Fr (m1 p) h h2) (PF h p (fun pos => nuP l0 a0 = .inl pos)) := by
  refine CtX.of (by decide) (Nat.le_of_ble_eq_true rfl) (cat1 rfl) (fun X hXl F HT => ?_)
  subst hXl
  obtain ⟨-, -, -, -, -, -, -, -, hasl, hl200, -⟩ := id hS
  refine V_aload_n (i := 0) F dX17_number_0 rfl rfl ?_
  refine V_xcV (st := []) (nn := 0) F dX17_number_1 lk_X17_51 (ct_X17_digitAfterSpace hl0 hp hS ha) ⟨14, _, _, _, rfl, .inl hp⟩ rfl rfl (Nat.le_of_ble_eq_true rfl) (Nat.le_of_ble_eq_true rfl) (Nat.le_of_ble_eq_true rfl) (by omega) (by omega) ?_ ?_
  · rintro _ h1 ⟨v1, a1, he1, rfl, hp1, ha1, hx1⟩
    have hG1 : Fr (m1 p) h h1 := Fr.rf.cal hx1 (fun z q => Or.inl q)
    have hS1 := hS.fr hx1 (offK.m1 hp (kO_ne (by decide))) (fun v n c q _ e => ne_ao q hp e)
    have hv10 := dsP_v he1
    refine V_istore_n (i := 1) F dX17_number_4 rfl (Nat.le_of_ble_eq_true rfl) (Nat.le_of_ble_eq_true rfl) ?_
    refine V_iconst (v := nI 1) F dX17_number_5 rfl ?_
    refine V_istore_n (i := 2) F dX17_number_6 rfl (Nat.le_of_ble_eq_true rfl) (Nat.le_of_ble_eq_true rfl) ?_
    have loop_7 : ∀ (nn : Nat) (k v a : Nat) (hh : AH), 4 - k < nn → 1 ≤ k ∧ k ≤ 4 → hh p = some (.inr (14, [.ref tx, .int (nI a)])) → STR G hh tx l0 → a ≤ l0.length → Fr (m1 p) h hh → v < 10 ^ k → nuL l0 3 v1 a1 = nuL l0 (4 - k) v a → VV G X 3 ((EQX G X (5) (40) (fun r h2 => ∃ v a2, nuP l0 a0 = .inr (v, a2) ∧ r = some (.int (nI v)) ∧ h2 p = some (.inr (14, [.ref tx, .int (nI a2)])) ∧ a2 ≤ l0.length ∧ Fr (m1 p) h h2) (PF h p (fun pos => nuP l0 a0 = .inl pos)))) hh (2 + (k - 1)) (14 + 7 * (k - 1)) [some (.ref (p)), some (.int (nI (v))), some (.int (nI (k)))] [] 7 := by
      intro nn
      induction nn with
      | zero => intro k v a hh hm hk hpj hSj haj hFj hv9 hnu; exact absurd hm (by omega)
      | succ nn ih_7 =>
        intro k v a hh hm hk hpj hSj haj hFj hv9 hnu
        have hk4 : v < 1000000 := Nat.lt_of_lt_of_le hv9 (Nat.le_trans (Nat.pow_le_pow_right (by decide) hk.2) (by decide))
        refine V_iload_n (i := 2) F dX17_number_7 rfl rfl ?_
        refine V_iconst (v := nI 4) F dX17_number_8 rfl ?_
        refine V_icmp_geN (tgt := 35) F dX17_number_9 (by decide) (by omega) (by decide) (fun c_9 => ?_) (fun c_9 => ?_)
        · refine V_iload_n (i := 1) F dX17_number_35 rfl rfl ?_
          have hk9 : k = 4 := by omega
          subst hk9
          have hn9 : nuL l0 (4 - 4) v a = (v, a) := rfl
          exact VV.rx (V_iret F dX17_number_36 rfl (by first | exact Nat.le_of_ble_eq_true rfl | omega) (by first | exact Nat.le_of_ble_eq_true rfl | omega) ⟨v, a, by unfold nuP; rw [he1]; show Sum.inr (nuL l0 3 v1 a1) = _; rw [hnu, hn9], rfl, hpj, haj, hFj⟩)
        · refine V_aload_n (i := 0) F dX17_number_12 rfl rfl ?_
          refine V_callV (st := []) (nn := 0) F dX17_number_13 lk_X17_40 (ct_X17_isAtDigit hpj hSj haj) ⟨14, _, _, _, rfl, .inl hpj⟩ rfl rfl (Nat.le_of_ble_eq_true rfl) (Nat.le_of_ble_eq_true rfl) (Nat.le_of_ble_eq_true rfl) (by omega) (by omega) ?_
          refine PRk ?_
          refine V_if_eqB (tgt := 35) F dX17_number_16 (by decide) (fun c_16 => ?_) (fun c_16 => ?_)
          · refine V_iload_n (i := 1) F dX17_number_35 rfl rfl ?_
            have hn9 : nuL l0 (4 - k) v a = (v, a) := by obtain ⟨m, hm4⟩ : ∃ m, 4 - k = m + 1 := ⟨3 - k, by omega⟩; rw [hm4]; show (if _ then _ else _) = _; rw [if_neg c_16]
            exact VV.rx (V_iret F dX17_number_36 rfl (by first | exact Nat.le_of_ble_eq_true rfl | omega) (by first | exact Nat.le_of_ble_eq_true rfl | omega) ⟨v, a, by unfold nuP; rw [he1]; show Sum.inr (nuL l0 3 v1 a1) = _; rw [hnu, hn9], rfl, hpj, haj, hFj⟩)
          · refine V_bipush (v := nI 10) F dX17_number_19 rfl ?_
            refine V_iload_n (i := 1) F dX17_number_21 rfl rfl ?_
            refine V_imulN F dX17_number_22 ?_
            refine V_aload_n (i := 0) F dX17_number_23 rfl rfl ?_
            refine V_xcV (st := [.int (nI (10 * v))]) (nn := 0) F dX17_number_24 lk_X17_48 (ct_X17_digit hl0 hpj hSj haj) ⟨14, _, _, _, rfl, .inl hpj⟩ rfl rfl (Nat.le_of_ble_eq_true rfl) (Nat.le_of_ble_eq_true rfl) (Nat.le_of_ble_eq_true rfl) (by omega) (by omega) ?_ ?_
            · rintro _ h1 ⟨v1, a1, he1, rfl, hp1, ha1, hx1⟩
              have hG1 : Fr (m1 p) h h1 := hFj.cal hx1 (fun z q => Or.inl q)
              have hS1 := hSj.fr hx1 (offK.m1 hpj (kO_ne (by decide))) (fun v n c q _ e => ne_ao q hpj e)
              refine V_iaddN F dX17_number_27 ?_
              refine V_istore_n (i := 1) F dX17_number_28 rfl (Nat.le_of_ble_eq_true rfl) (Nat.le_of_ble_eq_true rfl) ?_
              refine V_iinc (i := 2) (v := nI (k + 1)) F dX17_number_29 rfl (nI_add (k) 1) (Nat.le_of_ble_eq_true rfl) ?_
              refine V_goto (tgt := 7) F dX17_number_32 (by decide) ?_
              obtain ⟨z1, z2, z3, z4, z5⟩ := dg1P_ok he1
              refine VV.wide (by omega) (by omega) (ih_7 (k + 1) _ _ _ (by omega) (by omega) hp1 hS1 ha1 hG1 (by rw [Nat.pow_succ]; omega) ?_)
              rw [hnu]
              obtain ⟨m, hm4⟩ : ∃ m, 4 - k = m + 1 := ⟨3 - k, by omega⟩
              rw [hm4, show 4 - (k + 1) = m by omega]
              show (if _ then _ else _) = _
              rw [if_pos c_16, z4, z2]
            · exact fun E q h2 hp9 => V_xout F (HT _) (by omega) (by omega) (PF.of hFj hp9 (fun pos hR => by exfalso; unfold dg1P at hR; rw [if_pos c_16] at hR; cases hR))
    refine VV.weak (L' := [some (.ref (p)), some (.int (nI (v1))), some (.int (nI (1)))]) (LW.c1 (LW.c1 (LW.c1 LW.nil))) ?_
    exact loop_7 5 1 _ _ _ (by decide) (by decide) hp1 hS1 ha1 hG1 (by omega) rfl
  · exact fun E q h2 hp9 => V_xout F (HT _) (by omega) (by omega) (PF.of Fr.rf hp9 (fun pos hR => by unfold nuP; rw [hR]))
