set_option maxRecDepth 100000
/-! ===== what is read and done is one ===== -/
theorem chg_fun {n k : Nat} {g g2 g3 : Nat → Nat} {f : Nat → Int32} {v w : Int32} (hV : INV n g) (hk : k < 10) (h1 : CHG k g f v g2) (h2 : CHG k g f w g3) : v = w ∧ g2 = g3 := by
  rcases ten hk with rfl | rfl | rfl | rfl | rfl | rfl | rfl | rfl | rfl | rfl
  · exact ⟨h1.1.trans h2.1.symm, h1.2.trans h2.2.symm⟩
  · exact ⟨h1.1.trans h2.1.symm, h1.2.trans h2.2.symm⟩
  · exact ⟨h1.1.trans h2.1.symm, h1.2.trans h2.2.symm⟩
  · exact ⟨h1.1.trans h2.1.symm, h1.2.trans h2.2.symm⟩
  · exact ⟨h1.1.trans h2.1.symm, h1.2.trans h2.2.symm⟩
  · obtain ⟨a, a1, a2, a3⟩ := h1
    obtain ⟨b, b1, b2, b3⟩ := h2
    have e : a = b := Option.some.inj (a1.symm.trans b1)
    subst e
    exact ⟨a2.trans b2.symm, a3.trans b3.symm⟩
  · obtain ⟨a, e1, R1, a1, a2, a3, a4, a5⟩ := h1
    obtain ⟨b, e2, R2, b1, b2, b3, b4, b5⟩ := h2
    have e : a = b := Option.some.inj (a1.symm.trans b1)
    subst e
    have hk := (fdO_lt a1).1
    obtain ⟨c1, c2, c3⟩ := send_join (ge := fun _ => 0) (gx := fun _ => 0) (gy := fun _ => 0) hV hk (fun _ => by decide) a2
    obtain ⟨d1, d2, d3⟩ := send_join (ge := fun _ => 0) (gx := fun _ => 0) (gy := fun _ => 0) hV hk (fun _ => by decide) b2
    exact ⟨by rw [a4, b4, ← c2, ← d2], by rw [a5, b5, ← c1, ← d1]⟩
  · obtain ⟨a, a1, a2, a3⟩ := h1
    obtain ⟨b, b1, b2, b3⟩ := h2
    have e : a = b := Option.some.inj (a1.symm.trans b1)
    subst e
    exact ⟨a2.trans b2.symm, a3.trans b3.symm⟩
  · exact ⟨h1.1.trans h2.1.symm, h1.2.trans h2.2.symm⟩
  · obtain ⟨a, a1, a2, a3⟩ := h1
    obtain ⟨b, b1, b2, b3⟩ := h2
    have e : a = b := Option.some.inj (a1.symm.trans b1)
    subst e
    exact ⟨a2.trans b2.symm, a3.trans b3.symm⟩
theorem run_fun : ∀ {L : List (Nat × List Nat)} {n : Nat} {g g2 g3 : Nat → Nat}, INV n g → n + L.length < 1000 → (∀ x, x ∈ L → x.1 < 10) → RUN L g g2 → RUN L g g3 → g2 = g3
  | [], _, _, _, _, _, _, _, h1, h2 => Eq.trans h1 (Eq.symm h2)
  | x :: L, n, g, g2, g3, hV, hn, hk, h1, h2 => by
    obtain ⟨v, a, p1, p2, p3⟩ := h1
    obtain ⟨w, b, q1, q2, q3⟩ := h2
    rw [List.length_cons] at hn
    have hx := hk x List.mem_cons_self
    have e := (chg_fun hV hx p2 q2).2
    subst e
    exact run_fun (invp n x.1 g a _ v (by omega) hV hx p1 p2) (by omega) (fun y hy => hk y (List.mem_cons_of_mem _ hy)) p3 q3
theorem run_at : ∀ {L : List (Nat × List Nat)} {g g2 : Nat → Nat} {i : Nat}, RUN L g g2 → i < L.length → ∃ gi, RUN (L.take i) g gi ∧ cdK (L.getD i (0, [])).1 gi (afK (L.getD i (0, [])).2) = 0
  | [], _, _, i, _, hi => absurd hi (Nat.not_lt_zero i)
  | x :: L, g, g2, 0, h, _ => by
    obtain ⟨v, a, p1, p2, p3⟩ := h
    exact ⟨g, rfl, p1⟩
  | x :: L, g, g2, i + 1, h, hi => by
    obtain ⟨v, a, p1, p2, p3⟩ := h
    rw [List.length_cons] at hi
    obtain ⟨gi, r1, r2⟩ := run_at p3 (show i < L.length by omega)
    exact ⟨gi, ⟨v, a, p1, p2, r1⟩, r2⟩
theorem run_rux {L : List (Nat × List Nat)} {n i : Nat} {g g2 : Nat → Nat} (hV : INV n g) (hn : n + L.length < 1000) (hk : ∀ x, x ∈ L → x.1 < 10) (h1 : RUN L g g2) (h2 : RUX L g i) : False := by
  obtain ⟨gi, hi, r1, r2⟩ := h2
  obtain ⟨gj, s1, s2⟩ := run_at h1 hi
  have e := run_fun hV (show n + (L.take i).length < 1000 by rw [List.length_take]; omega) (fun x hx => hk x (List.mem_of_mem_take hx)) r1 s1
  subst e
  exact r2 s2
theorem rux_lt {L : List (Nat × List Nat)} {n i j : Nat} {g : Nat → Nat} (hV : INV n g) (hn : n + L.length < 1000) (hk : ∀ x, x ∈ L → x.1 < 10) (h1 : RUX L g i) (h2 : RUX L g j) : ¬ i < j := by
  intro hlt
  obtain ⟨gi, hi, r1, r2⟩ := h1
  obtain ⟨gj, hj, s1, s2⟩ := h2
  obtain ⟨gk, t1, t2⟩ := run_at s1 (show i < (L.take j).length by rw [List.length_take]; omega)
  have e1 : (L.take j).take i = L.take i := by rw [List.take_take, Nat.min_eq_left (by omega)]
  have e2 : (L.take j).getD i (0, []) = L.getD i (0, []) := by rw [List.getD_eq_getElem?_getD, List.getD_eq_getElem?_getD, List.getElem?_take, if_pos hlt]
  rw [e1] at t1
  rw [e2] at t2
  have e := run_fun hV (show n + (L.take i).length < 1000 by rw [List.length_take]; omega) (fun x hx => hk x (List.mem_of_mem_take hx)) r1 t1
  subst e
  exact r2 t2
theorem rux_fun {L : List (Nat × List Nat)} {n i j : Nat} {g : Nat → Nat} (hV : INV n g) (hn : n + L.length < 1000) (hk : ∀ x, x ∈ L → x.1 < 10) (h1 : RUX L g i) (h2 : RUX L g j) : i = j := by
  have a := rux_lt hV hn hk h1 h2
  have b := rux_lt hV hn hk h2 h1
  omega
/-! texts -/
section TX
variable {l : List Nat}
theorem wd_inj : ∀ {k k2 : Nat}, k < 10 → k2 < 10 → txl (wdS k) = txl (wdS k2) → k = k2 := by
  have h : ((List.range 10).all fun k => (List.range 10).all fun k2 => !(txl (wdS k) == txl (wdS k2)) || k == k2) = true := by decide +kernel
  intro k k2 hk hk2 e
  have h1 := List.all_eq_true.mp (List.all_eq_true.mp h k (List.mem_range.mpr hk)) k2 (List.mem_range.mpr hk2)
  rw [e, beq_self_eq_true] at h1
  exact beq_iff_eq.mp (by simpa using h1)
theorem cm_fun {a k k2 b b2 : Nat} {vs vs2 : List Nat} (h1 : CMok l a k vs b) (h2 : CMok l a k2 vs2 b2) : k = k2 ∧ vs = vs2 ∧ b = b2 := by
  obtain ⟨w, a1, p1, p2, p3, -, p4⟩ := h1
  obtain ⟨w2, a2, q1, q2, q3, -, q4⟩ := h2
  rw [p1] at q1
  injection q1 with q1
  injection q1 with e1 e2
  subst e1 e2
  have e := wd_inj p2 q2 (p3.symm.trans q3)
  subst e
  rw [p4] at q4
  injection q4 with q4
  injection q4 with e1 e2
  exact ⟨rfl, e1, e2⟩
theorem cm_no {a k b pos : Nat} {vs : List Nat} (h1 : CMok l a k vs b) (h2 : CMno l a pos) : False := by
  obtain ⟨w, a1, p1, p2, p3, -, p4⟩ := h1
  rcases h2 with q | ⟨w2, a2, k2, q1, q2, q3, q4⟩
  · rw [p1] at q; cases q
  · rw [p1] at q1
    injection q1 with q1
    injection q1 with e1 e2
    subst e1 e2
    have e := wd_inj p2 q2 (p3.symm.trans q3)
    subst e
    rw [p4] at q4; cases q4
theorem no_fun {a p q : Nat} (h1 : CMno l a p) (h2 : CMno l a q) : p = q := by
  rcases h1 with p1 | ⟨w, a1, k, p1, p2, p3, p4⟩ <;> rcases h2 with q1 | ⟨w2, a2, k2, q1, q2, q3, q4⟩ <;> rw [p1] at q1
  · injection q1
  · cases q1
  · cases q1
  · injection q1 with q1
    injection q1 with e1 e2
    subst e1 e2
    have e := wd_inj p2 q2 (p3.symm.trans q3)
    subst e
    rw [p4] at q4; injection q4
theorem tk_lt {a b : Nat} (h : tkP 59 l a = .inr b) : a < l.length ∧ b = a + 1 := by
  unfold tkP at h
  split at h
  · rename_i q
    injection h with h
    exact ⟨curP_lt q (by decide), h.symm⟩
  · cases h
/-- how a text fails behind its commands -/
def FAI (l : List Nat) (a pos : Nat) : Prop := tkP 59 l a = .inl pos ∨ ∃ a3, tkP 59 l a = .inr a3 ∧ CMno l a3 pos
theorem cmt_fun : ∀ {L M : List (Nat × List Nat)} {a : Nat}, CMT l L a l.length → CMT l M a l.length → L = M
  | [], [], _, _, _ => rfl
  | [], y :: M, a, h1, h2 => by
    obtain ⟨a1, b, q1, -⟩ := h2
    have h1 : a = l.length := h1
    have := (tk_lt q1).1; omega
  | x :: L, [], a, h1, h2 => by
    obtain ⟨a1, b, q1, -⟩ := h1
    have h2 : a = l.length := h2
    have := (tk_lt q1).1; omega
  | x :: L, y :: M, a, h1, h2 => by
    obtain ⟨a1, b, p1, p2, p3⟩ := h1
    obtain ⟨a2, b2, q1, q2, q3⟩ := h2
    rw [p1] at q1
    injection q1 with q1
    subst q1
    obtain ⟨e1, e2, e3⟩ := cm_fun p2 q2
    subst e3
    rw [cmt_fun p3 q3, show x = y from Prod.ext e1 e2]
theorem fai_no {a pos a1 b k : Nat} {vs : List Nat} (h : FAI l a pos) (p1 : tkP 59 l a = .inr a1) (p2 : CMok l a1 k vs b) : False := by
  rcases h with q | ⟨a3, q1, q2⟩
  · rw [p1] at q; cases q
  · rw [p1] at q1
    injection q1 with q1
    subst q1
    exact cm_no p2 q2
theorem cmt_no : ∀ {L M : List (Nat × List Nat)} {a e pos : Nat}, CMT l L a l.length → CMT l M a e → e < l.length → FAI l e pos → False
  | [], [], a, e, pos, h1, h2, h3, h4 => by
    have h1 : a = l.length := h1
    have h2 : a = e := h2
    omega
  | x :: L, [], a, e, pos, h1, h2, h3, h4 => by
    obtain ⟨a1, b, p1, p2, p3⟩ := h1
    have h2 : a = e := h2
    subst h2
    exact fai_no h4 p1 p2
  | [], y :: M, a, e, pos, h1, h2, h3, h4 => by
    obtain ⟨a1, b, q1, -⟩ := h2
    have h1 : a = l.length := h1
    have := (tk_lt q1).1; omega
  | x :: L, y :: M, a, e, pos, h1, h2, h3, h4 => by
    obtain ⟨a1, b, p1, p2, p3⟩ := h1
    obtain ⟨a2, b2, q1, q2, q3⟩ := h2
    rw [p1] at q1
    injection q1 with q1
    subst q1
    obtain ⟨-, -, e3⟩ := cm_fun p2 q2
    subst e3
    exact cmt_no p3 q3 h3 h4
theorem cmt_no2 : ∀ {L M : List (Nat × List Nat)} {a e d p q : Nat}, CMT l L a d → d < l.length → FAI l d p → CMT l M a e → e < l.length → FAI l e q → p = q
  | [], [], a, e, d, p, q, h1, h2, h3, h4, h5, h6 => by
    have h1 : a = d := h1
    have h4 : a = e := h4
    subst h1 h4
    rcases h3 with r1 | ⟨a1, r1, r2⟩ <;> rcases h6 with s1 | ⟨a2, s1, s2⟩ <;> rw [r1] at s1
    · injection s1
    · cases s1
    · cases s1
    · injection s1 with s1
      subst s1
      exact no_fun r2 s2
  | x :: L, [], a, e, d, p, q, h1, h2, h3, h4, h5, h6 => by
    obtain ⟨a1, b, p1, p2, p3⟩ := h1
    have h4 : a = e := h4
    subst h4
    exact (fai_no h6 p1 p2).elim
  | [], y :: M, a, e, d, p, q, h1, h2, h3, h4, h5, h6 => by
    obtain ⟨a1, b, p1, p2, p3⟩ := h4
    have h1 : a = d := h1
    subst h1
    exact (fai_no h3 p1 p2).elim
  | x :: L, y :: M, a, e, d, p, q, h1, h2, h3, h4, h5, h6 => by
    obtain ⟨a1, b, p1, p2, p3⟩ := h1
    obtain ⟨a2, b2, q1, q2, q3⟩ := h4
    rw [p1] at q1
    injection q1 with q1
    subst q1
    obtain ⟨-, -, e3⟩ := cm_fun p2 q2
    subst e3
    exact cmt_no2 p3 h2 h3 q3 h5 h6
theorem prs_fun {L M : List (Nat × List Nat)} (h1 : PRS l 0 L) (h2 : PRS l 0 M) : L = M := by
  obtain ⟨x, L2, a, rfl, p1, p2⟩ := h1
  obtain ⟨y, M2, b, rfl, q1, q2⟩ := h2
  obtain ⟨e1, e2, e3⟩ := cm_fun p1 q1
  subst e3
  rw [cmt_fun p2 q2, show x = y from Prod.ext e1 e2]
theorem prs_no {L : List (Nat × List Nat)} {pos : Nat} (h1 : PRS l 0 L) (h2 : PRN l 0 pos) : False := by
  obtain ⟨x, L2, a, rfl, p1, p2⟩ := h1
  rcases h2 with q | ⟨y, M, b, e, q1, q2, q3, q4⟩
  · exact cm_no p1 q
  · obtain ⟨-, -, e3⟩ := cm_fun p1 q1
    subst e3
    exact cmt_no p2 q2 q3 q4
theorem prn_fun {p q : Nat} (h1 : PRN l 0 p) (h2 : PRN l 0 q) : p = q := by
  rcases h1 with r | ⟨x, L, a, d, p1, p2, p3, p4⟩
  · rcases h2 with s | ⟨y, M, b, e, q1, q2, q3, q4⟩
    · exact no_fun r s
    · exact (cm_no q1 r).elim
  · rcases h2 with s | ⟨y, M, b, e, q1, q2, q3, q4⟩
    · exact (cm_no p1 s).elim
    · obtain ⟨-, -, e3⟩ := cm_fun p1 q1
      subst e3
      exact cmt_no2 p2 p3 p4 q2 q3 q4
end TX
