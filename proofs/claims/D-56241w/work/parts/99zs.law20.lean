set_option maxRecDepth 100000
/-! ===== scripts read: the two sides joined ===== -/
section PA
variable {l : List Nat} {gi : Nat → Nat}
theorem sk_cur (hgi : ∀ i, i < l.length → gi i = l.getD i 0) {c a : Nat} (hc : c ≠ 10) : skA gi l.length c a = if curP l a = c then 1 else 0 := by
  unfold skA hrN curP
  by_cases q : a < l.length
  · rw [if_pos q, if_pos q, hgi a q]
    by_cases e : l.getD a 0 = c
    · rw [if_pos (by omega), if_pos e]
    · rw [if_neg (by omega), if_neg e]
  · rw [if_neg q, if_neg q, if_neg (by omega), if_neg (fun e => hc e.symm)]
theorem hr_cur (hgi : ∀ i, i < l.length → gi i = l.getD i 0) {a : Nat} (q : a < l.length) : hrN gi l.length a = curP l a + 1 := by
  unfold hrN curP; rw [if_pos q, if_pos q, hgi a q]
theorem dg_cur (hgi : ∀ i, i < l.length → gi i = l.getD i 0) {a : Nat} : dgP gi l.length a ↔ (48 ≤ curP l a ∧ curP l a ≤ 57) := by
  show (49 ≤ hrN gi l.length a ∧ hrN gi l.length a ≤ 58) ↔ _
  by_cases q : a < l.length
  · rw [hr_cur hgi q]; omega
  · unfold hrN curP; rw [if_neg q, if_neg q]; omega
theorem dg_val (hgi : ∀ i, i < l.length → gi i = l.getD i 0) {a : Nat} (h : dgP gi l.length a) : hrN gi l.length a - 1 = curP l a := by
  have h2 := (dg_cur hgi).mp h
  rw [hr_cur hgi (curP_lt (c := curP l a) rfl (by omega))]; omega
theorem nu_dg (hgi : ∀ i, i < l.length → gi i = l.getD i 0) {a : Nat} : ∀ k j, nuL l k (dgI gi l.length a j).2 (dgI gi l.length a j).1 = ((dgI gi l.length a (j + k)).2, (dgI gi l.length a (j + k)).1)
  | 0, j => rfl
  | k + 1, j => by
    by_cases q : dgP gi l.length (dgI gi l.length a j).1
    · have e : dgI gi l.length a (j + 1) = ((dgI gi l.length a j).1 + 1, 10 * (dgI gi l.length a j).2 + (hrN gi l.length (dgI gi l.length a j).1 - 1) - 48) := if_pos q
      have q2 := (dg_cur hgi).mp q
      have h := nu_dg hgi (a := a) k (j + 1)
      rw [show j + 1 + k = j + (k + 1) by omega] at h
      rw [← h, e]
      show (if _ then _ else _ : Nat × Nat) = _
      rw [if_pos q2, dg_val hgi q]
      congr 1; omega
    · rw [dgI_end q (j + (k + 1)) (by omega)]
      show (if _ then _ else _ : Nat × Nat) = _
      rw [if_neg (fun z => q ((dg_cur hgi).mpr z))]
/-- one item read by the reference as by the class -/
def QI (l : List Nat) (i p : Nat) (P : PS → Nat × PS) : Prop := ∀ s : PS, (((P s).1 = 0 ∧ itP i l s.1 = .inl (P s).2.1) ∨ ((P s).1 = 1 ∧ ∃ v, itP i l s.1 = .inr (v, (P s).2.1) ∧ (P s).2.2 p = v)) ∧ ∀ j, j ≠ p → (P s).2.2 j = s.2 j
def QS (l : List Nat) (is : List Nat) (p : Nat) (Q : PS → Nat × PS) : Prop := ∀ s : PS, (((Q s).1 = 0 ∧ sqP l is s.1 = .inl (Q s).2.1) ∨ ((Q s).1 = 1 ∧ ∃ vs, sqP l is s.1 = .inr (vs, (Q s).2.1) ∧ vs.length = is.length ∧ ∀ i, i < is.length → (Q s).2.2 (p + i) = vs.getD i 0)) ∧ ∀ j, j < p → (Q s).2.2 j = s.2 j
theorem QS.one {i p : Nat} {P : PS → Nat × PS} (h : QI l i p P) : QS l [i] p P := by
  intro s
  obtain ⟨h1, h2⟩ := h s
  refine ⟨?_, fun j hj => h2 j (by omega)⟩
  rcases h1 with ⟨q1, q2⟩ | ⟨q1, v, q2, q3⟩
  · refine Or.inl ⟨q1, ?_⟩
    show (match itP i l s.1 with | .inl e => _ | .inr (v, a1) => _) = _
    rw [q2]
  · refine Or.inr ⟨q1, [v], ?_, rfl, fun j hj => ?_⟩
    · show (match itP i l s.1 with | .inl e => _ | .inr (v, a1) => _) = _
      rw [q2]; rfl
    · have : j = 0 := by simpa using hj
      subst this
      exact q3
theorem QS.cons {i p : Nat} {is : List Nat} {P Q : PS → Nat × PS} (h : QI l i p P) (hQ : QS l is (p + 1) Q) : QS l (i :: is) p (anP P Q) := by
  intro s
  obtain ⟨h1, h2⟩ := h s
  rcases h1 with ⟨q1, q2⟩ | ⟨q1, v, q2, q3⟩
  · rw [anP_0 q1]
    refine ⟨Or.inl ⟨rfl, ?_⟩, fun j hj => h2 j (by omega)⟩
    show (match itP i l s.1 with | .inl e => _ | .inr (v, a1) => _) = _
    rw [q2]
  · rw [anP_1 (by omega)]
    obtain ⟨h3, h4⟩ := hQ (P s).2
    refine ⟨?_, fun j hj => (h4 j (by omega)).trans (h2 j (by omega))⟩
    rcases h3 with ⟨z1, z2⟩ | ⟨z1, vs, z2, z3, z4⟩
    · refine Or.inl ⟨z1, ?_⟩
      show (match itP i l s.1 with | .inl e => _ | .inr (v, a1) => _) = _
      rw [q2]
      show (match sqP l is (P s).2.1 with | .inl e => _ | .inr (v, a1) => _) = _
      rw [z2]
    · refine Or.inr ⟨z1, v :: vs, ?_, by rw [List.length_cons, List.length_cons, z3], fun j hj => ?_⟩
      · show (match itP i l s.1 with | .inl e => _ | .inr (v, a1) => _) = _
        rw [q2]
        show (match sqP l is (P s).2.1 with | .inl e => _ | .inr (v, a1) => _) = _
        rw [z2]
      · cases j with
        | zero => exact (h4 p (Nat.lt_succ_self p)).trans q3
        | succ j =>
          rw [List.length_cons] at hj
          have := z4 j (by omega)
          rw [show p + 1 + j = p + (j + 1) by omega] at this
          exact this
theorem QI.d1 (hgi : ∀ i, i < l.length → gi i = l.getD i 0) {p : Nat} : QI l 1 p (dgQ gi l.length p 1) := by
  intro s
  show ((dgO gi l.length s.1 = 0 ∧ itP 1 l s.1 = .inl (dgA gi l.length s.1 1)) ∨ (dgO gi l.length s.1 = 1 ∧ ∃ v, itP 1 l s.1 = .inr (v, dgA gi l.length s.1 1) ∧ dgT gi l.length s.1 p 1 s.2 p = v)) ∧ ∀ j, j ≠ p → dgT gi l.length s.1 p 1 s.2 j = s.2 j
  have e0 : itP 1 l s.1 = dg1P l s.1 := rfl
  rw [e0]
  unfold dgO dgA dgT dg1P
  by_cases q : dgP gi l.length s.1
  · rw [if_pos q, if_pos q, if_pos q, if_pos ((dg_cur hgi).mp q)]
    have e : dgI gi l.length s.1 1 = (s.1 + 1, 10 * 0 + (hrN gi l.length s.1 - 1) - 48) := if_pos q
    rw [dg_val hgi q] at e
    rw [e]
    exact ⟨Or.inr ⟨rfl, _, rfl, by rw [up_s]; omega⟩, fun j hj => up_n hj⟩
  · rw [if_neg q, if_neg q, if_neg q, if_neg (fun z => q ((dg_cur hgi).mpr z))]
    exact ⟨Or.inl ⟨rfl, rfl⟩, fun j hj => rfl⟩
theorem QI.fg (hgi : ∀ i, i < l.length → gi i = l.getD i 0) {p i K : Nat} (hK : (i = 0 ∧ K = 1) ∨ (i = 2 ∧ K = 4)) : QI l i p (fgQ gi l.length p K) := by
  intro s
  show ((fgO gi l.length s.1 = 0 ∧ itP i l s.1 = .inl (fgA gi l.length s.1 K)) ∨ (fgO gi l.length s.1 = 1 ∧ ∃ v, itP i l s.1 = .inr (v, fgA gi l.length s.1 K) ∧ fgT gi l.length s.1 p K s.2 p = v)) ∧ ∀ j, j ≠ p → fgT gi l.length s.1 p K s.2 j = s.2 j
  have hsk := sk_cur hgi (c := 32) (a := s.1) (by decide)
  unfold fgO fgA fgT
  by_cases q : curP l s.1 = 32
  · rw [if_pos q] at hsk
    rw [hsk, if_neg Nat.one_ne_zero, if_neg Nat.one_ne_zero, if_neg Nat.one_ne_zero]
    have et : tkP 32 l s.1 = .inr (s.1 + 1) := if_pos q
    have ed : dsP l s.1 = dg1P l (s.1 + 1) := by unfold dsP; rw [et]
    unfold dgO dgA dgT
    by_cases q2 : dgP gi l.length (s.1 + 1)
    · rw [if_pos q2, if_pos q2, if_pos q2]
      have e1 : dgI gi l.length (s.1 + 1) 1 = (s.1 + 1 + 1, 10 * 0 + (hrN gi l.length (s.1 + 1) - 1) - 48) := if_pos q2
      rw [dg_val hgi q2] at e1
      have e2 : dg1P l (s.1 + 1) = .inr (curP l (s.1 + 1) - 48, s.1 + 1 + 1) := if_pos ((dg_cur hgi).mp q2)
      rcases hK with ⟨rfl, rfl⟩ | ⟨rfl, rfl⟩
      · have e0 : itP 0 l s.1 = dsP l s.1 := rfl
        rw [e0, ed, e2, e1]
        exact ⟨Or.inr ⟨rfl, _, rfl, by rw [up_s]; omega⟩, fun j hj => up_n hj⟩
      · have e0 : itP 2 l s.1 = nuP l s.1 := rfl
        have e3 : nuP l s.1 = .inr (nuL l 3 (curP l (s.1 + 1) - 48) (s.1 + 1 + 1)) := by unfold nuP; rw [ed, e2]
        have e4 := nu_dg hgi (a := s.1 + 1) 3 1
        rw [e1] at e4
        have e5 : 10 * 0 + curP l (s.1 + 1) - 48 = curP l (s.1 + 1) - 48 := by omega
        rw [show ((s.1 + 1 + 1, 10 * 0 + curP l (s.1 + 1) - 48) : Nat × Nat).2 = curP l (s.1 + 1) - 48 from e5] at e4
        rw [e0, e3, e4]
        exact ⟨Or.inr ⟨rfl, _, rfl, up_s⟩, fun j hj => up_n hj⟩
    · rw [if_neg q2, if_neg q2, if_neg q2]
      have e2 : dg1P l (s.1 + 1) = .inl (s.1 + 1) := if_neg (fun z => q2 ((dg_cur hgi).mpr z))
      refine ⟨Or.inl ⟨rfl, ?_⟩, fun j hj => rfl⟩
      rcases hK with ⟨rfl, rfl⟩ | ⟨rfl, rfl⟩
      · have e0 : itP 0 l s.1 = dsP l s.1 := rfl
        rw [e0, ed, e2]
      · have e0 : itP 2 l s.1 = nuP l s.1 := rfl
        rw [e0]; unfold nuP; rw [ed, e2]
  · rw [if_neg q] at hsk
    rw [hsk, if_pos rfl, if_pos rfl, if_pos rfl]
    have et : tkP 32 l s.1 = .inl s.1 := if_neg q
    have ed : dsP l s.1 = .inl s.1 := by unfold dsP; rw [et]
    refine ⟨Or.inl ⟨rfl, ?_⟩, fun j hj => rfl⟩
    rcases hK with ⟨rfl, rfl⟩ | ⟨rfl, rfl⟩
    · exact ed
    · show nuP l s.1 = _; unfold nuP; rw [ed]
/-- letters -/
abbrev ltC (l : List Nat) (a : Nat) : Prop := 97 ≤ curP l a ∧ curP l a ≤ 122
theorem wd_fuel : ∀ (f w : _) (a : Nat), l.length < f + a → wdL l f w a = wdL l (l.length + 1 - a) w a
  | 0, w, a, h => by rw [show l.length + 1 - a = 0 by omega]
  | f + 1, w, a, h => by
    by_cases q : ltC l a
    · have ha : a < l.length := curP_lt (c := curP l a) rfl (by have := q.1; omega)
      rw [show l.length + 1 - a = (l.length + 1 - (a + 1)) + 1 by omega]
      show (if _ then (if _ then _ else _) else _ : Nat ⊕ (List Nat × Nat)) = (if _ then (if _ then _ else _) else _ : Nat ⊕ (List Nat × Nat))
      rw [wd_fuel f (w ++ [curP l a]) (a + 1) (by omega)]
    · have e1 : wdL l (f + 1) w a = .inr (w, a) := if_neg q
      rw [e1]
      cases hk : l.length + 1 - a with
      | zero => rfl
      | succ k => exact (if_neg q : wdL l (k + 1) w a = .inr (w, a)).symm
/-- what the class makes of the letters behind w -/
def wdH (l : List Nat) (w : List Nat) (a : Nat) : Nat ⊕ (List Nat × Nat) := match wdL l (l.length + 1 - a) w a with
  | .inl e => .inl e
  | .inr (w, a1) => if 0 < w.length ∧ subB WDT ([32] ++ w ++ [32]) = true then .inr (w, a1) else .inl a1
theorem wdP_H {a : Nat} : wdP l a = wdH l [] a := by
  unfold wdP wdH
  rw [wd_fuel (l.length + 1) [] a (by omega)]
  cases wdL l (l.length + 1 - a) [] a with
  | inl e => rfl
  | inr p => rfl
theorem wdH_s {w : List Nat} {a : Nat} (q : ltC l a) : wdH l w a = if subB WDT ([32] ++ w ++ [curP l a]) = true then wdH l (w ++ [curP l a]) (a + 1) else .inl a := by
  have ha : a < l.length := curP_lt (c := curP l a) rfl (by have := q.1; omega)
  unfold wdH
  rw [show l.length + 1 - a = (l.length + 1 - (a + 1)) + 1 by omega]
  have e : wdL l (l.length + 1 - (a + 1) + 1) w a = if subB WDT ([32] ++ w ++ [curP l a]) = true then wdL l (l.length + 1 - (a + 1)) (w ++ [curP l a]) (a + 1) else .inl a := if_pos q
  rw [e]
  by_cases z : subB WDT ([32] ++ w ++ [curP l a]) = true
  · rw [if_pos z, if_pos z]
  · rw [if_neg z, if_neg z]
theorem wdH_e {w : List Nat} {a : Nat} (q : ¬ ltC l a) : wdH l w a = if 0 < w.length ∧ subB WDT ([32] ++ w ++ [32]) = true then .inr (w, a) else .inl a := by
  unfold wdH
  have e : wdL l (l.length + 1 - a) w a = .inr (w, a) := by
    cases l.length + 1 - a with
    | zero => rfl
    | succ k => exact if_neg q
  rw [e]
theorem wdL_len : ∀ (f : Nat) (w : List Nat) (a : Nat) (w2 : List Nat) (a2 : Nat), wdL l f w a = .inr (w2, a2) → a + w2.length = a2 + w.length
  | 0, w, a, w2, a2, h => by
    have h : (.inr (w, a) : Nat ⊕ (List Nat × Nat)) = .inr (w2, a2) := h
    injection h with h
    injection h with h1 h2
    rw [h1, h2]
  | f + 1, w, a, w2, a2, h => by
    by_cases q : ltC l a
    · have e : wdL l (f + 1) w a = if subB WDT ([32] ++ w ++ [curP l a]) = true then wdL l f (w ++ [curP l a]) (a + 1) else .inl a := if_pos q
      rw [e] at h
      split at h
      · have := wdL_len f _ _ _ _ h
        rw [List.length_append, List.length_singleton] at this
        omega
      · cases h
    · have e : wdL l (f + 1) w a = .inr (w, a) := if_neg q
      rw [e] at h
      injection h with h
      injection h with h1 h2
      rw [h1, h2]
theorem wdP_len {a a1 : Nat} {w : List Nat} (h : wdP l a = .inr (w, a1)) : a + w.length = a1 := by
  unfold wdP at h
  cases q : wdL l (l.length + 1) [] a with
  | inl e => rw [q] at h; cases h
  | inr p =>
    obtain ⟨w2, a2⟩ := p
    rw [q] at h
    have h : (if 0 < w2.length ∧ subB WDT ([32] ++ w2 ++ [32]) = true then .inr (w2, a2) else .inl a2 : Nat ⊕ (List Nat × Nat)) = .inr (w, a1) := h
    split at h
    · injection h with h
      injection h with h1 h2
      have := wdL_len _ _ _ _ _ q
      rw [h1, h2] at this
      exact this
    · cases h
/-- a node of the words' tree: the letters that may follow, and whether it is a word -/
def nodeC (w nx : List Nat) (b : Bool) : Bool := ((List.range 26).all fun i => subB WDT ([32] ++ w ++ [97 + i]) == nx.contains (97 + i)) && ((decide (0 < w.length) && subB WDT ([32] ++ w ++ [32])) == b)
theorem node_s {w nx : List Nat} {b : Bool} (h : nodeC w nx b = true) {a : Nat} (q : ltC l a) : wdH l w a = if curP l a ∈ nx then wdH l (w ++ [curP l a]) (a + 1) else .inl a := by
  unfold nodeC at h
  have h1 := (Bool.and_eq_true_iff.mp h).1
  have h2 := List.all_eq_true.mp h1 (curP l a - 97) (List.mem_range.mpr (by omega))
  rw [show 97 + (curP l a - 97) = curP l a by omega] at h2
  have h2 := beq_iff_eq.mp h2
  rw [wdH_s q, h2]
  by_cases z : curP l a ∈ nx
  · rw [if_pos z, if_pos (List.contains_iff_mem.mpr z)]
  · rw [if_neg z, if_neg (fun y => z (List.contains_iff_mem.mp y))]
theorem node_e {w nx : List Nat} {b : Bool} (h : nodeC w nx b = true) {a : Nat} (q : ¬ ltC l a) : wdH l w a = if b = true then .inr (w, a) else .inl a := by
  unfold nodeC at h
  have h1 := beq_iff_eq.mp (Bool.and_eq_true_iff.mp h).2
  rw [wdH_e q, ← h1]
  by_cases z : 0 < w.length ∧ subB WDT ([32] ++ w ++ [32]) = true
  · rw [if_pos z, if_pos (by rw [decide_eq_true z.1, z.2]; rfl)]
  · rw [if_neg z, if_neg (fun y => z (by
      have := Bool.and_eq_true_iff.mp y
      exact ⟨of_decide_eq_true this.1, this.2⟩))]
/-- a chain of nodes to a word -/
def chC : List Nat → List Nat → List Nat → Bool
  | w, [], ex => nodeC w ex true && ex.isEmpty
  | w, c :: r, ex => nodeC w (c :: ex) false && decide (97 ≤ c ∧ c ≤ 122) && chC (w ++ [c]) r []
def ckF (l : List Nat) : List Nat → Nat → Nat × Nat
  | [], a => (1, a)
  | c :: r, a => if curP l a = c then ckF l r (a + 1) else (0, a)
theorem ck_H : ∀ (r w ex : List Nat) (a : Nat), chC w r ex = true → curP l a ∉ ex → ((ckF l r a).1 = 0 ∧ wdH l w a = .inl (ckF l r a).2) ∨ ((ckF l r a).1 = 1 ∧ wdH l w a = if ltC l (ckF l r a).2 then .inl (ckF l r a).2 else .inr (w ++ r, (ckF l r a).2))
  | [], w, ex, a, h, hx => by
    obtain ⟨h1, h2⟩ := Bool.and_eq_true_iff.mp h
    have h2 : ex = [] := List.isEmpty_iff.mp h2
    subst h2
    refine Or.inr ⟨rfl, ?_⟩
    show wdH l w a = if ltC l a then .inl a else .inr (w ++ [], a)
    rw [List.append_nil]
    by_cases q : ltC l a
    · rw [if_pos q, node_s h1 q, if_neg (fun z => by cases z)]
    · rw [if_neg q, node_e h1 q, if_pos rfl]
  | c :: r, w, ex, a, h, hx => by
    obtain ⟨h12, h3⟩ := Bool.and_eq_true_iff.mp h
    obtain ⟨h1, h2⟩ := Bool.and_eq_true_iff.mp h12
    have h2 := of_decide_eq_true h2
    by_cases e : curP l a = c
    · have e1 : ckF l (c :: r) a = ckF l r (a + 1) := if_pos e
      have q : ltC l a := by show _ ∧ _; rw [e]; exact h2
      have h4 : wdH l w a = wdH l (w ++ [c]) (a + 1) := by rw [node_s h1 q, e, if_pos List.mem_cons_self]
      rw [e1, h4]
      have h5 := ck_H r (w ++ [c]) [] (a + 1) h3 (fun z => by cases z)
      rw [List.append_assoc] at h5
      exact h5
    · have e1 : ckF l (c :: r) a = (0, a) := if_neg e
      rw [e1]
      refine Or.inl ⟨rfl, ?_⟩
      by_cases q : ltC l a
      · rw [node_s h1 q, if_neg (fun z => (List.mem_cons.mp z).elim e hx)]
      · rw [node_e h1 q, if_neg (by decide)]
theorem wd_front (hgi : ∀ i, i < l.length → gi i = l.getD i 0) : ∀ (k : Nat) (c : Nat → Nat) (a : Nat), (∀ i, i < k + 1 → c i ≠ 10) → wdI gi l.length c a (k + 1) = if curP l a = c 0 then wdI gi l.length (fun i => c (i + 1)) (a + 1) k else (0, a)
  | 0, c, a, hc => by
    show (if (1 : Nat) = 0 then _ else (skA gi l.length (c 0) a, a + skA gi l.length (c 0) a)) = _
    rw [if_neg Nat.one_ne_zero, sk_cur hgi (hc 0 (by omega))]
    split
    · rfl
    · rfl
  | k + 1, c, a, hc => by
    have ih := wd_front hgi k c a (fun i hi => hc i (by omega))
    show (if (wdI gi l.length c a (k + 1)).1 = 0 then wdI gi l.length c a (k + 1) else (skA gi l.length (c (k + 1)) (wdI gi l.length c a (k + 1)).2, (wdI gi l.length c a (k + 1)).2 + skA gi l.length (c (k + 1)) (wdI gi l.length c a (k + 1)).2)) = _
    rw [ih]
    by_cases e : curP l a = c 0
    · rw [if_pos e, if_pos e]; rfl
    · rw [if_neg e, if_neg e, if_pos rfl]
theorem wd_ck (hgi : ∀ i, i < l.length → gi i = l.getD i 0) : ∀ (r : List Nat) (a : Nat), (∀ c, c ∈ r → c ≠ 10) → wdI gi l.length (fun j => r.getD j 0) a r.length = ckF l r a
  | [], a, _ => rfl
  | c :: r, a, hc => by
    have h := wd_front hgi r.length (fun j => (c :: r).getD j 0) a (fun i hi => hc _ (by
      show (c :: r).getD i 0 ∈ c :: r
      rw [List.getD_eq_getElem?_getD, List.getElem?_eq_getElem (by rw [List.length_cons]; omega)]
      exact List.getElem_mem _))
    rw [List.length_cons, h]
    show (if curP l a = c then wdI gi l.length (fun j => r.getD j 0) (a + 1) r.length else (0, a)) = if curP l a = c then ckF l r (a + 1) else (0, a)
    rw [wd_ck hgi r (a + 1) (fun x hx => hc x (List.mem_cons_of_mem _ hx))]
/-- a command behind the letters w -/
def CLok (l w : List Nat) (a k : Nat) (vs : List Nat) (a2 : Nat) : Prop := ∃ w2 a1, wdH l w a = .inr (w2, a1) ∧ k < 10 ∧ w2 = txl (wdS k) ∧ sqP l (itemsK k) a1 = .inr (vs, a2)
def CLno (l w : List Nat) (a pos : Nat) : Prop := wdH l w a = .inl pos ∨ ∃ w2 a1 k, wdH l w a = .inr (w2, a1) ∧ k < 10 ∧ w2 = txl (wdS k) ∧ sqP l (itemsK k) a1 = .inl pos
def SPX (l : List Nat) (M : Nat) (w ex : List Nat) (P : PS → Nat × PS) : Prop := ∀ s : PS, curP l s.1 ∉ ex → (((P s).1 = 0 ∧ CLno l w s.1 (P s).2.1) ∨ ((P s).1 = 1 ∧ ∃ k vs, CLok l w s.1 k vs (P s).2.1 ∧ (P s).2.2 (5 * M) = k ∧ ∀ i, i < arK k → (P s).2.2 (5 * M + 1 + i) = vs.getD i 0)) ∧ ∀ j, j < 5 * M → (P s).2.2 j = s.2 j
theorem SPX.cn (hgi : ∀ i, i < l.length → gi i = l.getD i 0) {M c : Nat} {w ex nx : List Nat} {X Y : PS → Nat × PS} (hn : nodeC w nx false = true) (hc : c ∈ nx) (hr : 97 ≤ c ∧ c ≤ 122) (hX : SPX l M (w ++ [c]) [] X) (hY : SPX l M w (c :: ex) Y) : SPX l M w ex (cnP (skP gi l.length c) X Y) := by
  intro s hs
  have hsk := sk_cur hgi (c := c) (a := s.1) (by omega)
  by_cases e : curP l s.1 = c
  · rw [if_pos e] at hsk
    have q : ltC l s.1 := by show _ ∧ _; rw [e]; exact hr
    have h4 : wdH l w s.1 = wdH l (w ++ [c]) (s.1 + 1) := by rw [node_s hn q, e, if_pos hc]
    have e2 : skP gi l.length c s = (1, (s.1 + 1, s.2)) := by unfold skP; rw [hsk]
    rw [cnP_1 (by rw [e2]; exact Nat.one_pos), e2]
    have h := hX (s.1 + 1, s.2) (fun z => by cases z)
    unfold CLno CLok at h ⊢
    rw [h4]
    exact h
  · rw [if_neg e] at hsk
    have e2 : skP gi l.length c s = (0, s) := by unfold skP; rw [hsk]; rfl
    rw [cnP_0 (by rw [e2]), e2]
    exact hY s (fun z => (List.mem_cons.mp z).elim e hs)
theorem SPX.no {M : Nat} {w ex nx : List Nat} (hn : nodeC w nx false = true) (hc : ∀ c, c ∈ nx → c ∈ ex) : SPX l M w ex noP := by
  intro s hs
  refine ⟨Or.inl ⟨rfl, Or.inl ?_⟩, fun j _ => rfl⟩
  show wdH l w s.1 = .inl s.1
  by_cases q : ltC l s.1
  · rw [node_s hn q, if_neg (fun z => hs (hc _ z))]
  · rw [node_e hn q, if_neg (by decide)]
theorem sq_sp {k a : Nat} (hk : k < 10) (h : curP l a ≠ 32) : sqP l (itemsK k) a = .inl a := by
  have et : tkP 32 l a = .inl a := if_neg h
  have ed : dsP l a = .inl a := by unfold dsP; rw [et]
  have en : nuP l a = .inl a := by unfold nuP; rw [ed]
  have h0 : ∀ is, sqP l (0 :: is) a = .inl a := fun is => by
    show (match dsP l a with | .inl e => _ | .inr (v, a1) => _) = _
    rw [ed]
  have h2 : ∀ is, sqP l (2 :: is) a = .inl a := fun is => by
    show (match nuP l a with | .inl e => _ | .inr (v, a1) => _) = _
    rw [en]
  rcases ten hk with rfl | rfl | rfl | rfl | rfl | rfl | rfl | rfl | rfl | rfl <;> first | exact h0 _ | exact h2 _
theorem it_len {k : Nat} (hk : k < 10) : (itemsK k).length = arK k := by
  rcases ten hk with rfl | rfl | rfl | rfl | rfl | rfl | rfl | rfl | rfl | rfl <;> rfl
theorem SPX.wd (hgi : ∀ i, i < l.length → gi i = l.getD i 0) {M k : Nat} {w ex : List Nat} {tx : String} {Q : PS → Nat × PS} (hch : chC w (txl tx) ex = true) (h10 : (txl tx).all (fun c => !(c == 10)) = true) (hk : k < 10) (hw : w ++ txl tx = txl (wdS k)) (hQ : QS l (itemsK k) (5 * M + 1) Q) : SPX l M w ex (anP (wdQ gi l.length M k tx) Q) := by
  intro s hs
  have hck := wd_ck hgi (txl tx) s.1 (fun c hc => by
    have := List.all_eq_true.mp h10 c hc
    intro e; subst e; cases this)
  have e2 : wdQ gi l.length M k tx s = ((ckF l (txl tx) s.1).1, ((ckF l (txl tx) s.1).2, up s.2 (5 * M) k)) := by unfold wdQ; rw [hck]
  have hH := ck_H (l := l) (txl tx) w ex s.1 hch hs
  generalize ckF l (txl tx) s.1 = R at e2 hH
  obtain ⟨x, a1⟩ := R
  rcases hH with ⟨rfl, hH⟩ | ⟨rfl, hH⟩
  · rw [anP_0 (by rw [e2]), e2]
    exact ⟨Or.inl ⟨rfl, Or.inl hH⟩, fun j hj => up_n (by omega)⟩
  · rw [anP_1 (by rw [e2]; exact Nat.one_pos), e2]
    obtain ⟨h1, h2⟩ := hQ (a1, up s.2 (5 * M) k)
    refine ⟨?_, fun j hj => (h2 j (by omega)).trans (up_n (by omega))⟩
    by_cases q : ltC l a1
    · have hs2 := sq_sp (l := l) hk (a := a1) (by omega)
      rcases h1 with ⟨z1, z2⟩ | ⟨z1, vs, z2, -⟩
      · have z3 := z2.symm.trans hs2
        injection z3 with z3
        refine Or.inl ⟨z1, Or.inl ?_⟩
        rw [hH, if_pos q, z3]
      · have z3 := z2.symm.trans hs2
        cases z3
    · have hH : wdH l w s.1 = .inr (txl (wdS k), a1) := by rw [hH, if_neg q, hw]
      rcases h1 with ⟨z1, z2⟩ | ⟨z1, vs, z2, z3, z4⟩
      · exact Or.inl ⟨z1, Or.inr ⟨_, a1, k, hH, hk, rfl, z2⟩⟩
      · refine Or.inr ⟨z1, k, vs, ⟨_, a1, hH, hk, rfl, z2⟩, (h2 (5 * M) (Nat.lt_succ_self _)).trans up_s, fun i hi => z4 i (by rw [it_len hk]; exact hi)⟩
theorem cm_SPX (hgi : ∀ i, i < l.length → gi i = l.getD i 0) {M : Nat} : SPX l M [] [] (cmP gi l.length M (5 * M + 1)) := by
  have d1 : ∀ p, QI l 1 p (dgQ gi l.length p 1) := fun p => QI.d1 hgi
  have f1 : ∀ p, QI l 0 p (fgQ gi l.length p 1) := fun p => QI.fg hgi (Or.inl ⟨rfl, rfl⟩)
  have f4 : ∀ p, QI l 2 p (fgQ gi l.length p 4) := fun p => QI.fg hgi (Or.inr ⟨rfl, rfl⟩)
  have n0 : nodeC [] [115, 116, 108, 99, 98, 100] false = true := by decide +kernel
  unfold cmP
  refine SPX.cn hgi n0 (by decide) (by decide) ?_ (SPX.cn hgi n0 (by decide) (by decide) ?_ (SPX.cn hgi n0 (by decide) (by decide) ?_ (SPX.cn hgi n0 (by decide) (by decide) ?_ (SPX.cn hgi n0 (by decide) (by decide) ?_ (SPX.cn hgi n0 (by decide) (by decide) ?_ (SPX.no n0 (by decide)))))))
  · -- s
    have n1 : nodeC [115] [116, 101] false = true := by decide +kernel
    have n2 : nodeC [115, 116] [97, 111] false = true := by decide +kernel
    unfold wsP
    refine SPX.cn hgi n1 (by decide) (by decide) ?_ (SPX.cn hgi n1 (by decide) (by decide) (SPX.cn hgi n2 (by decide) (by decide) ?_ ?_) (SPX.no n1 (by decide)))
    · exact SPX.wd hgi (by decide +kernel) (by decide +kernel) (by decide) (by decide +kernel) (QS.one (f4 _))
    · exact SPX.wd hgi (by decide +kernel) (by decide +kernel) (by decide) (by decide +kernel) (QS.one (f4 _))
    · exact SPX.wd hgi (by decide +kernel) (by decide +kernel) (by decide) (by decide +kernel) (QS.cons (f1 _) (QS.cons (d1 _) (QS.cons (f4 _) (QS.one (f4 _)))))
  · -- t
    have n1 : nodeC [116] [114, 97] false = true := by decide +kernel
    refine SPX.cn hgi n1 (by decide) (by decide) ?_ ?_
    · exact SPX.wd hgi (by decide +kernel) (by decide +kernel) (by decide) (by decide +kernel) (QS.one (f4 _))
    · exact SPX.wd hgi (by decide +kernel) (by decide +kernel) (by decide) (by decide +kernel) (QS.cons (f1 _) (QS.cons (f4 _) (QS.one (f1 _))))
  · -- c
    exact SPX.wd hgi (by decide +kernel) (by decide +kernel) (by decide) (by decide +kernel) (QS.cons (f1 _) (QS.cons (d1 _) (QS.one (f4 _))))
  · -- b
    exact SPX.wd hgi (by decide +kernel) (by decide +kernel) (by decide) (by decide +kernel) (QS.cons (f1 _) (QS.cons (f1 _) (QS.one (d1 _))))
  · -- d
    exact SPX.wd hgi (by decide +kernel) (by decide +kernel) (by decide) (by decide +kernel) (QS.one (f4 _))
  · -- l
    have n1 : nodeC [108] [97] false = true := by decide +kernel
    have n2 : nodeC [108, 97] [116, 98] false = true := by decide +kernel
    refine SPX.cn hgi n1 (by decide) (by decide) (SPX.cn hgi n2 (by decide) (by decide) ?_ ?_) (SPX.no n1 (by decide))
    · exact SPX.wd hgi (by decide +kernel) (by decide +kernel) (by decide) (by decide +kernel) (QS.cons (f1 _) (QS.one (f4 _)))
    · exact SPX.wd hgi (by decide +kernel) (by decide +kernel) (by decide) (by decide +kernel) (QS.cons (f4 _) (QS.one (f1 _)))
/-- one command: the reference reads it as the class does -/
theorem cm_one (hgi : ∀ i, i < l.length → gi i = l.getD i 0) {M : Nat} (s : PS) : (((cmP gi l.length M (5 * M + 1) s).1 = 0 ∧ CMno l s.1 (cmP gi l.length M (5 * M + 1) s).2.1) ∨ ((cmP gi l.length M (5 * M + 1) s).1 = 1 ∧ ∃ k vs, CMok l s.1 k vs (cmP gi l.length M (5 * M + 1) s).2.1 ∧ (cmP gi l.length M (5 * M + 1) s).2.2 (5 * M) = k ∧ ∀ i, i < arK k → (cmP gi l.length M (5 * M + 1) s).2.2 (5 * M + 1 + i) = vs.getD i 0)) ∧ ∀ j, j < 5 * M → (cmP gi l.length M (5 * M + 1) s).2.2 j = s.2 j := by
  obtain ⟨h1, h2⟩ := cm_SPX hgi (M := M) s (fun z => by cases z)
  refine ⟨?_, h2⟩
  rcases h1 with ⟨q1, q2⟩ | ⟨q1, k, vs, ⟨w2, a1, z1, z2, z3, z4⟩, q3⟩
  · refine Or.inl ⟨q1, ?_⟩
    unfold CMno
    rw [wdP_H]
    exact q2
  · refine Or.inr ⟨q1, k, vs, ⟨w2, a1, by rw [wdP_H]; exact z1, z2, z3, ?_, z4⟩, q3⟩
    exact Nat.le_of_eq (wdP_len (by rw [wdP_H]; exact z1))
theorem TLD.snoc {L : List (Nat × List Nat)} {x : Nat × List Nat} {τ τ2 : Nat → Nat} (h : TLD L τ) (hk : x.1 < 10) (hL : ∀ y, y ∈ L → y.1 < 10) (h1 : τ2 (5 * L.length) = x.1) (h2 : ∀ i, i < arK x.1 → τ2 (5 * L.length + 1 + i) = x.2.getD i 0) (h3 : ∀ j, j < 5 * L.length → τ2 j = τ j) : TLD (L ++ [x]) τ2 := by
  intro j hj
  rw [List.length_append, List.length_singleton] at hj
  by_cases e : j = L.length
  · subst e
    have e2 : (L ++ [x]).getD L.length (0, []) = x := by rw [List.getD_eq_getElem?_getD, List.getElem?_append_right (Nat.le_refl _), Nat.sub_self]; rfl
    rw [e2]
    exact ⟨h1, h2⟩
  · have e2 : (L ++ [x]).getD j (0, []) = L.getD j (0, []) := by rw [List.getD_eq_getElem?_getD, List.getElem?_append_left (by omega), ← List.getD_eq_getElem?_getD]
    rw [e2]
    obtain ⟨q1, q2⟩ := h j (by omega)
    have hy : (L.getD j (0, [])).1 < 10 := hL _ (by rw [List.getD_eq_getElem?_getD, List.getElem?_eq_getElem (by omega)]; exact List.getElem_mem _)
    have har : arK (L.getD j (0, [])).1 ≤ 4 := by
      generalize (L.getD j (0, [])).1 = y at hy ⊢
      rcases ten hy with rfl | rfl | rfl | rfl | rfl | rfl | rfl | rfl | rfl | rfl <;> decide
    exact ⟨(h3 _ (by omega)).trans q1, fun i hi => (h3 _ (by omega)).trans (q2 i hi)⟩
/-- what was read so far: commands, the place behind the last -/
def RDS (l : List Nat) (L : List (Nat × List Nat)) (a : Nat) : Prop := (L = [] ∧ a = 0) ∨ ∃ x L' a1 a2, L = x :: L' ∧ CMok l 0 x.1 x.2 a1 ∧ CMT l L' a1 a2 ∧ a2 < l.length ∧ tkP 59 l a2 = .inr a
theorem CMok.k10 {a k a2 : Nat} {vs : List Nat} (h : CMok l a k vs a2) : k < 10 := by obtain ⟨w, a1, -, hk, -⟩ := h; exact hk
theorem nuL_ln : ∀ (k v a : Nat), a ≤ l.length → (nuL l k v a).2 ≤ l.length
  | 0, _, _, h => h
  | k + 1, v, a, h => by
    show (if _ then _ else _ : Nat × Nat).2 ≤ _
    split
    · rename_i q
      exact nuL_ln k _ (a + 1) (curP_lt (c := curP l a) rfl (by omega))
    · exact h
theorem ds_ln {a v a2 : Nat} (h : dsP l a = .inr (v, a2)) : a2 ≤ l.length := by
  unfold dsP at h
  cases q : tkP 32 l a with
  | inl e => rw [q] at h; cases h
  | inr a1 => rw [q] at h; have := dg1P_ok h; omega
theorem it_ln {i a v a2 : Nat} (h : itP i l a = .inr (v, a2)) : a2 ≤ l.length := by
  unfold itP at h
  split at h
  · exact ds_ln h
  · split at h
    · have := dg1P_ok h; omega
    · unfold nuP at h
      cases q : dsP l a with
      | inl e => rw [q] at h; cases h
      | inr p =>
        obtain ⟨v1, a1⟩ := p
        rw [q] at h
        have h : (.inr (nuL l 3 v1 a1) : Nat ⊕ (Nat × Nat)) = .inr (v, a2) := h
        injection h with h
        have h2 := nuL_ln (l := l) 3 v1 a1 (ds_ln q)
        rw [h] at h2
        exact h2
theorem sq_ln : ∀ (is : List Nat) (a : Nat) (vs : List Nat) (a2 : Nat), is ≠ [] → sqP l is a = .inr (vs, a2) → a2 ≤ l.length
  | [], _, _, _, h0, _ => absurd rfl h0
  | i :: is, a, vs, a2, _, h => by
    have h : (match itP i l a with | .inl e => .inl e | .inr (v, a1) => match sqP l is a1 with | .inl e => .inl e | .inr (vs, a2) => .inr (v :: vs, a2) : Nat ⊕ (List Nat × Nat)) = .inr (vs, a2) := h
    cases q : itP i l a with
    | inl e => rw [q] at h; cases h
    | inr p =>
      obtain ⟨v, a1⟩ := p
      rw [q] at h
      have h : (match sqP l is a1 with | .inl e => .inl e | .inr (vs, a2) => .inr (v :: vs, a2) : Nat ⊕ (List Nat × Nat)) = .inr (vs, a2) := h
      cases q2 : sqP l is a1 with
      | inl e => rw [q2] at h; cases h
      | inr p2 =>
        obtain ⟨ws, b⟩ := p2
        rw [q2] at h
        have h : (.inr (v :: ws, b) : Nat ⊕ (List Nat × Nat)) = .inr (vs, a2) := h
        injection h with h
        injection h with h3 h4
        subst h4
        cases is with
        | nil =>
          have q2 : (.inr ([], a1) : Nat ⊕ (List Nat × Nat)) = .inr (ws, b) := q2
          injection q2 with q2
          injection q2 with q3 q4
          rw [← q4]; exact it_ln q
        | cons j js => exact sq_ln (j :: js) a1 ws b (fun z => by cases z) q2
theorem cm_le {a k a2 : Nat} {vs : List Nat} (h : CMok l a k vs a2) : a2 ≤ l.length := by
  obtain ⟨w, a1, -, hk, -, -, h2⟩ := h
  refine sq_ln _ _ _ _ ?_ h2
  rcases ten hk with rfl | rfl | rfl | rfl | rfl | rfl | rfl | rfl | rfl | rfl <;> exact fun z => by cases z
theorem sc_join (hgi : ∀ i, i < l.length → gi i = l.getD i 0) (h60 : l.length ≤ 60) : ∀ (K : Nat) (L : List (Nat × List Nat)) (s : PS), RDS l L s.1 → (∀ y, y ∈ L → y.1 < 10) → TLD L s.2 → 7 * L.length ≤ s.1 → s.1 ≤ 60 → 61 ≤ K + s.1 →
    ((scF gi l.length K L.length s).1 = 0 ∧ PRN l 0 (scF gi l.length K L.length s).2.2.1 ∧ (scF gi l.length K L.length s).2.2.1 ≤ 60) ∨ ((scF gi l.length K L.length s).1 = 1 ∧ ∃ L2, PRS l 0 L2 ∧ L2.length ≤ 20 ∧ (scF gi l.length K L.length s).2.1 = L2.length ∧ TLD L2 (scF gi l.length K L.length s).2.2.2)
  | 0, L, s, _, _, _, _, h6, h7 => by omega
  | K + 1, L, s, hR, h10, hT, hl7, h6, h7 => by
    obtain ⟨h1, h2⟩ := cm_one hgi (M := L.length) s
    have hok := ok_cm (gi := gi) (M := L.length) (p := 5 * L.length + 1) h60 s h6
    rcases h1 with ⟨q1, q2⟩ | ⟨q1, k, vs, q2, q3, q4⟩
    · rw [scF_0 q1]
      refine Or.inl ⟨rfl, ?_, hok.2⟩
      rcases hR with ⟨rfl, e⟩ | ⟨x, L', a1, a2, rfl, r1, r2, r3, r4⟩
      · rw [e] at q2; exact Or.inl q2
      · exact Or.inr ⟨x, L', a1, a2, r1, r2, r3, Or.inr ⟨_, r4, q2⟩⟩
    · have hlen := q2.len
      have hk10 := q2.k10
      have hT2 : TLD (L ++ [(k, vs)]) (cmP gi l.length L.length (5 * L.length + 1) s).2.2 := hT.snoc hk10 h10 q3 q4 h2
      have hsk := sk_cur hgi (c := 59) (a := (cmP gi l.length L.length (5 * L.length + 1) s).2.1) (by decide)
      have h102 : ∀ y, y ∈ L ++ [(k, vs)] → y.1 < 10 := fun y hy => (List.mem_append.mp hy).elim (h10 y) (fun z => by rw [List.mem_singleton.mp z]; exact hk10)
      generalize hC : cmP gi l.length L.length (5 * L.length + 1) s = C at q1 q2 q3 q4 hlen hT2 hsk hok
      obtain ⟨c1, a3, t3⟩ := C
      have hcmt : ∀ {a3}, CMok l s.1 k vs a3 → ∃ x L' a1, L ++ [(k, vs)] = x :: L' ∧ CMok l 0 x.1 x.2 a1 ∧ CMT l L' a1 a3 := by
        intro a3 q2
        rcases hR with ⟨rfl, e⟩ | ⟨x, L', a1, a2, rfl, r1, r2, r3, r4⟩
        · rw [e] at q2
          exact ⟨(k, vs), [], a3, rfl, q2, rfl⟩
        · exact ⟨x, L' ++ [(k, vs)], a1, rfl, r1, CMT.snoc r4 q2 r2⟩
      obtain ⟨x, L', a1, e1, r1, r2⟩ := hcmt q2
      by_cases q5 : curP l a3 = 59
      · rw [if_pos q5] at hsk
        have ha3 : a3 < l.length := curP_lt q5 (by decide)
        rw [scF_2 (by rw [hC]; show 0 < c1; have : c1 = 1 := q1; omega) (by rw [hC, hsk]; exact Nat.one_pos), hC]
        have hx := sc_join hgi h60 K (L ++ [(k, vs)]) (a3 + 1, t3) (Or.inr ⟨x, L', a1, a3, e1, r1, r2, ha3, if_pos q5⟩) h102 hT2 (by rw [List.length_append, List.length_singleton]; show _ ≤ a3 + 1; have : s.1 + 6 ≤ a3 := hlen; omega) (by show a3 + 1 ≤ 60; omega) (by show 61 ≤ K + (a3 + 1); have : s.1 + 6 ≤ a3 := hlen; omega)
        rw [List.length_append, List.length_singleton] at hx
        exact hx
      · rw [if_neg q5] at hsk
        rw [scF_1 (by rw [hC]; show 0 < c1; have : c1 = 1 := q1; omega) (by rw [hC, hsk]), hC]
        by_cases q6 : a3 = l.length
        · refine Or.inr ⟨if_pos q6, L ++ [(k, vs)], ⟨x, L', a1, e1, r1, q6 ▸ r2⟩, ?_, ?_, hT2⟩
          · rw [List.length_append, List.length_singleton]; have : s.1 + 6 ≤ a3 := hlen; omega
          · rw [List.length_append, List.length_singleton]
        · have hle : a3 ≤ l.length := cm_le q2
          refine Or.inl ⟨if_neg q6, Or.inr ⟨x, L', a1, a3, r1, r2, by omega, Or.inl (if_neg q5)⟩, hok.2⟩
theorem pars (h60 : l.length ≤ 60) {τ : Nat → Nat} (hgi : ∀ i, i < l.length → gi i = l.getD i 0) : PARS l gi τ :=
  sc_join hgi h60 61 [] (0, τ) (Or.inl ⟨rfl, rfl⟩) (fun y hy => by cases hy) (fun j hj => absurd hj (Nat.not_lt_zero j)) (Nat.zero_le _) (Nat.zero_le _) (Nat.le_refl _)
end PA
