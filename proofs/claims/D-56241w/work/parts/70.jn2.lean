theorem lkEv : LkF RJ46 146 "SleeperRailway$Event" ⟨"java/lang/Comparable", "compareTo", "(Ljava/lang/Object;)I"⟩ yX15_compareTo cX15_compareTo 2 (some .int) 1 := ⟨lw_F q1534 q1538 q1540 q166 q1542, ⟨q1536, List.mem_append_left _ q1535, q1541, q1539, q1537⟩, (by decide +kernel), (by decide +kernel)⟩
/-- the events of a queue at pq (its array at ar): they are of the legs P, in some order -/
def EV (G : GG) (h : AH) (pq ar : Nat) (g : Nat → Nat) (P : List (Nat × Nat)) : Prop :=
  ∃ (mc n cap : Nat) (f : Nat → Nat) (ev : Nat → Nat × Nat), PQs G h pq ar mc n cap f ∧ (∀ z, z ∈ els f n → ∃ q, h z = some (.inr (12, [.ref q])) ∧ h q = some (LgE g (ev z).1 (ev z).2)) ∧ ((els f n).map ev).Perm P
theorem EV.len {G : GG} {h : AH} {pq ar : Nat} {g : Nat → Nat} {P : List (Nat × Nat)} (hE : EV G h pq ar g P) : ∃ (mc cap : Nat) (f : Nat → Nat) (ev : Nat → Nat × Nat), PQs G h pq ar mc P.length cap f ∧ (∀ z, z ∈ els f P.length → ∃ q, h z = some (.inr (12, [.ref q])) ∧ h q = some (LgE g (ev z).1 (ev z).2)) ∧ ((els f P.length).map ev).Perm P := by
  obtain ⟨mc, n, cap, f, ev, h1, h2, h3⟩ := hE
  have e : n = P.length := by
    have z := h3.length_eq
    unfold els at z
    rw [List.length_map, List.length_map, List.length_range] at z
    exact z
  subst e
  exact ⟨mc, cap, f, ev, h1, h2, h3⟩
theorem EV.arr {G : GG} {h : AH} {pq ar : Nat} {g : Nat → Nat} {P : List (Nat × Nat)} (hE : EV G h pq ar g P) : ∃ n f, h ar = some (qA G n f) := by
  obtain ⟨mc, n, cap, f, ev, ⟨-, -, -, -, -, g2, h1, -⟩, -⟩ := hE
  exact ⟨_, _, h1⟩
theorem EV.cell {G : GG} {h : AH} {pq ar : Nat} {g : Nat → Nat} {P : List (Nat × Nat)} (hE : EV G h pq ar g P) : ∃ f, h pq = some (.inr (31, f)) := by
  obtain ⟨mc, n, cap, f, ev, ⟨h1, -⟩, -⟩ := hE
  exact ⟨_, h1⟩
theorem PQs.fr {G : GG} {M : Nat → Prop} {h h2 : AH} {a ar mc n cap : Nat} {f : Nat → Nat} (hQ : PQs G h a ar mc n cap f) (hx : Fr M h h2) (h1 : ¬ M a) (h3 : ¬ M ar) : PQs G h2 a ar mc n cap f := by
  obtain ⟨p, o, z1, z2, z3, g, q, w⟩ := hQ
  exact ⟨hx.get p h1 rfl, fun i hi => hx.isO (o i hi), z1, z2, z3, g, hx.get q h3 rfl, w⟩
theorem EV.fr {G : GG} {M : Nat → Prop} {h h2 : AH} {pq ar : Nat} {g : Nat → Nat} {P : List (Nat × Nat)} (hE : EV G h pq ar g P) (hx : Fr M h h2) (h1 : ¬ M pq) (h3 : ¬ M ar) (h4 : offK M h (kO 12)) (h5 : offK M h (kO 5)) : EV G h2 pq ar g P := by
  obtain ⟨mc, n, cap, f, ev, q1, q2, q3⟩ := hE
  refine ⟨mc, n, cap, f, ev, q1.fr hx h1 h3, fun z hz => ?_, q3⟩
  obtain ⟨q, y1, y2⟩ := q2 z hz
  exact ⟨q, hx.get y1 (h4.o y1) rfl, hx.get y2 (h5.o y2) rfl⟩
theorem EV.fr0 {G : GG} {h h2 : AH} {pq ar : Nat} {g : Nat → Nat} {P : List (Nat × Nat)} (hE : EV G h pq ar g P) (hx : Fr nM h h2) : EV G h2 pq ar g P := hE.fr hx id id offK.nM offK.nM
theorem EV.perm {G : GG} {h : AH} {pq ar : Nat} {g : Nat → Nat} {P P2 : List (Nat × Nat)} (hE : EV G h pq ar g P) (hp : P.Perm P2) : EV G h pq ar g P2 := by
  obtain ⟨mc, n, cap, f, ev, q1, q2, q3⟩ := hE
  exact ⟨mc, n, cap, f, ev, q1, q2, q3.trans hp⟩
theorem EV.isC {G : GG} {h : AH} {pq ar : Nat} {g : Nat → Nat} {P : List (Nat × Nat)} (hE : EV G h pq ar g P) : isC G h pq "java/util/PriorityQueue" := hE.cell.elim (fun f q => ⟨31, _, _, _, rfl, .inl q⟩)
theorem pqc_ev {G : GG} {l : Launch} {h : AH} {ar x : Nat} {g : Nat → Nat} {E : List Nat} (hx : x ∈ E) (hE : ∀ z, z ∈ E → ∃ q t k, h z = some (.inr (12, [.ref q])) ∧ h q = some (LgE g t k) ∧ z ≠ ar ∧ q ≠ ar) : PQC G l h ar x E "SleeperRailway$Event" yX15_compareTo cX15_compareTo 2 2 := by
  obtain ⟨q, t, k, h1, h2, h3, h4⟩ := hE x hx
  refine ⟨lkEv, ⟨12, _, _, _, rfl, .inl h1⟩, q1537, by decide, by decide, isO_event h1, fun z hz => ?_, fun h' hh z hz => ?_⟩
  · obtain ⟨q2, t2, k2, y1, -⟩ := hE z hz
    exact isO_event y1
  · obtain ⟨q2, t2, k2, y1, y2, y3, y4⟩ := hE z hz
    exact ⟨_, ct_Event_cmp (hh.get h1 h3 rfl) (hh.get y1 y3 rfl) (hh.get h2 h4 rfl) (hh.get y2 y4 rfl)⟩
/-- offering a leg: the legs ridden, the legs pending -/
def ofS (g : Nat → Nat) (x : (Nat → Nat) × List (Nat × Nat)) (p : Nat × Nat) : (Nat → Nat) × List (Nat × Nat) :=
  if ¬ ldG g p.1 p.2 = g (16 + 36 * p.1 + 0) ∧ ¬ x.1 (8 * p.1 + p.2) = 1 then (up x.1 (8 * p.1 + p.2) 1, p :: x.2) else x
/-- offering all legs from a station that can be boarded -/
def oaS (g e : Nat → Nat) (a v s : Nat) (x : (Nat → Nat) × List (Nat × Nat)) (p : Nat × Nat) : (Nat → Nat) × List (Nat × Nat) :=
  if plG g p.1 p.2 = s ∧ cbG g e a v p.1 p.2 then ofS g x p else x
theorem ofS_R {g : Nat → Nat} {x : (Nat → Nat) × List (Nat × Nat)} {p : Nat × Nat} (h : ∀ i, x.1 i < 2) : ∀ i, (ofS g x p).1 i < 2 := by
  intro i
  unfold ofS
  split
  · show up x.1 _ 1 i < 2
    unfold up; split
    · decide
    · exact h i
  · exact h i
theorem m3.no {a b c x : Nat} (h1 : x ≠ a) (h2 : x ≠ b) (h3 : x ≠ c) : ¬ m3 a b c x := fun q => q.elim h1 (fun q => q.elim h2 h3)
theorem LGS.sep {G : GG} {h1 hh : AH} {lg lar ar c : Nat} {g : Nat → Nat} {L : List (Nat × Nat)} {f : Nat → Nat} {u : Nat → Option Nat} (hL : LGS G h1 lg lar g L f) (hb : HB G hh) (ha : h1 ar = none) (hq : hh lar = some (qA G c u)) : lar ≠ ar := by
  intro z
  subst z
  obtain ⟨-, -, cap, g2, q, -⟩ := hL.1
  rcases q with q | q
  · rw [ha] at q; cases q
  · rw [hb.no q] at hq; cases hq
theorem ev_at {G : GG} {h h2 : AH} {pq ar mc n cap z q t k : Nat} {f : Nat → Nat} {g : Nat → Nat} (hQ : PQs G h pq ar mc n cap f) (hx : Fr (m2 pq ar) h h2) (h1 : h z = some (.inr (12, [.ref q]))) (h3 : h q = some (LgE g t k)) : h2 z = some (.inr (12, [.ref q])) ∧ h2 q = some (LgE g t k) := by
  obtain ⟨p, -, -, -, -, g2, y, -⟩ := hQ
  exact ⟨hx.get h1 (fun w => w.elim (ne_oo h1 p (by decide)) (ne_oa h1 y)) rfl, hx.get h3 (fun w => w.elim (ne_oo h3 p (by decide)) (ne_oa h3 y)) rfl⟩
theorem ev_ne {G : GG} {h : AH} {pq ar ar' mc n cap z q t k : Nat} {f : Nat → Nat} {g : Nat → Nat} (hQ : PQs G h pq ar mc n cap f) (ho : ar' = ar ∨ h ar' = none) (h1 : h z = some (.inr (12, [.ref q]))) (h3 : h q = some (LgE g t k)) : z ≠ ar' ∧ q ≠ ar' := by
  obtain ⟨p, -, -, -, -, g2, y, -⟩ := hQ
  rcases ho with rfl | ho
  · exact ⟨ne_oa h1 y, ne_oa h3 y⟩
  · exact ⟨ne_fr h1 ho, ne_fr h3 ho⟩
theorem qc_add {G : GG} {l : Launch} {h : AH} {pq ar mc n cap x q t k : Nat} {f : Nat → Nat} {g : Nat → Nat} {ev : Nat → Nat × Nat} (hQ : PQs G h pq ar mc n cap f) (hev : ∀ z, z ∈ els f n → ∃ q, h z = some (.inr (12, [.ref q])) ∧ h q = some (LgE g (ev z).1 (ev z).2)) (hx : h x = some (.inr (12, [.ref q]))) (hq : h q = some (LgE g t k)) :
    ∀ ar' h', (ar' = ar ∨ h ar' = none) → Fr (m2 pq ar) h h' → PQC G l h' ar' x (els (upo f n x) (n + 1)) "SleeperRailway$Event" yX15_compareTo cX15_compareTo 2 2 := by
  intro ar' h' ho hF
  refine pqc_ev (g := g) ((els_add (f := f) (n := n) (x := x)).symm.subset List.mem_cons_self) (fun z hz => ?_)
  rcases List.mem_cons.mp ((els_add (f := f) (n := n) (x := x)).subset hz) with e | hz
  · subst e
    obtain ⟨y1, y2⟩ := ev_at hQ hF hx hq
    obtain ⟨y3, y4⟩ := ev_ne hQ ho hx hq
    exact ⟨_, _, _, y1, y2, y3, y4⟩
  · obtain ⟨q2, w1, w2⟩ := hev z hz
    obtain ⟨y1, y2⟩ := ev_at hQ hF w1 w2
    obtain ⟨y3, y4⟩ := ev_ne hQ ho w1 w2
    exact ⟨_, _, _, y1, y2, y3, y4⟩
theorem qc_poll {G : GG} {l : Launch} {h : AH} {pq ar mc n cap : Nat} {f : Nat → Nat} {g : Nat → Nat} {ev : Nat → Nat × Nat} (hQ : PQs G h pq ar mc n cap f) (hev : ∀ z, z ∈ els f n → ∃ q, h z = some (.inr (12, [.ref q])) ∧ h q = some (LgE g (ev z).1 (ev z).2)) :
    ∀ h', Fr (m2 pq ar) h h' → ∀ z, z ∈ els f n → PQC G l h' ar z (els f n) "SleeperRailway$Event" yX15_compareTo cX15_compareTo 2 2 := by
  intro h' hF z0 hz0
  refine pqc_ev (g := g) hz0 (fun z hz => ?_)
  obtain ⟨q2, w1, w2⟩ := hev z hz
  obtain ⟨y1, y2⟩ := ev_at hQ hF w1 w2
  obtain ⟨y3, y4⟩ := ev_ne hQ (Or.inl rfl) w1 w2
  exact ⟨_, _, _, y1, y2, y3, y4⟩
theorem EV.add {G : GG} {h h2 : AH} {pq ar ar2 mc n cap cap2 x q t k : Nat} {f f2 : Nat → Nat} {g : Nat → Nat} {ev : Nat → Nat × Nat} {P : List (Nat × Nat)} (hQ : PQs G h pq ar mc n cap f) (hev : ∀ z, z ∈ els f n → ∃ q, h z = some (.inr (12, [.ref q])) ∧ h q = some (LgE g (ev z).1 (ev z).2)) (hP : ((els f n).map ev).Perm P) (hx : h x = some (.inr (12, [.ref q]))) (hq : h q = some (LgE g t k)) (hno : x ∉ els f n)
    (hQ2 : PQs G h2 pq ar2 (mc + 1) (n + 1) cap2 f2) (hpe : (els f2 (n + 1)).Perm (x :: els f n)) (hF : Fr (m2 pq ar) h h2) : EV G h2 pq ar2 g ((t, k) :: P) := by
  obtain ⟨E, hE0, hE1⟩ : ∃ E : Nat → Nat × Nat, E x = (t, k) ∧ ∀ z, z ∈ els f n → E z = ev z := ⟨fun z => if z = x then (t, k) else ev z, if_pos rfl, fun z hz => by
    show (if z = x then (t, k) else ev z) = ev z
    rw [if_neg]
    intro e
    rw [e] at hz
    exact hno hz⟩
  refine ⟨_, _, _, f2, E, hQ2, fun z hz => ?_, ?_⟩
  · rcases List.mem_cons.mp (hpe.subset hz) with e | hz
    · subst e
      rw [hE0]
      obtain ⟨y1, y2⟩ := ev_at hQ hF hx hq
      exact ⟨_, y1, y2⟩
    · obtain ⟨q2, w1, w2⟩ := hev z hz
      obtain ⟨y1, y2⟩ := ev_at hQ hF w1 w2
      rw [hE1 z hz]
      exact ⟨_, y1, y2⟩
  · refine (hpe.map _).trans ?_
    rw [List.map_cons, hE0]
    refine List.Perm.cons _ ?_
    rw [List.map_congr_left hE1]
    exact hP
theorem EV.poll {G : GG} {h h2 : AH} {pq ar mc n cap : Nat} {f f2 : Nat → Nat} {g : Nat → Nat} {ev : Nat → Nat × Nat} {P : List (Nat × Nat)} (hQ : PQs G h pq ar mc n cap f) (hev : ∀ z, z ∈ els f n → ∃ q, h z = some (.inr (12, [.ref q])) ∧ h q = some (LgE g (ev z).1 (ev z).2)) (hP : ((els f n).map ev).Perm P) (hn : 0 < n)
    (hQ2 : PQs G h2 pq ar (mc + 1) (n - 1) cap f2) (hpe : (f 0 :: els f2 (n - 1)).Perm (els f n)) (hF : Fr (m2 pq ar) h h2) : ∃ q t k P2, h2 (f 0) = some (.inr (12, [.ref q])) ∧ h2 q = some (LgE g t k) ∧ P.Perm ((t, k) :: P2) ∧ EV G h2 pq ar g P2 := by
  have h0 : f 0 ∈ els f n := hpe.subset List.mem_cons_self
  obtain ⟨q, w1, w2⟩ := hev _ h0
  obtain ⟨y1, y2⟩ := ev_at hQ hF w1 w2
  refine ⟨q, (ev (f 0)).1, (ev (f 0)).2, (els f2 (n - 1)).map ev, y1, y2, ?_, ⟨_, _, _, f2, ev, hQ2, fun z hz => ?_, List.Perm.refl _⟩⟩
  · exact hP.symm.trans (hpe.symm.map ev)
  · obtain ⟨q2, w3, w4⟩ := hev z (hpe.subset (List.mem_cons_of_mem _ hz))
    obtain ⟨y3, y4⟩ := ev_at hQ hF w3 w4
    exact ⟨_, y3, y4⟩
/-- how many legs are ridden -/
def rcN (g R : Nat → Nat) : Nat := (lgL g).countP (fun p => decide (R (8 * p.1 + p.2) = 1))
theorem rcN_le {g R : Nat → Nat} (hI : GW g) : rcN g R ≤ 42 := Nat.le_trans List.countP_le_length (lgL_len hI)
theorem countP_up {α : Type} {A B : α → Bool} {p : α} (hAB : ∀ q, A q = true → B q = true) (h1 : ¬ A p = true) (h2 : B p = true) : ∀ (L : List α), p ∈ L → L.countP A + 1 ≤ L.countP B
  | [], h => by cases h
  | q :: L, h => by
    have hmono : L.countP A ≤ L.countP B := List.countP_mono_left (fun x _ => hAB x)
    rcases List.mem_cons.mp h with e | h
    · subst e
      rw [List.countP_cons_of_neg h1, List.countP_cons_of_pos h2]
      omega
    · have ih := countP_up hAB h1 h2 L h
      by_cases hq : A q = true
      · rw [List.countP_cons_of_pos hq, List.countP_cons_of_pos (hAB q hq)]; omega
      · rw [List.countP_cons_of_neg hq]
        by_cases hb : B q = true
        · rw [List.countP_cons_of_pos hb]; omega
        · rw [List.countP_cons_of_neg hb]; exact ih
theorem ofS_rc {g : Nat → Nat} {x : (Nat → Nat) × List (Nat × Nat)} {p : Nat × Nat} (hp : p ∈ lgL g) (h : x.2.length ≤ rcN g x.1) : (ofS g x p).2.length ≤ rcN g (ofS g x p).1 := by
  unfold ofS; split
  · rename_i hc
    show x.2.length + 1 ≤ rcN g (up x.1 _ 1)
    have hz : rcN g x.1 + 1 ≤ rcN g (up x.1 (8 * p.1 + p.2) 1) := countP_up (p := p) (fun q hq => by
      have hq := of_decide_eq_true hq
      apply decide_eq_true
      unfold up; split
      · rfl
      · exact hq) (by simpa using hc.2) (by apply decide_eq_true; exact up_s) (lgL g) hp
    omega
  · exact h
theorem oaS_rc {g e : Nat → Nat} {a v s : Nat} {x : (Nat → Nat) × List (Nat × Nat)} {p : Nat × Nat} (hp : p ∈ lgL g) (h : x.2.length ≤ rcN g x.1) : (oaS g e a v s x p).2.length ≤ rcN g (oaS g e a v s x p).1 := by
  unfold oaS; split
  · exact ofS_rc hp h
  · exact h
theorem oaF_rc {g e : Nat → Nat} {a v s : Nat} : ∀ (L : List (Nat × Nat)) {x : (Nat → Nat) × List (Nat × Nat)}, (∀ p, p ∈ L → p ∈ lgL g) → x.2.length ≤ rcN g x.1 → (L.foldl (oaS g e a v s) x).2.length ≤ rcN g (L.foldl (oaS g e a v s) x).1
  | [], _, _, h => h
  | p :: L, _, hL, h => oaF_rc L (fun q hq => hL q (List.mem_cons_of_mem _ hq)) (oaS_rc (hL p List.mem_cons_self) h)
theorem rcN_up {g R : Nat → Nat} {p : Nat × Nat} (hp : p ∈ lgL g) (h : ¬ R (8 * p.1 + p.2) = 1) : rcN g R + 1 ≤ rcN g (up R (8 * p.1 + p.2) 1) :=
  countP_up (p := p) (fun q hq => by
      have hq := of_decide_eq_true hq
      apply decide_eq_true
      unfold up; split
      · rfl
      · exact hq) (by simpa using h) (by apply decide_eq_true; exact up_s) (lgL g) hp
theorem ofS_mono {g : Nat → Nat} {x : (Nat → Nat) × List (Nat × Nat)} {p : Nat × Nat} (hp : p ∈ lgL g) : rcN g x.1 ≤ rcN g (ofS g x p).1 := by
  unfold ofS; split
  · rename_i hc
    exact Nat.le_of_succ_le (rcN_up hp hc.2)
  · exact Nat.le_refl _
theorem oaS_mono {g e : Nat → Nat} {a v s : Nat} {x : (Nat → Nat) × List (Nat × Nat)} {p : Nat × Nat} (hp : p ∈ lgL g) : rcN g x.1 ≤ rcN g (oaS g e a v s x p).1 := by
  unfold oaS; split
  · exact ofS_mono hp
  · exact Nat.le_refl _
theorem oaF_mono {g e : Nat → Nat} {a v s : Nat} : ∀ (L : List (Nat × Nat)) {x : (Nat → Nat) × List (Nat × Nat)}, (∀ p, p ∈ L → p ∈ lgL g) → rcN g x.1 ≤ rcN g (L.foldl (oaS g e a v s) x).1
  | [], _, _ => Nat.le_refl _
  | p :: L, _, hL => Nat.le_trans (oaS_mono (hL p List.mem_cons_self)) (oaF_mono L (fun q hq => hL q (List.mem_cons_of_mem _ hq)))
theorem oaF_at {g e : Nat → Nat} {a v s i : Nat} {x y : (Nat → Nat) × List (Nat × Nat)} (h : ((lgL g).take i).foldl (oaS g e a v s) x = y) : rcN g y.1 ≤ rcN g ((lgL g).foldl (oaS g e a v s) x).1 := by
  rw [← List.take_append_drop i (lgL g), List.foldl_append, h]
  exact oaF_mono _ (fun p hp => List.mem_of_mem_drop hp)
theorem ofS_df {g : Nat → Nat} {x : (Nat → Nat) × List (Nat × Nat)} {p : Nat × Nat} (hp : p ∈ lgL g) : (ofS g x p).2.length + rcN g x.1 ≤ rcN g (ofS g x p).1 + x.2.length := by
  unfold ofS; split
  · rename_i hc
    have := rcN_up hp hc.2
    show x.2.length + 1 + _ ≤ rcN g (up x.1 (8 * p.1 + p.2) 1) + _
    omega
  · omega
theorem oaS_df {g e : Nat → Nat} {a v s : Nat} {x : (Nat → Nat) × List (Nat × Nat)} {p : Nat × Nat} (hp : p ∈ lgL g) : (oaS g e a v s x p).2.length + rcN g x.1 ≤ rcN g (oaS g e a v s x p).1 + x.2.length := by
  unfold oaS; split
  · exact ofS_df hp
  · omega
theorem oaF_df {g e : Nat → Nat} {a v s : Nat} : ∀ (L : List (Nat × Nat)) {x : (Nat → Nat) × List (Nat × Nat)}, (∀ p, p ∈ L → p ∈ lgL g) → (L.foldl (oaS g e a v s) x).2.length + rcN g x.1 ≤ rcN g (L.foldl (oaS g e a v s) x).1 + x.2.length
  | [], _, _ => by simp only [List.foldl_nil]; omega
  | p :: L, x, hL => by
    have h1 := oaS_df (g := g) (e := e) (a := a) (v := v) (s := s) (x := x) (hL p List.mem_cons_self)
    have h2 := oaF_df L (x := oaS g e a v s x p) (e := e) (a := a) (v := v) (s := s) (fun q hq => hL q (List.mem_cons_of_mem _ hq))
    rw [List.foldl_cons]
    omega
/-- one event of a search: the next leg; the label; the legs from there -/
def srA (g : Nat → Nat) (x : (Nat → Nat) × List (Nat × Nat)) (t k : Nat) : (Nat → Nat) × List (Nat × Nat) := if k + 1 < g (16 + 36 * t + 3) - 1 then ofS g x (t, k + 1) else x
def srE (g e : Nat → Nat) (t k : Nat) : Nat → Nat := if CmG g t (k + 1) < e (plG g t (k + 1)) then up e (plG g t (k + 1)) (CmG g t (k + 1)) else e
def srB (g e : Nat → Nat) (a v : Nat) (x : (Nat → Nat) × List (Nat × Nat)) (t k : Nat) : (Nat → Nat) × List (Nat × Nat) := if CmG g t (k + 1) < e (plG g t (k + 1)) then (lgL g).foldl (oaS g (up e (plG g t (k + 1)) (CmG g t (k + 1))) a v (plG g t (k + 1))) x else x

theorem ct_J_offer {G : GG} {l : Launch} {h : AH} {tt tl ta : Nat} {x : Nat → Nat} {A : Nat → Nat → Nat} {j lg tr eA rA a v pq ar q t k : Nat} {g R : Nat → Nat} {P : List (Nat × Nat)}  (hR : RWr G h (tt, tl, ta, x, A) g) (hI : GW g) (hj : h j = some (jnE G tt lg tr a v eA rA)) (hrA : h rA = some (zA G 48 (fun i => nI (R i)))) (hRM : ∀ i, R i < 2) (hq : h q = some (LgE g t k)) (ht : t < g 1) (hk : k < g (16 + 36 * t + 3) - 1) (hE : EV G h pq ar g P) (hP9 : P.length < 44) (hs8 : g (16 + 36 * t + 3) ≤ 8) (ht6 : t < 6) : Ct G l yX12_offer cX12_offer 4 none 9 (2 * (rcN g (ofS g (R, P) (t, k)).1 - rcN g R)) (100 * (rcN g (ofS g (R, P) (t, k)).1 - rcN g R)) [.ref j, .ref pq, .ref q] h (fun r h2 => r = none ∧ ∃ ar2, (ar2 = ar ∨ h ar2 = none) ∧ EV G h2 pq ar2 g (ofS g (R, P) (t, k)).2 ∧ h2 rA = some (zA G 48 (fun i => nI ((ofS g (R, P) (t, k)).1 i))) ∧ Fr (m3 pq ar rA) h h2) := by
  refine Ct.of (by decide) (Nat.le_of_ble_eq_true rfl) (cat1 rfl) (fun X hXl F HN => ?_)
  subst hXl
  obtain ⟨mcq, capq, fz, ev0, hQ, hev, hPm⟩ := hE.len
  refine V_aload_n (i := 0) F dX12_offer_0 rfl rfl ?_
  refine V_getf F dX12_offer_1 fc_X12_9_X12 (.inl hj) rfl ?_
  refine V_aload_n (i := 2) F dX12_offer_4 rfl rfl ?_
  refine V_callV (st := [.ref (tt)]) (nn := 0) F dX12_offer_5 lk_X12_83 (ct_Leg_train hq) ⟨5, _, _, _, rfl, (.inl hq)⟩ rfl rfl (Nat.le_of_ble_eq_true rfl) (Nat.le_of_ble_eq_true rfl) (Nat.le_of_ble_eq_true rfl) (by first | exact Nat.le_of_ble_eq_true rfl | omega) (by first | exact Nat.le_of_ble_eq_true rfl | omega) ?_
  refine PRk ?_
  refine V_callV (st := []) (nn := 1) F dX12_offer_8 lk_X12_121 (ct_TT_get hR hI ht) ⟨3, _, _, _, rfl, .inl hR.1⟩ rfl rfl (Nat.le_of_ble_eq_true rfl) (Nat.le_of_ble_eq_true rfl) (Nat.le_of_ble_eq_true rfl) (by first | exact Nat.le_of_ble_eq_true rfl | omega) (by first | exact Nat.le_of_ble_eq_true rfl | omega) ?_
  refine PRk ?_
  refine V_aload_n (i := 2) F dX12_offer_11 rfl rfl ?_
  refine V_callV (st := [.ref ((x t))]) (nn := 0) F dX12_offer_12 lk_X12_86 (ct_Leg_number hq) ⟨5, _, _, _, rfl, (.inl hq)⟩ rfl rfl (Nat.le_of_ble_eq_true rfl) (Nat.le_of_ble_eq_true rfl) (Nat.le_of_ble_eq_true rfl) (by first | exact Nat.le_of_ble_eq_true rfl | omega) (by first | exact Nat.le_of_ble_eq_true rfl | omega) ?_
  refine PRk ?_
  refine V_callV (st := []) (nn := 1) F dX12_offer_15 lk_X12_138 (ct_TR_isFull (hR.2.2 t ht) (by omega) hI.2.2.2.2.1 hI.b) ⟨4, _, _, _, rfl, (.inl (hR.2.2 t ht).1)⟩ rfl rfl (Nat.le_of_ble_eq_true rfl) (Nat.le_of_ble_eq_true rfl) (Nat.le_of_ble_eq_true rfl) (by first | exact Nat.le_of_ble_eq_true rfl | omega) (by first | exact Nat.le_of_ble_eq_true rfl | omega) ?_
  refine PRk ?_
  refine V_if_neB (tgt := 25) F dX12_offer_18 (by decide) (fun c_18 => ?_) (fun c_18 => ?_)
  · refine V_iconst (v := nI 0) F dX12_offer_25 rfl ?_
    refine V_istore_n (i := 3) F dX12_offer_26 rfl (Nat.le_of_ble_eq_true rfl) (Nat.le_of_ble_eq_true rfl) ?_
    refine V_iload_n (i := 3) F dX12_offer_27 rfl rfl ?_
    refine V_if_eqN (tgt := 66) F dX12_offer_28 (by decide) (by omega) (fun c_28 => ?_) (fun c_28 => absurd c_28 (by decide))
    have e1 : ofS g (R, P) (t, k) = (R, P) := if_neg (fun z => z.1 c_18)
    exact V_vret F dX12_offer_66 (by first | exact Nat.le_of_ble_eq_true rfl | omega) (by first | exact Nat.le_of_ble_eq_true rfl | omega) ⟨rfl, ar, Or.inl rfl, by rw [e1]; exact hE, by rw [e1]; exact hrA, Fr.rf⟩
  · refine V_iconst (v := nI 1) F dX12_offer_21 rfl ?_
    refine V_goto (tgt := 26) F dX12_offer_22 (by decide) ?_
    refine V_istore_n (i := 3) F dX12_offer_26 rfl (Nat.le_of_ble_eq_true rfl) (Nat.le_of_ble_eq_true rfl) ?_
    refine V_iload_n (i := 3) F dX12_offer_27 rfl rfl ?_
    refine V_if_eqN (tgt := 66) F dX12_offer_28 (by decide) (by omega) (fun c_28 => absurd c_28 (by decide)) (fun c_28 => ?_)
    refine V_aload_n (i := 0) F dX12_offer_31 rfl rfl ?_
    refine V_getf F dX12_offer_32 fc_X12_34_X12 (.inl hj) rfl ?_
    refine V_aload_n (i := 2) F dX12_offer_35 rfl rfl ?_
    refine V_callV (st := [.ref (rA)]) (nn := 0) F dX12_offer_36 lk_X12_93 (ct_Leg_hash hq) ⟨5, _, _, _, rfl, (.inl hq)⟩ rfl rfl (Nat.le_of_ble_eq_true rfl) (Nat.le_of_ble_eq_true rfl) (Nat.le_of_ble_eq_true rfl) (by first | exact Nat.le_of_ble_eq_true rfl | omega) (by first | exact Nat.le_of_ble_eq_true rfl | omega) ?_
    refine PRk ?_
    refine V_zaldN F 3 dX12_offer_39 rfl (.inl hrA) (by omega) (by decide) ?_
    refine V_if_neN (tgt := 66) F dX12_offer_40 (by decide) (by have := hRM (8 * t + k); omega) (fun c_40 => ?_) (fun c_40 => ?_)
    · have e1 : ofS g (R, P) (t, k) = (R, P) := if_neg (fun z => z.2 (by show R (8 * t + k) = 1; have := hRM (8 * t + k); omega))
      exact V_vret F dX12_offer_66 (by first | exact Nat.le_of_ble_eq_true rfl | omega) (by first | exact Nat.le_of_ble_eq_true rfl | omega) ⟨rfl, ar, Or.inl rfl, by rw [e1]; exact hE, by rw [e1]; exact hrA, Fr.rf⟩
    · have e9 : ofS g (R, P) (t, k) = (up R (8 * t + k) 1, (t, k) :: P) := if_pos ⟨c_18, by show ¬ R (8 * t + k) = 1; omega⟩
      have hrc9 : rcN g R + 1 ≤ rcN g (ofS g (R, P) (t, k)).1 := by rw [e9]; exact rcN_up (mem_lgL.mpr ⟨ht, hk⟩) (by show ¬ R (8 * t + k) = 1; omega)
      refine V_aload_n (i := 0) F dX12_offer_43 rfl rfl ?_
      refine V_getf F dX12_offer_44 fc_X12_34_X12 (.inl hj) rfl ?_
      refine V_aload_n (i := 2) F dX12_offer_47 rfl rfl ?_
      refine V_callV (st := [.ref (rA)]) (nn := 0) F dX12_offer_48 lk_X12_93 (ct_Leg_hash hq) ⟨5, _, _, _, rfl, (.inl hq)⟩ rfl rfl (Nat.le_of_ble_eq_true rfl) (Nat.le_of_ble_eq_true rfl) (Nat.le_of_ble_eq_true rfl) (by first | exact Nat.le_of_ble_eq_true rfl | omega) (by first | exact Nat.le_of_ble_eq_true rfl | omega) ?_
      refine PRk ?_
      refine V_iconst (v := nI 1) F dX12_offer_51 rfl ?_
      refine V_zastG F dX12_offer_52 hrA (by omega) (by decide) ?_
      refine V_aload_n (i := 1) F dX12_offer_53 rfl rfl ?_
      have p1 : (hset h (rA) (.inl (G.2.1 3, 48, .inl (fun i => nI (((up R (8 * t + k) 1)) i))))) j = some (.inr (10, [.ref (tt), .ref (lg), .ref (tr), .int (nI (a)), .int (nI (v)), .ref (eA), .ref (rA)])) := ((hset_ne (ne_oa hj hrA)).trans hj)
      have p2 : (hset h (rA) (.inl (G.2.1 3, 48, .inl (fun i => nI (((up R (8 * t + k) 1)) i))))) q = some (.inr (5, [.int (nI (t)), .int (nI (k)), .int (nI (plG g t k)), .int (nI (plG g t (k + 1))), .int (nI (LvG g t k)), .int (nI (CmG g t (k + 1)))])) := ((hset_ne (ne_oa hq hrA)).trans hq)
      have p3 : (hset h (rA) (.inl (G.2.1 3, 48, .inl (fun i => nI (((up R (8 * t + k) 1)) i))))) ((x t)) = some (.inr (4, [.int (nI (g (16 + 36 * t + 0))), .ref ((A t 0)), .ref ((A t 1)), .ref ((A t 2)), .ref ((A t 3)), .ref ((A t 4)), .int (nI (g (16 + 36 * t + 3))), .int (nI (g (16 + 36 * t + 2)))])) := ((hset_ne (ne_oa (hR.2.2 t ht).1 hrA)).trans (hR.2.2 t ht).1)
      have p4 : (hset h (rA) (.inl (G.2.1 3, 48, .inl (fun i => nI (((up R (8 * t + k) 1)) i))))) rA = some (.inl (G.2.1 3, 48, .inl (fun i => nI (((up R (8 * t + k) 1)) i)))) := (hset_self (e := .inl (G.2.1 3, 48, .inl (fun i => nI (((up R (8 * t + k) 1)) i)))))
      refine V_new F dX12_offer_54 nw_X12_115 (by first | exact Nat.le_of_ble_eq_true rfl | omega) (by first | exact Nat.le_of_ble_eq_true rfl | omega) ?_
      intro ev hfev hbev
      have hevN : h ev = none := by have z := hfev; unfold hset at z; split at z; cases z; exact z
      refine V_dup F dX12_offer_57 rfl ?_
      refine V_aload_n (i := 2) F dX12_offer_58 rfl rfl ?_
      refine V_callI (st := [.ref (ev), .ref (pq)]) (nn := 1) F dX12_offer_59 lk_X12_141 (ct_Ev_init (hset_self (e := .inr (12, [.null])))) rfl rfl (Nat.le_of_ble_eq_true rfl) (Nat.le_of_ble_eq_true rfl) (Nat.le_of_ble_eq_true rfl) (by first | exact Nat.le_of_ble_eq_true rfl | omega) (by first | exact Nat.le_of_ble_eq_true rfl | omega) ?_
      rintro _ hY5 ⟨rfl, hc7, hx6⟩
      have p8 := hx6.get ((hset_ne (ne_nw p1 hfev)).trans p1) (ne_nw p1 hfev) rfl
      have p9 := hx6.get ((hset_ne (ne_nw p2 hfev)).trans p2) (ne_nw p2 hfev) rfl
      have p10 := hx6.get ((hset_ne (ne_nw p3 hfev)).trans p3) (ne_nw p3 hfev) rfl
      have p11 := hx6.get ((hset_ne (ne_nw p4 hfev)).trans p4) (ne_nw p4 hfev) rfl
      have f12 : Fr (m1 rA) h hY5 := (((Fr.rf (M := m1 rA) (h := h)).put (x := .inl (G.2.1 3, 48, .inl (fun i => nI (((up R (8 * t + k) 1)) i)))) hrA ⟨rfl, rfl⟩ rfl (Or.inl rfl)).nw (x := .inr (12, [.null])) hfev).cal hx6 (Yo.m1 (((Fr.rf (M := m1 rA) (h := h)).put (x := .inl (G.2.1 3, 48, .inl (fun i => nI (((up R (8 * t + k) 1)) i)))) hrA ⟨rfl, rfl⟩ rfl (Or.inl rfl)).yo hfev))
      have hfr := f12
      have hqc := p9
      have hevc := hc7
      have hrc := p11
      have hQc := hQ.fr hfr (ne_oa hQ.1 hrA) (fun z => by obtain ⟨-, -, -, -, -, g2, y, -⟩ := hQ; exact ne_qi y hrA z)
      have hevs : ∀ z, z ∈ els fz P.length → ∃ q, hY5 z = some (.inr (12, [.ref q])) ∧ hY5 q = some (LgE g (ev0 z).1 (ev0 z).2) := fun z hz => by obtain ⟨q2, w1, w2⟩ := hev z hz; exact ⟨q2, hfr.get w1 (ne_oa w1 hrA) rfl, hfr.get w2 (ne_oa w2 hrA) rfl⟩
      have hno : ev ∉ els fz P.length := fun hz => by obtain ⟨q2, w1, -⟩ := hev ev hz; rw [hevN] at w1; cases w1
      refine V_callV (st := []) (nn := 1) F dX12_offer_62 lk_X12_144 (ct_PQ_add hQc (isO_event hevc) (by omega) (qc_add hQc hevs hevc hqc)) ⟨31, _, _, _, rfl, .inl hQc.1⟩ rfl rfl (Nat.le_of_ble_eq_true rfl) (Nat.le_of_ble_eq_true rfl) (Nat.le_of_ble_eq_true rfl) (by first | exact Nat.le_of_ble_eq_true rfl | omega) (by first | exact Nat.le_of_ble_eq_true rfl | omega) ?_
      rintro _ h9 ⟨rfl, ar2, cap2, f2, hQ2, hpe, hx9, hor2, -⟩
      refine V_pop F dX12_offer_65 rfl ?_
      have e1 := e9
      have hrA9 := hx9.get hrc (fun z => z.elim (ne_ao hrc hQc.1) (fun z => by obtain ⟨-, -, -, -, -, g2, y, -⟩ := hQc; exact ne_iq hrc y z)) rfl
      exact V_vret F dX12_offer_66 (by first | exact Nat.le_of_ble_eq_true rfl | omega) (by first | exact Nat.le_of_ble_eq_true rfl | omega) ⟨rfl, ar2, hor2.imp id (fun z => hfr.none z), by rw [e1]; exact EV.add hQc hevs hPm hevc hqc hno hQ2 hpe hx9, by rw [e1]; exact hrA9, (hfr.mono (fun b z => Or.inr (Or.inr z))).cal hx9 (fun b z => z.elim (fun z => Or.inl (Or.inl z)) (fun z => Or.inl (Or.inr (Or.inl z))))⟩
