set_option maxRecDepth 100000
/-! ===== the law's start: two objects, two arrays ===== -/
theorem RG.re {G : GG} {P Q : Nat → Prop} {h : AH} {r : Nat} {g : Nat → Nat} (hR : RG G P h r g) (hQ : ∀ z e, h z = some e → P z → Q z) : RG G Q h r g := by
  obtain ⟨D, hW, hP⟩ := hR
  refine ⟨D, hW, fun t i ht hi => ?_⟩
  obtain ⟨-, f, q, -⟩ := hW.2.2.1.2.2 t ht
  exact hQ _ _ (q i hi) (hP t i ht hi)
theorem CW.re {G : GG} {P Q : Nat → Prop} {h : AH} {xo : Nat} {g : Nat → Nat} {sn : Option (Nat → Nat)} {hs : List (Nat → Nat)} {l : List Nat} {ep fc : Int32} {ot : List Nat} (hC : CW G P h xo g sn hs l ep fc ot) (hQ : ∀ z e, h z = some e → P z → Q z) : CW G Q h xo g sn hs l ep fc ot := by
  obtain ⟨r, so, hl, sb, o, mc, A, V, b, N, q1, q2, q3, q4, q5, q6, q7, p1, p2, p3, p4, p5⟩ := hC
  obtain ⟨ml, c, z1, z2, z3⟩ := id q6
  refine ⟨r, so, hl, sb, o, mc, A, V, b, N, q1, q2.re hQ, ?_, q4, fun i hi => (q5 i hi).re hQ, q6, ?_, hQ _ _ q1 p1, hQ _ _ q4.1 p2, fun i hi => hQ _ _ (q4.2.2 i hi) (p3 i hi), hQ _ _ z1 p4, hQ _ _ z2 p5⟩
  · cases so with
    | none => cases sn with
      | none => exact trivial
      | some g => exact q3.elim
    | some r => cases sn with
      | none => exact q3.elim
      | some g => exact RG.re (show RG G P h r g from q3) hQ
  · obtain ⟨hl, ⟨v, hs, hz, c, q1, q2, q3, q4, q5, q6⟩ | q⟩ := q7
    · exact ⟨hl, Or.inl ⟨v, hs, hz, c, q1, q2, q3, q4, hQ _ _ q2 q5, q6⟩⟩
    · exact ⟨hl, Or.inr q⟩
theorem Ext0.fr {m : Nat} {h h2 : AH} {f1 f2 : List Value} (q : Ext0 m h h2) (hm : h m = some (.inr (0, f1))) (hm2 : h2 m = some (.inr (0, f2))) : Fr (m1 m) h h2 := fun b e hb => by
  by_cases z : b = m
  · subst z; rw [hm] at hb; cases hb; exact ⟨_, hm2, rfl, fun z => z.elim (fun z => absurd rfl z) (fun z => by cases z)⟩
  · exact ⟨e, q b e z hb, kd.rf, fun _ => ceq.rf⟩
theorem nA_ne {a : Nat} : ∀ {l : List Nat}, nA a l → ∀ i, i < l.length → l.getD i 0 ≠ a
  | [], _, i, hi => absurd hi (Nat.not_lt_zero i)
  | x :: l, h, 0, _ => h.1
  | x :: l, h, i + 1, hi => nA_ne (l := l) h.2 i (Nat.lt_of_succ_lt_succ hi)
theorem ND_ne : ∀ {l : List Nat}, ND l → ∀ i j, i < j → j < l.length → l.getD j 0 ≠ l.getD i 0
  | [], _, i, j, _, hj => absurd hj (Nat.not_lt_zero j)
  | x :: l, h, 0, j + 1, _, hj => nA_ne (l := l) h.1 j (Nat.lt_of_succ_lt_succ hj)
  | x :: l, h, i + 1, j + 1, hij, hj => ND_ne (l := l) h.2 i j (Nat.lt_of_succ_lt_succ hij) (Nat.lt_of_succ_lt_succ hj)
  | x :: l, h, i, 0, hij, hj => absurd hij (Nat.not_lt_zero i)
theorem W0.mw {G : GG} {h : AH} {m : Nat} {h2 : AH} (q : W0 G h m h2) {f1 : List Value} (hm : h m = some (.inr (0, f1))) : ∃ A, MW G h2 m A 0 0 Z0 Z0 Z0 none [] [] 0 0 [] 0 ∧ (∀ i, i < 12 → h (A i) = none) ∧ Fr (m1 m) h h2 := by
  obtain ⟨a0, a1, a2, a3, a4, a5, a6, a7, a8, a9, a10, a11, hm2, hnd, hx, c0, c1, c2, c3, c4, c5, c6, c7, c8, c9, c10, c11, -, -, -, -, -, -, -, -, -, -, -, -, f0, f1', f2, f3, f4, f5, f6, f7, f8, f9, f10, f11⟩ := q
  refine ⟨fun i => [a11, a10, a9, a8, a7, a6, a5, a4, a3, a2, a1, a0].getD (11 - i) 0, ⟨(fun k => match k with | 10 => .int (-1) | 11 => .int (-1) | _ => .int (nI 0)), (fun k => match k with | 10 => (fun _ => 1) | _ => Z0), ⟨hm2, fun i hi => ?_, fun i j hi hj e => ?_⟩, ?_⟩, fun i hi => ?_, hx.fr hm hm2⟩
  · rcases (show i = 0 ∨ i = 1 ∨ i = 2 ∨ i = 3 ∨ i = 4 ∨ i = 5 ∨ i = 6 ∨ i = 7 ∨ i = 8 ∨ i = 9 ∨ i = 10 ∨ i = 11 by omega) with rfl | rfl | rfl | rfl | rfl | rfl | rfl | rfl | rfl | rfl | rfl | rfl
    · exact c0
    · exact c1
    · exact c2
    · exact c3
    · exact c4
    · exact c5
    · exact c6
    · exact c7
    · exact c8
    · exact c9
    · exact c10
    · exact c11
  · rcases Nat.lt_trichotomy i j with z | z | z
    · exact absurd e (ND_ne hnd (11 - j) (11 - i) (by omega) (by show 11 - i < 12; omega))
    · exact z
    · exact absurd e.symm (ND_ne hnd (11 - i) (11 - j) (by omega) (by show 11 - j < 12; omega))
  · exact ⟨⟨rfl, rfl, rfl, rfl⟩, Or.inl ⟨rfl, rfl⟩, ⟨rfl, rfl, rfl⟩, ⟨rfl, rfl, rfl, rfl⟩, fun j hj => absurd hj (Nat.not_lt_zero j), ⟨fun i hi => absurd hi (Nat.not_lt_zero i), fun i => (show 0 < 65536 by decide)⟩, ⟨fun i hi => absurd hi (Nat.not_lt_zero i), fun i => (show 0 < 65536 by decide)⟩, ⟨fun i => (show 0 < 2 ^ 27 by decide), fun i => (show 0 < 2 ^ 27 by decide)⟩, fun i _ => rfl, fun i _ => rfl⟩
  · rcases (show i = 0 ∨ i = 1 ∨ i = 2 ∨ i = 3 ∨ i = 4 ∨ i = 5 ∨ i = 6 ∨ i = 7 ∨ i = 8 ∨ i = 9 ∨ i = 10 ∨ i = 11 by omega) with rfl | rfl | rfl | rfl | rfl | rfl | rfl | rfl | rfl | rfl | rfl | rfl <;> assumption
theorem MC.al {G : GG} {h : AH} {m : Nat} {A : Nat → Nat} {V : Nat → Value} {F : Nat → Nat → Nat} (hM : MC G h m A V F) {z : Nat} (hz : MP m A z) : h z ≠ none := by
  rcases hz with rfl | ⟨i, hi, rfl⟩
  · rw [hM.1]; exact fun e => by cases e
  · rw [hM.2.1 i hi]; exact fun e => by cases e
theorem SVI0 : SVI 0 Z0 none [] [] 0 0 [] := ⟨⟨INV_Z0, fun i _ => rfl⟩, fun gs z => (by cases z), fun i hi => absurd hi (Nat.not_lt_zero i), Nat.zero_le _, Nat.zero_le _, fun c hc => absurd hc List.not_mem_nil, Nat.zero_le _, Nat.zero_le _, Nat.zero_le _, fun c hc => absurd hc List.not_mem_nil⟩
