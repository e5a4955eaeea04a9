set_option maxRecDepth 100000
/-! ===== what is known at the start, all of it ===== -/
theorem nwK_tabs {w : Cond} (h : nwK w = true) : w.onTables = true := by
  cases w <;> first | rfl | cases h
theorem kb_prim {s : State} {args : Array Value} {ty : FieldType} (h : (Cond.arrayClass ty).before args s = true) : ∃ cA, ArrOfT s cA ty ∧ s.vm.findClass ("[" ++ ty.toString) = some cA := by
  obtain ⟨c, k, comp, h1, h2, h3⟩ := Cond.arrayClass_spec (args := args) (first := s) (o := none) (s := s) (idx := []) h
  exact ⟨c, fun n z => ⟨fun k h => (by cases h), k, h2, comp, h3⟩, h1⟩
theorem kb_ref {s : State} {args : Array Value} {t : Term} (h : (Cond.isRef t).before args s = true) : ∃ (o a : Nat), t.eval args s none [] s = some (va_rf (if o = 0 then none else some a)) := by
  obtain ⟨v, h1, h2⟩ := Cond.isRef_spec (args := args) (first := s) (o := none) (s := s) (idx := []) h
  cases v with
  | null => exact ⟨0, 0, h1⟩
  | ref a => exact ⟨1, a, h1⟩
  | _ => cases h2
/-- the addresses that the start tells -/
def kbA (e0 e1 pr ca d1 d2 a6 a7 a8 a9 m0 m1 m2 a13 a14 : Nat) (cad : Nat → Nat) : Nat → Nat := fun i => match i with
  | 0 => e0 | 1 => e1 | 2 => pr | 3 => ca | 4 => d1 | 5 => d2 | 6 => a6 | 7 => a7 | 8 => a8 | 9 => a9 | 10 => m0 | 11 => m1 | 12 => m2 | 13 => a13 | 14 => a14
  | i => cad (i - 100)
theorem kbA_c {e0 e1 pr ca d1 d2 a6 a7 a8 a9 m0 m1 m2 a13 a14 : Nat} {cad : Nat → Nat} (i : Nat) : kbA e0 e1 pr ca d1 d2 a6 a7 a8 a9 m0 m1 m2 a13 a14 cad (100 + i) = cad i := by
  show kbA e0 e1 pr ca d1 d2 a6 a7 a8 a9 m0 m1 m2 a13 a14 cad (100 + i) = cad i
  rw [show 100 + i = (i + 85) + 15 by omega]
  show cad (i + 85 + 15 - 100) = cad i
  rw [show i + 85 + 15 - 100 = i by omega]
theorem mi_eval {s : State} {args : Array Value} {C : String} {mi : Nat} (h : va_Mi C mi s) : (Term.mirror C).eval args s none [] s = some (.ref mi) := by
  obtain ⟨c, k, h1, h2, h3⟩ := h
  simp [Term.eval, h1, h2, h3]
theorem kb_mir {s : State} {args : Array Value} {A B : String} {a b : Nat} (h : (Cond.not (.eq (.mirror A) (.mirror B))).before args s = true) (ha : va_Mi A a s) (hb : va_Mi B b s) : a ≠ b := va_neR h (mi_eval ha) (mi_eval hb)
abbrev tST (o n d : String) : Term := .static o n d
set_option maxHeartbeats 2000000 in
theorem kn_start {s : State} {b : Nat} (hts : ∀ w ∈ lw_tbl, w.before #[Value.ref b] s = true) (hgv : (Cond.and given_1 narrow_1).before #[Value.ref b] s = true) : ∃ (D : va_G) (tA : Nat → ClassId) (adf : Nat → Nat), Kn (D, tA, s.heap, adf) s := by
  have fl := flat_of_before _ hgv
  have fn : ∀ w ∈ flatC narrow_1, w.before #[Value.ref b] s = true := fun w hw => fl w (List.mem_append_right _ hw)
  have ta : ∀ w ∈ lw_all, w.before #[Value.ref b] s = true := fun w hw => hts w (lw_all_tbl hw)
  have hA : ∀ a : Nat, a < s.heap.size → ¬ (fun q : Nat => s.heap.size ≤ q) a := fun a h => Nat.not_le.mpr h
  -- classes
  have hcl : ∀ k : Nat, ∃ d : ClassId × (Nat → Nat), ∀ q, CL[k]? = some q → u_Kn s q.1 q.2.1 q.2.2 d.1 d.2 := by
    intro k
    cases hk : CL[k]? with
    | none => exact ⟨(0, fun _ => 0), fun q h => by cases h⟩
    | some q =>
      obtain ⟨n, h1, h2⟩ := cl_ok k q hk
      obtain ⟨c, i, h⟩ := u_known ta h1 (ta _ h2)
      exact ⟨(c, i), fun q' h' => by cases h'; exact h⟩
  obtain ⟨dd, hdd⟩ := Classical.axiomOfChoice hcl
  -- arrays
  obtain ⟨t0, x0, y0⟩ := kb_prim (ta _ q1278)
  obtain ⟨t1, x1, y1⟩ := kb_prim (ta _ q4201)
  obtain ⟨t2, x2, y2⟩ := kb_prim (ta _ q4202)
  obtain ⟨t3, x3, y3⟩ := kb_prim (ta _ q1279)
  obtain ⟨t4, x4, y4⟩ := kb_prim (ta _ q3775)
  obtain ⟨t5, x5, y5⟩ := kb_prim (ta _ q250)
  obtain ⟨comp6, t6, k6, w1, -, w3, w4, w5⟩ := Cond.arrayOver_spec (hts (.arrayOver (.object "java/lang/Object")) (by decide +kernel))
  have hAI : va_AI s := hts (.arrayOver (.array .int)) (by decide +kernel)
  obtain ⟨comp7, t7, k7, -, -, v3, v4, v5⟩ := ai_spec hAI
  -- base cells
  have n6 : s.vm.findClass "[Ljava/lang/Object;" = some t6 := w5
  have n5 : s.vm.findClass "[B" = some t5 := y5
  obtain ⟨e0, ev0, el0, ec0⟩ := kb_cell (f := fun _ => .null) (N := 0) (by decide) (fn (.exactly (.static "java/util/ArrayList" "EMPTY_ELEMENTDATA" "[Ljava/lang/Object;") "[Ljava/lang/Object;") (by decide +kernel)) (fn (.arrayOf (.static "java/util/ArrayList" "EMPTY_ELEMENTDATA" "[Ljava/lang/Object;") (.object "java/lang/Object")) (by decide +kernel)) (va_eqt (fn (.eq (.length (.static "java/util/ArrayList" "EMPTY_ELEMENTDATA" "[Ljava/lang/Object;")) (.int 0)) (by decide +kernel))) (fun j hj => absurd hj (Nat.not_lt_zero j)) n6
  obtain ⟨e1, ev1, el1, ec1⟩ := kb_cell (f := fun _ => .null) (N := 0) (by decide) (fn (.exactly (.static "java/util/ArrayList" "DEFAULTCAPACITY_EMPTY_ELEMENTDATA" "[Ljava/lang/Object;") "[Ljava/lang/Object;") (by decide +kernel)) (fn (.arrayOf (.static "java/util/ArrayList" "DEFAULTCAPACITY_EMPTY_ELEMENTDATA" "[Ljava/lang/Object;") (.object "java/lang/Object")) (by decide +kernel)) (va_eqt (fn (.eq (.length (.static "java/util/ArrayList" "DEFAULTCAPACITY_EMPTY_ELEMENTDATA" "[Ljava/lang/Object;")) (.int 0)) (by decide +kernel))) (fun j hj => absurd hj (Nat.not_lt_zero j)) n6
  have e01 : e1 ≠ e0 := va_neR (fn (.not (.eq (.static "java/util/ArrayList" "DEFAULTCAPACITY_EMPTY_ELEMENTDATA" "[Ljava/lang/Object;") (.static "java/util/ArrayList" "EMPTY_ELEMENTDATA" "[Ljava/lang/Object;"))) (by decide +kernel)) ev1 ev0
  obtain ⟨d1, dv1, dl1, dc1⟩ := kb_cell (f := fun j => .int (sb_b (48 + j % 10))) (N := 100) (by decide) (fn (.exactly (.static "java/lang/Integer" "DigitOnes" "[B") "[B") (by decide +kernel)) (fn (.arrayOf (.static "java/lang/Integer" "DigitOnes" "[B") .byte) (by decide +kernel)) (va_eqt (fn (.eq (.length (.static "java/lang/Integer" "DigitOnes" "[B")) (.int 100)) (by decide +kernel))) (fun j hj => va_eqt (fn _ (dg_1 j hj))) n5
  obtain ⟨d2, dv2, dl2, dc2⟩ := kb_cell (f := fun j => .int (sb_b (48 + j / 10))) (N := 100) (by decide) (fn (.exactly (.static "java/lang/Integer" "DigitTens" "[B") "[B") (by decide +kernel)) (fn (.arrayOf (.static "java/lang/Integer" "DigitTens" "[B") .byte) (by decide +kernel)) (va_eqt (fn (.eq (.length (.static "java/lang/Integer" "DigitTens" "[B")) (.int 100)) (by decide +kernel))) (fun j hj => va_eqt (fn _ (dg_2 j hj))) n5
  obtain ⟨pr, cp, cpr, kpr, pv, -, ph, -⟩ := Cond.exactly_spec (args := #[Value.ref b]) (first := s) (o := none) (s := s) (idx := []) (t := .static "java/util/TreeSet" "PRESENT" "Ljava/lang/Object;") (cls := "java/lang/Object") (fn (.exactly (.static "java/util/TreeSet" "PRESENT" "Ljava/lang/Object;") "java/lang/Object") (by decide +kernel))
  have pl := (Array.getElem?_eq_some_iff.mp ph).1
  -- the cache
  have hlc : (Term.length (.static "java/lang/Integer$IntegerCache" "cache" "[Ljava/lang/Integer;")).eval #[Value.ref b] s none [] s = some (.int (Int32.ofNat 256)) := va_eqt (fn (.eq (.length (.static "java/lang/Integer$IntegerCache" "cache" "[Ljava/lang/Integer;")) (.int 256)) (by decide +kernel))
  obtain ⟨cad, hC, hE⟩ := vb_Cof (args := #[Value.ref b]) (s := s) (A := fun q : Nat => s.heap.size ≤ q) (st := .static "java/lang/Integer$IntegerCache" "cache" "[Ljava/lang/Integer;") rfl hlc (fn (.all (.static "java/lang/Integer$IntegerCache" "cache" "[Ljava/lang/Integer;") (.and (.exactly (.elem (.static "java/lang/Integer$IntegerCache" "cache" "[Ljava/lang/Integer;") (.index 0)) "java/lang/Integer") (.eq (.field (.elem (.static "java/lang/Integer$IntegerCache" "cache" "[Ljava/lang/Integer;") (.index 0)) "java/lang/Integer" "value" "I") (.sub (.index 0) (.int 128))))) (by decide +kernel)) hA
  obtain ⟨ca, cv, hcT⟩ := va_Tof (args := #[Value.ref b]) (s := s) (tm := .static "java/lang/Integer$IntegerCache" "cache" "[Ljava/lang/Integer;") (ty := .object "java/lang/Integer") (N := 256) (f := fun j => .ref (cad j)) (A := fun q : Nat => s.heap.size ≤ q) (by decide) (fn (.arrayOf (.static "java/lang/Integer$IntegerCache" "cache" "[Ljava/lang/Integer;") (.object "java/lang/Integer")) (by decide +kernel)) hlc hE hA
  have cl : ca < s.heap.size := by obtain ⟨cc, h1, -⟩ := id hcT; exact (Array.getElem?_eq_some_iff.mp h1).1
  -- statics that are null or not
  obtain ⟨a8, a6, hv8⟩ := kb_ref (fn (.isRef (.static "java/lang/Throwable" "UNASSIGNED_STACK" "[Ljava/lang/StackTraceElement;")) (by decide +kernel))
  obtain ⟨a9, a7, hv9⟩ := kb_ref (fn (.isRef (.static "java/lang/Throwable" "SUPPRESSED_SENTINEL" "Ljava/util/List;")) (by decide +kernel))
  obtain ⟨a14, a13, hv14⟩ := kb_ref (fn (.isRef (.static "jdk/internal/util/Preconditions" "SIOOBE_FORMATTER" "Ljava/util/function/BiFunction;")) (by decide +kernel))
  -- mirrors
  obtain ⟨m0, hm0⟩ := va_Mi.of (fn (.isRef (.mirror "[Ljava/lang/Object;")) (by decide +kernel))
  obtain ⟨m1, hm1⟩ := va_Mi.of (fn (.isRef (.mirror "java/util/ArrayList")) (by decide +kernel))
  obtain ⟨m2, hm2⟩ := va_Mi.of (fn (.isRef (.mirror "java/util/TreeMap$Values")) (by decide +kernel))
  have m12 : m1 ≠ m2 := kb_mir (fn (.not (.eq (.mirror "java/util/ArrayList") (.mirror "java/util/TreeMap$Values"))) (by decide +kernel)) hm1 hm2
  have zs : ∀ {o n d : String} {v : Value}, Cond.laysStatic o n d ∈ lw_tbl → Cond.initialized o ∈ lw_tbl → (Term.static o n d).eval #[Value.ref b] s none [] s = some v → va_Z o n d v (fun q : Nat => s.heap.size ≤ q) s s.heap := fun h1 h2 h3 => va_Zof (hts _ h1) (hts _ h2) h3 hA
  refine ⟨(fun k => (dd k).1, fun k => (dd k).2), (fun i => [t0, t1, t2, t3, t4, t5, t6, t7].getD i 0), kbA e0 e1 pr ca d1 d2 a6 a7 a8 a9 m0 m1 m2 a13 a14 cad, ⟨fun c q hq => hdd c q hq, fun k q hq => ?_⟩, fun w hw hk => va_Nw.of (nwK_tabs hk) (hts w hw), fun r o n d hi => ?_, fun C hC => va_AO.of (hts _ hC), fun C n hn => va_Nc.of (fn _ hn), kb_strs hts fn (hdd 22 _ rfl) n5, ?_, ?_, ?_, vx_Zqof (hts (.laysStatic "java/lang/Throwable" "UNASSIGNED_STACK" "[Ljava/lang/StackTraceElement;") (by decide +kernel)) (hts (.initialized "java/lang/Throwable") (by decide +kernel)) (fn (.isRef (.static "java/lang/Throwable" "UNASSIGNED_STACK" "[Ljava/lang/StackTraceElement;")) (by decide +kernel)) hA, vx_Zqof (hts (.laysStatic "java/lang/Throwable" "SUPPRESSED_SENTINEL" "Ljava/util/List;") (by decide +kernel)) (hts (.initialized "java/lang/Throwable") (by decide +kernel)) (fn (.isRef (.static "java/lang/Throwable" "SUPPRESSED_SENTINEL" "Ljava/util/List;")) (by decide +kernel)) hA, fun own i x hm => va_Nw.of rfl (fn _ hm), hAI, ?_⟩
  · match k, hq with
    | 0, hq => cases hq; exact ⟨x0, y0⟩
    | 1, hq => cases hq; exact ⟨x1, y1⟩
    | 2, hq => cases hq; exact ⟨x2, y2⟩
    | 3, hq => cases hq; exact ⟨x3, y3⟩
    | 4, hq => cases hq; exact ⟨x4, y4⟩
    | 5, hq => cases hq; exact ⟨x5, y5⟩
    | 6, hq => cases hq; exact ⟨fun n z => ⟨fun k h => (by cases h), k6, w3, comp6, w4⟩, ⟨k6, comp6, w3, w4, w1, w5⟩⟩
    | 7, hq => cases hq; exact ⟨fun n z => ⟨fun k h => (by cases h), k7, v3, comp7, v4⟩, v5⟩
    | k + 8, hq => cases hq
  · rcases List.mem_append.mp hi with h | h
    · exact va_Nw.of rfl (hts _ h)
    · exact va_Nw.of rfl (fn _ h)
  · intro q hq
    simp only [stL, List.mem_cons, List.not_mem_nil, or_false] at hq
    rcases hq with rfl | rfl | rfl | rfl | rfl | rfl | rfl | rfl | rfl | rfl | rfl
    · exact zs (o := "java/lang/Integer$IntegerCache") (n := "high") (d := "I") (by decide +kernel) (by decide +kernel) (va_eqt (fn (.eq (.static "java/lang/Integer$IntegerCache" "high" "I") (.int 127)) (by decide +kernel)))
    · exact zs (o := "java/lang/Integer$IntegerCache") (n := "cache") (d := "[Ljava/lang/Integer;") (by decide +kernel) (by decide +kernel) cv
    · exact zs (o := "java/lang/String") (n := "COMPACT_STRINGS") (d := "Z") (by decide +kernel) (by decide +kernel) (va_eqt (fn (.eq (.static "java/lang/String" "COMPACT_STRINGS" "Z") (.int 1)) (by decide +kernel)))
    · exact zs (o := "java/util/ArrayList") (n := "EMPTY_ELEMENTDATA") (d := "[Ljava/lang/Object;") (by decide +kernel) (by decide +kernel) ev0
    · exact zs (o := "java/util/ArrayList") (n := "DEFAULTCAPACITY_EMPTY_ELEMENTDATA") (d := "[Ljava/lang/Object;") (by decide +kernel) (by decide +kernel) ev1
    · exact zs (o := "java/util/TreeSet") (n := "PRESENT") (d := "Ljava/lang/Object;") (by decide +kernel) (by decide +kernel) pv
    · exact zs (o := "java/lang/Integer") (n := "DigitOnes") (d := "[B") (by decide +kernel) (by decide +kernel) dv1
    · exact zs (o := "java/lang/Integer") (n := "DigitTens") (d := "[B") (by decide +kernel) (by decide +kernel) dv2
    · exact zs (o := "java/lang/Throwable") (n := "UNASSIGNED_STACK") (d := "[Ljava/lang/StackTraceElement;") (by decide +kernel) (by decide +kernel) hv8
    · exact zs (o := "java/lang/Throwable") (n := "SUPPRESSED_SENTINEL") (d := "Ljava/util/List;") (by decide +kernel) (by decide +kernel) hv9
    · exact zs (o := "jdk/internal/util/Preconditions") (n := "SIOOBE_FORMATTER") (d := "Ljava/util/function/BiFunction;") (by decide +kernel) (by decide +kernel) hv14
  · intro q hq
    simp only [miL, List.mem_cons, List.not_mem_nil, or_false] at hq
    rcases hq with rfl | rfl | rfl
    · exact hm0
    · exact hm1
    · exact hm2
  · refine ⟨⟨el0, ?_⟩, ⟨el1, ?_⟩, Ne.symm e01, pl, cl, fun i hi => ?_, ⟨dl1, ?_⟩, ⟨dl2, ?_⟩, m12⟩
    · obtain ⟨c, h1, h2, h3, h4, h5, h6, h7⟩ := ec0
      exact ⟨c, h1, h2, h3, h4, h5, h6, fun j hj => absurd hj (Nat.not_lt_zero j)⟩
    · obtain ⟨c, h1, h2, h3, h4, h5, h6, h7⟩ := ec1
      exact ⟨c, h1, h2, h3, h4, h5, h6, fun j hj => absurd hj (Nat.not_lt_zero j)⟩
    · obtain ⟨cell, g1, g2, g3, -⟩ := hC.1 i hi
      obtain ⟨cf, kf, fi, f, cell2, f1, f2, f3, f4, f5, -⟩ := hC.2 i hi
      obtain rfl : cell2 = cell := Option.some.inj (f3.symm.trans g1)
      show BC _ (kbA e0 e1 pr ca d1 d2 a6 a7 a8 a9 m0 m1 m2 a13 a14 cad (100 + i)) _
      rw [kbA_c]
      have hk27 := hdd 27 _ rfl
      refine ⟨(Array.getElem?_eq_some_iff.mp g1).1, _, rfl, cell2, g1, ?_, ?_, fun _ => f4, fun k hk => ?_⟩
      · exact Option.some.inj (g3.symm.trans hk27.2.1)
      · intro k2 z; rw [z] at g2; cases g2
      · obtain rfl : k = 0 := by have : k < 1 := hk; omega
        obtain ⟨cf', kf', fi', fd', q1, q2⟩ := hk27.1 0 (by decide)
        have q1 : s.fieldFound? "java/lang/Integer" "value" "I" = some (cf', kf', fi', fd') := q1
        cases f1.symm.trans q1
        show cell2.slots[(dd 27).2 0]? = _
        rw [← q2]; exact f5
    · obtain ⟨c, h1, h2, h3, h4, h5, h6, h7⟩ := dc1
      exact ⟨c, h1, h2, h3, h4, h5, h6, fun j hj => (h7 j hj).trans (arrV_read _ (fun j => .int (sb_b (48 + j % 10))) hj).symm⟩
    · obtain ⟨c, h1, h2, h3, h4, h5, h6, h7⟩ := dc2
      exact ⟨c, h1, h2, h3, h4, h5, h6, fun j hj => (h7 j hj).trans (arrV_read _ (fun j => .int (sb_b (48 + j / 10))) hj).symm⟩
  · have e : (fun i => Value.ref (kbA e0 e1 pr ca d1 d2 a6 a7 a8 a9 m0 m1 m2 a13 a14 cad (100 + i))) = fun i => Value.ref (cad i) := by funext i; rw [kbA_c]
    show va_T _ _ 256 (fun i => Value.ref (kbA e0 e1 pr ca d1 d2 a6 a7 a8 a9 m0 m1 m2 a13 a14 cad (100 + i))) _ s s.heap
    rw [e]; exact hcT
