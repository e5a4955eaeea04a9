set_option maxRecDepth 100000
/-! the list of the classes whose objects are met; index of each; facts of each -/
def TEX9 : u_T := fun k => TX9 (k + 6)
def tyEX9 : Nat → FieldType := fun k => tyX9 (k + 6)
theorem inE_X9 : ∀ w ∈ u_ws RX9 TEX9 1, w ∈ lw_all := fun w h => in_X9 w (by rw [show w = u_lay RX9 TX9 6 from List.mem_singleton.mp h]; exact u_in_lay (by decide))
def TEX18 : u_T := fun k => TX18 (k + 6)
def tyEX18 : Nat → FieldType := fun k => tyX18 (k + 6)
theorem inE_X18 : ∀ w ∈ u_ws RX18 TEX18 1, w ∈ lw_all := fun w h => in_X18 w (by rw [show w = u_lay RX18 TX18 6 from List.mem_singleton.mp h]; exact u_in_lay (by decide))
def TEX19 : u_T := fun k => TX19 (k + 6)
def tyEX19 : Nat → FieldType := fun k => tyX19 (k + 6)
theorem inE_X19 : ∀ w ∈ u_ws RX19 TEX19 1, w ∈ lw_all := fun w h => in_X19 w (by rw [show w = u_lay RX19 TX19 6 from List.mem_singleton.mp h]; exact u_in_lay (by decide))
def TX13 : u_T := fun _ => ("", "", "", false)
def tyX13 : Nat → FieldType := fun _ => .int
theorem nmX13 : ∀ a, a < 0 → ∀ b, b < 0 → a ≠ b → (TX13 a).2.1 ≠ (TX13 b).2.1 := fun a h => absurd h (Nat.not_lt_zero a)
theorem tyX13_ok : ∀ k, k < 0 → parseFieldDescriptor (TX13 k).2.2.1 = some (tyX13 k) := fun a h => absurd h (Nat.not_lt_zero a)
theorem in_X13 : ∀ w ∈ u_ws RX13 TX13 0, w ∈ lw_all := fun w h => by cases h
def CL : List vw_C := [(RX4, TX4, 25), (RX1, TX1, 7), (RX2, TX2, 8), (RX3, TX3, 1), (RX5, TX5, 8), (RX6, TX6, 6), (RX7, TX7, 2), (RX9, TEX9, 1), (RX10, TX10, 4), (RX11, TX11, 3), (RX12, TX12, 7), (RX14, TX14, 4), (RX15, TX15, 1), (RX16, TX16, 3), (RX17, TX17, 2), (RX18, TEX18, 1), (RX19, TEX19, 1), (RX13, TX13, 0), (RJ8, TJ8, 3), (RJ3, TJ3, 4), (RJ24, TJ24, 3), (RJ5, TJ5, 4), (RJ6, TJ6, 4), (RJ10, TJ10, 9), (RJ41, TJ41, 6), (RJ25, TJ25, 1), (RJ26, TJ26, 4), (RJ22, TJ22, 1), (RJ33, TJ33, 4), (RJ32, TJ32, 4), (RJ35, TJ35, 1), (RJ46, TJ46, 4), (RJ47, TJ47, 1), (RJ13, TJ13, 5), (RJ16, TJ16, 0), (RJ23, TJ23, 0), (RJ42, TJ42, 0), (RJ43, TJ43, 0), (RJ36, TJ36, 0), (RJ48, TJ48, 0)]
def ClsI (ci : Nat) (C : String) (T : u_T) (N : Nat) (ty : Nat → FieldType) : Prop := CL[ci]? = some (C, T, N) ∧ (∀ w ∈ u_ws C T N, w ∈ lw_all) ∧ (∀ k, k < N → parseFieldDescriptor (T k).2.2.1 = some (ty k)) ∧ (∀ a, a < N → ∀ b, b < N → a ≠ b → (T a).2.1 ≠ (T b).2.1)
/-- 0: SleeperRailwayModel -/
theorem ki_X4 : ClsI 0 RX4 TX4 25 tyX4 := ⟨rfl, in_X4, tyX4_ok, nmX4⟩
/-- 1: SleeperRailway -/
theorem ki_X1 : ClsI 1 RX1 TX1 7 tyX1 := ⟨rfl, in_X1, tyX1_ok, nmX1⟩
/-- 2: SleeperRailway$Railway -/
theorem ki_X2 : ClsI 2 RX2 TX2 8 tyX2 := ⟨rfl, in_X2, tyX2_ok, nmX2⟩
/-- 3: SleeperRailway$Timetable -/
theorem ki_X3 : ClsI 3 RX3 TX3 1 tyX3 := ⟨rfl, in_X3, tyX3_ok, nmX3⟩
/-- 4: SleeperRailway$Train -/
theorem ki_X5 : ClsI 4 RX5 TX5 8 tyX5 := ⟨rfl, in_X5, tyX5_ok, nmX5⟩
/-- 5: SleeperRailway$Leg -/
theorem ki_X6 : ClsI 5 RX6 TX6 6 tyX6 := ⟨rfl, in_X6, tyX6_ok, nmX6⟩
/-- 6: SleeperRailway$Command -/
theorem ki_X7 : ClsI 6 RX7 TX7 2 tyX7 := ⟨rfl, in_X7, tyX7_ok, nmX7⟩
/-- 7: SleeperRailway$ConditionFailure -/
theorem ki_X9 : ClsI 7 RX9 TEX9 1 tyEX9 := ⟨rfl, inE_X9, by decide +kernel, fun a ha b hb hn => absurd (by omega) hn⟩
/-- 8: SleeperRailway$Suitcase -/
theorem ki_X10 : ClsI 8 RX10 TX10 4 tyX10 := ⟨rfl, in_X10, tyX10_ok, nmX10⟩
/-- 9: SleeperRailway$Timetable$1 -/
theorem ki_X11 : ClsI 9 RX11 TX11 3 tyX11 := ⟨rfl, in_X11, tyX11_ok, nmX11⟩
/-- 10: SleeperRailway$Journeys -/
theorem ki_X12 : ClsI 10 RX12 TX12 7 tyX12 := ⟨rfl, in_X12, tyX12_ok, nmX12⟩
/-- 11: SleeperRailway$Booking -/
theorem ki_X14 : ClsI 11 RX14 TX14 4 tyX14 := ⟨rfl, in_X14, tyX14_ok, nmX14⟩
/-- 12: SleeperRailway$Event -/
theorem ki_X15 : ClsI 12 RX15 TX15 1 tyX15 := ⟨rfl, in_X15, tyX15_ok, nmX15⟩
/-- 13: SleeperRailway$Berths -/
theorem ki_X16 : ClsI 13 RX16 TX16 3 tyX16 := ⟨rfl, in_X16, tyX16_ok, nmX16⟩
/-- 14: SleeperRailway$Parser -/
theorem ki_X17 : ClsI 14 RX17 TX17 2 tyX17 := ⟨rfl, in_X17, tyX17_ok, nmX17⟩
/-- 15: SleeperRailway$SyntaxFailure -/
theorem ki_X18 : ClsI 15 RX18 TEX18 1 tyEX18 := ⟨rfl, inE_X18, by decide +kernel, fun a ha b hb hn => absurd (by omega) hn⟩
/-- 16: SleeperRailway$CommandFailure -/
theorem ki_X19 : ClsI 16 RX19 TEX19 1 tyEX19 := ⟨rfl, inE_X19, by decide +kernel, fun a ha b hb hn => absurd (by omega) hn⟩
/-- 17: SleeperRailway$ByDeparture -/
theorem ki_X13 : ClsI 17 RX13 TX13 0 tyX13 := ⟨rfl, in_X13, tyX13_ok, nmX13⟩
/-- 18: java/util/ArrayList -/
theorem ki_J8 : ClsI 18 RJ8 TJ8 3 tyJ8 := ⟨rfl, in_J8, tyJ8_ok, nmJ8⟩
/-- 19: java/util/LinkedList -/
theorem ki_J3 : ClsI 19 RJ3 TJ3 4 tyJ3 := ⟨rfl, in_J3, tyJ3_ok, nmJ3⟩
/-- 20: java/util/LinkedList$Node -/
theorem ki_J24 : ClsI 20 RJ24 TJ24 3 tyJ24 := ⟨rfl, in_J24, tyJ24_ok, nmJ24⟩
/-- 21: java/lang/StringBuilder -/
theorem ki_J5 : ClsI 21 RJ5 TJ5 4 tyJ5 := ⟨rfl, in_J5, tyJ5_ok, nmJ5⟩
/-- 22: java/lang/String -/
theorem ki_J6 : ClsI 22 RJ6 TJ6 4 tyJ6 := ⟨rfl, in_J6, tyJ6_ok, nmJ6⟩
/-- 23: java/util/TreeMap -/
theorem ki_J10 : ClsI 23 RJ10 TJ10 9 tyJ10 := ⟨rfl, in_J10, tyJ10_ok, nmJ10⟩
/-- 24: java/util/TreeMap$Entry -/
theorem ki_J41 : ClsI 24 RJ41 TJ41 6 tyJ41 := ⟨rfl, in_J41, tyJ41_ok, nmJ41⟩
/-- 25: java/util/TreeMap$Values -/
theorem ki_J25 : ClsI 25 RJ25 TJ25 1 tyJ25 := ⟨rfl, in_J25, tyJ25_ok, nmJ25⟩
/-- 26: java/util/ArrayList$Itr -/
theorem ki_J26 : ClsI 26 RJ26 TJ26 4 tyJ26 := ⟨rfl, in_J26, tyJ26_ok, nmJ26⟩
/-- 27: java/lang/Integer -/
theorem ki_J22 : ClsI 27 RJ22 TJ22 1 tyJ22 := ⟨rfl, in_J22, tyJ22_ok, nmJ22⟩
/-- 28: java/util/TreeMap$ValueIterator -/
theorem ki_J33 : ClsI 28 RJ33 TJ33 4 tyJ33 := ⟨rfl, in_J33, tyJ33_ok, nmJ33⟩
/-- 29: java/util/TreeMap$KeyIterator -/
theorem ki_J32 : ClsI 29 RJ32 TJ32 4 tyJ32 := ⟨rfl, in_J32, tyJ32_ok, nmJ32⟩
/-- 30: java/util/TreeMap$KeySet -/
theorem ki_J35 : ClsI 30 RJ35 TJ35 1 tyJ35 := ⟨rfl, in_J35, tyJ35_ok, nmJ35⟩
/-- 31: java/util/PriorityQueue -/
theorem ki_J46 : ClsI 31 RJ46 TJ46 4 tyJ46 := ⟨rfl, in_J46, tyJ46_ok, nmJ46⟩
/-- 32: java/util/TreeSet -/
theorem ki_J47 : ClsI 32 RJ47 TJ47 1 tyJ47 := ⟨rfl, in_J47, tyJ47_ok, nmJ47⟩
/-- 33: java/lang/Throwable -/
theorem ki_J13 : ClsI 33 RJ13 TJ13 5 tyJ13 := ⟨rfl, in_J13, tyJ13_ok, nmJ13⟩
/-- 34: java/lang/IndexOutOfBoundsException -/
theorem ki_J16 : ClsI 34 RJ16 TJ16 0 tyJ16 := ⟨rfl, (fun w h => by cases h), fun a h => absurd h (Nat.not_lt_zero a), fun a h => absurd h (Nat.not_lt_zero a)⟩
/-- 35: java/lang/IllegalArgumentException -/
theorem ki_J23 : ClsI 35 RJ23 TJ23 0 tyJ23 := ⟨rfl, (fun w h => by cases h), fun a h => absurd h (Nat.not_lt_zero a), fun a h => absurd h (Nat.not_lt_zero a)⟩
/-- 36: java/lang/IllegalStateException -/
theorem ki_J42 : ClsI 36 RJ42 TJ42 0 tyJ42 := ⟨rfl, (fun w h => by cases h), fun a h => absurd h (Nat.not_lt_zero a), fun a h => absurd h (Nat.not_lt_zero a)⟩
/-- 37: java/lang/UnsupportedOperationException -/
theorem ki_J43 : ClsI 37 RJ43 TJ43 0 tyJ43 := ⟨rfl, (fun w h => by cases h), fun a h => absurd h (Nat.not_lt_zero a), fun a h => absurd h (Nat.not_lt_zero a)⟩
/-- 38: java/util/NoSuchElementException -/
theorem ki_J36 : ClsI 38 RJ36 TJ36 0 tyJ36 := ⟨rfl, (fun w h => by cases h), fun a h => absurd h (Nat.not_lt_zero a), fun a h => absurd h (Nat.not_lt_zero a)⟩
/-- 39: java/lang/ArithmeticException -/
theorem ki_J48 : ClsI 39 RJ48 TJ48 0 tyJ48 := ⟨rfl, (fun w h => by cases h), fun a h => absurd h (Nat.not_lt_zero a), fun a h => absurd h (Nat.not_lt_zero a)⟩
/-! ===== V: a layer of my own over W: the world is one abstract heap h (address -> cell); what stands below the base heap B never changes ===== -/
abbrev AH : Type := Nat → Option va_E
/-- class numbers and slots; array classes; the base heap; special addresses -/
abbrev GG : Type := va_G × (Nat → ClassId) × Heap × (Nat → Nat)
def hset (h : AH) (a : Nat) (e : va_E) : AH := fun b => if b = a then some e else h b
theorem hset_self {h : AH} {a : Nat} {e : va_E} : hset h a e a = some e := if_pos rfl
theorem hset_ne {h : AH} {a b : Nat} {e : va_E} (hb : b ≠ a) : hset h a e b = h b := if_neg hb
theorem hset_hset {h : AH} {a : Nat} {e e' : va_E} : hset (hset h a e) a e' = hset h a e' := by
  funext b
  unfold hset
  by_cases hb : b = a <;> simp [hb]
abbrev bz (G : GG) : Nat := G.2.2.1.size
abbrev fr (G : GG) : Nat → Prop := fun q => G.2.2.1.size ≤ q
def TY (G : GG) : List (ClassId × FieldType) := [(G.2.1 0, .int), (G.2.1 1, .long), (G.2.1 2, .double), (G.2.1 3, .boolean), (G.2.1 4, .char), (G.2.1 5, .byte), (G.2.1 6, .object "java/lang/Object"), (G.2.1 7, .array .int)]
def Sim (G : GG) (h : AH) (H : Heap) : Prop := (∀ a e, h a = some e → bz G ≤ a ∧ va_at G.1 CL (a, e) H) ∧ (∀ a, a < bz G → H[a]? = G.2.2.1[a]?) ∧ bz G ≤ H.size
theorem nst {v : VmData} (h : ∀ k, v ≠ .statics k) : v.isStatics = false := by
  cases v with
  | statics c => exact absurd rfl (h c)
  | _ => rfl
/-- a cell of the heap, but for its monitor, its hash, the machine's own words; an array's length as the machine tells it -/
def CLs (G : GG) (a : Nat) (e : va_E) (H : Heap) : Prop := match e with
  | .inl x => ∃ cell : Cell, H[a]? = some cell ∧ cell.cls = x.1 ∧ (∀ k, cell.vm ≠ .statics k) ∧ cell.vm ≠ .unknown ∧ x.2.1 ≤ cell.slots.size ∧ cell.slots.size.toInt32 = Int32.ofNat x.2.1 ∧ ∀ j, j < x.2.1 → cell.slots[j]? = (vp_cell x.1 x.2).slots[j]?
  | .inr o => ∃ r : vw_C, CL[o.1]? = some r ∧ ∃ cell : Cell, H[a]? = some cell ∧ cell.cls = G.1.1 o.1 ∧ (∀ k, cell.vm ≠ .statics k) ∧ (0 < r.2.2 → cell.vm ≠ .unknown) ∧ ∀ k, k < r.2.2 → cell.slots[G.1.2 o.1 k]? = some (vp_V o.2 k)
theorem CLs.kept {G : GG} {a : Nat} {e : va_E} {H H1 : Heap} (h : CLs G a e H) (hq : H1[a]? = H[a]?) : CLs G a e H1 := by
  cases e with
  | inl x =>
    obtain ⟨w, h1, h2⟩ := h
    exact ⟨w, hq.trans h1, h2⟩
  | inr o =>
    obtain ⟨r, h1, cell, h2, h3⟩ := h
    exact ⟨r, h1, cell, hq.trans h2, h3⟩
theorem vp_cls (cA : ClassId) (x : vp_A) : (vp_cell cA x).cls = cA := by
  obtain ⟨n, f | f | f | f | f⟩ := x <;> rfl
theorem vp_vm (cA : ClassId) (x : vp_A) : (vp_cell cA x).vm = .none := by
  obtain ⟨n, f | f | f | f | f⟩ := x <;> rfl
theorem vp_sz (cA : ClassId) (x : vp_A) : (vp_cell cA x).slots.size = x.1 := by
  obtain ⟨n, f | f | f | f | f⟩ := x
  · exact arrV_size cA n (fun j => .int (f j))
  · exact arrV_size cA n (fun j => .long (f j))
  · exact arrV_size cA n (fun j => .float (f j))
  · exact arrV_size cA n (fun j => .double (f j))
  · exact arrV_size cA n (fun j => va_rf (f j))
theorem CLs.of {G : GG} {a : Nat} {e : va_E} {H : Heap} (h : va_at G.1 CL (a, e) H) : CLs G a e H := by
  cases e with
  | inl x =>
    have h : H[a]? = some (vp_cell x.1 x.2) := h
    exact ⟨_, h, vp_cls _ _, (fun k => by rw [vp_vm]; exact fun h => by cases h), (by rw [vp_vm]; exact fun h => by cases h), Nat.le_of_eq (vp_sz _ _).symm, by rw [vp_sz] <;> rfl, fun j _ => rfl⟩
  | inr o =>
    obtain ⟨r, h1, cell, h2, h3, h4, h5⟩ := h
    exact ⟨r, h1, cell, h2, h3, (fun k => by rw [h4]; exact fun h => by cases h), (fun _ => by rw [h4]; exact fun h => by cases h), h5⟩
/-- a cell of the base heap -/
def BC (G : GG) (a : Nat) (e : va_E) : Prop := a < bz G ∧ CLs G a e G.2.2.1
/-- a cell that may be read: of the world, or of the base -/
def rd (G : GG) (h : AH) (a : Nat) (e : va_E) : Prop := h a = some e ∨ BC G a e
theorem Sim.rd {G : GG} {h : AH} {H : Heap} (hS : Sim G h H) {a : Nat} {e : va_E} (hr : rd G h a e) : CLs G a e H := by
  rcases hr with hr | ⟨h1, h2⟩
  · exact CLs.of (hS.1 a e hr).2
  · exact h2.kept (hS.2.1 a h1)
theorem Sim.none {G : GG} {h : AH} {H : Heap} (hS : Sim G h H) {a : Nat} (ha : H.size ≤ a) : h a = none := by
  cases hc : h a with
  | none => rfl
  | some e => exact absurd ((hS.1 a e hc).2.lt) (Nat.not_lt.mpr ha)
theorem Sim.put {G : GG} {h : AH} {H H1 : Heap} (hS : Sim G h H) {a : Nat} {e e0 : va_E} (h0 : h a = some e0) (hz : H1.size = H.size) (hq : ∀ q, q ≠ a → H1[q]? = H[q]?) (he : va_at G.1 CL (a, e) H1) : Sim G (hset h a e) H1 := by
  have hb := (hS.1 a e0 h0).1
  refine ⟨fun b e' hbe => ?_, fun b hlt => ?_, by rw [hz]; exact hS.2.2⟩
  · by_cases hba : b = a
    · subst hba
      rw [hset_self] at hbe
      cases hbe
      exact ⟨hb, he⟩
    · rw [hset_ne hba] at hbe
      exact ⟨(hS.1 b e' hbe).1, (hS.1 b e' hbe).2.kept (hq b hba)⟩
  · rw [hq b (fun hba => by subst hba; exact absurd hb (Nat.not_le.mpr hlt))]
    exact hS.2.1 b hlt
theorem Sim.push {G : GG} {h : AH} {H H1 : Heap} (hS : Sim G h H) {e : va_E} (hz : H1.size = H.size + 1) (hq : ∀ q, q < H.size → H1[q]? = H[q]?) (he : va_at G.1 CL (H.size, e) H1) : Sim G (hset h H.size e) H1 := by
  refine ⟨fun b e' hbe => ?_, fun b hlt => ?_, by rw [hz]; exact Nat.le_succ_of_le hS.2.2⟩
  · by_cases hba : b = H.size
    · subst hba
      rw [hset_self] at hbe
      cases hbe
      exact ⟨hS.2.2, he⟩
    · rw [hset_ne hba] at hbe
      have h1 := hS.1 b e' hbe
      exact ⟨h1.1, h1.2.kept (hq b h1.2.lt)⟩
  · rw [hq b (Nat.lt_of_lt_of_le hlt hS.2.2)]
    exact hS.2.1 b hlt
/-- words of the tables that don't ride in the lists -/
def nwK (w : Cond) : Bool := match w with
  | .fieldLinkNest .. => true
  | .methodLinkNest .. => true
  | .castable .. => true
  | .declares .. => true
  | .publicMethod .. => true
  | .privateMethod .. => true
  | .unhidden .. => true
  | _ => false
def fwH (x : MethodName) : Bool := decide (x.cls ≠ "java/lang/invoke/MethodHandle" ∧ x.cls ≠ "java/lang/invoke/VarHandle")
/-- a text's signs; its hash as String.hashCode has it -/
def txl (tx : String) : List Nat := tx.toList.map Char.toNat
def strH (l : List Nat) : Int32 := l.foldl (fun a c => 31 * a + nI c) 0
def Gstr (G : GG) (tx : String) (a : Nat) : Prop := ∃ (v : Nat) (hz : Int32), BC G a (.inr (22, [.ref v, .int 0, .int (strH (txl tx)), .int hz])) ∧ BC G v (.inl (G.2.1 5, (txl tx).length, .inl (fun j => sb_b ((txl tx).getD j 0)))) ∧ (strH (txl tx) = 0 → hz = 1)
abbrev ad (G : GG) : Nat → Nat := G.2.2.2
/-- static fields that are read, and what they hold -/
def stL (G : GG) : List (String × String × String × Value) := [
  ("java/lang/Integer$IntegerCache", "high", "I", .int 127),
  ("java/lang/Integer$IntegerCache", "cache", "[Ljava/lang/Integer;", .ref (ad G 3)),
  ("java/lang/String", "COMPACT_STRINGS", "Z", .int 1),
  ("java/util/ArrayList", "EMPTY_ELEMENTDATA", "[Ljava/lang/Object;", .ref (ad G 0)),
  ("java/util/ArrayList", "DEFAULTCAPACITY_EMPTY_ELEMENTDATA", "[Ljava/lang/Object;", .ref (ad G 1)),
  ("java/util/TreeSet", "PRESENT", "Ljava/lang/Object;", .ref (ad G 2)),
  ("java/lang/Integer", "DigitOnes", "[B", .ref (ad G 4)),
  ("java/lang/Integer", "DigitTens", "[B", .ref (ad G 5)),
  ("java/lang/Throwable", "UNASSIGNED_STACK", "[Ljava/lang/StackTraceElement;", va_rf (if ad G 8 = 0 then none else some (ad G 6))),
  ("java/lang/Throwable", "SUPPRESSED_SENTINEL", "Ljava/util/List;", va_rf (if ad G 9 = 0 then none else some (ad G 7))),
  ("jdk/internal/util/Preconditions", "SIOOBE_FORMATTER", "Ljava/util/function/BiFunction;", va_rf (if ad G 14 = 0 then none else some (ad G 13)))]
def miL (G : GG) : List (String × Nat) := [("[Ljava/lang/Object;", ad G 10), ("java/util/ArrayList", ad G 11), ("java/util/TreeMap$Values", ad G 12)]
def Gbase (G : GG) : Prop :=
  BC G (ad G 0) (.inl (G.2.1 6, 0, .inr (.inr (.inr (.inr (fun _ => none)))))) ∧ BC G (ad G 1) (.inl (G.2.1 6, 0, .inr (.inr (.inr (.inr (fun _ => none)))))) ∧ ad G 0 ≠ ad G 1 ∧
  ad G 2 < bz G ∧
  ad G 3 < bz G ∧
  (∀ i, i < 256 → BC G (ad G (100 + i)) (.inr (27, [.int (nI i - 128)]))) ∧
  BC G (ad G 4) (.inl (G.2.1 5, 100, .inl (fun j => sb_b (48 + j % 10)))) ∧ BC G (ad G 5) (.inl (G.2.1 5, 100, .inl (fun j => sb_b (48 + j / 10)))) ∧
  ad G 11 ≠ ad G 12
/-- arrays of arrays of ints are known -/
def va_AI (U : State) : Prop := (Cond.arrayOver (.array .int)).before #[] U = true
theorem ai_spec {s : State} (h : va_AI s) : ∃ comp c k, s.vm.findClass (FieldType.array .int).toString = some comp ∧ (s.vm.classes.findIdx? fun (x : Class) => match x.kind with | .array component _ => component == comp | _ => false) = some c ∧ s.vm.classes[c]? = some k ∧ k.kind = .array comp (.array .int) ∧ s.vm.findClass ("[" ++ (FieldType.array .int).toString) = some c := by
  unfold va_AI Cond.before at h
  simp only [Cond.holds, Cond.value, beq_iff_eq] at h
  cases hc : s.vm.findClass (FieldType.array .int).toString with
  | none => simp [hc] at h
  | some comp =>
    simp only [hc, Option.bind_some, Option.bind_eq_some_iff, Option.map_eq_some_iff] at h
    obtain ⟨c, hi, k, hk, hb⟩ := h
    obtain ⟨hlt, hp, -⟩ := Array.findIdx?_eq_some_iff_getElem.mp hi
    have hkk : s.vm.classes[c] = k := (Array.getElem?_eq_some_iff.mp hk).2
    rw [hkk] at hp
    cases hkind : k.kind with
    | array component ty =>
      rw [hkind] at hb hp
      simp at hb hp
      exact ⟨comp, c, k, rfl, hi, hk, by rw [hkind, hp, hb.1], hb.2⟩
    | _ => rw [hkind] at hb; simp at hb
theorem va_AI.moved {u U : State} (hvm : u.vm.Alike U.vm) (h : va_AI u) : va_AI U := by
  obtain ⟨comp, c, k, h1, h2, h3, h4, h5⟩ := ai_spec h
  obtain ⟨k', hk', he⟩ := hvm.2.2 _ _ h3
  have hb : U.vm.bare = u.vm.bare := by first | exact hvm.bare_eq.symm | exact hvm.bare_eq
  have hi := (va_idx_bare U.vm comp).symm.trans ((congrArg (fun v : Vm => v.classes.findIdx? fun (x : Class) => match x.kind with | .array component _ => component == comp | _ => false) hb).trans ((va_idx_bare u.vm comp).trans h2))
  have hkind : k'.kind = .array comp (.array .int) := by rw [he]; exact h4
  have f1 : U.vm.findClass (FieldType.array .int).toString = some comp := by rw [hvm.findClass]; exact h1
  have f2 : U.vm.findClass ("[" ++ (FieldType.array .int).toString) = some c := by rw [hvm.findClass]; exact h5
  unfold va_AI Cond.before Cond.holds
  simp only [Cond.value]
  rw [f1, Option.bind_some]
  refine (congrArg (fun o : Option Nat => (o.bind (fun c => (U.vm.classes[c]?).map fun (k : Class) => match k.kind with | .array _ ty => decide (ty = FieldType.array .int) && decide (U.vm.findClass ("[" ++ (FieldType.array .int).toString) = some c) | _ => false) == some true)) hi).trans ?_
  simp [hk', hkind, f2]
def Kn (G : GG) (U : State) : Prop :=
  va_K G.1 CL (TY G) U ∧ (∀ w ∈ lw_tbl, nwK w = true → va_Nw w U) ∧
  (∀ r o n d, Cond.interfaceMethod r o n d ∈ lw_tbl ++ flatC narrow_1 → va_Nw (.interfaceMethod r o n d) U) ∧
  (∀ C, Cond.arrayOver (.object C) ∈ lw_tbl → va_AO C U) ∧
  (∀ C n, Cond.not (.castable C n) ∈ flatC narrow_1 → va_Nc C n U) ∧
  (∀ own k tx, Cond.stringRef own k tx ∈ lw_tbl → ∃ a, vk_R own k tx a U ∧ Gstr G tx a) ∧
  (∀ q ∈ stL G, va_Z q.1 q.2.1 q.2.2.1 q.2.2.2 (fr G) U G.2.2.1) ∧
  (∀ q ∈ miL G, va_Mi q.1 q.2 U) ∧
  Gbase G ∧ vx_Zq Bundle.tN "UNASSIGNED_STACK" Bundle.steD (fr G) U G.2.2.1 ∧ vx_Zq Bundle.tN "SUPPRESSED_SENTINEL" Bundle.listD (fr G) U G.2.2.1 ∧
  (∀ own i x, Cond.methodLink own i x ∈ flatC narrow_1 → va_Nw (.methodLink own i x) U) ∧
  va_AI U ∧ va_T (.object "java/lang/Integer") (ad G 3) 256 (fun i => .ref (ad G (100 + i))) (fr G) U G.2.2.1
theorem ifm_setVm {args : Array Value} {s : State} {vm' : Vm} (h : s.vm.Alike vm') {ref owner name desc : String} : (Cond.interfaceMethod ref owner name desc).before args (s.setVm vm') = (Cond.interfaceMethod ref owner name desc).before args s := by
  have hf : (s.setVm vm').methodFound? ref name desc = s.methodFound? ref name desc := State.methodFound?_setVm h ref name desc
  simp only [Cond.before, Cond.holds, Cond.value, State.vm_setVm, h.findClass, hf, State.methodNamed?_setVm h, arm_isInterface_setVm h]
theorem nw_warm {w : Cond} (hk : nwK w = true) {s U : State} (hW : s.WarmedH U.vm) (hZ : va_Nw w s) : va_Nw w U := by
  cases w with
  | fieldLinkNest a i b n d h => exact va_Nw.warmF hW hZ
  | methodLinkNest a i x h => exact va_Nw.warmM hW hZ
  | castable C T => exact va_Nw.warmC hW hZ
  | declares x => exact va_Nw.warmD hW hZ
  | publicMethod y => exact va_tabs rfl (rfl : (s.setVm U.vm).vm = U.vm) (by rw [Cond.publicMethod_setVm hW.alike]; exact hZ)
  | privateMethod y => exact Cond.privateMethod_warm hW hZ
  | unhidden C n d => exact va_tabs rfl (rfl : (s.setVm U.vm).vm = U.vm) (by rw [Cond.unhidden_setVm hW.alike]; exact hZ)
  | _ => cases hk
theorem Kn.warm {G : GG} {s U : State} (hK : Kn G s) (hW : s.WarmedH U.vm) : Kn G U := by
  obtain ⟨h1, h2, h3, h4, h5, h6, h7, h8, h9, ha, hb, hd, he, hf⟩ := hK
  have hA := hW.alike
  refine ⟨h1.moved hA, fun w hw hk => nw_warm hk hW (h2 w hw hk), ?_, fun C hC => (h4 C hC).moved hA, fun C n hn => (h5 C n hn).moved hA, ?_, fun q hq => (h7 q hq).moved hA, fun q hq => (h8 q hq).moved hA, h9, ha.moved hA, hb.moved hA, fun own i x hm => word_at hW (Or.inl rfl) (hd own i x hm), he.moved hA, hf.moved hA⟩
  · intro r o n d hi
    have hz2 : va_Nw (.interfaceMethod r o n d) s := h3 r o n d hi
    exact va_tabs rfl (rfl : (s.setVm U.vm).vm = U.vm) (by rw [ifm_setVm hA]; exact hz2)
  · intro own k tx hw
    obtain ⟨a, ha, hg⟩ := h6 own k tx hw
    exact ⟨a, ha.warm hW, hg⟩

abbrev CX : Type := Program × Launch × Env × Room × State × MethodId × Array Value × List Frame × Method × Code
abbrev xP (X : CX) : Program := X.1
abbrev xl (X : CX) : Launch := X.2.1
abbrev xe (X : CX) : Env := X.2.2.1
abbrev xR (X : CX) : Room := X.2.2.2.1
abbrev xs (X : CX) : State := X.2.2.2.2.1
abbrev xm (X : CX) : MethodId := X.2.2.2.2.2.1
abbrev xa (X : CX) : Array Value := X.2.2.2.2.2.2.1
abbrev xb (X : CX) : List Frame := X.2.2.2.2.2.2.2.1
abbrev xt (X : CX) : Method := X.2.2.2.2.2.2.2.2.1
abbrev xc (X : CX) : Code := X.2.2.2.2.2.2.2.2.2
/-- what stands all through a method's walk -/
def Fx (G : GG) (X : CX) (cc : ByteArray) (nL : Nat) (own : String) (ret : Option FieldType) (d MC MS : Nat) : Prop :=
  (xP X).tables.exec = Jvm.exec ∧ (xc X).code = cc ∧ (xc X).maxLocals = nL ∧ (xs X).vm.findClass own = some (xm X).cls ∧ (∀ w ∈ lw_all, w.before (xa X) (xs X) = true) ∧
  (xt X).sig.returnType = ret ∧ (xt X).locks = false ∧ Kn G (xs X) ∧ (d ≤ (xR X).frames ∧ 64 * d ≤ (xR X).locals ∧ MC ≤ (xR X).cells ∧ MS ≤ (xR X).slots)
section FX
variable {G : GG} {X : CX} {cc : ByteArray} {nL : Nat} {own : String} {ret : Option FieldType} {d MC MS : Nat}
theorem Fx.exec (F : Fx G X cc nL own ret d MC MS) : (xP X).tables.exec = Jvm.exec := F.1
theorem Fx.code (F : Fx G X cc nL own ret d MC MS) : (xc X).code = cc := F.2.1
theorem Fx.maxL (F : Fx G X cc nL own ret d MC MS) : (xc X).maxLocals = nL := F.2.2.1
theorem Fx.hown (F : Fx G X cc nL own ret d MC MS) : (xs X).vm.findClass own = some (xm X).cls := F.2.2.2.1
theorem Fx.wd (F : Fx G X cc nL own ret d MC MS) : ∀ w ∈ lw_all, w.before (xa X) (xs X) = true := F.2.2.2.2.1
theorem Fx.hret (F : Fx G X cc nL own ret d MC MS) : (xt X).sig.returnType = ret := F.2.2.2.2.2.1
theorem Fx.locks (F : Fx G X cc nL own ret d MC MS) : (xt X).locks = false := F.2.2.2.2.2.2.1
theorem Fx.kn (F : Fx G X cc nL own ret d MC MS) : Kn G (xs X) := F.2.2.2.2.2.2.2.1
theorem Fx.fix (F : Fx G X cc nL own ret d MC MS) : CallFix (xP X) (xm X) (xc X) cc nL (xs X) (xa X) lw_all own := ⟨F.exec, F.code, F.maxL, F.hown, F.wd⟩
theorem Fx.room (F : Fx G X cc nL own ret d MC MS) : d ≤ (xR X).frames ∧ 64 * d ≤ (xR X).locals ∧ MC ≤ (xR X).cells ∧ MS ≤ (xR X).slots := F.2.2.2.2.2.2.2.2
end FX
/-- the locals: by place, what is known -/
abbrev LV : Type := List (Option Value)
def lvH (ls : Array Slot) (nL : Nat) (L : LV) : Prop := ls.size = nL ∧ lv_wf ls ∧ ∀ (i : Nat) (v : Value), L[i]? = some (some v) → ls[i]? = some (.val v) ∧ v.category = 1
def asl (L : LV) : List (Nat × Value) := (List.range L.length).filterMap (fun i => match L[i]? with | some (some v) => some (i, v) | _ => none)
theorem mem_asl {L : LV} {i : Nat} {v : Value} : (i, v) ∈ asl L ↔ L[i]? = some (some v) := by
  unfold asl
  rw [List.mem_filterMap]
  constructor
  · rintro ⟨j, -, hj⟩
    cases hc : L[j]? with
    | none => rw [hc] at hj; cases hj
    | some o =>
      cases o with
      | none => rw [hc] at hj; cases hj
      | some w => rw [hc] at hj; cases hj; exact hc
  · intro h
    refine ⟨i, List.mem_range.mpr (List.getElem?_eq_some_iff.mp h).1, ?_⟩
    rw [h]
theorem lvH.kit {ls : Array Slot} {nL : Nat} {L : LV} (h : lvH ls nL L) : lv_has ls nL (asl L) := ⟨h.1, h.2.1, fun q hq => (h.2.2 q.1 q.2 (mem_asl.mp hq)).1⟩
theorem lvH.store {ls ls2 : Array Slot} {nL i : Nat} {L : LV} {v : Value} (h : lvH ls nL L) (hi : i < L.length) (hv : v.category = 1) (h2 : lv_has ls2 nL ((i, v) :: (asl L).filter (fun q => !(q.1 == i) && !(q.1 + 1 == i && q.2.category == 2)))) : lvH ls2 nL (L.set i (some v)) := by
  refine ⟨h2.1, h2.2.1, fun j w hj => ?_⟩
  by_cases hji : j = i
  · subst hji
    rw [List.getElem?_set_self hi] at hj
    cases hj
    exact ⟨h2.2.2 (j, v) List.mem_cons_self, hv⟩
  · rw [List.getElem?_set_ne (Ne.symm hji)] at hj
    refine ⟨h2.2.2 (j, w) (List.mem_cons_of_mem _ (List.mem_filter.mpr ⟨mem_asl.mpr hj, ?_⟩)), (h.2.2 j w hj).2⟩
    have := (h.2.2 j w hj).2
    simp [hji, this]
/-- L' says less than L -/
def LW : LV → LV → Prop
  | _, [] => True
  | [], _ :: _ => False
  | x :: xs, y :: ys => (y = x ∨ y = none) ∧ LW xs ys
theorem LW.get : ∀ {L L' : LV}, LW L L' → ∀ (i : Nat) (v : Value), L'[i]? = some (some v) → L[i]? = some (some v)
  | _, [], _, i, v, h => by cases h
  | [], _ :: _, hw, i, v, h => False.elim hw
  | x :: xs, y :: ys, hw, 0, v, h => by
    obtain ⟨hy, -⟩ := hw
    rcases hy with rfl | rfl
    · exact h
    · simp at h
  | x :: xs, y :: ys, hw, i + 1, v, h => LW.get hw.2 i v h
theorem LW.nil {L : LV} : LW L [] := by cases L <;> exact trivial
theorem LW.c1 {x : Option Value} {xs ys : LV} (h : LW xs ys) : LW (x :: xs) (x :: ys) := ⟨Or.inl rfl, h⟩
theorem LW.c0 {x : Option Value} {xs ys : LV} (h : LW xs ys) : LW (x :: xs) (none :: ys) := ⟨Or.inr rfl, h⟩
def VV (G : GG) (X : CX) (nL : Nat) (Q : State → Prop) (h : AH) (k n : Nat) (L : LV) (st : List Value) (pc : Nat) : Prop :=
  ∀ (H : Heap) (locs : List Loc) (ls : Array Slot), Sim G h H → (∀ q ∈ locs, fr G q.base) → lvH ls nL L →
    W (xP X) (xl X) (xe X) (xR X) (xs X) (xm X) (xa X) (xb X) (xt X) (xc X) H locs k n Q (F0 (xm X) pc ls st)
section VROWS
variable {G : GG} {X : CX} {cc : ByteArray} {nL : Nat} {own : String} {ret : Option FieldType} {d MC MS : Nat} {Q : State → Prop} {h : AH} {kc n : Nat} {L : LV} {st : List Value} {pc : Nat}
theorem VV.weak {L' : LV} (hw : LW L L') (k : VV G X nL Q h kc n L' st pc) : VV G X nL Q h kc n L st pc :=
  fun H locs ls hS hL hl => k H locs ls hS hL ⟨hl.1, hl.2.1, fun i v hi => hl.2.2 i v (hw.get i v hi)⟩
theorem VV.wide {k' n' : Nat} (h1 : kc ≤ k') (h2 : n ≤ n') (k : VV G X nL Q h k' n' L st pc) : VV G X nL Q h kc n L st pc :=
  fun H locs ls hS hL hl => W.widen h1 h2 (k H locs ls hS hL hl)
theorem VV.stk {st' : List Value} (he : st = st') (k : VV G X nL Q h kc n L st' pc) : VV G X nL Q h kc n L st pc := he ▸ k

theorem V_iconst (F : Fx G X cc nL own ret d MC MS) {i : Int} {v : Int32}  (hd : decode cc pc = .ok (.iconst i, 1)) (hv : Int32.ofInt i = v) (k : VV G X nL Q h kc n L (.int v :: st) (pc + 1)) : VV G X nL Q h kc n L (st) pc :=
  fun H locs ls hS hL hl => lv_iconst F.exec F.code hd hv (k H locs ls hS hL hl)
theorem V_bipush (F : Fx G X cc nL own ret d MC MS) {i : Int} {v : Int32}  (hd : decode cc pc = .ok (.bipush i, 2)) (hv : (Int8.ofInt i).toInt32 = v) (k : VV G X nL Q h kc n L (.int v :: st) (pc + 2)) : VV G X nL Q h kc n L (st) pc :=
  fun H locs ls hS hL hl => lv_bipush F.exec F.code hd hv (k H locs ls hS hL hl)
theorem V_sipush (F : Fx G X cc nL own ret d MC MS) {i : Int} {v : Int32}  (hd : decode cc pc = .ok (.sipush i, 3)) (hv : (Int16.ofInt i).toInt32 = v) (k : VV G X nL Q h kc n L (.int v :: st) (pc + 3)) : VV G X nL Q h kc n L (st) pc :=
  fun H locs ls hS hL hl => lv_sipush F.exec F.code hd hv (k H locs ls hS hL hl)
theorem V_lconst (F : Fx G X cc nL own ret d MC MS) {i : Fin 2} {v : Int64}  (hd : decode cc pc = .ok (.lconst i, 1)) (hv : Int64.ofNat (i : Nat) = v) (k : VV G X nL Q h kc n L (.long v :: st) (pc + 1)) : VV G X nL Q h kc n L (st) pc :=
  fun H locs ls hS hL hl => lv_lconst F.exec F.code hd hv (k H locs ls hS hL hl)
theorem V_iload_n (F : Fx G X cc nL own ret d MC MS) {j : Fin 4} {i : Nat} {x : Int32}  (hd : decode cc pc = .ok (.iload_n j, 1)) (hi : (j : Nat) = i) (hv : L[i]? = some (some (.int x))) (k : VV G X nL Q h kc n L (.int x :: st) (pc + 1)) : VV G X nL Q h kc n L (st) pc :=
  fun H locs ls hS hL hl => lv_iload_n F.exec F.code hd hi (hl.2.2 i _ hv).1 (k H locs ls hS hL hl)
theorem V_iload (F : Fx G X cc nL own ret d MC MS) {i : Nat} {x : Int32}  (hd : decode cc pc = .ok (.iload i, 2)) (hv : L[i]? = some (some (.int x))) (k : VV G X nL Q h kc n L (.int x :: st) (pc + 2)) : VV G X nL Q h kc n L (st) pc :=
  fun H locs ls hS hL hl => lv_iload F.exec F.code hd (hl.2.2 i _ hv).1 (k H locs ls hS hL hl)
theorem V_aload_n (F : Fx G X cc nL own ret d MC MS) {j : Fin 4} {i : Nat} {x : Nat}  (hd : decode cc pc = .ok (.aload_n j, 1)) (hi : (j : Nat) = i) (hv : L[i]? = some (some (.ref x))) (k : VV G X nL Q h kc n L (.ref x :: st) (pc + 1)) : VV G X nL Q h kc n L (st) pc :=
  fun H locs ls hS hL hl => lv_aload_n F.exec F.code hd hi (hl.2.2 i _ hv).1 (k H locs ls hS hL hl)
theorem V_aload (F : Fx G X cc nL own ret d MC MS) {i : Nat} {x : Nat}  (hd : decode cc pc = .ok (.aload i, 2)) (hv : L[i]? = some (some (.ref x))) (k : VV G X nL Q h kc n L (.ref x :: st) (pc + 2)) : VV G X nL Q h kc n L (st) pc :=
  fun H locs ls hS hL hl => lv_aload F.exec F.code hd (hl.2.2 i _ hv).1 (k H locs ls hS hL hl)
theorem V_fload_n (F : Fx G X cc nL own ret d MC MS) {j : Fin 4} {i : Nat} {x : UInt32}  (hd : decode cc pc = .ok (.fload_n j, 1)) (hi : (j : Nat) = i) (hv : L[i]? = some (some (.float x))) (k : VV G X nL Q h kc n L (.float x :: st) (pc + 1)) : VV G X nL Q h kc n L (st) pc :=
  fun H locs ls hS hL hl => lv_fload_n F.exec F.code hd hi (hl.2.2 i _ hv).1 (k H locs ls hS hL hl)
theorem V_fload (F : Fx G X cc nL own ret d MC MS) {i : Nat} {x : UInt32}  (hd : decode cc pc = .ok (.fload i, 2)) (hv : L[i]? = some (some (.float x))) (k : VV G X nL Q h kc n L (.float x :: st) (pc + 2)) : VV G X nL Q h kc n L (st) pc :=
  fun H locs ls hS hL hl => lv_fload F.exec F.code hd (hl.2.2 i _ hv).1 (k H locs ls hS hL hl)
theorem V_aload_nN (F : Fx G X cc nL own ret d MC MS) {j : Fin 4} {i : Nat}  (hd : decode cc pc = .ok (.aload_n j, 1)) (hi : (j : Nat) = i) (hv : L[i]? = some (some .null)) (k : VV G X nL Q h kc n L (.null :: st) (pc + 1)) : VV G X nL Q h kc n L (st) pc :=
  fun H locs ls hS hL hl => lv_aload_nN F.exec F.code hd hi (hl.2.2 i _ hv).1 (k H locs ls hS hL hl)
theorem V_aloadN (F : Fx G X cc nL own ret d MC MS) {i : Nat}  (hd : decode cc pc = .ok (.aload i, 2)) (hv : L[i]? = some (some .null)) (k : VV G X nL Q h kc n L (.null :: st) (pc + 2)) : VV G X nL Q h kc n L (st) pc :=
  fun H locs ls hS hL hl => lv_aloadN F.exec F.code hd (hl.2.2 i _ hv).1 (k H locs ls hS hL hl)
theorem V_istore_n (F : Fx G X cc nL own ret d MC MS) {j : Fin 4} {i : Nat} {x : Int32}  (hd : decode cc pc = .ok (.istore_n j, 1)) (hi : (j : Nat) = i) (hn : i < nL) (hLn : i < L.length) (k : VV G X nL Q h kc n (L.set i (some (.int x))) st (pc + 1)) : VV G X nL Q h kc n L (.int x :: st) pc :=
  fun H locs ls hS hL hl => lv_istore_n F.exec F.code hd hi hl.kit hn rfl (fun ls2 hl2 => k H locs ls2 hS hL (hl.store hLn rfl hl2))
theorem V_istore (F : Fx G X cc nL own ret d MC MS) {i : Nat} {x : Int32} (hd : decode cc pc = .ok (.istore i, 2))  (hn : i < nL) (hLn : i < L.length) (k : VV G X nL Q h kc n (L.set i (some (.int x))) st (pc + 2)) : VV G X nL Q h kc n L (.int x :: st) pc :=
  fun H locs ls hS hL hl => lv_istore F.exec F.code hd hl.kit hn rfl (fun ls2 hl2 => k H locs ls2 hS hL (hl.store hLn rfl hl2))
theorem V_astore_n (F : Fx G X cc nL own ret d MC MS) {j : Fin 4} {i : Nat} {x : Nat}  (hd : decode cc pc = .ok (.astore_n j, 1)) (hi : (j : Nat) = i) (hn : i < nL) (hLn : i < L.length) (k : VV G X nL Q h kc n (L.set i (some (.ref x))) st (pc + 1)) : VV G X nL Q h kc n L (.ref x :: st) pc :=
  fun H locs ls hS hL hl => lv_astore_n F.exec F.code hd hi hl.kit hn rfl (fun ls2 hl2 => k H locs ls2 hS hL (hl.store hLn rfl hl2))
theorem V_astore (F : Fx G X cc nL own ret d MC MS) {i : Nat} {x : Nat} (hd : decode cc pc = .ok (.astore i, 2))  (hn : i < nL) (hLn : i < L.length) (k : VV G X nL Q h kc n (L.set i (some (.ref x))) st (pc + 2)) : VV G X nL Q h kc n L (.ref x :: st) pc :=
  fun H locs ls hS hL hl => lv_astore F.exec F.code hd hl.kit hn rfl (fun ls2 hl2 => k H locs ls2 hS hL (hl.store hLn rfl hl2))
theorem V_fstore_n (F : Fx G X cc nL own ret d MC MS) {j : Fin 4} {i : Nat} {x : UInt32}  (hd : decode cc pc = .ok (.fstore_n j, 1)) (hi : (j : Nat) = i) (hn : i < nL) (hLn : i < L.length) (k : VV G X nL Q h kc n (L.set i (some (.float x))) st (pc + 1)) : VV G X nL Q h kc n L (.float x :: st) pc :=
  fun H locs ls hS hL hl => lv_fstore_n F.exec F.code hd hi hl.kit hn rfl (fun ls2 hl2 => k H locs ls2 hS hL (hl.store hLn rfl hl2))
theorem V_fstore (F : Fx G X cc nL own ret d MC MS) {i : Nat} {x : UInt32} (hd : decode cc pc = .ok (.fstore i, 2))  (hn : i < nL) (hLn : i < L.length) (k : VV G X nL Q h kc n (L.set i (some (.float x))) st (pc + 2)) : VV G X nL Q h kc n L (.float x :: st) pc :=
  fun H locs ls hS hL hl => lv_fstore F.exec F.code hd hl.kit hn rfl (fun ls2 hl2 => k H locs ls2 hS hL (hl.store hLn rfl hl2))
theorem V_astore_nN (F : Fx G X cc nL own ret d MC MS) {j : Fin 4} {i : Nat}  (hd : decode cc pc = .ok (.astore_n j, 1)) (hi : (j : Nat) = i) (hn : i < nL) (hLn : i < L.length) (k : VV G X nL Q h kc n (L.set i (some (.null))) st (pc + 1)) : VV G X nL Q h kc n L (.null :: st) pc :=
  fun H locs ls hS hL hl => lv_astore_nN F.exec F.code hd hi hl.kit hn rfl (fun ls2 hl2 => k H locs ls2 hS hL (hl.store hLn rfl hl2))
theorem V_astoreN (F : Fx G X cc nL own ret d MC MS) {i : Nat} (hd : decode cc pc = .ok (.astore i, 2))  (hn : i < nL) (hLn : i < L.length) (k : VV G X nL Q h kc n (L.set i (some (.null))) st (pc + 2)) : VV G X nL Q h kc n L (.null :: st) pc :=
  fun H locs ls hS hL hl => lv_astoreN F.exec F.code hd hl.kit hn rfl (fun ls2 hl2 => k H locs ls2 hS hL (hl.store hLn rfl hl2))
theorem V_iinc (F : Fx G X cc nL own ret d MC MS) {i : Nat} {m : Int} {x v : Int32} (hd : decode cc pc = .ok (.iinc i m, 3)) (hv0 : L[i]? = some (some (.int x))) (hv : x + Int32.ofInt m = v) (hn : i < nL) (k : VV G X nL Q h kc n (L.set i (some (.int v))) st (pc + 3)) : VV G X nL Q h kc n L st pc := by
  intro H locs ls hS hL hl
  obtain ⟨kk, hk⟩ := List.getElem?_of_mem (mem_asl.mpr hv0)
  exact lv_iinc F.exec F.code hd hl.kit hk hv hn rfl (fun ls2 hl2 => k H locs ls2 hS hL (hl.store (List.getElem?_eq_some_iff.mp hv0).1 rfl hl2))
theorem V_iadd (F : Fx G X cc nL own ret d MC MS) {x y : Int32} (hd : decode cc pc = .ok (.iadd, 1))  (k : VV G X nL Q h kc n L (.int (x + y) :: st) (pc + 1)) : VV G X nL Q h kc n L (.int y :: .int x :: st) pc :=
  fun H locs ls hS hL hl => lv_iadd F.exec F.code hd (k H locs ls hS hL hl)
theorem V_isub (F : Fx G X cc nL own ret d MC MS) {x y : Int32} (hd : decode cc pc = .ok (.isub, 1))  (k : VV G X nL Q h kc n L (.int (x - y) :: st) (pc + 1)) : VV G X nL Q h kc n L (.int y :: .int x :: st) pc :=
  fun H locs ls hS hL hl => lv_isub F.exec F.code hd (k H locs ls hS hL hl)
theorem V_imul (F : Fx G X cc nL own ret d MC MS) {x y : Int32} (hd : decode cc pc = .ok (.imul, 1))  (k : VV G X nL Q h kc n L (.int (x * y) :: st) (pc + 1)) : VV G X nL Q h kc n L (.int y :: .int x :: st) pc :=
  fun H locs ls hS hL hl => lv_imul F.exec F.code hd (k H locs ls hS hL hl)
theorem V_iand (F : Fx G X cc nL own ret d MC MS) {x y : Int32} (hd : decode cc pc = .ok (.iand, 1))  (k : VV G X nL Q h kc n L (.int (x &&& y) :: st) (pc + 1)) : VV G X nL Q h kc n L (.int y :: .int x :: st) pc :=
  fun H locs ls hS hL hl => lv_iand F.exec F.code hd (k H locs ls hS hL hl)
theorem V_ior (F : Fx G X cc nL own ret d MC MS) {x y : Int32} (hd : decode cc pc = .ok (.ior, 1))  (k : VV G X nL Q h kc n L (.int (x ||| y) :: st) (pc + 1)) : VV G X nL Q h kc n L (.int y :: .int x :: st) pc :=
  fun H locs ls hS hL hl => lv_ior F.exec F.code hd (k H locs ls hS hL hl)
theorem V_ixor (F : Fx G X cc nL own ret d MC MS) {x y : Int32} (hd : decode cc pc = .ok (.ixor, 1))  (k : VV G X nL Q h kc n L (.int (x ^^^ y) :: st) (pc + 1)) : VV G X nL Q h kc n L (.int y :: .int x :: st) pc :=
  fun H locs ls hS hL hl => lv_ixor F.exec F.code hd (k H locs ls hS hL hl)
theorem V_idiv (F : Fx G X cc nL own ret d MC MS) {x y : Int32}  (hd : decode cc pc = .ok (.idiv, 1)) (hne : ¬ y = 0) (k : VV G X nL Q h kc n L (.int (x / y) :: st) (pc + 1)) : VV G X nL Q h kc n L (.int y :: .int x :: st) pc :=
  fun H locs ls hS hL hl => lv_idiv F.exec F.code hd hne (k H locs ls hS hL hl)
theorem V_irem (F : Fx G X cc nL own ret d MC MS) {x y : Int32}  (hd : decode cc pc = .ok (.irem, 1)) (hne : ¬ y = 0) (k : VV G X nL Q h kc n L (.int (x - x / y * y) :: st) (pc + 1)) : VV G X nL Q h kc n L (.int y :: .int x :: st) pc :=
  fun H locs ls hS hL hl => lv_irem F.exec F.code hd hne (k H locs ls hS hL hl)
theorem V_ineg (F : Fx G X cc nL own ret d MC MS) {x : Int32} (hd : decode cc pc = .ok (.ineg, 1))  (k : VV G X nL Q h kc n L (.int (-x) :: st) (pc + 1)) : VV G X nL Q h kc n L (.int x :: st) pc :=
  fun H locs ls hS hL hl => lv_ineg F.exec F.code hd (k H locs ls hS hL hl)
theorem V_ishl (F : Fx G X cc nL own ret d MC MS) {x y : Int32} (hd : decode cc pc = .ok (.ishl, 1))  (k : VV G X nL Q h kc n L (.int (x <<< (y &&& 31)) :: st) (pc + 1)) : VV G X nL Q h kc n L (.int y :: .int x :: st) pc :=
  fun H locs ls hS hL hl => lv_ishl F.exec F.code hd (k H locs ls hS hL hl)
theorem V_ishr (F : Fx G X cc nL own ret d MC MS) {x y : Int32} (hd : decode cc pc = .ok (.ishr, 1))  (k : VV G X nL Q h kc n L (.int (x >>> (y &&& 31)) :: st) (pc + 1)) : VV G X nL Q h kc n L (.int y :: .int x :: st) pc :=
  fun H locs ls hS hL hl => lv_ishr F.exec F.code hd (k H locs ls hS hL hl)
theorem V_iushr (F : Fx G X cc nL own ret d MC MS) {x y v : Int32}  (hd : decode cc pc = .ok (.iushr, 1)) (hv : (x.toUInt32 >>> (y.toUInt32 &&& Int32.toUInt32 31)).toInt32 = v) (k : VV G X nL Q h kc n L (.int v :: st) (pc + 1)) : VV G X nL Q h kc n L (.int y :: .int x :: st) pc :=
  fun H locs ls hS hL hl => lv_iushr F.exec F.code hd hv (k H locs ls hS hL hl)
theorem V_i2l (F : Fx G X cc nL own ret d MC MS) {x : Int32} (hd : decode cc pc = .ok (.i2l, 1))  (k : VV G X nL Q h kc n L (.long x.toInt64 :: st) (pc + 1)) : VV G X nL Q h kc n L (.int x :: st) pc :=
  fun H locs ls hS hL hl => lv_i2l F.exec F.code hd rfl (k H locs ls hS hL hl)
theorem V_i2b (F : Fx G X cc nL own ret d MC MS) {x : Int32} (hd : decode cc pc = .ok (.i2b, 1))  (k : VV G X nL Q h kc n L (.int x.toInt8.toInt32 :: st) (pc + 1)) : VV G X nL Q h kc n L (.int x :: st) pc :=
  fun H locs ls hS hL hl => lv_i2b F.exec F.code hd rfl (k H locs ls hS hL hl)
theorem V_i2c (F : Fx G X cc nL own ret d MC MS) {x : Int32} (hd : decode cc pc = .ok (.i2c, 1))  (k : VV G X nL Q h kc n L (.int (x.toUInt32 % 65536).toInt32 :: st) (pc + 1)) : VV G X nL Q h kc n L (.int x :: st) pc :=
  fun H locs ls hS hL hl => lv_i2c F.exec F.code hd rfl (k H locs ls hS hL hl)
theorem V_dup (F : Fx G X cc nL own ret d MC MS) {va : Value}  (hd : decode cc pc = .ok (.dup, 1)) (hva : va.category = 1) (k : VV G X nL Q h kc n L (va :: va :: st) (pc + 1)) : VV G X nL Q h kc n L (va :: st) pc :=
  fun H locs ls hS hL hl => lv_dup F.exec F.code hd hva (k H locs ls hS hL hl)
theorem V_pop (F : Fx G X cc nL own ret d MC MS) {va : Value}  (hd : decode cc pc = .ok (.pop, 1)) (hva : va.category = 1) (k : VV G X nL Q h kc n L (st) (pc + 1)) : VV G X nL Q h kc n L (va :: st) pc :=
  fun H locs ls hS hL hl => lv_pop F.exec F.code hd hva (k H locs ls hS hL hl)
theorem V_dup_x1 (F : Fx G X cc nL own ret d MC MS) {va vb : Value}  (hd : decode cc pc = .ok (.dup_x1, 1)) (hva : va.category = 1) (hvb : vb.category = 1) (k : VV G X nL Q h kc n L (va :: vb :: va :: st) (pc + 1)) : VV G X nL Q h kc n L (va :: vb :: st) pc :=
  fun H locs ls hS hL hl => lv_dup_x1 F.exec F.code hd hva hvb (k H locs ls hS hL hl)
theorem V_dup2 (F : Fx G X cc nL own ret d MC MS) {va vb : Value}  (hd : decode cc pc = .ok (.dup2, 1)) (hva : va.category = 1) (hvb : vb.category = 1) (k : VV G X nL Q h kc n L (va :: vb :: va :: vb :: st) (pc + 1)) : VV G X nL Q h kc n L (va :: vb :: st) pc :=
  fun H locs ls hS hL hl => lv_dup2_11 F.exec F.code hd hva hvb (k H locs ls hS hL hl)
theorem V_goto (F : Fx G X cc nL own ret d MC MS) {off : Int} {tgt : Nat}  (hd : decode cc pc = .ok (.goto off, 3)) (ht : (pc : Int) + off = (tgt : Int)) (k : VV G X nL Q h kc n L (st) tgt) : VV G X nL Q h kc n L (st) pc :=
  fun H locs ls hS hL hl => lv_goto F.exec F.code hd ht (k H locs ls hS hL hl)
theorem V_null (F : Fx G X cc nL own ret d MC MS)  (hd : decode cc pc = .ok (.aconst_null, 1))  (k : VV G X nL Q h kc n L (.null :: st) (pc + 1)) : VV G X nL Q h kc n L (st) pc :=
  fun H locs ls hS hL hl => lv_null F.exec F.code hd (k H locs ls hS hL hl)
theorem V_ifnull (F : Fx G X cc nL own ret d MC MS) {x : Nat} {off : Int} (hd : decode cc pc = .ok (.ifnull off, 3))  (k : VV G X nL Q h kc n L (st) (pc + 3)) : VV G X nL Q h kc n L (.ref x :: st) pc :=
  fun H locs ls hS hL hl => lv_ifnull F.exec F.code hd (k H locs ls hS hL hl)
theorem V_ifnullN (F : Fx G X cc nL own ret d MC MS) {off : Int} {tgt : Nat}  (hd : decode cc pc = .ok (.ifnull off, 3)) (ht : (pc : Int) + off = (tgt : Int)) (k : VV G X nL Q h kc n L (st) tgt) : VV G X nL Q h kc n L (.null :: st) pc :=
  fun H locs ls hS hL hl => lv_ifnullN F.exec F.code hd ht (k H locs ls hS hL hl)
theorem V_ifnonnull (F : Fx G X cc nL own ret d MC MS) {x : Nat} {off : Int} {tgt : Nat}  (hd : decode cc pc = .ok (.ifnonnull off, 3)) (ht : (pc : Int) + off = (tgt : Int)) (k : VV G X nL Q h kc n L (st) tgt) : VV G X nL Q h kc n L (.ref x :: st) pc :=
  fun H locs ls hS hL hl => lv_ifnonnull F.exec F.code hd ht (k H locs ls hS hL hl)
theorem V_ifnonnullN (F : Fx G X cc nL own ret d MC MS) {off : Int} (hd : decode cc pc = .ok (.ifnonnull off, 3))  (k : VV G X nL Q h kc n L (st) (pc + 3)) : VV G X nL Q h kc n L (.null :: st) pc :=
  fun H locs ls hS hL hl => lv_ifnonnullN F.exec F.code hd (k H locs ls hS hL hl)
theorem V_if_eq (F : Fx G X cc nL own ret d MC MS) {x : Int32} {off : Int} {tgt : Nat} (hd : decode cc pc = .ok (.ifCond .eq off, 3)) (ht : (pc : Int) + off = (tgt : Int)) (k1 : x = 0 → VV G X nL Q h kc n L st tgt) (k2 : ¬ x = 0 → VV G X nL Q h kc n L st (pc + 3)) : VV G X nL Q h kc n L (.int x :: st) pc :=
  fun H locs ls hS hL hl => lv_if_eq F.exec F.code hd ht (fun c => k1 c H locs ls hS hL hl) (fun c => k2 c H locs ls hS hL hl)
theorem V_icmp_eq (F : Fx G X cc nL own ret d MC MS) {x y : Int32} {off : Int} {tgt : Nat} (hd : decode cc pc = .ok (.if_icmp .eq off, 3)) (ht : (pc : Int) + off = (tgt : Int)) (k1 : x = y → VV G X nL Q h kc n L st tgt) (k2 : ¬ x = y → VV G X nL Q h kc n L st (pc + 3)) : VV G X nL Q h kc n L (.int y :: .int x :: st) pc :=
  fun H locs ls hS hL hl => lv_icmp_eq F.exec F.code hd ht (fun c => k1 c H locs ls hS hL hl) (fun c => k2 c H locs ls hS hL hl)
theorem V_if_ne (F : Fx G X cc nL own ret d MC MS) {x : Int32} {off : Int} {tgt : Nat} (hd : decode cc pc = .ok (.ifCond .ne off, 3)) (ht : (pc : Int) + off = (tgt : Int)) (k1 : x ≠ 0 → VV G X nL Q h kc n L st tgt) (k2 : x = 0 → VV G X nL Q h kc n L st (pc + 3)) : VV G X nL Q h kc n L (.int x :: st) pc :=
  fun H locs ls hS hL hl => lv_if_ne F.exec F.code hd ht (fun c => k1 c H locs ls hS hL hl) (fun c => k2 c H locs ls hS hL hl)
theorem V_icmp_ne (F : Fx G X cc nL own ret d MC MS) {x y : Int32} {off : Int} {tgt : Nat} (hd : decode cc pc = .ok (.if_icmp .ne off, 3)) (ht : (pc : Int) + off = (tgt : Int)) (k1 : x ≠ y → VV G X nL Q h kc n L st tgt) (k2 : x = y → VV G X nL Q h kc n L st (pc + 3)) : VV G X nL Q h kc n L (.int y :: .int x :: st) pc :=
  fun H locs ls hS hL hl => lv_icmp_ne F.exec F.code hd ht (fun c => k1 c H locs ls hS hL hl) (fun c => k2 c H locs ls hS hL hl)
theorem V_if_lt (F : Fx G X cc nL own ret d MC MS) {x : Int32} {off : Int} {tgt : Nat} (hd : decode cc pc = .ok (.ifCond .lt off, 3)) (ht : (pc : Int) + off = (tgt : Int)) (k1 : x < 0 → VV G X nL Q h kc n L st tgt) (k2 : ¬ x < 0 → VV G X nL Q h kc n L st (pc + 3)) : VV G X nL Q h kc n L (.int x :: st) pc :=
  fun H locs ls hS hL hl => lv_if_lt F.exec F.code hd ht (fun c => k1 c H locs ls hS hL hl) (fun c => k2 c H locs ls hS hL hl)
theorem V_icmp_lt (F : Fx G X cc nL own ret d MC MS) {x y : Int32} {off : Int} {tgt : Nat} (hd : decode cc pc = .ok (.if_icmp .lt off, 3)) (ht : (pc : Int) + off = (tgt : Int)) (k1 : x < y → VV G X nL Q h kc n L st tgt) (k2 : ¬ x < y → VV G X nL Q h kc n L st (pc + 3)) : VV G X nL Q h kc n L (.int y :: .int x :: st) pc :=
  fun H locs ls hS hL hl => lv_icmp_lt F.exec F.code hd ht (fun c => k1 c H locs ls hS hL hl) (fun c => k2 c H locs ls hS hL hl)
theorem V_if_ge (F : Fx G X cc nL own ret d MC MS) {x : Int32} {off : Int} {tgt : Nat} (hd : decode cc pc = .ok (.ifCond .ge off, 3)) (ht : (pc : Int) + off = (tgt : Int)) (k1 : 0 ≤ x → VV G X nL Q h kc n L st tgt) (k2 : ¬ 0 ≤ x → VV G X nL Q h kc n L st (pc + 3)) : VV G X nL Q h kc n L (.int x :: st) pc :=
  fun H locs ls hS hL hl => lv_if_ge F.exec F.code hd ht (fun c => k1 c H locs ls hS hL hl) (fun c => k2 c H locs ls hS hL hl)
theorem V_icmp_ge (F : Fx G X cc nL own ret d MC MS) {x y : Int32} {off : Int} {tgt : Nat} (hd : decode cc pc = .ok (.if_icmp .ge off, 3)) (ht : (pc : Int) + off = (tgt : Int)) (k1 : y ≤ x → VV G X nL Q h kc n L st tgt) (k2 : ¬ y ≤ x → VV G X nL Q h kc n L st (pc + 3)) : VV G X nL Q h kc n L (.int y :: .int x :: st) pc :=
  fun H locs ls hS hL hl => lv_icmp_ge F.exec F.code hd ht (fun c => k1 c H locs ls hS hL hl) (fun c => k2 c H locs ls hS hL hl)
theorem V_if_gt (F : Fx G X cc nL own ret d MC MS) {x : Int32} {off : Int} {tgt : Nat} (hd : decode cc pc = .ok (.ifCond .gt off, 3)) (ht : (pc : Int) + off = (tgt : Int)) (k1 : 0 < x → VV G X nL Q h kc n L st tgt) (k2 : ¬ 0 < x → VV G X nL Q h kc n L st (pc + 3)) : VV G X nL Q h kc n L (.int x :: st) pc :=
  fun H locs ls hS hL hl => lv_if_gt F.exec F.code hd ht (fun c => k1 c H locs ls hS hL hl) (fun c => k2 c H locs ls hS hL hl)
theorem V_icmp_gt (F : Fx G X cc nL own ret d MC MS) {x y : Int32} {off : Int} {tgt : Nat} (hd : decode cc pc = .ok (.if_icmp .gt off, 3)) (ht : (pc : Int) + off = (tgt : Int)) (k1 : y < x → VV G X nL Q h kc n L st tgt) (k2 : ¬ y < x → VV G X nL Q h kc n L st (pc + 3)) : VV G X nL Q h kc n L (.int y :: .int x :: st) pc :=
  fun H locs ls hS hL hl => lv_icmp_gt F.exec F.code hd ht (fun c => k1 c H locs ls hS hL hl) (fun c => k2 c H locs ls hS hL hl)
theorem V_if_le (F : Fx G X cc nL own ret d MC MS) {x : Int32} {off : Int} {tgt : Nat} (hd : decode cc pc = .ok (.ifCond .le off, 3)) (ht : (pc : Int) + off = (tgt : Int)) (k1 : x ≤ 0 → VV G X nL Q h kc n L st tgt) (k2 : ¬ x ≤ 0 → VV G X nL Q h kc n L st (pc + 3)) : VV G X nL Q h kc n L (.int x :: st) pc :=
  fun H locs ls hS hL hl => lv_if_le F.exec F.code hd ht (fun c => k1 c H locs ls hS hL hl) (fun c => k2 c H locs ls hS hL hl)
theorem V_icmp_le (F : Fx G X cc nL own ret d MC MS) {x y : Int32} {off : Int} {tgt : Nat} (hd : decode cc pc = .ok (.if_icmp .le off, 3)) (ht : (pc : Int) + off = (tgt : Int)) (k1 : x ≤ y → VV G X nL Q h kc n L st tgt) (k2 : ¬ x ≤ y → VV G X nL Q h kc n L st (pc + 3)) : VV G X nL Q h kc n L (.int y :: .int x :: st) pc :=
  fun H locs ls hS hL hl => lv_icmp_le F.exec F.code hd ht (fun c => k1 c H locs ls hS hL hl) (fun c => k2 c H locs ls hS hL hl)
theorem V_acmp_eq (F : Fx G X cc nL own ret d MC MS) {rx ry : Option Nat} {off : Int} {tgt : Nat} (hd : decode cc pc = .ok (.if_acmp .eq off, 3)) (ht : (pc : Int) + off = (tgt : Int)) (k1 : rx = ry → VV G X nL Q h kc n L st tgt) (k2 : ¬ rx = ry → VV G X nL Q h kc n L st (pc + 3)) : VV G X nL Q h kc n L (va_rf ry :: va_rf rx :: st) pc :=
  fun H locs ls hS hL hl => lv_acmp_eq F.exec F.code hd ht (fun c => k1 c H locs ls hS hL hl) (fun c => k2 c H locs ls hS hL hl)
theorem V_acmp_ne (F : Fx G X cc nL own ret d MC MS) {rx ry : Option Nat} {off : Int} {tgt : Nat} (hd : decode cc pc = .ok (.if_acmp .ne off, 3)) (ht : (pc : Int) + off = (tgt : Int)) (k1 : rx ≠ ry → VV G X nL Q h kc n L st tgt) (k2 : rx = ry → VV G X nL Q h kc n L st (pc + 3)) : VV G X nL Q h kc n L (va_rf ry :: va_rf rx :: st) pc :=
  fun H locs ls hS hL hl => lv_acmp_ne F.exec F.code hd ht (fun c => k1 c H locs ls hS hL hl) (fun c => k2 c H locs ls hS hL hl)
theorem V_tableIn (F : Fx G X cc nL own ret d MC MS) {dflt lo hi : Int} {offs : Array Int} {len : Nat} {x : Int32} {off : Int} {tgt : Nat} (hd : decode cc pc = .ok (.tableswitch dflt lo hi offs, len)) (h1 : ¬ x.toInt < lo) (h2 : ¬ hi < x.toInt) (ho : offs[(x.toInt - lo).toNat]? = some off) (ht : (pc : Int) + off = (tgt : Int)) (k : VV G X nL Q h kc n L st tgt) : VV G X nL Q h kc n L (.int x :: st) pc :=
  fun H locs ls hS hL hl => lv_tableIn F.exec F.code hd h1 h2 ho ht (k H locs ls hS hL hl)
theorem V_tableOut (F : Fx G X cc nL own ret d MC MS) {dflt lo hi : Int} {offs : Array Int} {len : Nat} {x : Int32} {tgt : Nat} (hd : decode cc pc = .ok (.tableswitch dflt lo hi offs, len)) (h0 : x.toInt < lo ∨ hi < x.toInt) (ht : (pc : Int) + dflt = (tgt : Int)) (k : VV G X nL Q h kc n L st tgt) : VV G X nL Q h kc n L (.int x :: st) pc :=
  fun H locs ls hS hL hl => lv_tableOut F.exec F.code hd h0 ht (k H locs ls hS hL hl)
theorem V_lookup (F : Fx G X cc nL own ret d MC MS) {dflt : Int} {ps : Array (Int × Int)} {len : Nat} {x : Int32} {off : Int} {tgt : Nat} (hd : decode cc pc = .ok (.lookupswitch dflt ps, len)) (hp : (ps.toList.zip (ps.toList.drop 1)).all (fun (a, next) => a.1 < next.1) = true) (ho : Op.lookupswitch.offset ps.toList dflt x.toInt = off) (ht : (pc : Int) + off = (tgt : Int)) (k : VV G X nL Q h kc n L st tgt) : VV G X nL Q h kc n L (.int x :: st) pc :=
  fun H locs ls hS hL hl => lv_lookup F.exec F.code hd hp ho ht (k H locs ls hS hL hl)
theorem V_ldc (F : Fx G X cc nL own ret d MC MS) {idx : Nat} {v : Int32}  (hd : decode cc pc = .ok (.ldc idx, 2)) (hc : Jvm.Cond.constant own idx v ∈ lw_all) (k : VV G X nL Q h kc n L (.int v :: st) (pc + 2)) : VV G X nL Q h kc n L (st) pc :=
  fun H locs ls hS hL hl => lv_ldc F.exec F.code F.hown (F.wd _ hc) hd (k H locs ls hS hL hl)
theorem V_lcmp (F : Fx G X cc nL own ret d MC MS) {x y : Int64} (hd : decode cc pc = .ok (.lcmp, 1))  (k : VV G X nL Q h kc n L (.int (lg_cmp x y) :: st) (pc + 1)) : VV G X nL Q h kc n L (.long y :: .long x :: st) pc :=
  fun H locs ls hS hL hl => W.lcmp F.exec F.code hd (k H locs ls hS hL hl)
theorem V_i2d (F : Fx G X cc nL own ret d MC MS) {x : Int32} (hd : decode cc pc = .ok (.i2d, 1))  (k : VV G X nL Q h kc n L (.double (FP.i2d x) :: st) (pc + 1)) : VV G X nL Q h kc n L (.int x :: st) pc :=
  fun H locs ls hS hL hl => lv_i2d F.exec F.code hd (k H locs ls hS hL hl)
theorem V_i2f (F : Fx G X cc nL own ret d MC MS) {x : Int32} (hd : decode cc pc = .ok (.i2f, 1))  (k : VV G X nL Q h kc n L (.float (FP.i2f x) :: st) (pc + 1)) : VV G X nL Q h kc n L (.int x :: st) pc :=
  fun H locs ls hS hL hl => lv_i2f F.exec F.code hd (k H locs ls hS hL hl)
theorem V_ddiv (F : Fx G X cc nL own ret d MC MS) {x y : UInt64}  (hd : decode cc pc = .ok (.ddiv, 1)) (hne : vf_n64 (FP.ddiv x y)) (k : VV G X nL Q h kc n L (.double (FP.ddiv x y) :: st) (pc + 1)) : VV G X nL Q h kc n L (.double y :: .double x :: st) pc :=
  fun H locs ls hS hL hl => lv_ddiv F.exec F.code hd hne (k H locs ls hS hL hl)
theorem V_fdiv (F : Fx G X cc nL own ret d MC MS) {x y : UInt32}  (hd : decode cc pc = .ok (.fdiv, 1)) (hne : vf_n32 (FP.fdiv x y)) (k : VV G X nL Q h kc n L (.float (FP.fdiv x y) :: st) (pc + 1)) : VV G X nL Q h kc n L (.float y :: .float x :: st) pc :=
  fun H locs ls hS hL hl => lv_fdiv F.exec F.code hd hne (k H locs ls hS hL hl)
theorem V_f2d (F : Fx G X cc nL own ret d MC MS) {x : UInt32}  (hd : decode cc pc = .ok (.f2d, 1)) (hne : vf_n64 (FP.f2d x)) (k : VV G X nL Q h kc n L (.double (FP.f2d x) :: st) (pc + 1)) : VV G X nL Q h kc n L (.float x :: st) pc :=
  fun H locs ls hS hL hl => lv_f2d F.exec F.code hd hne (k H locs ls hS hL hl)

/-! heap rows -/
theorem vp1 {D : va_G} {cl : List vw_C} {q : Nat × va_E} {H : Heap} (h : va_at D cl q H) : va_P D cl [q] H := by
  intro k x hk
  cases k with
  | zero => cases hk; exact h
  | succ k => simp at hk
theorem fsame {s : State} {args : Array Value} {ref O n d : String} (hts : ∀ w ∈ lw_all, w.before args s = true) (h : ref = O ∨ Cond.sameField ref O n d ∈ lw_all) : ∀ x, s.fieldFound? O n d = some x → s.fieldFound? ref n d = some x := by
  rcases h with rfl | h
  · exact fun _ h => h
  · exact fun x hx => u_same (hts _ h) x hx
def FAc (own : String) (idx ci k : Nat) : Prop := ∃ (C : String) (T : u_T) (N : Nat) (ty : Nat → FieldType) (ref : String), ClsI ci C T N ty ∧ k < N ∧ Cond.fieldLink own idx ref (T k).2.1 (T k).2.2.1 ∈ lw_all ∧ (ref = (T k).1 ∨ Cond.sameField ref (T k).1 (T k).2.1 (T k).2.2.1 ∈ lw_all)
def FAn (own : String) (idx ci k : Nat) : Prop := ∃ (C : String) (T : u_T) (N : Nat) (ty : Nat → FieldType) (ref host : String), ClsI ci C T N ty ∧ k < N ∧ Cond.fieldLinkNest own idx ref (T k).2.1 (T k).2.2.1 host ∈ lw_tbl ∧ (ref = (T k).1 ∨ Cond.sameField ref (T k).1 (T k).2.1 (T k).2.2.1 ∈ lw_all)
def FAp (own : String) (idx ci k : Nat) (t : FieldType) : Prop := ∃ (C : String) (T : u_T) (N : Nat) (ty : Nat → FieldType) (ref : String), ClsI ci C T N ty ∧ k < N ∧ Cond.fieldLink own idx ref (T k).2.1 (T k).2.2.1 ∈ lw_all ∧ (ref = (T k).1 ∨ Cond.sameField ref (T k).1 (T k).2.1 (T k).2.2.1 ∈ lw_all) ∧ (T k).2.2.2 = false ∧ parseFieldDescriptor (T k).2.2.1 = some t
def FApn (own : String) (idx ci k : Nat) (t : FieldType) : Prop := ∃ (C : String) (T : u_T) (N : Nat) (ty : Nat → FieldType) (ref host : String), ClsI ci C T N ty ∧ k < N ∧ Cond.fieldLinkNest own idx ref (T k).2.1 (T k).2.2.1 host ∈ lw_tbl ∧ (ref = (T k).1 ∨ Cond.sameField ref (T k).1 (T k).2.1 (T k).2.2.1 ∈ lw_all) ∧ (T k).2.2.2 = false ∧ parseFieldDescriptor (T k).2.2.1 = some t
def FAf (own : String) (idx ci k : Nat) (t : FieldType) : Prop := ∃ (C : String) (T : u_T) (N : Nat) (ty : Nat → FieldType), ClsI ci C T N ty ∧ k < N ∧ Cond.fieldLink own idx own (T k).2.1 (T k).2.2.1 ∈ lw_all ∧ (T k).1 = own ∧ (T k).2.2.2 = true ∧ parseFieldDescriptor (T k).2.2.1 = some t
/-- a field of a cell, base or world -/
theorem cl_get {own ref C : String} {T : u_T} {N ci index a k : Nat} {H : Heap} {locs : List Loc} {ls : Array Slot} (F : Fx G X cc nL own ret d MC MS) (hin : ∀ w ∈ u_ws C T N, w ∈ lw_all) {fs : List Value} (hP : CLs G a (.inr (ci, fs)) H) (hc : CL[ci]? = some (C, T, N)) (hk : k < N) (hlink : (Cond.fieldLink own index ref (T k).2.1 (T k).2.2.1).before (xa X) (xs X) = true) (hsame : ∀ x, (xs X).fieldFound? (T k).1 (T k).2.1 (T k).2.2.1 = some x → (xs X).fieldFound? ref (T k).2.1 (T k).2.2.1 = some x) {v : Value} (hv : fs[k]? = some v) (hdg : decode cc pc = .ok (.getfield index, 3))
    (kk : W (xP X) (xl X) (xe X) (xR X) (xs X) (xm X) (xa X) (xb X) (xt X) (xc X) H locs kc n Q (F0 (xm X) (pc + 3) ls (v :: st))) : W (xP X) (xl X) (xe X) (xR X) (xs X) (xm X) (xa X) (xb X) (xt X) (xc X) H locs kc n Q (F0 (xm X) pc ls (.ref a :: st)) := by
  obtain ⟨r, h1, cell, q1, q2, q3, q3', q4⟩ := hP
  have hr : r = (C, T, N) := Option.some.inj (h1.symm.trans hc)
  subst hr
  obtain ⟨hS, hfc, kC, hkC, hkind⟩ := F.kn.1.1 ci _ hc
  obtain ⟨cf, kf, fi, f, hi, hsl⟩ := hS k hk
  refine W.getf F.exec F.code F.hown hlink (hsame _ hi) (u_facts hfc hkC (u_lays F.wd hin hk) hi).1 q1 (q3' (Nat.lt_of_le_of_lt (Nat.zero_le _) hk)) (v := v) ?_ rfl rfl hdg kk
  rw [hsl, q4 k hk]
  simp [vp_V, hv]
theorem cl_getN {own ref C host : String} {T : u_T} {N ci index a k : Nat} {H : Heap} {locs : List Loc} {ls : Array Slot} (F : Fx G X cc nL own ret d MC MS) (hin : ∀ w ∈ u_ws C T N, w ∈ lw_all) {fs : List Value} (hP : CLs G a (.inr (ci, fs)) H) (hc : CL[ci]? = some (C, T, N)) (hk : k < N) (hlink : (Cond.fieldLinkNest own index ref (T k).2.1 (T k).2.2.1 host).before (xa X) (xs X) = true) (hsame : ∀ x, (xs X).fieldFound? (T k).1 (T k).2.1 (T k).2.2.1 = some x → (xs X).fieldFound? ref (T k).2.1 (T k).2.2.1 = some x) {v : Value} (hv : fs[k]? = some v) (hdg : decode cc pc = .ok (.getfield index, 3))
    (kk : W (xP X) (xl X) (xe X) (xR X) (xs X) (xm X) (xa X) (xb X) (xt X) (xc X) H locs kc n Q (F0 (xm X) (pc + 3) ls (v :: st))) : W (xP X) (xl X) (xe X) (xR X) (xs X) (xm X) (xa X) (xb X) (xt X) (xc X) H locs kc n Q (F0 (xm X) pc ls (.ref a :: st)) := by
  obtain ⟨r, h1, cell, q1, q2, q3, q3', q4⟩ := hP
  have hr : r = (C, T, N) := Option.some.inj (h1.symm.trans hc)
  subst hr
  obtain ⟨hS, hfc, kC, hkC, hkind⟩ := F.kn.1.1 ci _ hc
  obtain ⟨cf, kf, fi, f, hi, hsl⟩ := hS k hk
  refine va_Wgetf F.exec F.code F.hown hlink (hsame _ hi) (u_facts hfc hkC (u_lays F.wd hin hk) hi).1 q1 (q3' (Nat.lt_of_le_of_lt (Nat.zero_le _) hk)) (v := v) ?_ rfl rfl hdg kk
  rw [hsl, q4 k hk]
  simp [vp_V, hv]
theorem cl_arr {U : State} {cell : Cell} {cA : ClassId} {ty : FieldType} (h2 : cell.cls = cA) (h3 : ∀ k, cell.vm ≠ .statics k) (h : ArrOfT U cA ty) : U.isArrayOf cell ty := by
  obtain ⟨-, k, hk, hq⟩ := h 0 (fun _ => .null)
  exact ⟨h3, k, by rw [h2]; exact hk, hq⟩
theorem cl_in {i : Int32} {N m : Nat} (hin : vp_in i N) (h : N ≤ m) : ¬ (i < 0 ∨ m ≤ i.toNatClampNeg) := fun q => hin (q.imp id (Nat.le_trans h))
theorem V_getf (F : Fx G X cc nL own ret d MC MS) {idx ci k a : Nat} {fs : List Value} {v : Value} (hd : decode cc pc = .ok (.getfield idx, 3)) (fa : FAc own idx ci k) (he : rd G h a (.inr (ci, fs))) (hv : fs[k]? = some v) (kk : VV G X nL Q h kc n L (v :: st) (pc + 3)) : VV G X nL Q h kc n L (.ref a :: st) pc := by
  intro H locs ls hS hL hl
  obtain ⟨C, T, N, ty0, ref, ⟨hc, hin, hty, hnm⟩, hk, hlk, hsm⟩ := fa
  exact cl_get F hin (hS.rd he) hc hk (F.wd _ hlk) (fsame F.wd hsm) hv hd (kk H locs ls hS hL hl)
theorem V_getn (F : Fx G X cc nL own ret d MC MS) {idx ci k a : Nat} {fs : List Value} {v : Value} (hd : decode cc pc = .ok (.getfield idx, 3)) (fa : FAn own idx ci k) (he : rd G h a (.inr (ci, fs))) (hv : fs[k]? = some v) (kk : VV G X nL Q h kc n L (v :: st) (pc + 3)) : VV G X nL Q h kc n L (.ref a :: st) pc := by
  intro H locs ls hS hL hl
  obtain ⟨C, T, N, ty0, ref, host, ⟨hc, hin, hty, hnm⟩, hk, hlk, hsm⟩ := fa
  exact cl_getN F hin (hS.rd he) hc hk (va_Nw.use rfl (F.kn.2.1 _ hlk rfl)) (fsame F.wd hsm) hv hd (kk H locs ls hS hL hl)
theorem V_putf (F : Fx G X cc nL own ret d MC MS) {idx ci k a : Nat} {fs : List Value} {v : Value} {t : FieldType} (hd : decode cc pc = .ok (.putfield idx, 3)) (fa : FAp own idx ci k t) (he : h a = some (.inr (ci, fs))) (hn : narrow t v = v) (hfit : fits t v = true) (hlen : k < fs.length) (kk : VV G X nL Q (hset h a (.inr (ci, fs.set k v))) kc n L st (pc + 3)) : VV G X nL Q h kc n L (v :: .ref a :: st) pc := by
  intro H locs ls hS hL hl2
  obtain ⟨C, T, N, ty0, ref, ⟨hc, hin, hty, hnm⟩, hk, hlk, hsm, hfin, hpd⟩ := fa
  have hK := F.kn.1
  have hts := F.wd
  have hown := F.hown
  have hap := va_apart (own := own) hts hin ty0 hty hnm hK hc
  obtain ⟨hb0, r, h1, cell, q1, q2, q3, q4⟩ := hS.1 a _ he
  have hr : r = (C, T, N) := Option.some.inj (h1.symm.trans hc)
  subst hr
  obtain ⟨hSl, hfc, kC, hkC, hkind⟩ := hK.1 ci _ hc
  obtain ⟨cf, kf, fi, f, hi, hsl⟩ := hSl k hk
  have hlay := hts _ (hin _ (u_in_lay hk))
  unfold u_lay at hlay
  rw [if_neg (by rw [hfin]; decide)] at hlay
  have hst := (u_facts hfc hkC (u_lays hts hin hk) hi).1
  have h6 := u_store hfc hkC hkind hlay hi hpd hn hfit
  refine W.putK F.exec F.code (f := f) ⟨hown, hts _ hlk, ⟨_, _, _, fsame hts hsm _ hi⟩, hst⟩ (by rw [q2]; exact h6) q1 q3 (by rw [hsl]; exact k2_hasslot (q4 k hk)) rfl rfl hd fun H' e1 e2 e3 => ?_
  rw [hsl] at e1 ⊢
  refine kk H' _ ls (hS.put he e2 e3 ⟨_, hc, t_OB.to (V := updV (vp_V fs) k v) ⟨_, e1, q2, q3, t_set q4 hap hk v⟩ (fun j _ => vp_updV_set hlen v j)⟩) ?_ hl2
  intro q hq
  rcases List.mem_append.mp hq with h0 | h0
  · exact hL q h0
  · rw [List.mem_singleton.mp h0]; exact hb0
theorem V_putn (F : Fx G X cc nL own ret d MC MS) {idx ci k a : Nat} {fs : List Value} {v : Value} {t : FieldType} (hd : decode cc pc = .ok (.putfield idx, 3)) (fa : FApn own idx ci k t) (he : h a = some (.inr (ci, fs))) (hn : narrow t v = v) (hfit : fits t v = true) (hlen : k < fs.length) (kk : VV G X nL Q (hset h a (.inr (ci, fs.set k v))) kc n L st (pc + 3)) : VV G X nL Q h kc n L (v :: .ref a :: st) pc := by
  intro H locs ls hS hL hl2
  obtain ⟨C, T, N, ty0, ref, host, ⟨hc, hin, hty, hnm⟩, hk, hlk, hsm, hfin, hpd⟩ := fa
  have hK := F.kn.1
  have hts := F.wd
  have hown := F.hown
  have hap := va_apart (own := own) hts hin ty0 hty hnm hK hc
  obtain ⟨hb0, r, h1, cell, q1, q2, q3, q4⟩ := hS.1 a _ he
  have hr : r = (C, T, N) := Option.some.inj (h1.symm.trans hc)
  subst hr
  obtain ⟨hSl, hfc, kC, hkC, hkind⟩ := hK.1 ci _ hc
  obtain ⟨cf, kf, fi, f, hi, hsl⟩ := hSl k hk
  have hlay := hts _ (hin _ (u_in_lay hk))
  unfold u_lay at hlay
  rw [if_neg (by rw [hfin]; decide)] at hlay
  have hst := (u_facts hfc hkC (u_lays hts hin hk) hi).1
  have h6 := u_store hfc hkC hkind hlay hi hpd hn hfit
  refine va_WputK F.exec F.code (f := f) hown (va_Nw.use rfl (F.kn.2.1 _ hlk rfl)) (fsame hts hsm _ hi) hst (by rw [q2]; exact h6) q1 q3 (by rw [hsl]; exact k2_hasslot (q4 k hk)) rfl rfl hd fun H' e1 e2 e3 => ?_
  rw [hsl] at e1 ⊢
  refine kk H' _ ls (hS.put he e2 e3 ⟨_, hc, t_OB.to (V := updV (vp_V fs) k v) ⟨_, e1, q2, q3, t_set q4 hap hk v⟩ (fun j _ => vp_updV_set hlen v j)⟩) ?_ hl2
  intro q hq
  rcases List.mem_append.mp hq with h0 | h0
  · exact hL q h0
  · rw [List.mem_singleton.mp h0]; exact hb0
theorem V_putF (F : Fx G X cc nL own ret d MC MS) {idx ci k a : Nat} {fs : List Value} {v : Value} {t : FieldType} (hd : decode cc pc = .ok (.putfield idx, 3)) (fa : FAf own idx ci k t) (he : h a = some (.inr (ci, fs))) (hin2 : (xt X).name = "<init>") (hn : narrow t v = v) (hfit : fits t v = true) (hlen : k < fs.length) (kk : VV G X nL Q (hset h a (.inr (ci, fs.set k v))) kc n L st (pc + 3)) : VV G X nL Q h kc n L (v :: .ref a :: st) pc := by
  intro H locs ls hS hL hl2
  obtain ⟨C, T, N, ty0, ⟨hc, hin, hty, hnm⟩, hk, hlk, hdecl, hfin, hpd⟩ := fa
  have hK := F.kn.1
  have hts := F.wd
  have hown := F.hown
  have hap := va_apart (own := own) hts hin ty0 hty hnm hK hc
  obtain ⟨hb0, r, h1, cell, q1, q2, q3, q4⟩ := hS.1 a _ he
  have hr : r = (C, T, N) := Option.some.inj (h1.symm.trans hc)
  subst hr
  obtain ⟨hSl, hfc, kC, hkC, hkind⟩ := hK.1 ci _ hc
  obtain ⟨cf, kf, fi, f, hi, hsl⟩ := hSl k hk
  have hlay := hts _ (hin _ (u_in_lay hk))
  unfold u_lay at hlay
  rw [if_pos hfin] at hlay
  have hst := (u_facts hfc hkC (u_lays hts hin hk) hi).1
  have hcf : (xm X).cls = cf := by
    obtain ⟨_, _, c', _, _, _, -, -, hf', -, -, -, hown2, -⟩ := Cond.laysFinal_spec hlay
    have e1 : c' = cf := by have := hi.symm.trans hf'; simp at this; exact this.1.symm
    rw [hdecl] at hown2
    rw [← e1]; exact Option.some.inj (hown.symm.trans hown2)
  have h6 := u_fits hfc hkC hkind (Or.inr hlay) hi hpd hn hfit
  refine W.putFinK F.exec F.code hown (hts _ hlk) (by rw [hdecl] at hi; exact hi) hst hcf hin2 (by rw [q2]; exact h6) q1 q3 (by rw [hsl]; exact k2_hasslot (q4 k hk)) rfl rfl hd fun H' e1 e2 e3 => ?_
  rw [hsl] at e1 ⊢
  refine kk H' _ ls (hS.put he e2 e3 ⟨_, hc, t_OB.to (V := updV (vp_V fs) k v) ⟨_, e1, q2, q3, t_set q4 hap hk v⟩ (fun j _ => vp_updV_set hlen v j)⟩) ?_ hl2
  intro q hq
  rcases List.mem_append.mp hq with h0 | h0
  · exact hL q h0
  · rw [List.mem_singleton.mp h0]; exact hb0
def NWo (own : String) (idx ci N : Nat) (fs : List Value) : Prop := ∃ (C : String) (T : u_T) (ty : Nat → FieldType), ClsI ci C T N ty ∧ Cond.classLink own idx C ∈ lw_all ∧ Cond.instantiable C N ∈ lw_all ∧ Cond.initialized C ∈ lw_all ∧ ∀ j, j < N → defaultValue (ty j) = vp_V fs j
theorem V_new (F : Fx G X cc nL own ret d MC MS) {idx ci N : Nat} {fs : List Value} (hd : decode cc pc = .ok (.new idx, 3)) (nw : NWo own idx ci N fs) (hr1 : kc + 1 ≤ MC) (hr2 : n + N ≤ MS) (kk : ∀ a : Nat, h a = none → bz G ≤ a → VV G X nL Q (hset h a (.inr (ci, fs))) (kc + 1) (n + N) L (.ref a :: st) (pc + 3)) : VV G X nL Q h kc n L st pc := by
  intro H locs ls hS hL hl
  obtain ⟨C, T, ty, ⟨hc, hin, hty, hnm⟩, hcl, hinst, hini, hfs⟩ := nw
  have hKn := F.kn.1.1 ci _ hc
  have hR := F.room
  refine W.newcK F.exec F.code F.hown (F.wd _ hcl) (F.wd _ hinst) (F.wd _ hini) rfl hd (Nat.le_trans hr1 hR.2.2.1) (Nat.le_trans hr2 hR.2.2.2) hKn.2.1 rfl fun H1 kC hkC e1 z1 o1 => ?_
  exact kk H.size (hS.none (Nat.le_refl _)) hS.2.2 H1 locs ls (hS.push z1 o1 ⟨_, hc, (u_born ty F.wd hin hKn hkC e1 hty).to hfs⟩) hL hl
/-- a class of which not all fields are told -/
def NWx (own : String) (idx ci N : Nat) (fs : List Value) : Prop := ∃ (C : String) (T : u_T) (ty : Nat → FieldType) (K : Nat), ClsI ci C T K ty ∧ Cond.classLink own idx C ∈ lw_all ∧ Cond.instantiable C N ∈ lw_all ∧ Cond.initialized C ∈ lw_all ∧ ∀ j, j < K → defaultValue (ty j) = vp_V fs j
theorem V_newa (F : Fx G X cc nL own ret d MC MS) {at0 : ArrayType} {ty : FieldType} (t : Nat) {cA : ClassId} {a0 : vp_A} {N : Nat} (hd : decode cc pc = .ok (.newarray at0, 2)) (hat : newarray.typeOf at0 = ty) (hw : Cond.arrayClass ty ∈ lw_all) (ht : (TY G)[t]? = some (cA, ty)) (hobj : ∀ C, ty ≠ .object C) {i : Int32} (hn : ¬ i < 0) (hN : i.toNatClampNeg = N) (hbytes : N * componentBytes ty ≤ 536870912) (ha : ∀ cA : ClassId, vp_cell cA a0 = arrV cA N (fun _ => defaultValue ty)) (hr1 : kc + 1 ≤ MC) (hr2 : n + N ≤ MS)
    (kk : ∀ a : Nat, h a = none → bz G ≤ a → VV G X nL Q (hset h a (.inl (cA, a0))) (kc + 1) (n + N) L (.ref a :: st) (pc + 2)) : VV G X nL Q h kc n L (.int i :: st) pc := by
  intro H locs ls hS hL hl
  subst hat
  have hR := F.room
  have hRA := (F.kn.1.2 t _ ht).2
  refine va_newaK F.exec F.code (F.wd _ hw) rfl hd rfl hn hN hbytes (Nat.le_trans hr1 hR.2.2.1) (Nat.le_trans hr2 hR.2.2.2) rfl fun H1 cA' e1 z1 o1 hAr hNm => ?_
  have hcc : cA' = cA := by
    have h2 : (xs X).vm.findClass ("[" ++ (newarray.typeOf at0).toString) = some cA := by
      cases at0 <;> exact hRA
    exact Option.some.inj (hNm.symm.trans h2)
  subst hcc
  refine kk H.size (hS.none (Nat.le_refl _)) hS.2.2 H1 locs ls (hS.push z1 o1 ?_) hL hl
  show H1[H.size]? = some (vp_cell _ _)
  rw [ha]
  exact e1
theorem V_newQ (F : Fx G X cc nL own ret d MC MS) {idx : Nat} {C : String} (t : Nat) {cA : ClassId} {N : Nat} (hd : decode cc pc = .ok (.anewarray idx, 3)) (hcl : Cond.classLink own idx C ∈ lw_all) (hov : Cond.arrayOver (.object C) ∈ lw_tbl) (ht : (TY G)[t]? = some (cA, .object C)) {i : Int32} (hn : ¬ i < 0) (hN : i.toNatClampNeg = N) (hbytes : N * 4 ≤ 536870912) (hr1 : kc + 1 ≤ MC) (hr2 : n + N ≤ MS)
    (kk : ∀ a : Nat, h a = none → bz G ≤ a → VV G X nL Q (hset h a (.inl (cA, N, .inr (.inr (.inr (.inr (fun _ => none))))))) (kc + 1) (n + N) L (.ref a :: st) (pc + 3)) : VV G X nL Q h kc n L (.int i :: st) pc := by
  intro H locs ls hS hL hl
  subst hN
  have hR := F.room
  obtain ⟨kA0, comp0, g1, g2, g3, g4⟩ := (F.kn.1.2 t _ ht).2
  refine W.anew F.exec F.code F.hown (F.wd _ hcl) (va_AO.use (F.kn.2.2.2.1 C hov)) rfl hd rfl hn hbytes (Nat.le_trans hr1 hR.2.2.1) (Nat.le_trans hr2 hR.2.2.2) fun cA' kA comp f1 f2 f3 f4 => ?_
  have hcc : cA' = cA := Option.some.inj (f1.symm.trans g4)
  subst hcc
  generalize hH1 : H.push ({ cls := cA', slots := Array.replicate i.toNatClampNeg .null, vm := .none } : Cell) = H1
  have z1 : H1.size = H.size + 1 := by rw [← hH1, Array.size_push]
  have e1 : H1[H.size]? = some (arrV cA' i.toNatClampNeg (fun _ => .null)) := by rw [← hH1, Array.getElem?_push_size, ← arrV_new]
  have o1 : ∀ q : Nat, q < H.size → H1[q]? = H[q]? := fun q hq => by rw [← hH1, Array.getElem?_push, if_neg (Nat.ne_of_lt hq)]
  refine kk H.size (hS.none (Nat.le_refl _)) hS.2.2 H1 locs ls (hS.push z1 o1 ?_) hL hl
  show H1[H.size]? = some (vp_cell _ _)
  rw [vp_cell_q]
  exact e1
theorem V_newA (F : Fx G X cc nL own ret d MC MS) {idx : Nat} {ty : FieldType} (t : Nat) {cA : ClassId} {N : Nat} (hd : decode cc pc = .ok (.anewarray idx, 3)) (hcl : Cond.classLink own idx (FieldType.array ty).toString ∈ lw_all) (hov : (Cond.arrayOver (.array ty)).before (xa X) (xs X) = true) (ht : (TY G)[t]? = some (cA, .array ty)) {i : Int32} (hn : ¬ i < 0) (hN : i.toNatClampNeg = N) (hbytes : N * 4 ≤ 536870912) (hr1 : kc + 1 ≤ MC) (hr2 : n + N ≤ MS)
    (kk : ∀ a : Nat, h a = none → bz G ≤ a → VV G X nL Q (hset h a (.inl (cA, N, .inr (.inr (.inr (.inr (fun _ => none))))))) (kc + 1) (n + N) L (.ref a :: st) (pc + 3)) : VV G X nL Q h kc n L (.int i :: st) pc := by
  intro H locs ls hS hL hl
  subst hN
  have hR := F.room
  have g4 : (xs X).vm.findClass ("[" ++ (FieldType.array ty).toString) = some cA := (F.kn.1.2 t _ ht).2
  refine W.anewA F.exec F.code F.hown (F.wd _ hcl) hov rfl hd rfl hn hbytes (Nat.le_trans hr1 hR.2.2.1) (Nat.le_trans hr2 hR.2.2.2) fun cA' kA comp f1 f2 f3 f4 => ?_
  have hcc : cA' = cA := Option.some.inj (f1.symm.trans g4)
  subst hcc
  generalize hH1 : H.push ({ cls := cA', slots := Array.replicate i.toNatClampNeg .null, vm := .none } : Cell) = H1
  have z1 : H1.size = H.size + 1 := by rw [← hH1, Array.size_push]
  have e1 : H1[H.size]? = some (arrV cA' i.toNatClampNeg (fun _ => .null)) := by rw [← hH1, Array.getElem?_push_size, ← arrV_new]
  have o1 : ∀ q : Nat, q < H.size → H1[q]? = H[q]? := fun q hq => by rw [← hH1, Array.getElem?_push, if_neg (Nat.ne_of_lt hq)]
  refine kk H.size (hS.none (Nat.le_refl _)) hS.2.2 H1 locs ls (hS.push z1 o1 ?_) hL hl
  show H1[H.size]? = some (vp_cell _ _)
  rw [vp_cell_q]
  exact e1
theorem V_iald (F : Fx G X cc nL own ret d MC MS) (t : Nat) {cA : ClassId} {a N : Nat} {f : Nat → Int32} {i : Int32} (hd : decode cc pc = .ok (.iaload, 1)) (ht : (TY G)[t]? = some (cA, .int)) (he : rd G h a (.inl (cA, N, .inl f))) (hin : vp_in i N) (kk : VV G X nL Q h kc n L (.int (f i.toNatClampNeg) :: st) (pc + 1)) : VV G X nL Q h kc n L (.int i :: .ref a :: st) pc :=
  fun H locs ls hS hL hl => by
    obtain ⟨cell, c1, c2, c3, c4, c5, c6, c7⟩ := hS.rd he
    have hlt2 : i.toNatClampNeg < N := Nat.not_le.mp fun q => hin (Or.inr q)
    exact W.iald (v := .int (f i.toNatClampNeg)) F.exec F.code c1 (cl_arr c2 c3 (F.kn.1.2 t _ ht).1) c4 (cl_in hin c5) (by rw [c7 _ hlt2]; show (arrV cA N (fun j => .int (f j))).slots[_]? = _; rw [arrV_read _ _ hlt2]) rfl rfl hd (kk H locs ls hS hL hl)
theorem V_zald (F : Fx G X cc nL own ret d MC MS) (t : Nat) {cA : ClassId} {a N : Nat} {f : Nat → Int32} {i : Int32} (hd : decode cc pc = .ok (.baload, 1)) (ht : (TY G)[t]? = some (cA, .boolean)) (he : rd G h a (.inl (cA, N, .inl f))) (hin : vp_in i N) (kk : VV G X nL Q h kc n L (.int (f i.toNatClampNeg) :: st) (pc + 1)) : VV G X nL Q h kc n L (.int i :: .ref a :: st) pc :=
  fun H locs ls hS hL hl => by
    obtain ⟨cell, c1, c2, c3, c4, c5, c6, c7⟩ := hS.rd he
    have hlt2 : i.toNatClampNeg < N := Nat.not_le.mp fun q => hin (Or.inr q)
    exact W.zald (v := .int (f i.toNatClampNeg)) F.exec F.code c1 (cl_arr c2 c3 (F.kn.1.2 t _ ht).1) c4 (cl_in hin c5) (by rw [c7 _ hlt2]; show (arrV cA N (fun j => .int (f j))).slots[_]? = _; rw [arrV_read _ _ hlt2]) rfl rfl hd (kk H locs ls hS hL hl)
theorem V_bald (F : Fx G X cc nL own ret d MC MS) (t : Nat) {cA : ClassId} {a N : Nat} {f : Nat → Int32} {i : Int32} (hd : decode cc pc = .ok (.baload, 1)) (ht : (TY G)[t]? = some (cA, .byte)) (he : rd G h a (.inl (cA, N, .inl f))) (hin : vp_in i N) (kk : VV G X nL Q h kc n L (.int (f i.toNatClampNeg) :: st) (pc + 1)) : VV G X nL Q h kc n L (.int i :: .ref a :: st) pc :=
  fun H locs ls hS hL hl => by
    obtain ⟨cell, c1, c2, c3, c4, c5, c6, c7⟩ := hS.rd he
    have hlt2 : i.toNatClampNeg < N := Nat.not_le.mp fun q => hin (Or.inr q)
    exact W.bald (v := .int (f i.toNatClampNeg)) F.exec F.code c1 (cl_arr c2 c3 (F.kn.1.2 t _ ht).1) c4 (cl_in hin c5) (by rw [c7 _ hlt2]; show (arrV cA N (fun j => .int (f j))).slots[_]? = _; rw [arrV_read _ _ hlt2]) rfl rfl hd (kk H locs ls hS hL hl)
theorem V_cald (F : Fx G X cc nL own ret d MC MS) (t : Nat) {cA : ClassId} {a N : Nat} {f : Nat → Int32} {i : Int32} (hd : decode cc pc = .ok (.caload, 1)) (ht : (TY G)[t]? = some (cA, .char)) (he : rd G h a (.inl (cA, N, .inl f))) (hin : vp_in i N) (kk : VV G X nL Q h kc n L (.int (f i.toNatClampNeg) :: st) (pc + 1)) : VV G X nL Q h kc n L (.int i :: .ref a :: st) pc :=
  fun H locs ls hS hL hl => by
    obtain ⟨cell, c1, c2, c3, c4, c5, c6, c7⟩ := hS.rd he
    have hlt2 : i.toNatClampNeg < N := Nat.not_le.mp fun q => hin (Or.inr q)
    exact W.cald (v := .int (f i.toNatClampNeg)) F.exec F.code c1 (cl_arr c2 c3 (F.kn.1.2 t _ ht).1) c4 (cl_in hin c5) (by rw [c7 _ hlt2]; show (arrV cA N (fun j => .int (f j))).slots[_]? = _; rw [arrV_read _ _ hlt2]) rfl rfl hd (kk H locs ls hS hL hl)
theorem V_lald (F : Fx G X cc nL own ret d MC MS) (t : Nat) {cA : ClassId} {a N : Nat} {f : Nat → Int64} {i : Int32} (hd : decode cc pc = .ok (.laload, 1)) (ht : (TY G)[t]? = some (cA, .long)) (he : rd G h a (.inl (cA, N, .inr (.inl f)))) (hin : vp_in i N) (kk : VV G X nL Q h kc n L (.long (f i.toNatClampNeg) :: st) (pc + 1)) : VV G X nL Q h kc n L (.int i :: .ref a :: st) pc :=
  fun H locs ls hS hL hl => by
    obtain ⟨cell, c1, c2, c3, c4, c5, c6, c7⟩ := hS.rd he
    have hlt2 : i.toNatClampNeg < N := Nat.not_le.mp fun q => hin (Or.inr q)
    exact W.lald (v := .long (f i.toNatClampNeg)) F.exec F.code c1 (cl_arr c2 c3 (F.kn.1.2 t _ ht).1) c4 (cl_in hin c5) (by rw [c7 _ hlt2]; show (arrV cA N (fun j => .long (f j))).slots[_]? = _; rw [arrV_read _ _ hlt2]) rfl rfl hd (kk H locs ls hS hL hl)
theorem V_dald (F : Fx G X cc nL own ret d MC MS) (t : Nat) {cA : ClassId} {a N : Nat} {f : Nat → UInt64} {i : Int32} (hd : decode cc pc = .ok (.daload, 1)) (ht : (TY G)[t]? = some (cA, .double)) (he : rd G h a (.inl (cA, N, .inr (.inr (.inr (.inl f)))))) (hin : vp_in i N) (kk : VV G X nL Q h kc n L (.double (f i.toNatClampNeg) :: st) (pc + 1)) : VV G X nL Q h kc n L (.int i :: .ref a :: st) pc :=
  fun H locs ls hS hL hl => by
    obtain ⟨cell, c1, c2, c3, c4, c5, c6, c7⟩ := hS.rd he
    have hlt2 : i.toNatClampNeg < N := Nat.not_le.mp fun q => hin (Or.inr q)
    exact W.dald (v := .double (f i.toNatClampNeg)) F.exec F.code c1 (cl_arr c2 c3 (F.kn.1.2 t _ ht).1) c4 (cl_in hin c5) (by rw [c7 _ hlt2]; show (arrV cA N (fun j => .double (f j))).slots[_]? = _; rw [arrV_read _ _ hlt2]) rfl rfl hd (kk H locs ls hS hL hl)
theorem V_aald (F : Fx G X cc nL own ret d MC MS) (t : Nat) {cA : ClassId} {C : String} {a N : Nat} {f : Nat → Option Nat} {i : Int32} (hd : decode cc pc = .ok (.aaload, 1)) (ht : (TY G)[t]? = some (cA, .object C)) (he : rd G h a (.inl (cA, N, .inr (.inr (.inr (.inr f)))))) (hin : vp_in i N) (kk : VV G X nL Q h kc n L (va_rf (f i.toNatClampNeg) :: st) (pc + 1)) : VV G X nL Q h kc n L (.int i :: .ref a :: st) pc :=
  fun H locs ls hS hL hl => by
    obtain ⟨cell, c1, c2, c3, c4, c5, c6, c7⟩ := hS.rd he
    have hlt2 : i.toNatClampNeg < N := Nat.not_le.mp fun q => hin (Or.inr q)
    exact W.aald (v := va_rf (f i.toNatClampNeg)) (ty := .object C) F.exec F.code c1 (cl_arr c2 c3 (F.kn.1.2 t _ ht).1) rfl c4 (cl_in hin c5) (by rw [c7 _ hlt2]; show (arrV cA N (fun j => va_rf (f j))).slots[_]? = _; rw [arrV_read _ _ hlt2]) rfl rfl hd (kk H locs ls hS hL hl)
/-- a cell of the cache -/
theorem V_aaldT (F : Fx G X cc nL own ret d MC MS) {C : String} {a N j : Nat} {f : Nat → Value} (hd : decode cc pc = .ok (.aaload, 1)) (hT : va_T (.object C) a N f (fr G) (xs X) G.2.2.1) (hj : j < N) (hN : N < 2 ^ 31) {w : Value} (hw : f j = w) (kk : VV G X nL Q h kc n L (w :: st) (pc + 1)) : VV G X nL Q h kc n L (.int (nI j) :: .ref a :: st) pc := by
  intro H locs ls hS hL hl
  obtain ⟨cell, h1, h2, h3, h4, h5, h6, h7⟩ := hT
  have ej : (nI j).toNatClampNeg = j := nI_clamp (Nat.lt_trans hj hN)
  have h8 : a < bz G := Nat.not_le.mp h7
  exact W.aald (v := w) (ty := .object C) F.exec F.code (by rw [hS.2.1 a h8]; exact h1) h2 rfl h3 (by rw [ej]; intro q; rcases q with q | q; exact nI_pos (Nat.lt_trans hj hN) q; omega) (by rw [ej, h6 j hj, hw]) rfl rfl hd (kk H locs ls hS hL hl)
theorem V_aaldA (F : Fx G X cc nL own ret d MC MS) (t : Nat) {cA : ClassId} {ty : FieldType} {a N : Nat} {f : Nat → Option Nat} {i : Int32} (hd : decode cc pc = .ok (.aaload, 1)) (ht : (TY G)[t]? = some (cA, .array ty)) (he : rd G h a (.inl (cA, N, .inr (.inr (.inr (.inr f)))))) (hin : vp_in i N) (kk : VV G X nL Q h kc n L (va_rf (f i.toNatClampNeg) :: st) (pc + 1)) : VV G X nL Q h kc n L (.int i :: .ref a :: st) pc := by
  intro H locs ls hS hL hl
  have hlt : i.toNatClampNeg < N := Nat.not_le.mp fun q => hin (Or.inr q)
  obtain ⟨cell, c1, c2, c3, c4, c5, c6, c7⟩ := hS.rd he
  have hlt2 : i.toNatClampNeg < N := Nat.not_le.mp fun q => hin (Or.inr q)
  exact W.aald (v := va_rf (f i.toNatClampNeg)) (ty := .array ty) F.exec F.code c1 (cl_arr c2 c3 (F.kn.1.2 t _ ht).1) rfl c4 (cl_in hin c5) (by rw [c7 _ hlt2]; show (arrV cA N (fun j => va_rf (f j))).slots[_]? = _; rw [arrV_read _ _ hlt2]) rfl rfl hd (kk H locs ls hS hL hl)
theorem V_alen (F : Fx G X cc nL own ret d MC MS) (t : Nat) {cA : ClassId} {x : vp_A} {a : Nat} {ty : FieldType} {v : Int32} (hd : decode cc pc = .ok (.arraylength, 1)) (ht : (TY G)[t]? = some (cA, ty)) (he : rd G h a (.inl (cA, x))) (hv : Int32.ofNat x.1 = v) (kk : VV G X nL Q h kc n L (.int v :: st) (pc + 1)) : VV G X nL Q h kc n L (.ref a :: st) pc :=
  fun H locs ls hS hL hl => by
    obtain ⟨cell, c1, c2, c3, c4, c5, c6, c7⟩ := hS.rd he
    exact W.alen (n := v) F.exec F.code c1 (cl_arr c2 c3 (F.kn.1.2 t _ ht).1) (c6.trans hv) rfl rfl hd (kk H locs ls hS hL hl)
theorem locs_app {G : GG} {locs : List Loc} {a i : Nat} (hL : ∀ q ∈ locs, fr G q.base) (hb : bz G ≤ a) : ∀ q ∈ locs ++ [⟨a, i⟩], fr G q.base := by
  intro q hq
  rcases List.mem_append.mp hq with h0 | h0
  · exact hL q h0
  · rw [List.mem_singleton.mp h0]; exact hb
theorem V_iast (F : Fx G X cc nL own ret d MC MS) (t : Nat) {cA : ClassId} {a N : Nat} {f : Nat → Int32} {i : Int32} {x : Int32} (hd : decode cc pc = .ok (.iastore, 1)) (ht : (TY G)[t]? = some (cA, .int)) (he : h a = some (.inl (cA, N, .inl f))) (hin : vp_in i N) (kk : VV G X nL Q (hset h a (.inl (cA, N, .inl (upd f i.toNatClampNeg x)))) kc n L st (pc + 1)) : VV G X nL Q h kc n L (.int x :: .int i :: .ref a :: st) pc := by
  intro H locs ls hS hL hl
  obtain ⟨hb0, ha⟩ := hS.1 a _ he
  refine W.iast F.exec F.code ha ((F.kn.1.2 t _ ht).1 N (fun j => .int (f j))) (fun q => by cases q) (by show ¬ (i < 0 ∨ (arrV _ _ _).slots.size ≤ _); rw [arrV_size]; exact hin) rfl rfl hd fun H1 e z oq => ?_
  refine kk H1 _ ls (hS.put he z oq ?_) (locs_app hL hb0) hl
  show H1[a]? = some (vp_cell _ _)
  rw [e]
  rw [vp_cell_i, vp_cell_i, arrV_store]
  congr 2
  funext q
  by_cases hq : q = i.toNatClampNeg
  · subst hq
    simp [updV, upd, vp_nar, vp_updL, vf_upd]
    try rfl
  · simp [updV, upd, vp_updL, vf_upd, hq]
theorem V_zast (F : Fx G X cc nL own ret d MC MS) (t : Nat) {cA : ClassId} {a N : Nat} {f : Nat → Int32} {i : Int32} {x : Int32} (hd : decode cc pc = .ok (.bastore, 1)) (ht : (TY G)[t]? = some (cA, .boolean)) (he : h a = some (.inl (cA, N, .inl f))) (hin : vp_in i N) (kk : VV G X nL Q (hset h a (.inl (cA, N, .inl (upd f i.toNatClampNeg (vp_nar .boolean x))))) kc n L st (pc + 1)) : VV G X nL Q h kc n L (.int x :: .int i :: .ref a :: st) pc := by
  intro H locs ls hS hL hl
  obtain ⟨hb0, ha⟩ := hS.1 a _ he
  refine W.zast F.exec F.code ha ((F.kn.1.2 t _ ht).1 N (fun j => .int (f j))) (fun q => by cases q) (by show ¬ (i < 0 ∨ (arrV _ _ _).slots.size ≤ _); rw [arrV_size]; exact hin) rfl rfl hd fun H1 e z oq => ?_
  refine kk H1 _ ls (hS.put he z oq ?_) (locs_app hL hb0) hl
  show H1[a]? = some (vp_cell _ _)
  rw [e]
  rw [vp_cell_i, vp_cell_i, arrV_store]
  congr 2
  funext q
  by_cases hq : q = i.toNatClampNeg
  · subst hq
    simp [updV, upd, vp_nar, vp_updL, vf_upd]
    try rfl
  · simp [updV, upd, vp_updL, vf_upd, hq]
theorem V_bast (F : Fx G X cc nL own ret d MC MS) (t : Nat) {cA : ClassId} {a N : Nat} {f : Nat → Int32} {i : Int32} {x : Int32} (hd : decode cc pc = .ok (.bastore, 1)) (ht : (TY G)[t]? = some (cA, .byte)) (he : h a = some (.inl (cA, N, .inl f))) (hin : vp_in i N) (kk : VV G X nL Q (hset h a (.inl (cA, N, .inl (upd f i.toNatClampNeg (vp_nar .byte x))))) kc n L st (pc + 1)) : VV G X nL Q h kc n L (.int x :: .int i :: .ref a :: st) pc := by
  intro H locs ls hS hL hl
  obtain ⟨hb0, ha⟩ := hS.1 a _ he
  refine W.bast F.exec F.code ha ((F.kn.1.2 t _ ht).1 N (fun j => .int (f j))) (fun q => by cases q) (by show ¬ (i < 0 ∨ (arrV _ _ _).slots.size ≤ _); rw [arrV_size]; exact hin) rfl rfl hd fun H1 e z oq => ?_
  refine kk H1 _ ls (hS.put he z oq ?_) (locs_app hL hb0) hl
  show H1[a]? = some (vp_cell _ _)
  rw [e]
  rw [vp_cell_i, vp_cell_i, arrV_store]
  congr 2
  funext q
  by_cases hq : q = i.toNatClampNeg
  · subst hq
    simp [updV, upd, vp_nar, vp_updL, vf_upd]
    try rfl
  · simp [updV, upd, vp_updL, vf_upd, hq]
theorem V_cast (F : Fx G X cc nL own ret d MC MS) (t : Nat) {cA : ClassId} {a N : Nat} {f : Nat → Int32} {i : Int32} {x : Int32} (hd : decode cc pc = .ok (.castore, 1)) (ht : (TY G)[t]? = some (cA, .char)) (he : h a = some (.inl (cA, N, .inl f))) (hin : vp_in i N) (kk : VV G X nL Q (hset h a (.inl (cA, N, .inl (upd f i.toNatClampNeg (vp_nar .char x))))) kc n L st (pc + 1)) : VV G X nL Q h kc n L (.int x :: .int i :: .ref a :: st) pc := by
  intro H locs ls hS hL hl
  obtain ⟨hb0, ha⟩ := hS.1 a _ he
  refine W.cast F.exec F.code ha ((F.kn.1.2 t _ ht).1 N (fun j => .int (f j))) (fun q => by cases q) (by show ¬ (i < 0 ∨ (arrV _ _ _).slots.size ≤ _); rw [arrV_size]; exact hin) rfl rfl hd fun H1 e z oq => ?_
  refine kk H1 _ ls (hS.put he z oq ?_) (locs_app hL hb0) hl
  show H1[a]? = some (vp_cell _ _)
  rw [e]
  rw [vp_cell_i, vp_cell_i, arrV_store]
  congr 2
  funext q
  by_cases hq : q = i.toNatClampNeg
  · subst hq
    simp [updV, upd, vp_nar, vp_updL, vf_upd]
    try rfl
  · simp [updV, upd, vp_updL, vf_upd, hq]
theorem V_last (F : Fx G X cc nL own ret d MC MS) (t : Nat) {cA : ClassId} {a N : Nat} {f : Nat → Int64} {i : Int32} {x : Int64} (hd : decode cc pc = .ok (.lastore, 1)) (ht : (TY G)[t]? = some (cA, .long)) (he : h a = some (.inl (cA, N, .inr (.inl f)))) (hin : vp_in i N) (kk : VV G X nL Q (hset h a (.inl (cA, N, .inr (.inl (vp_updL f i.toNatClampNeg x))))) kc n L st (pc + 1)) : VV G X nL Q h kc n L (.long x :: .int i :: .ref a :: st) pc := by
  intro H locs ls hS hL hl
  obtain ⟨hb0, ha⟩ := hS.1 a _ he
  refine W.last F.exec F.code ha ((F.kn.1.2 t _ ht).1 N (fun j => .long (f j))) (fun q => by cases q) (by show ¬ (i < 0 ∨ (arrV _ _ _).slots.size ≤ _); rw [arrV_size]; exact hin) rfl rfl hd fun H1 e z oq => ?_
  refine kk H1 _ ls (hS.put he z oq ?_) (locs_app hL hb0) hl
  show H1[a]? = some (vp_cell _ _)
  rw [e]
  rw [vp_cell_l, vp_cell_l, arrV_store]
  congr 2
  funext q
  by_cases hq : q = i.toNatClampNeg
  · subst hq
    simp [updV, upd, vp_nar, vp_updL, vf_upd]
    try rfl
  · simp [updV, upd, vp_updL, vf_upd, hq]
theorem V_dast (F : Fx G X cc nL own ret d MC MS) (t : Nat) {cA : ClassId} {a N : Nat} {f : Nat → UInt64} {i : Int32} {x : UInt64} (hd : decode cc pc = .ok (.dastore, 1)) (ht : (TY G)[t]? = some (cA, .double)) (he : h a = some (.inl (cA, N, .inr (.inr (.inr (.inl f)))))) (hin : vp_in i N) (kk : VV G X nL Q (hset h a (.inl (cA, N, .inr (.inr (.inr (.inl (vf_upd f i.toNatClampNeg x))))))) kc n L st (pc + 1)) : VV G X nL Q h kc n L (.double x :: .int i :: .ref a :: st) pc := by
  intro H locs ls hS hL hl
  obtain ⟨hb0, ha⟩ := hS.1 a _ he
  refine W.dast F.exec F.code ha ((F.kn.1.2 t _ ht).1 N (fun j => .double (f j))) (fun q => by cases q) (by show ¬ (i < 0 ∨ (arrV _ _ _).slots.size ≤ _); rw [arrV_size]; exact hin) rfl rfl hd fun H1 e z oq => ?_
  refine kk H1 _ ls (hS.put he z oq ?_) (locs_app hL hb0) hl
  show H1[a]? = some (vp_cell _ _)
  rw [e]
  rw [vp_cell_d, vp_cell_d, arrV_store]
  congr 2
  funext q
  by_cases hq : q = i.toNatClampNeg
  · subst hq
    simp [updV, upd, vp_nar, vp_updL, vf_upd]
    try rfl
  · simp [updV, upd, vp_updL, vf_upd, hq]
/-- the class by its name, of what stands at an address -/
def isC (G : GG) (h : AH) (a : Nat) (C : String) : Prop := ∃ (ci : Nat) (fs : List Value) (T : u_T) (N : Nat), CL[ci]? = some (C, T, N) ∧ rd G h a (.inr (ci, fs))
theorem isC.cell {H : Heap} {a : Nat} {C : String} (F : Fx G X cc nL own ret d MC MS) (hS : Sim G h H) (hc : isC G h a C) : ∃ cell : Cell, H[a]? = some cell ∧ cell.vm.isStatics = false ∧ (xs X).vm.findClass C = some cell.cls := by
  obtain ⟨ci, fs, T, N, h1, h2⟩ := hc
  obtain ⟨r, hr, cell, g1, g2, g3, -⟩ := hS.rd h2
  exact ⟨cell, g1, nst g3, by rw [g2]; exact (F.kn.1.1 ci _ h1).2.1⟩
theorem V_aast (F : Fx G X cc nL own ret d MC MS) (t : Nat) {cA : ClassId} {C E : String} {a v N : Nat} {f : Nat → Option Nat} {i : Int32} (hd : decode cc pc = .ok (.aastore, 1)) (ht : (TY G)[t]? = some (cA, .object E)) (he : h a = some (.inl (cA, N, .inr (.inr (.inr (.inr f)))))) (hc : isC G h v C) (hca : Cond.castable C E ∈ lw_tbl) (hin : vp_in i N) (kk : VV G X nL Q (hset h a (.inl (cA, N, .inr (.inr (.inr (.inr (va_up f i.toNatClampNeg (some v)))))))) kc n L st (pc + 1)) : VV G X nL Q h kc n L (.ref v :: .int i :: .ref a :: st) pc := by
  intro H locs ls hS hL hl
  obtain ⟨hb0, ha⟩ := hS.1 a _ he
  have hlt : i.toNatClampNeg < N := Nat.not_le.mp fun q => hin (Or.inr q)
  have h0 : ¬ i < 0 := fun q => hin (Or.inl q)
  obtain ⟨ci, fs, T, NN, c1, c2⟩ := hc
  obtain ⟨r', hr', cellV, g1, g2, g3, -⟩ := hS.rd c2
  have hcls := (F.kn.1.1 ci _ c1).2
  obtain ⟨kA, comp, k1, k2, k3, -⟩ := (F.kn.1.2 t _ ht).2
  obtain ⟨kC, hkC, -⟩ := hcls.2
  obtain ⟨x0, t1, f1, f2, f3⟩ := Cond.castable_spec (va_Nw.use (A := xa X) rfl (F.kn.2.1 _ hca rfl))
  have hx0 : x0 = G.1.1 ci := Option.some.inj (f1.symm.trans hcls.1)
  have ht1 : t1 = comp := Option.some.inj (f2.symm.trans k3)
  subst hx0; subst ht1
  obtain ⟨kcomp, hkcomp⟩ : ∃ kcomp, (xs X).vm.classes[t1]? = some kcomp := by
    obtain ⟨k9, h9, -⟩ := Vm.findClass_spec k3
    exact ⟨k9, h9⟩
  refine W.aast F.exec F.code ha (fun q h => by cases h) (fun h => by cases h) k1 k2 rfl hkcomp ⟨h0, by show _ < (arrV _ _ _).slots.size; rw [arrV_size]; exact hlt⟩ g1 g3 (by rw [g2]; exact hkC) (by rw [g2]; exact f3) rfl rfl hd fun H1 e z oq => ?_
  refine kk H1 _ ls (hS.put he z oq ?_) (locs_app hL hb0) hl
  show H1[a]? = some (vp_cell _ _)
  rw [e]
  rw [vp_cell_q, vp_cell_q, arrV_store]
  congr 2
  funext q
  by_cases hq : q = i.toNatClampNeg
  · subst hq
    simp [updV, va_up, va_rf]
  · simp [updV, va_up, hq]
theorem V_aastN (F : Fx G X cc nL own ret d MC MS) (t : Nat) {cA : ClassId} {E : String} {a N : Nat} {f : Nat → Option Nat} {i : Int32} (hd : decode cc pc = .ok (.aastore, 1)) (ht : (TY G)[t]? = some (cA, .object E)) (he : h a = some (.inl (cA, N, .inr (.inr (.inr (.inr f)))))) (hin : vp_in i N) (kk : VV G X nL Q (hset h a (.inl (cA, N, .inr (.inr (.inr (.inr (va_up f i.toNatClampNeg none))))))) kc n L st (pc + 1)) : VV G X nL Q h kc n L (.null :: .int i :: .ref a :: st) pc := by
  intro H locs ls hS hL hl
  obtain ⟨hb0, ha⟩ := hS.1 a _ he
  refine va_WaastN (C := E) F.exec F.code ha ((F.kn.1.2 t _ ht).1 N (fun j => va_rf (f j))) (fun h => by cases h) (by show ¬ (i < 0 ∨ (arrV _ _ _).slots.size ≤ _); rw [arrV_size]; exact hin) rfl rfl hd fun H1 e z oq => ?_
  refine kk H1 _ ls (hS.put he z oq ?_) (locs_app hL hb0) hl
  show H1[a]? = some (vp_cell _ _)
  rw [e]
  rw [vp_cell_q, vp_cell_q, arrV_store]
  congr 2
  funext q
  by_cases hq : q = i.toNatClampNeg
  · subst hq
    simp [updV, va_up, va_rf]
  · simp [updV, va_up, hq]
theorem V_ck (F : Fx G X cc nL own ret d MC MS) {idx a : Nat} {C nm : String} (hd : decode cc pc = .ok (.checkcast idx, 3)) (hcl : Cond.classLink own idx nm ∈ lw_all) (hc : isC G h a C) (hca : Cond.castable C nm ∈ lw_tbl) (kk : VV G X nL Q h kc n L (.ref a :: st) (pc + 3)) : VV G X nL Q h kc n L (.ref a :: st) pc :=
  fun H locs ls hS hL hl => va_castY F.exec F.code F.hown (F.wd _ hcl) (F.kn.2.1 _ hca rfl) (hc.cell F hS) hd (kk H locs ls hS hL hl)
theorem V_ckS (F : Fx G X cc nL own ret d MC MS) {idx a : Nat} {nm : String} (hd : decode cc pc = .ok (.checkcast idx, 3)) (hcl : Cond.classLink own idx nm ∈ lw_all) (hc : isC G h a nm) (kk : VV G X nL Q h kc n L (.ref a :: st) (pc + 3)) : VV G X nL Q h kc n L (.ref a :: st) pc := by
  intro H locs ls hS hL hl
  obtain ⟨ci, fs, T, N, h1, h2⟩ := id hc
  exact va_castS F.exec F.code F.hown (F.wd _ hcl) (F.kn.1.1 ci _ h1).2 (hc.cell F hS) hd (kk H locs ls hS hL hl)
theorem V_ckN (F : Fx G X cc nL own ret d MC MS) {idx : Nat} (hd : decode cc pc = .ok (.checkcast idx, 3)) (kk : VV G X nL Q h kc n L (.null :: st) (pc + 3)) : VV G X nL Q h kc n L (.null :: st) pc :=
  fun H locs ls hS hL hl => lv_castN F.exec F.code hd (kk H locs ls hS hL hl)
theorem V_inst (F : Fx G X cc nL own ret d MC MS) {idx a : Nat} {C nm : String} (hd : decode cc pc = .ok (.instanceof idx, 3)) (hcl : Cond.classLink own idx nm ∈ lw_all) (hc : isC G h a C) (hca : Cond.castable C nm ∈ lw_tbl) (kk : VV G X nL Q h kc n L (.int 1 :: st) (pc + 3)) : VV G X nL Q h kc n L (.ref a :: st) pc :=
  fun H locs ls hS hL hl => va_instY F.exec F.code F.hown (F.wd _ hcl) (F.kn.2.1 _ hca rfl) (hc.cell F hS) hd (kk H locs ls hS hL hl)
theorem V_instS (F : Fx G X cc nL own ret d MC MS) {idx a : Nat} {nm : String} (hd : decode cc pc = .ok (.instanceof idx, 3)) (hcl : Cond.classLink own idx nm ∈ lw_all) (hc : isC G h a nm) (kk : VV G X nL Q h kc n L (.int 1 :: st) (pc + 3)) : VV G X nL Q h kc n L (.ref a :: st) pc := by
  intro H locs ls hS hL hl
  obtain ⟨ci, fs, T, N, h1, h2⟩ := id hc
  exact va_instS F.exec F.code F.hown (F.wd _ hcl) (F.kn.1.1 ci _ h1).2 (hc.cell F hS) hd (kk H locs ls hS hL hl)
theorem V_instNo (F : Fx G X cc nL own ret d MC MS) {idx a : Nat} {C nm : String} (hd : decode cc pc = .ok (.instanceof idx, 3)) (hcl : Cond.classLink own idx nm ∈ lw_all) (hc : isC G h a C) (hca : Cond.not (.castable C nm) ∈ flatC narrow_1) (kk : VV G X nL Q h kc n L (.int 0 :: st) (pc + 3)) : VV G X nL Q h kc n L (.ref a :: st) pc :=
  fun H locs ls hS hL hl => va_instNo F.exec F.code F.hown (F.wd _ hcl) (F.kn.2.2.2.2.1 _ _ hca) (hc.cell F hS) hd (kk H locs ls hS hL hl)
theorem V_objInit (F : Fx G X cc nL own ret d MC MS) {idx a : Nat} (hd : decode cc pc = .ok (.invokespecial idx, 3)) (h1 : Cond.methodLink own idx Lib.objectInit ∈ lw_all) (h2 : Cond.instanceMethod Lib.objectInit ∈ lw_all) (h3 : Cond.code Lib.objectInit ⟨#[0xb1]⟩ 1 none ∈ lw_all) (hd1 : 1 ≤ d) (hst : (st.map fun v => v.category).sum ≤ 20) (kk : VV G X nL Q h kc n L st (pc + 3)) : VV G X nL Q h kc n L (.ref a :: st) pc := by
  intro H locs ls hS hL hl
  have hR := F.room
  exact W.objInit F.exec F.code F.hown (F.wd _ h1) (F.wd _ h2) (F.wd _ h3) rfl (by rw [F.maxL]; exact hl.1) rfl hd (Nat.le_trans hd1 hR.1) (by show 2 * 0 + _ + 12 ≤ _; omega) (W.eq (g2 := F0 (xm X) (pc + 3) ls st) rfl (kk H locs ls hS hL hl))

/-! contracts and calls -/
abbrev rmD (d mc ms : Nat) : Room := { frames := d, cells := mc, slots := ms, locals := 64 * d }
abbrev preG (G : GG) (av : List Value) (h : AH) : Array Value → State → Prop := va_Pc av (fun U => Kn G U ∧ Sim G h U.heap)
def qcR (G : GG) (Post : Option Value → AH → Prop) : Array Value → State → Outcome → State → Prop := fun _ _ o t => ∃ v h', o = .returned v ∧ Post v h' ∧ Sim G h' t.heap
/-- a method's contract: from the heap h with the arguments av it returns v with a heap h', and Post v h' -/
def Ct (G : GG) (l : Launch) (y : MethodName) (cc : ByteArray) (mL : Nat) (ret : Option FieldType) (d mc ms : Nat) (av : List Value) (h : AH) (Post : Option Value → AH → Prop) : Prop :=
  Met l y (ws_ y cc mL ret) (rmD d mc ms) (preG G av h) (qcR G Post) mc ms (fr G)
theorem Kn.calling {G : GG} {U : State} {g : JFrame} {mk : MethodId} {a : Array Value} (hK : Kn G U) : Kn G (U.calling g mk a) := hK.warm (U := U.calling g mk a) (State.WarmedH.refl U)
theorem preG.blind {G : GG} {av : List Value} {h : AH} : FrameBlind (preG G av h) := by
  intro a U g mk hp
  obtain ⟨h1, h2, h3⟩ := hp
  exact ⟨h1, h2.calling, h3⟩
theorem preG.at {G : GG} {av : List Value} {h : AH} {s U : State} {H : Heap} (hK : Kn G s) (hS : Sim G h H) (hU : U.heap = H) (hW : s.WarmedH U.vm) : preG G av h av.toArray U := ⟨rfl, hK.warm hW, by rw [hU]; exact hS⟩
theorem roomR {R : Room} {d d' mL MC MS mc ms : Nat} (h1 : d' + 1 ≤ d) (h2 : mL ≤ 45) (hR : d ≤ R.frames ∧ 64 * d ≤ R.locals ∧ MC ≤ R.cells ∧ MS ≤ R.slots) : (rmD d' mc ms).frames + 1 ≤ R.frames ∧ 8 + (mL + 11) + (rmD d' mc ms).locals ≤ R.locals :=
  ⟨Nat.le_trans h1 hR.1, by show 8 + (mL + 11) + 64 * d' ≤ R.locals; omega⟩
section CALLS
variable {y : MethodName} {cc' : ByteArray} {mL' nn d' mc ms idx b : Nat} {ret' : Option FieldType} {As st0 : List Value} {C : String} {Post : Option Value → AH → Prop}
theorem V_run {len : Nat} (hr : ∀ (H : Heap) (locs : List Loc) (ls : Array Slot), Sim G h H → lvH ls nL L → ∀ T : State, T.heap = H → Stand (xP X) (xl X) (xe X) (xR X) (xs X) (xm X) (xa X) (xb X) (xt X) (xc X) T locs kc n → ∃ (v : Option Value) (st₀ t T' : State) (Lo : List Loc), st₀.heap = H ∧ Stand (xP X) (xl X) (xe X) (xR X) (xs X) (xm X) (xa X) (xb X) (xt X) (xc X) T' (locs ++ Lo) (kc + mc) (n + ms) ∧ (∀ q ∈ Lo, fr G q.base) ∧ T'.heap = t.heap ∧ T'.vm = t.vm ∧ (∃ v' h', Outcome.returned v = .returned v' ∧ Post v' h' ∧ Sim G h' t.heap) ∧
    Goes (xP X) (xe X) (xb X) T (F0 (xm X) pc ls st0) T' { (F0 (xm X) pc ls st0) with pc := pc + len, stack := v.toList ++ st })
    (kk : ∀ v h', Post v h' → VV G X nL Q h' (kc + mc) (n + ms) L (v.toList ++ st) (pc + len)) : VV G X nL Q h kc n L st0 pc := by
  intro H locs ls hS hL hl T hT XX
  obtain ⟨v, st₀, t, T', Lo, h0, X', hLf, e1, e2, ⟨v', h', hv, hp, hs⟩, hst⟩ := hr H locs ls hS hl T hT XX
  cases hv
  have hLL : ∀ q ∈ locs ++ Lo, fr G q.base := by
    intro q hq
    rcases List.mem_append.mp hq with h9 | h9
    · exact hL q h9
    · exact hLf q h9
  obtain ⟨t2, a1, b1⟩ := kk v h' hp T'.heap (locs ++ Lo) ls (by rw [e1]; exact hs) hLL hl T' rfl X'
  exact ⟨t2, hst t2 a1, b1⟩
def LkV (own : String) (idx : Nat) (C : String) (y : MethodName) (cc : ByteArray) (mL : Nat) (ret : Option FieldType) (nn : Nat) : Prop := GoodIn lw_all (wsV own idx C y (ws_ y cc mL ret)) ∧ (y.cls = C ∧ y.cls ≠ "java/lang/invoke/MethodHandle" ∧ y.cls ≠ "java/lang/invoke/VarHandle" ∧ (parseMethodDescriptor y.desc).map (fun d => d.parameters.length) = some nn)
def LkS (own : String) (idx : Nat) (y : MethodName) (cc : ByteArray) (mL : Nat) (ret : Option FieldType) (nn : Nat) : Prop := GoodIn lw_all (va_wsS own idx y (ws_ y cc mL ret)) ∧ (y.cls ≠ "java/lang/invoke/MethodHandle" ∧ y.cls ≠ "java/lang/invoke/VarHandle" ∧ (parseMethodDescriptor y.desc).map (fun d => d.parameters.length) = some nn)
def LkI (own : String) (idx : Nat) (y : MethodName) (cc : ByteArray) (mL : Nat) (nn : Nat) : Prop := GoodIn lw_all (ws_ y cc mL none) ∧ Cond.initialized y.cls ∈ lw_all ∧ Cond.methodLink own idx y ∈ lw_all ∧ Cond.instanceMethod y ∈ lw_all ∧ y.name = "<init>" ∧ (y.cls ≠ "java/lang/invoke/MethodHandle" ∧ y.cls ≠ "java/lang/invoke/VarHandle" ∧ (parseMethodDescriptor y.desc).map (fun d => d.parameters.length) = some nn)
def LkN (own : String) (idx : Nat) (y : MethodName) (host : String) (cc : ByteArray) (mL : Nat) (ret : Option FieldType) (nn : Nat) : Prop := GoodIn lw_all (ws_ y cc mL ret) ∧ Cond.initialized y.cls ∈ lw_all ∧ Cond.methodLinkNest own idx y host ∈ lw_tbl ∧ (y.cls ≠ "java/lang/invoke/MethodHandle" ∧ y.cls ≠ "java/lang/invoke/VarHandle" ∧ (parseMethodDescriptor y.desc).map (fun d => d.parameters.length) = some nn)
/-- inherited (the declaring class's own code) -/
def LkU (own : String) (idx : Nat) (C owner : String) (x y : MethodName) (cc : ByteArray) (mL : Nat) (ret : Option FieldType) (nn : Nat) : Prop := GoodIn lw_all (va_wsU own idx C owner x y (ws_ y cc mL ret)) ∧ Cond.declares ⟨owner, x.name, x.desc⟩ ∈ lw_tbl ∧ (owner ≠ "java/lang/invoke/MethodHandle" ∧ owner ≠ "java/lang/invoke/VarHandle" ∧ (parseMethodDescriptor x.desc).map (fun d => d.parameters.length) = some nn)
def LkF (own : String) (idx : Nat) (C : String) (x y : MethodName) (cc : ByteArray) (mL : Nat) (ret : Option FieldType) (nn : Nat) : Prop := GoodIn lw_all (va_wsF own idx C x y (ws_ y cc mL ret)) ∧ (Cond.declares x ∈ lw_tbl ∧ Cond.interfaceMethod x.cls x.cls x.name x.desc ∈ lw_tbl ++ flatC narrow_1 ∧ Cond.publicMethod y ∈ lw_tbl ∧ Cond.unhidden C x.name x.desc ∈ lw_tbl ∧ Cond.castable C x.cls ∈ lw_tbl) ∧ fwH x = true ∧ (x.cls ≠ "java/lang/invoke/MethodHandle" ∧ x.cls ≠ "java/lang/invoke/VarHandle" ∧ (parseMethodDescriptor x.desc).map (fun d => d.parameters.length) = some nn)
theorem V_callV (F : Fx G X cc nL own ret d MC MS) (hd : decode cc pc = .ok (.invokevirtual idx, 3)) (lk : LkV own idx C y cc' mL' ret' nn) (hc : Ct G (xl X) y cc' mL' ret' d' mc ms (.ref b :: As) h Post) (hrc : isC G h b C) (hn : As.length = nn) (hst : st0 = As.reverse ++ .ref b :: st) (hsum : (st.map fun v => v.category).sum ≤ 8) (hd1 : d' + 1 ≤ d) (hm : mL' ≤ 45) (hr1 : kc + mc ≤ MC) (hr2 : n + ms ≤ MS)
    (kk : ∀ v h', Post v h' → VV G X nL Q h' (kc + mc) (n + ms) L (v.toList ++ st) (pc + 3)) : VV G X nL Q h kc n L st0 pc :=
  V_run (len := 3) (fun H locs ls hS hl => va_runV (rest := st) F.fix hc (cwV nn F.wd lk.1 rfl rfl rfl lk.2 (roomR hd1 hm F.room)) ⟨preG.blind, hrc.cell F hS, fun U hU hW => preG.at F.kn hS hU hW⟩ rfl hn hl.1 hst (lv_room hsum) hd ⟨Nat.le_trans hr1 F.room.2.2.1, Nat.le_trans hr2 F.room.2.2.2⟩) kk
theorem V_callS (F : Fx G X cc nL own ret d MC MS) (hd : decode cc pc = .ok (.invokestatic idx, 3)) (lk : LkS own idx y cc' mL' ret' nn) (hc : Ct G (xl X) y cc' mL' ret' d' mc ms As h Post) (hn : As.length = nn) (hst : st0 = As.reverse ++ st) (hsum : (st.map fun v => v.category).sum ≤ 8) (hd1 : d' + 1 ≤ d) (hm : mL' ≤ 45) (hr1 : kc + mc ≤ MC) (hr2 : n + ms ≤ MS)
    (kk : ∀ v h', Post v h' → VV G X nL Q h' (kc + mc) (n + ms) L (v.toList ++ st) (pc + 3)) : VV G X nL Q h kc n L st0 pc :=
  V_run (len := 3) (fun H locs ls hS hl => va_runS (rest := st) F.fix hc (va_cwS nn F.wd lk.1 rfl rfl rfl lk.2 (roomR hd1 hm F.room)) ⟨preG.blind, fun U hU hW => preG.at F.kn hS hU hW⟩ rfl hn hl.1 hst (lv_room hsum) hd ⟨Nat.le_trans hr1 F.room.2.2.1, Nat.le_trans hr2 F.room.2.2.2⟩) kk
theorem V_callI (F : Fx G X cc nL own ret d MC MS) (hd : decode cc pc = .ok (.invokespecial idx, 3)) (lk : LkI own idx y cc' mL' nn) (hc : Ct G (xl X) y cc' mL' none d' mc ms (.ref b :: As) h Post) (hn : As.length = nn) (hst : st0 = As.reverse ++ .ref b :: st) (hsum : (st.map fun v => v.category).sum ≤ 8) (hd1 : d' + 1 ≤ d) (hm : mL' ≤ 45) (hr1 : kc + mc ≤ MC) (hr2 : n + ms ≤ MS)
    (kk : ∀ v h', Post v h' → VV G X nL Q h' (kc + mc) (n + ms) L (v.toList ++ st) (pc + 3)) : VV G X nL Q h kc n L st0 pc :=
  V_run (len := 3) (fun H locs ls hS hl => va_runI (rest := st) F.fix hc (cwI nn F.wd lk.1 rfl rfl rfl (F.wd _ lk.2.1) (F.wd _ lk.2.2.1) (F.wd _ lk.2.2.2.1) lk.2.2.2.2.1 lk.2.2.2.2.2 (roomR hd1 hm F.room)) ⟨preG.blind, fun U hU hW => preG.at F.kn hS hU hW⟩ rfl hn hl.1 hst (lv_room hsum) hd ⟨Nat.le_trans hr1 F.room.2.2.1, Nat.le_trans hr2 F.room.2.2.2⟩) kk
theorem V_callSN {host : String} (F : Fx G X cc nL own ret d MC MS) (hd : decode cc pc = .ok (.invokestatic idx, 3)) (lk : LkN own idx y host cc' mL' ret' nn) (hs : Cond.static y ∈ lw_all) (hc : Ct G (xl X) y cc' mL' ret' d' mc ms As h Post) (hn : As.length = nn) (hst : st0 = As.reverse ++ st) (hsum : (st.map fun v => v.category).sum ≤ 8) (hd1 : d' + 1 ≤ d) (hm : mL' ≤ 45) (hr1 : kc + mc ≤ MC) (hr2 : n + ms ≤ MS)
    (kk : ∀ v h', Post v h' → VV G X nL Q h' (kc + mc) (n + ms) L (v.toList ++ st) (pc + 3)) : VV G X nL Q h kc n L st0 pc :=
  V_run (len := 3) (fun H locs ls hS hl => va_runSN (rest := st) F.fix hc ⟨va_cnB nn F.wd lk.1 rfl rfl rfl (F.kn.2.1 _ lk.2.2.1 rfl) (F.wd _ lk.2.1) lk.2.2.2 (roomR hd1 hm F.room), F.wd _ hs, trivial⟩ ⟨preG.blind, fun U hU hW => preG.at F.kn hS hU hW⟩ rfl hn hl.1 hst (lv_room hsum) hd ⟨Nat.le_trans hr1 F.room.2.2.1, Nat.le_trans hr2 F.room.2.2.2⟩) kk
theorem V_callVN {host : String} (F : Fx G X cc nL own ret d MC MS) (hd : decode cc pc = .ok (.invokevirtual idx, 3)) (lk : LkN own idx y host cc' mL' ret' nn) (hs1 : Cond.instanceMethod y ∈ lw_all) (hs2 : Cond.selects C y y ∈ lw_all) (hc : Ct G (xl X) y cc' mL' ret' d' mc ms (.ref b :: As) h Post) (hrc : isC G h b C) (hn : As.length = nn) (hst : st0 = As.reverse ++ .ref b :: st) (hsum : (st.map fun v => v.category).sum ≤ 8) (hd1 : d' + 1 ≤ d) (hm : mL' ≤ 45) (hr1 : kc + mc ≤ MC) (hr2 : n + ms ≤ MS)
    (kk : ∀ v h', Post v h' → VV G X nL Q h' (kc + mc) (n + ms) L (v.toList ++ st) (pc + 3)) : VV G X nL Q h kc n L st0 pc :=
  V_run (len := 3) (fun H locs ls hS hl => va_runVN (rest := st) F.fix hc ⟨va_cnB nn F.wd lk.1 rfl rfl rfl (F.kn.2.1 _ lk.2.2.1 rfl) (F.wd _ lk.2.1) lk.2.2.2 (roomR hd1 hm F.room), F.wd _ hs1, F.wd _ hs2⟩ ⟨preG.blind, hrc.cell F hS, fun U hU hW => preG.at F.kn hS hU hW⟩ rfl hn hl.1 hst (lv_room hsum) hd ⟨Nat.le_trans hr1 F.room.2.2.1, Nat.le_trans hr2 F.room.2.2.2⟩) kk
theorem V_callIN {host : String} (F : Fx G X cc nL own ret d MC MS) (hd : decode cc pc = .ok (.invokespecial idx, 3)) (lk : LkN own idx y host cc' mL' none nn) (hs1 : Cond.instanceMethod y ∈ lw_all) (hs2 : y.name = "<init>") (hc : Ct G (xl X) y cc' mL' none d' mc ms (.ref b :: As) h Post) (hn : As.length = nn) (hst : st0 = As.reverse ++ .ref b :: st) (hsum : (st.map fun v => v.category).sum ≤ 8) (hd1 : d' + 1 ≤ d) (hm : mL' ≤ 45) (hr1 : kc + mc ≤ MC) (hr2 : n + ms ≤ MS)
    (kk : ∀ v h', Post v h' → VV G X nL Q h' (kc + mc) (n + ms) L (v.toList ++ st) (pc + 3)) : VV G X nL Q h kc n L st0 pc :=
  V_run (len := 3) (fun H locs ls hS hl => va_runIN (rest := st) F.fix hc ⟨va_cnB nn F.wd lk.1 rfl rfl rfl (F.kn.2.1 _ lk.2.2.1 rfl) (F.wd _ lk.2.1) lk.2.2.2 (roomR hd1 hm F.room), hs2, F.wd _ hs1⟩ ⟨preG.blind, fun U hU hW => preG.at F.kn hS hU hW⟩ rfl hn hl.1 hst (lv_room hsum) hd ⟨Nat.le_trans hr1 F.room.2.2.1, Nat.le_trans hr2 F.room.2.2.2⟩) kk
theorem V_callU {owner : String} {x : MethodName} (F : Fx G X cc nL own ret d MC MS) (hd : decode cc pc = .ok (.invokevirtual idx, 3)) (lk : LkU own idx C owner x y cc' mL' ret' nn) (hc : Ct G (xl X) y cc' mL' ret' d' mc ms (.ref b :: As) h Post) (hrc : isC G h b C) (hn : As.length = nn) (hst : st0 = As.reverse ++ .ref b :: st) (hsum : (st.map fun v => v.category).sum ≤ 8) (hd1 : d' + 1 ≤ d) (hm : mL' ≤ 45) (hr1 : kc + mc ≤ MC) (hr2 : n + ms ≤ MS)
    (kk : ∀ v h', Post v h' → VV G X nL Q h' (kc + mc) (n + ms) L (v.toList ++ st) (pc + 3)) : VV G X nL Q h kc n L st0 pc :=
  V_run (len := 3) (fun H locs ls hS hl => va_runU (rest := st) F.fix hc (va_cwA nn F.wd lk.1 rfl rfl rfl (F.kn.2.1 _ lk.2.1 rfl) lk.2.2 (roomR hd1 hm F.room)) ⟨preG.blind, hrc.cell F hS, fun U hU hW => preG.at F.kn hS hU hW⟩ rfl hn hl.1 hst (lv_room hsum) hd ⟨Nat.le_trans hr1 F.room.2.2.1, Nat.le_trans hr2 F.room.2.2.2⟩) kk
theorem V_callF {x : MethodName} {count : Nat} (F : Fx G X cc nL own ret d MC MS) (hd : decode cc pc = .ok (.invokeinterface idx count, 5)) (lk : LkF own idx C x y cc' mL' ret' nn) (hc : Ct G (xl X) y cc' mL' ret' d' mc ms (.ref b :: As) h Post) (hrc : isC G h b C) (hn : As.length = nn) (hst : st0 = As.reverse ++ .ref b :: st) (hsum : (st.map fun v => v.category).sum ≤ 8) (hd1 : d' + 1 ≤ d) (hm : mL' ≤ 45) (hr1 : kc + mc ≤ MC) (hr2 : n + ms ≤ MS)
    (kk : ∀ v h', Post v h' → VV G X nL Q h' (kc + mc) (n + ms) L (v.toList ++ st) (pc + 5)) : VV G X nL Q h kc n L st0 pc := by
  obtain ⟨ci, fs, T0, N0, hc1, hc2⟩ := id hrc
  obtain ⟨hg, ⟨w1, w2, w3, w4, w5⟩, hx, hdd⟩ := lk
  have f1 : va_Nw (.declares x) (xs X) := F.kn.2.1 _ w1 rfl
  have hF : va_Fw C x y (xs X) := ⟨f1, F.kn.2.2.1 _ _ _ _ w2, F.kn.2.1 _ w3 rfl, F.kn.2.1 _ w4 rfl, F.kn.2.1 _ w5 rfl⟩
  exact V_run (len := 5) (fun H locs ls hS hl => va_runF (rest := st) (F.kn.1.1 ci _ hc1).2 F.fix hc (va_cwF nn F.wd hg rfl rfl rfl hF hdd (roomR hd1 hm F.room)) ⟨preG.blind, hrc.cell F hS, fun U hU hW => preG.at F.kn hS hU hW⟩ rfl hn hl.1 hst (lv_room hsum) hd ⟨Nat.le_trans hr1 F.room.2.2.1, Nat.le_trans hr2 F.room.2.2.2⟩) kk
end CALLS
/-! ends and entry -/
abbrev EQ (G : GG) (X : CX) (mc ms : Nat) (Post : Option Value → AH → Prop) : State → Prop := MQ (xb X) (qcR G Post) (xa X) (xs X) mc ms (fr G)
section ENDS
variable {mc ms : Nat} {Post : Option Value → AH → Prop}
theorem V_iret {t0 : FieldType} (F : Fx G X cc nL own (some t0) d MC MS) {v : Int32} (hd : decode cc pc = .ok (.ireturn, 1)) (hn : narrow t0 (.int v) = .int v) (hk : kc ≤ mc) (hs : n ≤ ms) (hP : Post (some (.int v)) h) : VV G X nL (EQ G X mc ms Post) h kc n L [.int v] pc :=
  fun H locs ls hS hL hl => W.widen hk hs (W.zret (free := fr G) F.exec F.code F.hret hn (fun t ht hW => ⟨some (.int v), h, rfl, hP, by rw [ht]; exact hS⟩) hL hd F.locks)
theorem V_fret (F : Fx G X cc nL own (some .float) d MC MS) {v : UInt32} (hd : decode cc pc = .ok (.freturn, 1)) (hk : kc ≤ mc) (hs : n ≤ ms) (hP : Post (some (.float v)) h) : VV G X nL (EQ G X mc ms Post) h kc n L [.float v] pc :=
  fun H locs ls hS hL hl => W.widen hk hs (W.fret (free := fr G) F.exec F.code F.hret (fun t ht hW => ⟨some (.float v), h, rfl, hP, by rw [ht]; exact hS⟩) hL hd F.locks)
theorem V_dret (F : Fx G X cc nL own (some .double) d MC MS) {v : UInt64} (hd : decode cc pc = .ok (.dreturn, 1)) (hk : kc ≤ mc) (hs : n ≤ ms) (hP : Post (some (.double v)) h) : VV G X nL (EQ G X mc ms Post) h kc n L [.double v] pc :=
  fun H locs ls hS hL hl => W.widen hk hs (W.dret (free := fr G) F.exec F.code F.hret (fun t ht hW => ⟨some (.double v), h, rfl, hP, by rw [ht]; exact hS⟩) hL hd F.locks)
theorem V_vret (F : Fx G X cc nL own none d MC MS) (hd : decode cc pc = .ok (.return_, 1)) (hk : kc ≤ mc) (hs : n ≤ ms) (hP : Post none h) : VV G X nL (EQ G X mc ms Post) h kc n L [] pc :=
  fun H locs ls hS hL hl => W.widen hk hs (W.vret (free := fr G) F.exec F.code F.hret (fun t ht hW => ⟨none, h, rfl, hP, by rw [ht]; exact hS⟩) hL hd F.locks)
theorem V_aret {rt : FieldType} (F : Fx G X cc nL own (some rt) d MC MS) {v : Value} (hd : decode cc pc = .ok (.areturn, 1)) (hrt : (∃ n, rt = .object n) ∨ ∃ t, rt = .array t) (hv : v = .null ∨ ∃ a, v = .ref a) (hk : kc ≤ mc) (hs : n ≤ ms) (hP : Post (some v) h) : VV G X nL (EQ G X mc ms Post) h kc n L [v] pc :=
  fun H locs ls hS hL hl => W.widen hk hs (W.aret (free := fr G) F.exec F.code F.hret hrt hv (fun t ht hW => ⟨some v, h, rfl, hP, by rw [ht]; exact hS⟩) hL hd F.locks)
end ENDS
end VROWS
/-- the locals at the entry -/
def lvA (vs : List Value) (n : Nat) : LV := vs.map some ++ List.replicate (n - vs.length) none
theorem lv_args1 : ∀ (vs : List Value) (i : Nat), (∀ v ∈ vs, v.category = 1) → ∀ (j : Nat) (v : Value), vs[j]? = some v → (i + j, v) ∈ lv_args i vs
  | [], _, _, j, v, h => by cases h
  | w :: ws, i, hc, 0, v, h => by
    cases h
    exact List.mem_cons_self
  | w :: ws, i, hc, j + 1, v, h => by
    have h1 := lv_args1 ws (i + 1) (fun x hx => hc x (List.mem_cons_of_mem _ hx)) j v h
    have h2 : ¬ w.category = 2 := by rw [hc w List.mem_cons_self]; decide
    show (i + (j + 1), v) ∈ (i, w) :: lv_args (if w.category = 2 then i + 2 else i + 1) ws
    rw [if_neg h2]
    rw [show i + (j + 1) = i + 1 + j by omega]
    exact List.mem_cons_of_mem _ h1
theorem lvH.entry {vs : List Value} {n : Nat} (h : (lg_sl vs).length ≤ n) (hc : ∀ v ∈ vs, v.category = 1) : lvH ((lg_sl vs ++ List.replicate (n - (lg_sl vs).length) Slot.unset).toArray) n (lvA vs n) := by
  have h1 := lv_entry vs h
  refine ⟨h1.1, h1.2.1, fun i v hi => ?_⟩
  unfold lvA at hi
  by_cases hl : i < vs.length
  · rw [List.getElem?_append_left (by simpa using hl), List.getElem?_map] at hi
    cases hv : vs[i]? with
    | none => rw [hv] at hi; cases hi
    | some w =>
      rw [hv] at hi
      cases hi
      have h2 := h1.2.2 _ (lv_args1 vs 0 hc i v hv)
      rw [Nat.zero_add] at h2
      exact ⟨h2, hc v (List.mem_of_getElem? hv)⟩
  · rw [List.getElem?_append_right (by simpa using Nat.not_lt.mp hl)] at hi
    have h3 := List.mem_of_getElem? hi
    have h4 := (List.mem_replicate.mp h3).2
    cases h4
/-- a contract out of a walk from the entry -/
theorem Ct.of {G : GG} {l : Launch} {y : MethodName} {cc : ByteArray} {mL : Nat} {ret : Option FieldType} {d mc ms : Nat} {av : List Value} {h : AH} {Post : Option Value → AH → Prop} (hy : plainName y.cls = true) (hlen : (lg_sl av).length ≤ mL) (hcat : ∀ v ∈ av, v.category = 1)
    (body : ∀ X : CX, xl X = l → Fx G X cc mL y.cls ret d mc ms → (xt X).name = y.name → VV G X mL (EQ G X mc ms Post) h 0 0 (lvA av mL) [] 0) : Ct G l y cc mL ret d mc ms av h Post := by
  refine Met.ofW (cc := cc) (maxL := mL) (ret := ret) hy rfl ?_
  intro p e s m args below meth c s₁ B hml hv
  obtain ⟨rfl, hKn, hSim⟩ := hv
  have hts := atoms_spec (ws := ws_ y cc mL ret) B.pre
  have hts : ∀ w ∈ lw_all, w.before _ s = true := fun w h => hts w (List.mem_cons_of_mem _ h)
  have hown : s.vm.findClass y.cls = some m.cls := findClass_of_methodNamed B.named
  have hin : meth.name = y.name := (name_of_methodNamed B.named B.method).1
  have F : Fx G (p, l, e, (headSpec (ws_ y cc mL ret) (rmD d mc ms)).room, s, m, av.toArray, below, meth, c) cc mL y.cls ret d mc ms :=
    ⟨B.exec, B.bytes, hml, hown, hts, B.returns, B.notSynchronized, hKn, Nat.le_refl _, Nat.le_refl _, Nat.le_refl _, Nat.le_refl _⟩
  rw [lg_entry_eq]
  exact body (p, l, e, (headSpec (ws_ y cc mL ret) (rmD d mc ms)).room, s, m, av.toArray, below, meth, c) rfl F hin s.heap [] _ hSim (fun q h => by cases h) (lvH.entry hlen hcat)

