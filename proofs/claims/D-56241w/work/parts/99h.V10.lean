set_option maxRecDepth 100000
section VXM
variable {p : Program} {l : Launch} {e : Env} {R : Room} {s : State} {m : MethodId} {args : Array Value} {below : List Frame} {meth : Method} {c : Code} {H : Heap} {locs : List Loc} {cells slots : Nat} {Q : State → Prop}
variable {ls : Array Slot} {rest : List Value}
theorem vx_make0H {cc : ByteArray} {pc : Nat} (hexec : p.tables.exec = Jvm.exec) (hb : c.code = cc) (hl : l.stackTraces = false) {own cls : String} {names : List String} {ik ic : Nat} {A : Nat → Prop}
    (hown : s.vm.findClass own = some m.cls) (hcls : Bundle.fit cls = true) (hnames : ∀ n ∈ names, Bundle.fit n = true)
    (hk : (Cond.classLink own ik cls).before args s = true) (hini : (Cond.initialized cls).before args s = true) (hat : ∀ w ∈ vx_at0 own ic cls names, w.before args s = true)
    (hgood : ∀ w ∈ Cond.classLink own ik cls :: Cond.initialized cls :: vx_at0 own ic cls names, vx_ot w = true)
    (hU : vx_Zq Bundle.tN "UNASSIGNED_STACK" Bundle.steD A s H) (hN : vx_Zq Bundle.tN "SUPPRESSED_SENTINEL" Bundle.listD A s H) (hsize : ls.size = c.maxLocals)
    (d0 : decode cc pc = .ok (.new ik, 3)) (d3 : decode cc (pc + 3) = .ok (.dup, 1)) (d4 : decode cc (pc + 4) = .ok (.invokespecial ic, 3))
    (hRframes : names.length + 3 < R.frames) (hRlocals : (rest.map fun v => v.category).sum + (13 * (names.length + 1) + 42) ≤ R.locals) (hRcells : cells + 1 ≤ R.cells) (hRslots : slots + 6 ≤ R.slots)
    (kk : ∀ (H1 : Heap) (ce : Cell), H1[H.size]? = some ce → s.vm.findClass cls = some ce.cls → ce.vm = .none → H.size ≤ H1.size → (∀ q : Nat, q < H.size → H1[q]? = H[q]?) → W p l e R s m args below meth c H1 locs (cells + 1) (slots + 6) Q (F0 m (pc + 7) ls (.ref H.size :: rest))) :
    W p l e R s m args below meth c H locs cells slots Q (F0 m pc ls rest) := by
  intro T hT X
  subst hT
  have htr : e.platform.stackTraces = false := (show e.platform.stackTraces = l.stackTraces by rw [X.admits.platform]).trans hl
  have Y := vx_rebase X (R' := { frames := R.frames, locals := R.locals, cells := 1, slots := 6 }) (Nat.le_refl _) (Nat.le_refl _) hRcells hRslots
  obtain ⟨s', hA'⟩ : ∃ z, z = (T.setVm s.vm).setFrames (.invoking m args :: below) := ⟨_, rfl⟩
  rw [← hA'] at Y
  have hvm : s'.vm = s.vm := by rw [hA']; rfl
  have hhp : s'.heap = T.heap := by rw [hA']; rfl
  have hW0 : s.WarmedH s'.vm := by rw [hvm]; exact State.WarmedH.refl s
  have hat' : ∀ w ∈ vx_at0 own ic cls names, w.before args s' = true := fun w hw => vx_ot_at hW0 hvm.symm (hgood w (List.mem_cons_of_mem _ (List.mem_cons_of_mem _ hw))) (hat w hw)
  have hk' : (Cond.classLink own ik cls).before args s' = true := vx_ot_at hW0 hvm.symm (hgood _ List.mem_cons_self) hk
  have hini' : (Cond.initialized cls).before args s' = true := vx_ot_at hW0 hvm.symm (hgood _ (List.mem_cons_of_mem _ List.mem_cons_self)) hini
  have hU' : vx_Zq Bundle.tN "UNASSIGNED_STACK" Bundle.steD A s' s'.heap := by rw [hhp]; exact vx_Zq.moved hW0.alike hU
  have hN' : vx_Zq Bundle.tN "SUPPRESSED_SENTINEL" Bundle.listD A s' s'.heap := by rw [hhp]; exact vx_Zq.moved hW0.alike hN
  have h : ∀ w ∈ Bundle.ownAtoms0 own ic cls names, w.before args s' = true := vx_own hat' (vx_isRefq hU'.1) (vx_isRefq hN'.1) hU'.2.word hN'.2.word
  have hown' : s'.vm.findClass own = some m.cls := by rw [hvm]; exact hown
  have hins : (Cond.instantiable cls 6).before args s' = true := h _ (by simp [Bundle.ownAtoms0])
  obtain ⟨vm₁, cX, kX, hfX, hkX, -, -, X₁, st1⟩ := Y.newCold hexec (own := own) (C := cls) (index := ik) (n := 6) hown' hk' hins hini'
    (g := F0 m pc ls rest) rfl (by rw [hb]; exact d0) (Nat.le_refl _) (Nat.le_refl _)
  generalize hT1 : (T.setVm vm₁).pushCell { cls := cX, slots := kX.instanceTypes.map defaultValue, vm := .none } = T1 at X₁ st1
  have hcat : (Value.ref T.heap.size).category = 1 := rfl
  have hcellA : T1.heap[T.heap.size]? = some (freshCell cX kX) := by rw [← hT1]; exact State.heap_pushCell_size _ _
  have d3' : decode c.code (pc + 3) = .ok (.dup, 1) := by rw [hb]; exact d3
  obtain ⟨V, ce, L, Z, hL, hlt, hcl9, hvm9, st⟩ := vx_ctorMade0 X₁ hexec htr (own := own) (cls := cls) (names := names) (ic := ic) hown' hcls hnames h (fun x hx => nomatch hx) hfX hkX hcellA (by rw [hhp]; exact Nat.le_refl _)
    (g := { method := m, pc := pc + 4, locals := ls, stack := .ref T.heap.size :: .ref T.heap.size :: rest, locked := none }) rfl hsize (rest := rest) rfl
    (by rw [hb]; exact d4) hRframes (by simp only [List.map_cons, List.sum_cons, hcat]; omega)
  have Z0 := Stand.forget (locs := []) Z (fun y hy => by rw [hL y hy, hhp]; exact Nat.le_refl _)
  obtain ⟨f1, f2⟩ := vx_frame Z0.same
  rw [hhp] at f1 f2
  have hcid : s.vm.findClass cls = some ce.cls := by
    rw [hcl9]
    rw [hvm] at hfX
    exact hfX
  have hh : (V.setCell T.heap.size ce).heap[T.heap.size]? = some ce := heapAt_setCell_self (s := V) ce hlt
  subst hA'
  have X5 := vx_back9 X Y Z0
  have X6 : Stand p l e R s m args below meth c (V.setCell T.heap.size ce) locs (cells + 1) (slots + 6) := { X5 with same := X5.same.mono (by omega) (by omega) }
  obtain ⟨t, a1, b1⟩ := kk (V.setCell T.heap.size ce).heap ce hh hcid hvm9 f1 (fun q h1 => f2 q h1 (fun z hz => nomatch hz)) _ rfl X6
  refine ⟨t, st1 _ ?_, b1⟩
  show Steps p.tables e below (T1.setTop { method := m, pc := pc + 3, locals := ls, stack := .ref T.heap.size :: rest, locked := none }) _
  jvm_step X₁.here [X₁.here.top, hexec, d3', Value.category]
  exact st _ a1
end VXM
/-- the words by which 'new E()' is made; all but its link -/
def E0w (E : String) : Prop := ∀ (own : String) (ic : Nat), ∀ w ∈ (Bundle.ownAtoms0 own ic E ["java/lang/RuntimeException", "java/lang/Exception"]).filter vx_no, (w = .methodLink own ic (Bundle.init0 E) ∧ vx_ot w = true) ∨ (w ∈ lw_all ∧ vx_ot w = true) ∨ (w ∈ lw_tbl ∧ nwK w = true ∧ w.onTables = true ∧ vx_ot w = true)
theorem thr_ot : ∀ w ∈ Bundle.throwableAtoms.filter vx_no, vx_ot w = true := by
  intro w hw
  obtain ⟨h1, h2⟩ := List.mem_filter.mp hw
  unfold Bundle.throwableAtoms at h1
  simp only [List.mem_cons, List.not_mem_nil, or_false] at h1
  rcases h1 with rfl | rfl | rfl | rfl | rfl | rfl | rfl | rfl | rfl | rfl | rfl | rfl | rfl | rfl | rfl | rfl | rfl | rfl | rfl | rfl | rfl | rfl | rfl | rfl <;> first | rfl | exact absurd h2 (by decide)
set_option maxHeartbeats 2000000 in
theorem e0_J16 : E0w RJ16 := by
  intro own ic w hw
  obtain ⟨h1, hn⟩ := List.mem_filter.mp hw
  unfold Bundle.ownAtoms0 at h1
  rcases List.mem_append.mp h1 with h1 | h1
  · rcases List.mem_append.mp h1 with h1 | h1
    · have hf := List.mem_filter.mpr ⟨h1, hn⟩
      exact Or.inr (Or.inl ⟨thr_in w hf, thr_ot w hf⟩)
    · unfold Bundle.chain0Atoms Bundle.chain0Atoms Bundle.chain0Atoms Bundle.passAtoms at h1
      simp only [List.cons_append, List.nil_append, List.mem_cons, List.not_mem_nil, or_false] at h1
      rcases h1 with rfl | rfl | rfl | rfl | rfl | rfl | rfl | rfl | rfl | rfl | rfl | rfl | rfl | rfl | rfl
      · exact Or.inr (Or.inl ⟨q2682, rfl⟩)
      · exact Or.inr (Or.inl ⟨q2683, rfl⟩)
      · exact Or.inr (Or.inl ⟨q2684, rfl⟩)
      · exact Or.inr (Or.inl ⟨q892, rfl⟩)
      · exact Or.inr (Or.inr ⟨q504, rfl, rfl, rfl⟩)
      · exact Or.inr (Or.inl ⟨q892, rfl⟩)
      · exact Or.inr (Or.inl ⟨q893, rfl⟩)
      · exact Or.inr (Or.inl ⟨q894, rfl⟩)
      · exact Or.inr (Or.inl ⟨q895, rfl⟩)
      · exact Or.inr (Or.inr ⟨q506, rfl, rfl, rfl⟩)
      · exact Or.inr (Or.inl ⟨q895, rfl⟩)
      · exact Or.inr (Or.inl ⟨q896, rfl⟩)
      · exact Or.inr (Or.inl ⟨q897, rfl⟩)
      · exact Or.inr (Or.inl ⟨q524, rfl⟩)
      · exact Or.inr (Or.inr ⟨q508, rfl, rfl, rfl⟩)
  · simp only [List.mem_cons, List.not_mem_nil, or_false] at h1
    rcases h1 with rfl | rfl | rfl | rfl | rfl | rfl | rfl | rfl | rfl | rfl | rfl | rfl | rfl | rfl
    · exact Or.inl ⟨rfl, rfl⟩
    · exact Or.inr (Or.inl ⟨q502, rfl⟩)
    · exact Or.inr (Or.inr ⟨q503, rfl, rfl, rfl⟩)
    · exact Or.inr (Or.inl ⟨q510, rfl⟩)
    · exact Or.inr (Or.inl ⟨q511, rfl⟩)
    · exact Or.inr (Or.inl ⟨q512, rfl⟩)
    · exact Or.inr (Or.inl ⟨q514, rfl⟩)
    · exact Or.inr (Or.inl ⟨q516, rfl⟩)
    · exact Or.inr (Or.inl ⟨q518, rfl⟩)
    · exact absurd hn (by decide)
    · exact absurd hn (by decide)
    · exact Or.inr (Or.inl ⟨q522, rfl⟩)
    · exact Or.inr (Or.inl ⟨q521, rfl⟩)
    · exact Or.inr (Or.inl ⟨q520, rfl⟩)
set_option maxHeartbeats 2000000 in
theorem e0_J23 : E0w RJ23 := by
  intro own ic w hw
  obtain ⟨h1, hn⟩ := List.mem_filter.mp hw
  unfold Bundle.ownAtoms0 at h1
  rcases List.mem_append.mp h1 with h1 | h1
  · rcases List.mem_append.mp h1 with h1 | h1
    · have hf := List.mem_filter.mpr ⟨h1, hn⟩
      exact Or.inr (Or.inl ⟨thr_in w hf, thr_ot w hf⟩)
    · unfold Bundle.chain0Atoms Bundle.chain0Atoms Bundle.chain0Atoms Bundle.passAtoms at h1
      simp only [List.cons_append, List.nil_append, List.mem_cons, List.not_mem_nil, or_false] at h1
      rcases h1 with rfl | rfl | rfl | rfl | rfl | rfl | rfl | rfl | rfl | rfl | rfl | rfl | rfl | rfl | rfl
      · exact Or.inr (Or.inl ⟨q1298, rfl⟩)
      · exact Or.inr (Or.inl ⟨q1299, rfl⟩)
      · exact Or.inr (Or.inl ⟨q1300, rfl⟩)
      · exact Or.inr (Or.inl ⟨q892, rfl⟩)
      · exact Or.inr (Or.inr ⟨q504, rfl, rfl, rfl⟩)
      · exact Or.inr (Or.inl ⟨q892, rfl⟩)
      · exact Or.inr (Or.inl ⟨q893, rfl⟩)
      · exact Or.inr (Or.inl ⟨q894, rfl⟩)
      · exact Or.inr (Or.inl ⟨q895, rfl⟩)
      · exact Or.inr (Or.inr ⟨q506, rfl, rfl, rfl⟩)
      · exact Or.inr (Or.inl ⟨q895, rfl⟩)
      · exact Or.inr (Or.inl ⟨q896, rfl⟩)
      · exact Or.inr (Or.inl ⟨q897, rfl⟩)
      · exact Or.inr (Or.inl ⟨q524, rfl⟩)
      · exact Or.inr (Or.inr ⟨q508, rfl, rfl, rfl⟩)
  · simp only [List.mem_cons, List.not_mem_nil, or_false] at h1
    rcases h1 with rfl | rfl | rfl | rfl | rfl | rfl | rfl | rfl | rfl | rfl | rfl | rfl | rfl | rfl
    · exact Or.inl ⟨rfl, rfl⟩
    · exact Or.inr (Or.inl ⟨q740, rfl⟩)
    · exact Or.inr (Or.inr ⟨q741, rfl, rfl, rfl⟩)
    · exact Or.inr (Or.inl ⟨q742, rfl⟩)
    · exact Or.inr (Or.inl ⟨q539, rfl⟩)
    · exact Or.inr (Or.inl ⟨q743, rfl⟩)
    · exact Or.inr (Or.inl ⟨q744, rfl⟩)
    · exact Or.inr (Or.inl ⟨q745, rfl⟩)
    · exact Or.inr (Or.inl ⟨q746, rfl⟩)
    · exact absurd hn (by decide)
    · exact absurd hn (by decide)
    · exact Or.inr (Or.inl ⟨q522, rfl⟩)
    · exact Or.inr (Or.inl ⟨q521, rfl⟩)
    · exact Or.inr (Or.inl ⟨q747, rfl⟩)
set_option maxHeartbeats 2000000 in
theorem e0_J36 : E0w RJ36 := by
  intro own ic w hw
  obtain ⟨h1, hn⟩ := List.mem_filter.mp hw
  unfold Bundle.ownAtoms0 at h1
  rcases List.mem_append.mp h1 with h1 | h1
  · rcases List.mem_append.mp h1 with h1 | h1
    · have hf := List.mem_filter.mpr ⟨h1, hn⟩
      exact Or.inr (Or.inl ⟨thr_in w hf, thr_ot w hf⟩)
    · unfold Bundle.chain0Atoms Bundle.chain0Atoms Bundle.chain0Atoms Bundle.passAtoms at h1
      simp only [List.cons_append, List.nil_append, List.mem_cons, List.not_mem_nil, or_false] at h1
      rcases h1 with rfl | rfl | rfl | rfl | rfl | rfl | rfl | rfl | rfl | rfl | rfl | rfl | rfl | rfl | rfl
      · exact Or.inr (Or.inl ⟨q889, rfl⟩)
      · exact Or.inr (Or.inl ⟨q890, rfl⟩)
      · exact Or.inr (Or.inl ⟨q891, rfl⟩)
      · exact Or.inr (Or.inl ⟨q892, rfl⟩)
      · exact Or.inr (Or.inr ⟨q504, rfl, rfl, rfl⟩)
      · exact Or.inr (Or.inl ⟨q892, rfl⟩)
      · exact Or.inr (Or.inl ⟨q893, rfl⟩)
      · exact Or.inr (Or.inl ⟨q894, rfl⟩)
      · exact Or.inr (Or.inl ⟨q895, rfl⟩)
      · exact Or.inr (Or.inr ⟨q506, rfl, rfl, rfl⟩)
      · exact Or.inr (Or.inl ⟨q895, rfl⟩)
      · exact Or.inr (Or.inl ⟨q896, rfl⟩)
      · exact Or.inr (Or.inl ⟨q897, rfl⟩)
      · exact Or.inr (Or.inl ⟨q524, rfl⟩)
      · exact Or.inr (Or.inr ⟨q508, rfl, rfl, rfl⟩)
  · simp only [List.mem_cons, List.not_mem_nil, or_false] at h1
    rcases h1 with rfl | rfl | rfl | rfl | rfl | rfl | rfl | rfl | rfl | rfl | rfl | rfl | rfl | rfl
    · exact Or.inl ⟨rfl, rfl⟩
    · exact Or.inr (Or.inl ⟨q880, rfl⟩)
    · exact Or.inr (Or.inr ⟨q881, rfl, rfl, rfl⟩)
    · exact Or.inr (Or.inl ⟨q882, rfl⟩)
    · exact Or.inr (Or.inl ⟨q543, rfl⟩)
    · exact Or.inr (Or.inl ⟨q883, rfl⟩)
    · exact Or.inr (Or.inl ⟨q884, rfl⟩)
    · exact Or.inr (Or.inl ⟨q885, rfl⟩)
    · exact Or.inr (Or.inl ⟨q886, rfl⟩)
    · exact absurd hn (by decide)
    · exact absurd hn (by decide)
    · exact Or.inr (Or.inl ⟨q522, rfl⟩)
    · exact Or.inr (Or.inl ⟨q521, rfl⟩)
    · exact Or.inr (Or.inl ⟨q887, rfl⟩)
set_option maxHeartbeats 2000000 in
theorem e0_J42 : E0w RJ42 := by
  intro own ic w hw
  obtain ⟨h1, hn⟩ := List.mem_filter.mp hw
  unfold Bundle.ownAtoms0 at h1
  rcases List.mem_append.mp h1 with h1 | h1
  · rcases List.mem_append.mp h1 with h1 | h1
    · have hf := List.mem_filter.mpr ⟨h1, hn⟩
      exact Or.inr (Or.inl ⟨thr_in w hf, thr_ot w hf⟩)
    · unfold Bundle.chain0Atoms Bundle.chain0Atoms Bundle.chain0Atoms Bundle.passAtoms at h1
      simp only [List.cons_append, List.nil_append, List.mem_cons, List.not_mem_nil, or_false] at h1
      rcases h1 with rfl | rfl | rfl | rfl | rfl | rfl | rfl | rfl | rfl | rfl | rfl | rfl | rfl | rfl | rfl
      · exact Or.inr (Or.inl ⟨q2666, rfl⟩)
      · exact Or.inr (Or.inl ⟨q2667, rfl⟩)
      · exact Or.inr (Or.inl ⟨q2668, rfl⟩)
      · exact Or.inr (Or.inl ⟨q892, rfl⟩)
      · exact Or.inr (Or.inr ⟨q504, rfl, rfl, rfl⟩)
      · exact Or.inr (Or.inl ⟨q892, rfl⟩)
      · exact Or.inr (Or.inl ⟨q893, rfl⟩)
      · exact Or.inr (Or.inl ⟨q894, rfl⟩)
      · exact Or.inr (Or.inl ⟨q895, rfl⟩)
      · exact Or.inr (Or.inr ⟨q506, rfl, rfl, rfl⟩)
      · exact Or.inr (Or.inl ⟨q895, rfl⟩)
      · exact Or.inr (Or.inl ⟨q896, rfl⟩)
      · exact Or.inr (Or.inl ⟨q897, rfl⟩)
      · exact Or.inr (Or.inl ⟨q524, rfl⟩)
      · exact Or.inr (Or.inr ⟨q508, rfl, rfl, rfl⟩)
  · simp only [List.mem_cons, List.not_mem_nil, or_false] at h1
    rcases h1 with rfl | rfl | rfl | rfl | rfl | rfl | rfl | rfl | rfl | rfl | rfl | rfl | rfl | rfl
    · exact Or.inl ⟨rfl, rfl⟩
    · exact Or.inr (Or.inl ⟨q2657, rfl⟩)
    · exact Or.inr (Or.inr ⟨q2658, rfl, rfl, rfl⟩)
    · exact Or.inr (Or.inl ⟨q2659, rfl⟩)
    · exact Or.inr (Or.inl ⟨q540, rfl⟩)
    · exact Or.inr (Or.inl ⟨q2660, rfl⟩)
    · exact Or.inr (Or.inl ⟨q2661, rfl⟩)
    · exact Or.inr (Or.inl ⟨q2662, rfl⟩)
    · exact Or.inr (Or.inl ⟨q2663, rfl⟩)
    · exact absurd hn (by decide)
    · exact absurd hn (by decide)
    · exact Or.inr (Or.inl ⟨q522, rfl⟩)
    · exact Or.inr (Or.inl ⟨q521, rfl⟩)
    · exact Or.inr (Or.inl ⟨q2664, rfl⟩)
set_option maxHeartbeats 2000000 in
theorem e0_J43 : E0w RJ43 := by
  intro own ic w hw
  obtain ⟨h1, hn⟩ := List.mem_filter.mp hw
  unfold Bundle.ownAtoms0 at h1
  rcases List.mem_append.mp h1 with h1 | h1
  · rcases List.mem_append.mp h1 with h1 | h1
    · have hf := List.mem_filter.mpr ⟨h1, hn⟩
      exact Or.inr (Or.inl ⟨thr_in w hf, thr_ot w hf⟩)
    · unfold Bundle.chain0Atoms Bundle.chain0Atoms Bundle.chain0Atoms Bundle.passAtoms at h1
      simp only [List.cons_append, List.nil_append, List.mem_cons, List.not_mem_nil, or_false] at h1
      rcases h1 with rfl | rfl | rfl | rfl | rfl | rfl | rfl | rfl | rfl | rfl | rfl | rfl | rfl | rfl | rfl
      · exact Or.inr (Or.inl ⟨q2701, rfl⟩)
      · exact Or.inr (Or.inl ⟨q2702, rfl⟩)
      · exact Or.inr (Or.inl ⟨q2703, rfl⟩)
      · exact Or.inr (Or.inl ⟨q892, rfl⟩)
      · exact Or.inr (Or.inr ⟨q504, rfl, rfl, rfl⟩)
      · exact Or.inr (Or.inl ⟨q892, rfl⟩)
      · exact Or.inr (Or.inl ⟨q893, rfl⟩)
      · exact Or.inr (Or.inl ⟨q894, rfl⟩)
      · exact Or.inr (Or.inl ⟨q895, rfl⟩)
      · exact Or.inr (Or.inr ⟨q506, rfl, rfl, rfl⟩)
      · exact Or.inr (Or.inl ⟨q895, rfl⟩)
      · exact Or.inr (Or.inl ⟨q896, rfl⟩)
      · exact Or.inr (Or.inl ⟨q897, rfl⟩)
      · exact Or.inr (Or.inl ⟨q524, rfl⟩)
      · exact Or.inr (Or.inr ⟨q508, rfl, rfl, rfl⟩)
  · simp only [List.mem_cons, List.not_mem_nil, or_false] at h1
    rcases h1 with rfl | rfl | rfl | rfl | rfl | rfl | rfl | rfl | rfl | rfl | rfl | rfl | rfl | rfl
    · exact Or.inl ⟨rfl, rfl⟩
    · exact Or.inr (Or.inl ⟨q2692, rfl⟩)
    · exact Or.inr (Or.inr ⟨q2693, rfl, rfl, rfl⟩)
    · exact Or.inr (Or.inl ⟨q2694, rfl⟩)
    · exact Or.inr (Or.inl ⟨q542, rfl⟩)
    · exact Or.inr (Or.inl ⟨q2695, rfl⟩)
    · exact Or.inr (Or.inl ⟨q2696, rfl⟩)
    · exact Or.inr (Or.inl ⟨q2697, rfl⟩)
    · exact Or.inr (Or.inl ⟨q2698, rfl⟩)
    · exact absurd hn (by decide)
    · exact absurd hn (by decide)
    · exact Or.inr (Or.inl ⟨q522, rfl⟩)
    · exact Or.inr (Or.inl ⟨q521, rfl⟩)
    · exact Or.inr (Or.inl ⟨q2699, rfl⟩)
set_option maxHeartbeats 2000000 in
theorem e0_J48 : E0w RJ48 := by
  intro own ic w hw
  obtain ⟨h1, hn⟩ := List.mem_filter.mp hw
  unfold Bundle.ownAtoms0 at h1
  rcases List.mem_append.mp h1 with h1 | h1
  · rcases List.mem_append.mp h1 with h1 | h1
    · have hf := List.mem_filter.mpr ⟨h1, hn⟩
      exact Or.inr (Or.inl ⟨thr_in w hf, thr_ot w hf⟩)
    · unfold Bundle.chain0Atoms Bundle.chain0Atoms Bundle.chain0Atoms Bundle.passAtoms at h1
      simp only [List.cons_append, List.nil_append, List.mem_cons, List.not_mem_nil, or_false] at h1
      rcases h1 with rfl | rfl | rfl | rfl | rfl | rfl | rfl | rfl | rfl | rfl | rfl | rfl | rfl | rfl | rfl
      · exact Or.inr (Or.inl ⟨q3242, rfl⟩)
      · exact Or.inr (Or.inl ⟨q3243, rfl⟩)
      · exact Or.inr (Or.inl ⟨q3244, rfl⟩)
      · exact Or.inr (Or.inl ⟨q892, rfl⟩)
      · exact Or.inr (Or.inr ⟨q504, rfl, rfl, rfl⟩)
      · exact Or.inr (Or.inl ⟨q892, rfl⟩)
      · exact Or.inr (Or.inl ⟨q893, rfl⟩)
      · exact Or.inr (Or.inl ⟨q894, rfl⟩)
      · exact Or.inr (Or.inl ⟨q895, rfl⟩)
      · exact Or.inr (Or.inr ⟨q506, rfl, rfl, rfl⟩)
      · exact Or.inr (Or.inl ⟨q895, rfl⟩)
      · exact Or.inr (Or.inl ⟨q896, rfl⟩)
      · exact Or.inr (Or.inl ⟨q897, rfl⟩)
      · exact Or.inr (Or.inl ⟨q524, rfl⟩)
      · exact Or.inr (Or.inr ⟨q508, rfl, rfl, rfl⟩)
  · simp only [List.mem_cons, List.not_mem_nil, or_false] at h1
    rcases h1 with rfl | rfl | rfl | rfl | rfl | rfl | rfl | rfl | rfl | rfl | rfl | rfl | rfl | rfl
    · exact Or.inl ⟨rfl, rfl⟩
    · exact Or.inr (Or.inl ⟨q3214, rfl⟩)
    · exact Or.inr (Or.inr ⟨q3225, rfl, rfl, rfl⟩)
    · exact Or.inr (Or.inl ⟨q3226, rfl⟩)
    · exact Or.inr (Or.inl ⟨q537, rfl⟩)
    · exact Or.inr (Or.inl ⟨q3220, rfl⟩)
    · exact Or.inr (Or.inl ⟨q3221, rfl⟩)
    · exact Or.inr (Or.inl ⟨q3223, rfl⟩)
    · exact Or.inr (Or.inl ⟨q3219, rfl⟩)
    · exact absurd hn (by decide)
    · exact absurd hn (by decide)
    · exact Or.inr (Or.inl ⟨q522, rfl⟩)
    · exact Or.inr (Or.inl ⟨q521, rfl⟩)
    · exact Or.inr (Or.inl ⟨q3218, rfl⟩)
section V10
variable {G : GG} {X : CX} {cc : ByteArray} {nL : Nat} {own : String} {ret : Option FieldType} {d MC MS : Nat} {Q : State → Prop} {h : AH} {kc n : Nat} {L : LV} {st : List Value} {pc : Nat}
theorem Sim.grow {H H1 : Heap} (hS : Sim G h H) (hz : H.size ≤ H1.size) (hq : ∀ q, q < H.size → H1[q]? = H[q]?) : Sim G h H1 :=
  ⟨fun b e hb => ⟨(hS.1 b e hb).1, (hS.1 b e hb).2.kept (hq b (hS.1 b e hb).2.lt)⟩, fun b hlt => by rw [hq b (Nat.lt_of_lt_of_le hlt hS.2.2)]; exact hS.2.1 b hlt, Nat.le_trans hS.2.2 hz⟩
/-- new E(): new; dup; invokespecial -/
theorem V_make0 {E : String} {ci ik ic : Nat} {T0 : u_T} (F : Fx G X cc nL own ret d MC MS) (hl0 : (xl X).stackTraces = false) (he : E0w E) (hft : Bundle.fit E = true) (hini : Cond.initialized E ∈ lw_all) (hci : CL[ci]? = some (E, T0, 0)) (hd0 : decode cc pc = .ok (.new ik, 3)) (hd3 : decode cc (pc + 3) = .ok (.dup, 1)) (hd4 : decode cc (pc + 4) = .ok (.invokespecial ic, 3))
    (hcl : Cond.classLink own ik E ∈ lw_all) (hlk : Cond.methodLink own ic (Bundle.init0 E) ∈ lw_all) (hd1 : 6 ≤ d) (hsum : (st.map fun v => v.category).sum ≤ 20) (hr1 : kc + 1 ≤ MC) (hr2 : n + 6 ≤ MS)
    (kk : ∀ q : Nat, h q = none → bz G ≤ q → VV G X nL Q (hset h q (.inr (ci, []))) (kc + 1) (n + 6) L (.ref q :: st) (pc + 7)) : VV G X nL Q h kc n L st pc := by
  intro H locs ls hS hL hl
  have hR := F.room
  have hkp : ∀ a : Nat, a < G.2.2.1.size → ¬ fr G a → H[a]? = G.2.2.1[a]? := fun a ha _ => hS.2.1 a ha
  refine vx_make0H (A := fr G) (names := ["java/lang/RuntimeException", "java/lang/Exception"]) F.exec F.code hl0 F.hown hft (by decide +kernel) (F.wd _ hcl) (F.wd _ hini) (fun w hw => ?_) (fun w hw => ?_) (F.kn.2.2.2.2.2.2.2.2.2.1.kept hkp) (F.kn.2.2.2.2.2.2.2.2.2.2.1.kept hkp) (by rw [F.maxL]; exact hl.1) hd0 hd3 hd4 (by show 2 + 3 < _; omega) (by show _ + (13 * (2 + 1) + 42) ≤ _; omega) (Nat.le_trans hr1 hR.2.2.1) (Nat.le_trans hr2 hR.2.2.2) (fun H1 ce e1 hfc hvm hz hq => ?_)
  · rcases he own ic w hw with ⟨rfl, -⟩ | ⟨h1, -⟩ | ⟨h1, h2, h3, -⟩
    · exact F.wd _ hlk
    · exact F.wd _ h1
    · exact va_Nw.use h3 (F.kn.2.1 _ h1 h2)
  · rcases List.mem_cons.mp hw with rfl | hw
    · rfl
    · rcases List.mem_cons.mp hw with rfl | hw
      · rfl
      · rcases he own ic w hw with ⟨-, h1⟩ | ⟨-, h1⟩ | ⟨-, -, -, h1⟩ <;> exact h1
  · refine kk H.size (hS.none (Nat.le_refl _)) hS.2.2 H1 locs ls ((hS.grow hz hq).tell hS.2.2 ⟨_, hci, ce, e1, Option.some.inj (hfc.symm.trans (F.kn.1.1 ci _ hci).2.1), hvm, fun k hk => absurd hk (Nat.not_lt_zero k)⟩) hL hl
/-- super.m(..) -/
def LkSU (own : String) (idx : Nat) (y : MethodName) (cc : ByteArray) (mL : Nat) (ret : Option FieldType) (nn : Nat) : Prop := GoodIn lw_all (va_wsSU own idx y (ws_ y cc mL ret)) ∧ (y.name ≠ "<init>" ∧ (parseMethodDescriptor y.desc).map (fun d => d.parameters.length) = some nn)
theorem lw_SU {own : String} {idx : Nat} {y : MethodName} {b : ByteArray} {L : Nat} {r : Option FieldType} (h1 : Cond.methodLink own idx y ∈ lw_all) (h0 : Cond.sameMethod y.cls y.cls y.name y.desc ∈ lw_all) (h2 : Cond.superclass own y.cls ∈ lw_all) (h3 : Cond.instanceMethod y ∈ lw_all) (h4 : Cond.initialized y.cls ∈ lw_all) (h5 : Cond.code y b L r ∈ lw_all) : GoodIn lw_all (va_wsSU own idx y (ws_ y b L r)) := by
  refine lw_app ?_ (lw_meth h5)
  intro w hw
  simp only [List.mem_cons, List.not_mem_nil, or_false] at hw
  rcases hw with e | e | e | e | e <;> rw [e] <;> assumption
theorem V_callSU {y : MethodName} {cc' : ByteArray} {mL' nn d' mc ms idx b : Nat} {ret' : Option FieldType} {As st0 : List Value} {C : String} {Post : Option Value → AH → Prop} (F : Fx G X cc nL own ret d MC MS) (hd : decode cc pc = .ok (.invokespecial idx, 3)) (lk : LkSU own idx y cc' mL' ret' nn) (hc : Ct G (xl X) y cc' mL' ret' d' mc ms (.ref b :: As) h Post) (hrc : isC G h b C) (hn : As.length = nn) (hst : st0 = As.reverse ++ .ref b :: st) (hsum : (st.map fun v => v.category).sum ≤ 8) (hd1 : d' + 1 ≤ d) (hm : mL' ≤ 45) (hr1 : kc + mc ≤ MC) (hr2 : n + ms ≤ MS)
    (kk : ∀ v h', Post v h' → VV G X nL Q h' (kc + mc) (n + ms) L (v.toList ++ st) (pc + 3)) : VV G X nL Q h kc n L st0 pc := by
  obtain ⟨ci, fs, T0, N0, hc1, hc2⟩ := id hrc
  exact V_run (len := 3) (fun H locs ls hS hl => va_runSU (rest := st) (F.kn.1.1 ci _ hc1).2 F.fix hc (va_cwSU nn F.wd lk.1 rfl rfl rfl lk.2 (roomR hd1 hm F.room)) ⟨preG.blind, hrc.cell F hS, fun U hU hW => preG.at F.kn hS hU hW⟩ rfl hn hl.1 hst (lv_room hsum) hd ⟨Nat.le_trans hr1 F.room.2.2.1, Nat.le_trans hr2 F.room.2.2.2⟩) kk
end V10

section VCB
variable {G : GG} {X : CX} {cc : ByteArray} {nL : Nat} {own : String} {ret : Option FieldType} {d MC MS : Nat} {Q : State → Prop} {h : AH} {kc n : Nat} {L : LV} {st : List Value} {pc : Nat}
theorem V_cloneB (F : Fx G X cc nL own ret d MC MS) {idx a N : Nat} {f : Nat → Int32} (hd : decode cc pc = .ok (.invokevirtual idx, 3)) (hlink : Cond.methodLink own idx ⟨"[B", "clone", "()Ljava/lang/Object;"⟩ ∈ lw_all) (he : h a = some (bA G N f) ∨ False) (hd1 : 1 ≤ d) (hsum : (st.map fun v => v.category).sum ≤ 20) (hft : ∀ i, i < N → fits .byte (.int (f i)) = true) (hr1 : kc + 1 ≤ MC) (hr2 : n + N ≤ MS)
    (kk : ∀ q : Nat, h q = none → bz G ≤ q → VV G X nL Q (hset h q (bA G N f)) (kc + 1) (n + N) L (.ref q :: st) (pc + 3)) : VV G X nL Q h kc n L (.ref a :: st) pc := by
  intro H locs ls hS hL hl T hT XX
  have hR := F.room
  have hc0 : H[a]? = some (vp_cell (G.2.1 5) (N, .inl f)) := (hS.1 a _ (he.elim id False.elim)).2
  obtain ⟨c0, t0', f1, f2, f3⟩ := Cond.castable_spec (va_Nw.use (A := xa X) rfl (F.kn.2.1 _ q595 rfl))
  have hnm : (xs X).vm.findClass "[B" = some (G.2.1 5) := (F.kn.1.2 5 _ rfl).2
  cases hnm.symm.trans f1
  have hcellT : T.heap[a]? = some (vp_cell (G.2.1 5) (N, .inl f)) := by rw [hT]; exact hc0
  obtain ⟨-, kA, hkA, comp, hkind⟩ := State.isArrayOf_alike XX.warmed.alike ((F.kn.1.2 5 _ rfl).1 0 (fun _ => .null))
  obtain ⟨-, kS, hkS, compS, hkindS⟩ := (F.kn.1.2 5 _ rfl).1 0 (fun _ => .null)
  have hsz : (vp_cell (G.2.1 5) (N, .inl f)).slots.size = N := arrV_size _ _ _
  obtain ⟨vm', X', st2⟩ := XX.cloneArray F.exec F.hown (F.wd _ hlink) (F.wd _ q591) (F.wd _ q592) (F.wd _ q593) (F.wd _ q594) (a := a) (cell := vp_cell (G.2.1 5) (N, .inl f)) hcellT (fun k h => by cases h) (fun h => by cases h) hnm f2 f3
    (fun i v hv => by
      have hk' : T.vm.classes[G.2.1 5]? = some kA := hkA
      have hi : i < N := by
        have := (Array.getElem?_eq_some_iff.mp hv).1
        rw [hsz] at this; exact this
      have e : (vp_cell (G.2.1 5) (N, .inl f)).slots[i]? = some (.int (f i)) := arrV_read _ _ hi
      rw [e] at hv
      cases hv
      show T.fitsSlot (G.2.1 5) .none i (.int (f i)) = true
      have h9 := hft i hi
      simp [State.fitsSlot, State.slotType?, hk', hkind]
      exact h9)
    (g := F0 (xm X) pc ls (.ref a :: st)) rfl (by rw [F.maxL]; exact hl.1) rfl (by rw [F.code]; exact hd) (Nat.le_trans hd1 hR.1) (by show 2 * 0 + _ + 14 ≤ _; omega) (Nat.le_trans hr1 hR.2.2.1) (by rw [hsz]; exact Nat.le_trans hr2 hR.2.2.2) (hloader := Vm.clonesLoader_of_array hkS hkindS)
  rw [hsz] at X'
  generalize hH1 : H.push (vp_cell (G.2.1 5) (N, .inl f)) = H1
  have z1 : H1.size = H.size + 1 := by rw [← hH1, Array.size_push]
  have e1 : H1[H.size]? = some (vp_cell (G.2.1 5) (N, .inl f)) := by rw [← hH1, Array.getElem?_push_size]
  have o1 : ∀ q : Nat, q < H.size → H1[q]? = H[q]? := fun q hq => by rw [← hH1, Array.getElem?_push, if_neg (Nat.ne_of_lt hq)]
  obtain ⟨t, b1, b2⟩ := kk H.size (hS.none (Nat.le_refl _)) hS.2.2 H1 locs ls (hS.push z1 o1 e1) hL hl _ (by rw [← hH1, ← hT]; rfl) X'
  refine ⟨t, ?_, b2⟩
  have := st2 t
  rw [hT] at this
  exact this b1
end VCB
