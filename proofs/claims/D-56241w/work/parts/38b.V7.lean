set_option maxRecDepth 100000
theorem VV.loc {G : GG} {X : CX} {nL : Nat} {Q : State → Prop} {h : AH} {kc n : Nat} {L L' : LV} {st : List Value} {pc : Nat} (he : L = L') (k : VV G X nL Q h kc n L' st pc) : VV G X nL Q h kc n L st pc := he ▸ k
theorem ne_iq {h : AH} {a b : Nat} {c c' : ClassId} {n n' : Nat} {f : Nat → Int32} {g : Nat → Option Nat} (h1 : h b = some (.inl (c, n, .inl f))) (h2 : h a = some (.inl (c', n', .inr (.inr (.inr (.inr g)))))) : b ≠ a := fun e => by rw [e, h2] at h1; cases h1
theorem ne_qi {h : AH} {a b : Nat} {c c' : ClassId} {n n' : Nat} {f : Nat → Int32} {g : Nat → Option Nat} (h1 : h b = some (.inl (c', n', .inr (.inr (.inr (.inr g)))))) (h2 : h a = some (.inl (c, n, .inl f))) : b ≠ a := fun e => by rw [e, h2] at h1; cases h1
theorem lw_F {own : String} {idx : Nat} {C : String} {x y : MethodName} {b : ByteArray} {L : Nat} {r : Option FieldType} (h1 : Cond.methodLink own idx x ∈ lw_all) (h2 : Cond.selects C x y ∈ lw_all) (h3 : Cond.instanceMethod y ∈ lw_all) (h4 : Cond.initialized y.cls ∈ lw_all) (h5 : Cond.code y b L r ∈ lw_all) : GoodIn lw_all (va_wsF own idx C x y (ws_ y b L r)) := by
  refine lw_app ?_ (lw_meth h5)
  intro w hw
  simp only [List.mem_cons, List.not_mem_nil, or_false] at hw
  rcases hw with e | e | e | e <;> rw [e] <;> assumption
theorem lw_U {own : String} {idx : Nat} {C o : String} {x y : MethodName} {b : ByteArray} {L : Nat} {r : Option FieldType} (h1 : Cond.methodLink own idx x ∈ lw_all) (h0 : Cond.sameMethod x.cls o x.name x.desc ∈ lw_all) (h2 : Cond.selects C x y ∈ lw_all) (h3 : Cond.instanceMethod y ∈ lw_all) (h4 : Cond.initialized y.cls ∈ lw_all) (h5 : Cond.code y b L r ∈ lw_all) : GoodIn lw_all (va_wsU own idx C o x y (ws_ y b L r)) := by
  refine lw_app ?_ (lw_meth h5)
  intro w hw
  simp only [List.mem_cons, List.not_mem_nil, or_false] at hw
  rcases hw with e | e | e | e | e <;> rw [e] <;> assumption
theorem rd.nen {G : GG} {h : AH} {a b : Nat} {e : va_E} (hr : rd G h b e) (ha : h a = none) : BC G b e ∨ b ≠ a := hr.elim (fun q => Or.inr (fun z => by rw [z, ha] at q; cases q)) Or.inl
theorem rd.put2 {G : GG} {h : AH} {a b : Nat} {e x : va_E} (ha : rd G h a e) (hb : BC G a e ∨ a ≠ b) : rd G (hset h b x) a e := hb.elim Or.inr (fun n => ha.put (fun _ => n))
theorem rd.f2 {G : GG} {M : Nat → Prop} {h h' : AH} {a : Nat} {e : va_E} (ha : rd G h a e) (hf : Fr M h h') (hM : BC G a e ∨ ¬ M a) (hn : nTM e = true) : rd G h' a e := hM.elim Or.inr (fun n => hf.rd ha (fun _ => n) hn)
section V7
variable {G : GG} {X : CX} {cc : ByteArray} {nL : Nat} {own : String} {ret : Option FieldType} {d MC MS : Nat} {Q : State → Prop} {h : AH} {kc n : Nat} {L : LV} {st : List Value} {pc : Nat}
/-! references that may be null -/
theorem V_aload_nQ (F : Fx G X cc nL own ret d MC MS) {j : Fin 4} {i : Nat} {o : Option Nat} (hd : decode cc pc = .ok (.aload_n j, 1)) (hi : (j : Nat) = i) (hv : L[i]? = some (some (va_rf o))) (k : VV G X nL Q h kc n L (va_rf o :: st) (pc + 1)) : VV G X nL Q h kc n L st pc := by
  cases o with
  | none => exact V_aload_nN F hd hi hv k
  | some x => exact V_aload_n F hd hi hv k
theorem V_aloadQ (F : Fx G X cc nL own ret d MC MS) {i : Nat} {o : Option Nat} (hd : decode cc pc = .ok (.aload i, 2)) (hv : L[i]? = some (some (va_rf o))) (k : VV G X nL Q h kc n L (va_rf o :: st) (pc + 2)) : VV G X nL Q h kc n L st pc := by
  cases o with
  | none => exact V_aloadN F hd hv k
  | some x => exact V_aload F hd hv k
theorem V_astore_nQ (F : Fx G X cc nL own ret d MC MS) {j : Fin 4} {i : Nat} {o : Option Nat} (hd : decode cc pc = .ok (.astore_n j, 1)) (hi : (j : Nat) = i) (hn : i < nL) (hLn : i < L.length) (k : VV G X nL Q h kc n (L.set i (some (va_rf o))) st (pc + 1)) : VV G X nL Q h kc n L (va_rf o :: st) pc := by
  cases o with
  | none => exact V_astore_nN F hd hi hn hLn k
  | some x => exact V_astore_n F hd hi hn hLn k
theorem V_astoreQ (F : Fx G X cc nL own ret d MC MS) {i : Nat} {o : Option Nat} (hd : decode cc pc = .ok (.astore i, 2)) (hn : i < nL) (hLn : i < L.length) (k : VV G X nL Q h kc n (L.set i (some (va_rf o))) st (pc + 2)) : VV G X nL Q h kc n L (va_rf o :: st) pc := by
  cases o with
  | none => exact V_astoreN F hd hn hLn k
  | some x => exact V_astore F hd hn hLn k
theorem V_ifnullQ (F : Fx G X cc nL own ret d MC MS) {o : Option Nat} {off : Int} {tgt : Nat} (hd : decode cc pc = .ok (.ifnull off, 3)) (ht : (pc : Int) + off = (tgt : Int)) (k1 : o = none → VV G X nL Q h kc n L st tgt) (k2 : ∀ a, o = some a → VV G X nL Q h kc n L st (pc + 3)) : VV G X nL Q h kc n L (va_rf o :: st) pc := by
  cases o with
  | none => exact V_ifnullN F hd ht (k1 rfl)
  | some x => exact V_ifnull F hd (k2 x rfl)
theorem V_ifnonnullQ (F : Fx G X cc nL own ret d MC MS) {o : Option Nat} {off : Int} {tgt : Nat} (hd : decode cc pc = .ok (.ifnonnull off, 3)) (ht : (pc : Int) + off = (tgt : Int)) (k1 : ∀ a, o = some a → VV G X nL Q h kc n L st tgt) (k2 : o = none → VV G X nL Q h kc n L st (pc + 3)) : VV G X nL Q h kc n L (va_rf o :: st) pc := by
  cases o with
  | none => exact V_ifnonnullN F hd (k2 rfl)
  | some x => exact V_ifnonnull F hd ht (k1 x rfl)
/-! class objects -/
theorem V_ldcM (F : Fx G X cc nL own ret d MC MS) {idx mi : Nat} {C : String} (hd : decode cc pc = .ok (.ldc idx, 2)) (hlink : Cond.classLink own idx C ∈ lw_all) (hm : (C, mi) ∈ miL G) (k : VV G X nL Q h kc n L (.ref mi :: st) (pc + 2)) : VV G X nL Q h kc n L st pc :=
  fun H locs ls hS hL hl => va_ldcM F.exec F.code F.hown (F.wd _ hlink) (F.kn.2.2.2.2.2.2.2.1 _ hm) hd (k H locs ls hS hL hl)
theorem V_getCq (F : Fx G X cc nL own ret d MC MS) {idx a N : Nat} {f : Nat → Option Nat} (hd : decode cc pc = .ok (.invokevirtual idx, 3)) (hlink : Cond.methodLink own idx ⟨"java/lang/Object", "getClass", "()Ljava/lang/Class;"⟩ ∈ lw_all) (he : rd G h a (qA G N f)) (hd1 : 1 ≤ d) (hsum : (st.map fun v => v.category).sum ≤ 20) (k : VV G X nL Q h kc n L (.ref (ad G 10) :: st) (pc + 3)) : VV G X nL Q h kc n L (.ref a :: st) pc := by
  intro H locs ls hS hL hl
  have hR := F.room
  obtain ⟨kA0, comp0, g1, g2, g3, g4⟩ := (F.kn.1.2 6 _ rfl).2
  obtain ⟨cell, c1, c2, c3, c4, c5, c6, c7⟩ := hS.rd he
  exact va_getC F.exec F.code (by rw [F.maxL]; exact hl.1.symm) F.hown (F.wd _ hlink) (va_Nw.use rfl (F.kn.2.1 _ q3038 rfl)) (F.wd _ q4287) (F.wd _ q987) (F.wd _ q1036) (F.kn.2.2.2.2.2.2.2.1 ("[Ljava/lang/Object;", ad G 10) (List.mem_of_getElem? (i := 0) rfl)) ⟨_, c1, nst c3, by rw [c2]; exact g4⟩ (Nat.le_trans hd1 hR.1) (by omega) hd (k H locs ls hS hL hl)
section CLC
variable {p : Program} {l : Launch} {e : Env} {R : Room} {s : State} {m : MethodId} {args : Array Value} {below : List Frame} {meth : Method} {c : Code} {H : Heap} {locs : List Loc} {cells slots : Nat} {Q : State → Prop} {cc : ByteArray} {pc : Nat} {ls : Array Slot} {rest : List Value} {a : Nat}
theorem cl_castA (hexec : p.tables.exec = Jvm.exec) (hb : c.code = cc) {own nm : String} {index : Nat} (hown : s.vm.findClass own = some m.cls) (hlink : (Cond.classLink own index nm).before args s = true) {cell : Cell} (ha : H[a]? = some cell) (hw : cell.vm.isStatics = false) (hnm : s.vm.findClass nm = some cell.cls) (hdg : decode cc pc = .ok (.checkcast index, 3))
    (k : W p l e R s m args below meth c H locs cells slots Q (F0 m (pc + 3) ls (.ref a :: rest))) : W p l e R s m args below meth c H locs cells slots Q (F0 m pc ls (.ref a :: rest)) := by
  intro T hT X
  obtain ⟨vm', X', st⟩ := X.checkcastYes hexec hown hlink (by rw [hT]; exact ha) hw hnm (va_asg _ _) (g := F0 m pc ls (.ref a :: rest)) rfl rfl (by rw [hb]; exact hdg)
  obtain ⟨t, a1, b1⟩ := k (T.setVm vm') hT X'
  exact ⟨t, st t a1, b1⟩
end CLC
/-! copies of arrays -/
theorem cpn {z : Nat} (hz : z < 2 ^ 31) : (nI z).toInt = (z : Int) := nI_toInt hz
theorem V_copyi (F : Fx G X cc nL own ret d MC MS) (t : Nat) {ty : FieldType} {cA : ClassId} {idx a0 a n0 n1 sp dp z : Nat} {f g : Nat → Int32} (hd : decode cc pc = .ok (.invokestatic idx, 3)) (hlink : Cond.methodLink own idx arraycopyName ∈ lw_all) (ht : (TY G)[t]? = some (cA, ty)) (hprim : refKind ty = false) (he0 : rd G h a0 (.inl (cA, n0, .inl f))) (he1 : h a = some (.inl (cA, n1, .inl g))) (h4 : sp + z ≤ n0) (h5 : dp + z ≤ n1) (hn0 : n0 < 2 ^ 31) (hn1 : n1 < 2 ^ 31) (hfit : ∀ i, i < z → fits ty (.int (f (sp + i))) = true) (hd1 : 1 ≤ d) (hsum : (st.map fun v => v.category).sum ≤ 20)
    (kk : VV G X nL Q (hset h a (.inl (cA, n1, .inl (va_cpy f g sp dp z)))) kc n L st (pc + 3)) : VV G X nL Q h kc n L (.int (nI z) :: .int (nI dp) :: .ref a :: .int (nI sp) :: .ref a0 :: st) pc := by
  intro H locs ls hS hL hl T hT XX
  have hR := F.room
  obtain ⟨hb0, hc1⟩ := hS.1 a _ he1
  have hc1 : H[a]? = some (vp_cell cA (n1, .inl g)) := hc1
  obtain ⟨cell, hc0, c2, c3, c4, c5, c6, c7⟩ := hS.rd he0
  have c5 : n0 ≤ cell.slots.size := c5
  have hcX : ∀ j, j < n0 → cell.slots[j]? = some (.int (f j)) := fun j hj => (c7 j hj).trans (arrV_read cA (fun j => .int (f j)) hj)
  obtain ⟨-, k0, hk0, cm0, hkk0⟩ := (F.kn.1.2 t _ ht).1 n0 (fun j => .int (f j))
  obtain ⟨-, k1, hk1, cm1, hkk1⟩ := (F.kn.1.2 t _ ht).1 n1 (fun j => .int (g j))
  have hz : z < 2 ^ 31 := by omega
  have esp : (nI sp).toNatClampNeg = sp := nI_clamp (by omega)
  have edp : (nI dp).toNatClampNeg = dp := nI_clamp (by omega)
  have ez : (nI z).toNatClampNeg = z := nI_clamp hz
  obtain ⟨vm', X', step⟩ := XX.arraycopy F.exec F.hown (F.wd _ hlink) (F.wd _ q602) (F.wd _ q601) (F.wd _ q125) (src := a0) (dst := a) (cs := cell) (cd := vp_cell cA (n1, .inl g)) (srcPos := nI sp) (destPos := nI dp) (n := nI z) (by rw [hT]; exact hc0) (by rw [hT]; exact hc1)
    c3 (fun _ h => by cases h) c4 (fun h => by cases h) (by rw [c2]; exact hk0) hk1 hkk0 hkk1 (by simp [hprim]) (nI_pos (by omega)) (nI_pos (by omega)) (nI_pos hz)
    (by rw [cpn (by omega : sp < 2 ^ 31), cpn hz]; omega)
    (by rw [cpn (by omega : dp < 2 ^ 31), cpn hz]; show ¬ _ > ((arrV cA n1 (fun j => .int (g j))).slots.size : Int); rw [arrV_size]; omega)
    (fun vm₁ _ i hi => by
      rw [ez] at hi
      rw [esp]
      have e : cell.slots.getD (sp + i) .null = .int (f (sp + i)) := by
        rw [Array.getD_eq_getD_getElem?, hcX _ (by omega)]
        rfl
      refine ⟨?_, ?_⟩
      · rw [e]
        exact hfit i hi
      · rw [e]
        exact trivial)
    (g := F0 (xm X) pc ls (.int (nI z) :: .int (nI dp) :: .ref a :: .int (nI sp) :: .ref a0 :: st)) rfl (by rw [F.maxL]; exact hl.1) (rest := st) rfl (by rw [F.code]; exact hd) (Nat.le_trans hd1 hR.1) (by show 2 * 0 + _ + _ ≤ _; have hw : nativeFrameWords "java/lang/System" "arraycopy" 5 ≤ 12 := (by decide); omega)
  have e1 : copied cell (vp_cell cA (n1, .inl g)) (nI sp) (nI dp) (nI z) = vp_cell cA (n1, .inl (va_cpy f g sp dp z)) := by
    have := va_copiedX (fun z => .int z) cell cA f g (n0 := n0) (n1 := n1) (sp := sp) (dp := dp) (n := z) hcX h4
    show (arrV cA n1 (fun j => .int (g j))).storeRun (nI dp).toNatClampNeg (cell.stretch (nI sp).toNatClampNeg (nI z).toNatClampNeg) = _
    rw [esp, edp, ez]
    exact this
  rw [e1] at X' step
  have hlt : a < H.size := (Array.getElem?_eq_some_iff.mp hc1).1
  have oq : ∀ q : Nat, q ≠ a → (H.setIfInBounds a (vp_cell cA (n1, .inl (va_cpy f g sp dp z))))[q]? = H[q]? := fun q hq => by simp [Array.getElem?_setIfInBounds, Ne.symm hq]
  have hheap : ((T.setVm vm').setCell a (vp_cell cA (n1, .inl (va_cpy f g sp dp z)))).heap = H.setIfInBounds a (vp_cell cA (n1, .inl (va_cpy f g sp dp z))) := by rw [← hT]; rfl
  obtain ⟨t2, a1, b1⟩ := kk (H.setIfInBounds a (vp_cell cA (n1, .inl (va_cpy f g sp dp z)))) _ ls (hS.put he1 (by simp) oq (show (H.setIfInBounds a _)[a]? = some _ by simp [Array.getElem?_setIfInBounds, hlt])) (fun q hq => by
      rcases List.mem_append.mp hq with h | h
      · exact hL q h
      · obtain ⟨w2, -, hw2⟩ := List.mem_map.mp h
        rw [← hw2]
        exact hb0) hl _ hheap X'
  exact ⟨t2, step t2 a1, b1⟩
theorem V_copyq (F : Fx G X cc nL own ret d MC MS) {idx a0 a n0 n1 sp dp z : Nat} {f g : Nat → Option Nat} (hd : decode cc pc = .ok (.invokestatic idx, 3)) (hlink : Cond.methodLink own idx arraycopyName ∈ lw_all) (he0 : rd G h a0 (qA G n0 f)) (he1 : h a = some (qA G n1 g)) (h4 : sp + z ≤ n0) (h5 : dp + z ≤ n1) (hn0 : n0 < 2 ^ 31) (hn1 : n1 < 2 ^ 31) (hel : ∀ i, i < z → ∀ y, f (sp + i) = some y → isO G h y) (hd1 : 1 ≤ d) (hsum : (st.map fun v => v.category).sum ≤ 20)
    (kk : VV G X nL Q (hset h a (qA G n1 (va_cpy f g sp dp z))) kc n L st (pc + 3)) : VV G X nL Q h kc n L (.int (nI z) :: .int (nI dp) :: .ref a :: .int (nI sp) :: .ref a0 :: st) pc := by
  intro H locs ls hS hL hl T hT XX
  have hR := F.room
  obtain ⟨hb0, hc1⟩ := hS.1 a _ he1
  have hc1 : H[a]? = some (vp_cell (G.2.1 6) (n1, .inr (.inr (.inr (.inr g))))) := hc1
  obtain ⟨cell, hc0, c2, c3, c4, c5, c6, c7⟩ := hS.rd he0
  have c5 : n0 ≤ cell.slots.size := c5
  have hcX : ∀ j, j < n0 → cell.slots[j]? = some (va_rf (f j)) := fun j hj => (c7 j hj).trans (arrV_read (G.2.1 6) (fun j => va_rf (f j)) hj)
  obtain ⟨-, k0, hk0, cm0, hkk0⟩ := (F.kn.1.2 6 _ rfl).1 n0 (fun j => va_rf (f j))
  obtain ⟨-, k1, hk1, cm1, hkk1⟩ := (F.kn.1.2 6 _ rfl).1 n1 (fun j => va_rf (g j))
  have hz : z < 2 ^ 31 := by omega
  have esp : (nI sp).toNatClampNeg = sp := nI_clamp (by omega)
  have edp : (nI dp).toNatClampNeg = dp := nI_clamp (by omega)
  have ez : (nI z).toNatClampNeg = z := nI_clamp hz
  obtain ⟨vm', X', step⟩ := XX.arraycopy F.exec F.hown (F.wd _ hlink) (F.wd _ q602) (F.wd _ q601) (F.wd _ q125) (src := a0) (dst := a) (cs := cell) (cd := vp_cell (G.2.1 6) (n1, .inr (.inr (.inr (.inr g))))) (srcPos := nI sp) (destPos := nI dp) (n := nI z) (by rw [hT]; exact hc0) (by rw [hT]; exact hc1)
    c3 (fun _ h => by cases h) c4 (fun h => by cases h) (by rw [c2]; exact hk0) hk1 hkk0 hkk1 rfl (nI_pos (by omega)) (nI_pos (by omega)) (nI_pos hz)
    (by rw [cpn (by omega : sp < 2 ^ 31), cpn hz]; omega)
    (by rw [cpn (by omega : dp < 2 ^ 31), cpn hz]; show ¬ _ > ((arrV (G.2.1 6) n1 (fun j => va_rf (g j))).slots.size : Int); rw [arrV_size]; omega)
    (fun vm₁ hal i hi => by
      rw [ez] at hi
      rw [esp]
      have e : cell.slots.getD (sp + i) .null = va_rf (f (sp + i)) := by
        rw [Array.getD_eq_getD_getElem?, hcX _ (by omega)]
        rfl
      rw [e]
      cases hy : f (sp + i) with
      | none => exact ⟨rfl, trivial⟩
      | some y =>
        obtain ⟨C, hC, hca⟩ := hel i hi y hy
        obtain ⟨cellV, g1, g2, g3⟩ := hC.cell F hS
        obtain ⟨kA, comp, r1, r2, r3, -⟩ := (F.kn.1.2 6 _ rfl).2
        obtain ⟨x0, t1, f1, f2, f3⟩ := Cond.castable_spec (va_Nw.use (A := xa X) rfl (F.kn.2.1 _ hca rfl))
        cases hk1.symm.trans r1
        cases hkk1.symm.trans r2
        cases f1.symm.trans g3
        cases f2.symm.trans r3
        obtain ⟨kC, hkC, -⟩ := Vm.findClass_spec g3
        obtain ⟨kE, hkE, -⟩ := Vm.findClass_spec r3
        obtain ⟨kC', hkC', -⟩ := hal.2.2 _ _ hkC
        obtain ⟨kE', hkE', -⟩ := hal.2.2 _ _ hkE
        refine ⟨rfl, cellV, (show T.heap[y]? = some cellV by rw [hT]; exact g1), (fun q h => by rw [h] at g2; cases g2), ⟨kC', hkC'⟩, ?_, ?_⟩
        · exact ⟨kE', hkE'⟩
        · show vm₁.assignable _ _ = true
          rw [hal.assignable]
          exact f3)
    (g := F0 (xm X) pc ls (.int (nI z) :: .int (nI dp) :: .ref a :: .int (nI sp) :: .ref a0 :: st)) rfl (by rw [F.maxL]; exact hl.1) (rest := st) rfl (by rw [F.code]; exact hd) (Nat.le_trans hd1 hR.1) (by show 2 * 0 + _ + _ ≤ _; have hw : nativeFrameWords "java/lang/System" "arraycopy" 5 ≤ 12 := (by decide); omega)
  have e1 : copied cell (vp_cell (G.2.1 6) (n1, .inr (.inr (.inr (.inr g))))) (nI sp) (nI dp) (nI z) = vp_cell (G.2.1 6) (n1, .inr (.inr (.inr (.inr (va_cpy f g sp dp z))))) := by
    have := va_copiedX (fun z => va_rf z) cell (G.2.1 6) f g (n0 := n0) (n1 := n1) (sp := sp) (dp := dp) (n := z) hcX h4
    show (arrV (G.2.1 6) n1 (fun j => va_rf (g j))).storeRun (nI dp).toNatClampNeg (cell.stretch (nI sp).toNatClampNeg (nI z).toNatClampNeg) = _
    rw [esp, edp, ez]
    exact this
  rw [e1] at X' step
  have hlt : a < H.size := (Array.getElem?_eq_some_iff.mp hc1).1
  have oq : ∀ q : Nat, q ≠ a → (H.setIfInBounds a (vp_cell (G.2.1 6) (n1, .inr (.inr (.inr (.inr (va_cpy f g sp dp z)))))))[q]? = H[q]? := fun q hq => by simp [Array.getElem?_setIfInBounds, Ne.symm hq]
  have hheap : ((T.setVm vm').setCell a (vp_cell (G.2.1 6) (n1, .inr (.inr (.inr (.inr (va_cpy f g sp dp z))))))).heap = H.setIfInBounds a (vp_cell (G.2.1 6) (n1, .inr (.inr (.inr (.inr (va_cpy f g sp dp z)))))) := by rw [← hT]; rfl
  obtain ⟨t2, a1, b1⟩ := kk (H.setIfInBounds a (vp_cell (G.2.1 6) (n1, .inr (.inr (.inr (.inr (va_cpy f g sp dp z))))))) _ ls (hS.put he1 (by simp) oq (show (H.setIfInBounds a _)[a]? = some _ by simp [Array.getElem?_setIfInBounds, hlt])) (fun q hq => by
      rcases List.mem_append.mp hq with h | h
      · exact hL q h
      · obtain ⟨w2, -, hw2⟩ := List.mem_map.mp h
        rw [← hw2]
        exact hb0) hl _ hheap X'
  exact ⟨t2, step t2 a1, b1⟩
theorem V_cloneI (F : Fx G X cc nL own ret d MC MS) {idx a N : Nat} {f : Nat → Int32} (hd : decode cc pc = .ok (.invokevirtual idx, 3)) (hlink : Cond.methodLink own idx ⟨"[I", "clone", "()Ljava/lang/Object;"⟩ ∈ lw_all) (he : h a = some (iA G N f) ∨ False) (hd1 : 1 ≤ d) (hsum : (st.map fun v => v.category).sum ≤ 20) (hr1 : kc + 1 ≤ MC) (hr2 : n + N ≤ MS)
    (kk : ∀ q : Nat, h q = none → bz G ≤ q → VV G X nL Q (hset h q (iA G N f)) (kc + 1) (n + N) L (.ref q :: st) (pc + 3)) : VV G X nL Q h kc n L (.ref a :: st) pc := by
  intro H locs ls hS hL hl T hT XX
  have hR := F.room
  have hc0 : H[a]? = some (vp_cell (G.2.1 0) (N, .inl f)) := (hS.1 a _ (he.elim id False.elim)).2
  obtain ⟨c0, t0', f1, f2, f3⟩ := Cond.castable_spec (va_Nw.use (A := xa X) rfl (F.kn.2.1 _ q2294 rfl))
  have hnm : (xs X).vm.findClass "[I" = some (G.2.1 0) := (F.kn.1.2 0 _ rfl).2
  cases hnm.symm.trans f1
  have hcellT : T.heap[a]? = some (vp_cell (G.2.1 0) (N, .inl f)) := by rw [hT]; exact hc0
  obtain ⟨-, kA, hkA, comp, hkind⟩ := State.isArrayOf_alike XX.warmed.alike ((F.kn.1.2 0 _ rfl).1 0 (fun _ => .null))
  obtain ⟨-, kS, hkS, compS, hkindS⟩ := (F.kn.1.2 0 _ rfl).1 0 (fun _ => .null)
  have hsz : (vp_cell (G.2.1 0) (N, .inl f)).slots.size = N := arrV_size _ _ _
  obtain ⟨vm', X', st2⟩ := XX.cloneArray F.exec F.hown (F.wd _ hlink) (F.wd _ q2292) (F.wd _ q592) (F.wd _ q593) (F.wd _ q2293) (a := a) (cell := vp_cell (G.2.1 0) (N, .inl f)) hcellT (fun k h => by cases h) (fun h => by cases h) hnm f2 f3
    (fun i v hv => by
      have hk' : T.vm.classes[G.2.1 0]? = some kA := hkA
      have hi : i < N := by
        have := (Array.getElem?_eq_some_iff.mp hv).1
        rw [hsz] at this; exact this
      have e : (vp_cell (G.2.1 0) (N, .inl f)).slots[i]? = some (.int (f i)) := arrV_read _ _ hi
      rw [e] at hv
      cases hv
      show T.fitsSlot (G.2.1 0) .none i (.int (f i)) = true
      simp [State.fitsSlot, State.slotType?, hk', hkind]
      rfl)
    (g := F0 (xm X) pc ls (.ref a :: st)) rfl (by rw [F.maxL]; exact hl.1) rfl (by rw [F.code]; exact hd) (Nat.le_trans hd1 hR.1) (by show 2 * 0 + _ + 14 ≤ _; omega) (Nat.le_trans hr1 hR.2.2.1) (by rw [hsz]; exact Nat.le_trans hr2 hR.2.2.2) (hloader := Vm.clonesLoader_of_array hkS hkindS)
  rw [hsz] at X'
  generalize hH1 : H.push (vp_cell (G.2.1 0) (N, .inl f)) = H1
  have z1 : H1.size = H.size + 1 := by rw [← hH1, Array.size_push]
  have e1 : H1[H.size]? = some (vp_cell (G.2.1 0) (N, .inl f)) := by rw [← hH1, Array.getElem?_push_size]
  have o1 : ∀ q : Nat, q < H.size → H1[q]? = H[q]? := fun q hq => by rw [← hH1, Array.getElem?_push, if_neg (Nat.ne_of_lt hq)]
  obtain ⟨t, b1, b2⟩ := kk H.size (hS.none (Nat.le_refl _)) hS.2.2 H1 locs ls (hS.push z1 o1 e1) hL hl _ (by rw [← hH1, ← hT]; rfl) X'
  refine ⟨t, ?_, b2⟩
  have := st2 t
  rw [hT] at this
  exact this b1
theorem V_newx (F : Fx G X cc nL own ret d MC MS) {idx ci N : Nat} {fs : List Value} (hd : decode cc pc = .ok (.new idx, 3)) (nw : NWx own idx ci N fs) (hr1 : kc + 1 ≤ MC) (hr2 : n + N ≤ MS) (kk : ∀ a : Nat, h a = none → bz G ≤ a → VV G X nL Q (hset h a (.inr (ci, fs))) (kc + 1) (n + N) L (.ref a :: st) (pc + 3)) : VV G X nL Q h kc n L st pc := by
  intro H locs ls hS hL hl
  obtain ⟨C, T, ty, K, ⟨hc, hin, hty, hnm⟩, hcl, hinst, hini, hfs⟩ := nw
  have hKn := F.kn.1.1 ci _ hc
  have hR := F.room
  refine W.newcK F.exec F.code F.hown (F.wd _ hcl) (F.wd _ hinst) (F.wd _ hini) rfl hd (Nat.le_trans hr1 hR.2.2.1) (Nat.le_trans hr2 hR.2.2.2) hKn.2.1 rfl fun H1 kC hkC e1 z1 o1 => ?_
  exact kk H.size (hS.none (Nat.le_refl _)) hS.2.2 H1 locs ls (hS.push z1 o1 ⟨_, hc, (u_born ty F.wd hin hKn hkC e1 hty).to hfs⟩) hL hl
theorem V_newaB {N : Nat} (F : Fx G X cc nL own ret d MC MS) (hd : decode cc pc = .ok (.newarray .byte, 2)) (hN : N < 100000) (hr1 : kc + 1 ≤ MC) (hr2 : n + N ≤ MS) (kk : ∀ a : Nat, h a = none → bz G ≤ a → VV G X nL Q (hset h a (bA G N (fun _ => nI 0))) (kc + 1) (n + N) L (.ref a :: st) (pc + 2)) : VV G X nL Q h kc n L (.int (nI N) :: st) pc :=
  V_newa F 5 (a0 := (N, .inl (fun _ => nI 0))) hd rfl q250 rfl (fun C q => by cases q) (i := nI N) (fun q => by rw [lt_toInt, nI_toInt (by omega)] at q; have : (0 : Int32).toInt = 0 := rfl; omega) (nI_clamp (by omega)) (by show N * 1 ≤ _; omega) (fun _ => rfl) hr1 hr2 kk
theorem V_newaZ {N : Nat} (F : Fx G X cc nL own ret d MC MS) (hd : decode cc pc = .ok (.newarray .boolean, 2)) (hN : N < 100000) (hr1 : kc + 1 ≤ MC) (hr2 : n + N ≤ MS) (kk : ∀ a : Nat, h a = none → bz G ≤ a → VV G X nL Q (hset h a (zA G N (fun _ => nI 0))) (kc + 1) (n + N) L (.ref a :: st) (pc + 2)) : VV G X nL Q h kc n L (.int (nI N) :: st) pc :=
  V_newa F 3 (a0 := (N, .inl (fun _ => nI 0))) hd rfl q1279 rfl (fun C q => by cases q) (i := nI N) (fun q => by rw [lt_toInt, nI_toInt (by omega)] at q; have : (0 : Int32).toInt = 0 := rfl; omega) (nI_clamp (by omega)) (by show N * 1 ≤ _; omega) (fun _ => rfl) hr1 hr2 kk
theorem V_newaQ {N idx : Nat} (F : Fx G X cc nL own ret d MC MS) (hd : decode cc pc = .ok (.anewarray idx, 3)) (hcl : Cond.classLink own idx "java/lang/Object" ∈ lw_all) (hN : N < 100000) (hr1 : kc + 1 ≤ MC) (hr2 : n + N ≤ MS) (kk : ∀ a : Nat, h a = none → bz G ≤ a → VV G X nL Q (hset h a (qA G N (fun _ => none))) (kc + 1) (n + N) L (.ref a :: st) (pc + 3)) : VV G X nL Q h kc n L (.int (nI N) :: st) pc :=
  V_newQ F 6 hd hcl q1202 rfl (i := nI N) (fun q => by rw [lt_toInt, nI_toInt (by omega)] at q; have : (0 : Int32).toInt = 0 := rfl; omega) (nI_clamp (by omega)) (by omega) hr1 hr2 kk
/-- an array of references with one place changed -/
abbrev upq (f : Nat → Option Nat) (k : Nat) (v : Option Nat) : Nat → Option Nat := va_up f k v
theorem upq_s {f : Nat → Option Nat} {k : Nat} {v : Option Nat} : upq f k v k = v := if_pos rfl
theorem upq_n {f : Nat → Option Nat} {k j : Nat} {v : Option Nat} (hj : j ≠ k) : upq f k v j = f j := if_neg hj
theorem V_aastON (F : Fx G X cc nL own ret d MC MS) {a v N j : Nat} {f : Nat → Option Nat} (hd : decode cc pc = .ok (.aastore, 1)) (he : h a = some (qA G N f)) (ho : isO G h v) (hj : j < N) (hN : N < 2 ^ 31) (kk : VV G X nL Q (hset h a (qA G N (upq f j (some v)))) kc n L st (pc + 1)) : VV G X nL Q h kc n L (.ref v :: .int (nI j) :: .ref a :: st) pc := by
  obtain ⟨C, h1, h2⟩ := ho
  exact V_aast F 6 hd rfl he h1 h2 (vp_in_nI hj hN) (by rw [nI_clamp (Nat.lt_trans hj hN)]; exact kk)
theorem V_aastNN (F : Fx G X cc nL own ret d MC MS) {a N j : Nat} {f : Nat → Option Nat} (hd : decode cc pc = .ok (.aastore, 1)) (he : h a = some (qA G N f)) (hj : j < N) (hN : N < 2 ^ 31) (kk : VV G X nL Q (hset h a (qA G N (upq f j none))) kc n L st (pc + 1)) : VV G X nL Q h kc n L (.null :: .int (nI j) :: .ref a :: st) pc :=
  V_aastN F 6 hd rfl he (vp_in_nI hj hN) (by rw [nI_clamp (Nat.lt_trans hj hN)]; exact kk)
theorem V_aastQN (F : Fx G X cc nL own ret d MC MS) {a N j : Nat} {o : Option Nat} {f : Nat → Option Nat} (hd : decode cc pc = .ok (.aastore, 1)) (he : h a = some (qA G N f)) (ho : ∀ v, o = some v → isO G h v) (hj : j < N) (hN : N < 2 ^ 31) (kk : VV G X nL Q (hset h a (qA G N (upq f j o))) kc n L st (pc + 1)) : VV G X nL Q h kc n L (va_rf o :: .int (nI j) :: .ref a :: st) pc := by
  cases o with
  | none => exact V_aastNN F hd he hj hN kk
  | some v => exact V_aastON F hd he (ho v rfl) hj hN kk
theorem V_ckQ (F : Fx G X cc nL own ret d MC MS) {idx : Nat} {o : Option Nat} {nm : String} (hd : decode cc pc = .ok (.checkcast idx, 3)) (hcl : Cond.classLink own idx nm ∈ lw_all) (hc : ∀ a, o = some a → ∃ C, isC G h a C ∧ Cond.castable C nm ∈ lw_tbl) (kk : VV G X nL Q h kc n L (va_rf o :: st) (pc + 3)) : VV G X nL Q h kc n L (va_rf o :: st) pc := by
  cases o with
  | none => exact V_ckN F hd kk
  | some a =>
    obtain ⟨C, h1, h2⟩ := hc a rfl
    exact V_ck F hd hcl h1 h2 kk
theorem Fx.gb (F : Fx G X cc nL own ret d MC MS) : Gbase G := F.kn.2.2.2.2.2.2.2.2.1
theorem Fx.cache (F : Fx G X cc nL own ret d MC MS) : va_T (.object "java/lang/Integer") (ad G 3) 256 (fun i => .ref (ad G (100 + i))) (fr G) (xs X) G.2.2.1 := F.kn.2.2.2.2.2.2.2.2.2.2.2.2.2
theorem Fx.b0 (F : Fx G X cc nL own ret d MC MS) : rd G h (ad G 0) (qA G 0 (fun _ => none)) := Or.inr F.gb.1
theorem Fx.b1 (F : Fx G X cc nL own ret d MC MS) : rd G h (ad G 1) (qA G 0 (fun _ => none)) := Or.inr F.gb.2.1
theorem rf_or (o : Option Nat) : va_rf o = .null ∨ ∃ a, va_rf o = .ref a := by cases o; exact Or.inl rfl; exact Or.inr ⟨_, rfl⟩
theorem nar_rfO (nm : String) (o : Option Nat) : narrow (.object nm) (va_rf o) = va_rf o := by cases o <;> rfl
theorem fit_rfO (nm : String) (o : Option Nat) : fits (.object nm) (va_rf o) = true := by cases o <;> rfl
theorem nar_rfA (t : FieldType) (o : Option Nat) : narrow (.array t) (va_rf o) = va_rf o := by cases o <;> rfl
theorem fit_rfA (t : FieldType) (o : Option Nat) : fits (.array t) (va_rf o) = true := by cases o <;> rfl
theorem PRk {h2 : AH} {r : Value} (kk : VV G X nL Q h2 kc n L (r :: st) pc) : ∀ v h', PR r h2 v h' → VV G X nL Q h' kc n L (v.toList ++ st) pc := fun v h' hp => by obtain ⟨rfl, rfl⟩ := hp; exact kk
theorem PVk {h2 : AH} (kk : VV G X nL Q h2 kc n L st pc) : ∀ v h', PV h2 v h' → VV G X nL Q h' kc n L (v.toList ++ st) pc := fun v h' hp => by obtain ⟨rfl, rfl⟩ := hp; exact kk
theorem V_mmaxN (F : Fx G X cc nL own ret d MC MS) {idx a b : Nat} (hd : decode cc pc = .ok (.invokestatic idx, 3)) (hlink : Cond.methodLink own idx Lib.Math.max.name ∈ lw_all) (ha : a < 2 ^ 31) (hb : b < 2 ^ 31) (hd1 : 1 ≤ d) (hsum : (st.map fun v => v.category).sum ≤ 20) (hc : kc ≤ MC) (hs : n ≤ MS) (kk : VV G X nL Q h kc n L (.int (nI (max a b)) :: st) (pc + 3)) : VV G X nL Q h kc n L (.int (nI b) :: .int (nI a) :: st) pc := by
  intro H locs ls hS hL hl
  have hR := F.room
  refine va_mmax F.exec F.code (by rw [F.maxL]; exact hl.1.symm) F.hown (F.wd _ hlink) (F.wd _ q580) (F.wd _ q123) (F.wd _ q581) (Nat.le_trans hd1 hR.1) (by omega) (Nat.le_trans hc hR.2.2.1) (Nat.le_trans hs hR.2.2.2) hd ?_
  have e : (if (nI a : Int32) < nI b then (nI b : Int32) else nI a) = nI (max a b) := by
    by_cases hab : a < b
    · rw [if_pos ((nI_ltI ha hb).mpr hab), Nat.max_eq_right (by omega)]
    · rw [if_neg (fun z => hab ((nI_ltI ha hb).mp z)), Nat.max_eq_left (by omega)]
  rw [e]
  exact kk H locs ls hS hL hl
theorem V_mminN (F : Fx G X cc nL own ret d MC MS) {idx a b : Nat} (hd : decode cc pc = .ok (.invokestatic idx, 3)) (hlink : Cond.methodLink own idx Lib.Math.min.name ∈ lw_all) (ha : a < 2 ^ 31) (hb : b < 2 ^ 31) (hd1 : 1 ≤ d) (hsum : (st.map fun v => v.category).sum ≤ 20) (hc : kc ≤ MC) (hs : n ≤ MS) (kk : VV G X nL Q h kc n L (.int (nI (min a b)) :: st) (pc + 3)) : VV G X nL Q h kc n L (.int (nI b) :: .int (nI a) :: st) pc := by
  intro H locs ls hS hL hl
  have hR := F.room
  refine va_mmin F.exec F.code (by rw [F.maxL]; exact hl.1.symm) F.hown (F.wd _ hlink) (F.wd _ q598) (F.wd _ q123) (F.wd _ q599) (Nat.le_trans hd1 hR.1) (by omega) (Nat.le_trans hc hR.2.2.1) (Nat.le_trans hs hR.2.2.2) hd ?_
  have e : (if (nI b : Int32) < nI a then (nI b : Int32) else nI a) = nI (min a b) := by
    by_cases hab : b < a
    · rw [if_pos ((nI_ltI hb ha).mpr hab), Nat.min_eq_right (by omega)]
    · rw [if_neg (fun z => hab ((nI_ltI hb ha).mp z)), Nat.min_eq_left (by omega)]
  rw [e]
  exact kk H locs ls hS hL hl
end V7
