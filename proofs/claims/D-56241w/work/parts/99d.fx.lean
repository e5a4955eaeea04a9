set_option maxRecDepth 100000
/-! ===== the class's own failures are made by Throwable(String, Throwable) (launches without stack traces) ===== -/
/-- the cell at q: of the class E, as born -/
def FQ (E : String) (q : Nat) (vm : Vm) (H : Heap) : Prop := ∃ (cX : ClassId) (kX : Class), vm.findClass E = some cX ∧ vm.classes[cX]? = some kX ∧ kX.kind = .ordinary ∧ H[q]? = some (freshCell cX kX)
theorem FQ.moved {E : String} {q : Nat} {vm vm' : Vm} {H : Heap} (h : FQ E q vm H) (ha : vm.Alike vm') : FQ E q vm' H := by
  obtain ⟨cX, kX, h1, h2, h3, h4⟩ := h
  obtain ⟨k', hk', he⟩ := ha.2.2 _ _ h2
  exact ⟨cX, k', by rw [ha.findClass]; exact h1, hk', by rw [he]; exact h3, by rw [he]; exact h4⟩
abbrev preF (G : GG) (E : String) (q : Nat) (av : List Value) (h : AH) : Array Value → State → Prop := va_Pc av (fun U => Kn G U ∧ Sim G h U.heap ∧ FQ E q U.vm U.heap)
theorem preF.blind {G : GG} {E : String} {q : Nat} {av : List Value} {h : AH} : FrameBlind (preF G E q av h) := by
  intro a U g mk hp
  obtain ⟨h1, h2, h3, h4⟩ := hp
  exact ⟨h1, h2.calling, h3, h4⟩
theorem preF.at {G : GG} {E : String} {q : Nat} {av : List Value} {h : AH} {s U : State} {H : Heap} (hK : Kn G s) (hS : Sim G h H ∧ FQ E q s.vm H) (hU : U.heap = H) (hW : s.WarmedH U.vm) : preF G E q av h av.toArray U :=
  ⟨rfl, hK.warm hW, by rw [hU]; exact hS.1, by rw [hU]; exact hS.2.moved hW.alike⟩
/-- a constructor's contract over an object as born, that is no cell of the world yet -/
def CtF (G : GG) (l : Launch) (y : MethodName) (cc : ByteArray) (mL : Nat) (d : Nat) (E : String) (q : Nat) (av : List Value) (h : AH) (Post : Option Value → AH → Prop) : Prop :=
  Met l y (ws_ y cc mL none) (rmD d 0 0) (preF G E q av h) (qcR G Post) 0 0 (fr G)
/-- a walk that knows S of the heap -/
def VS (G : GG) (X : CX) (nL : Nat) (Q : State → Prop) (S : Heap → Prop) (k n : Nat) (L : LV) (st : List Value) (pc : Nat) : Prop :=
  ∀ (H : Heap) (locs : List Loc) (ls : Array Slot), S H → (∀ q ∈ locs, fr G q.base) → lvH ls nL L →
    W (xP X) (xl X) (xe X) (xR X) (xs X) (xm X) (xa X) (xb X) (xt X) (xc X) H locs k n Q (F0 (xm X) pc ls st)
section VSROWS
variable {G : GG} {X : CX} {cc : ByteArray} {nL : Nat} {own : String} {ret : Option FieldType} {d MC MS : Nat} {Q : State → Prop} {S : Heap → Prop} {h : AH} {kc n : Nat} {L : LV} {st : List Value} {pc : Nat}
theorem VV.vs (k : VV G X nL Q h kc n L st pc) (hs : ∀ H, S H → Sim G h H) : VS G X nL Q S kc n L st pc := fun H locs ls hS hL hl => k H locs ls (hs H hS) hL hl
theorem VS_aload_n (F : Fx G X cc nL own ret d MC MS) {j : Fin 4} {i a : Nat} (hd : decode cc pc = .ok (.aload_n j, 1)) (hi : (j : Nat) = i) (hv : L[i]? = some (some (.ref a))) (k : VS G X nL Q S kc n L (.ref a :: st) (pc + 1)) : VS G X nL Q S kc n L st pc :=
  fun H locs ls hS hL hl => lv_aload_n F.exec F.code hd hi (hl.2.2 i _ hv).1 (k H locs ls hS hL hl)
theorem VS_aload_nN (F : Fx G X cc nL own ret d MC MS) {j : Fin 4} {i : Nat} (hd : decode cc pc = .ok (.aload_n j, 1)) (hi : (j : Nat) = i) (hv : L[i]? = some (some .null)) (k : VS G X nL Q S kc n L (.null :: st) (pc + 1)) : VS G X nL Q S kc n L st pc :=
  fun H locs ls hS hL hl => lv_aload_nN F.exec F.code hd hi (hl.2.2 i _ hv).1 (k H locs ls hS hL hl)
theorem VS_aload_nQ (F : Fx G X cc nL own ret d MC MS) {j : Fin 4} {i : Nat} {o : Option Nat} (hd : decode cc pc = .ok (.aload_n j, 1)) (hi : (j : Nat) = i) (hv : L[i]? = some (some (va_rf o))) (k : VS G X nL Q S kc n L (va_rf o :: st) (pc + 1)) : VS G X nL Q S kc n L st pc := by
  cases o with
  | none => exact VS_aload_nN F hd hi hv k
  | some x => exact VS_aload_n F hd hi hv k
theorem VS_aload (F : Fx G X cc nL own ret d MC MS) {i a : Nat} (hd : decode cc pc = .ok (.aload i, 2)) (hv : L[i]? = some (some (.ref a))) (k : VS G X nL Q S kc n L (.ref a :: st) (pc + 2)) : VS G X nL Q S kc n L st pc :=
  fun H locs ls hS hL hl => lv_aload F.exec F.code hd (hl.2.2 i _ hv).1 (k H locs ls hS hL hl)
theorem VS_iload_n (F : Fx G X cc nL own ret d MC MS) {j : Fin 4} {i : Nat} {v : Int32} (hd : decode cc pc = .ok (.iload_n j, 1)) (hi : (j : Nat) = i) (hv : L[i]? = some (some (.int v))) (k : VS G X nL Q S kc n L (.int v :: st) (pc + 1)) : VS G X nL Q S kc n L st pc :=
  fun H locs ls hS hL hl => lv_iload_n F.exec F.code hd hi (hl.2.2 i _ hv).1 (k H locs ls hS hL hl)
theorem VS_dup (F : Fx G X cc nL own ret d MC MS) {v : Value} (hd : decode cc pc = .ok (.dup, 1)) (hv : v.category = 1) (k : VS G X nL Q S kc n L (v :: v :: st) (pc + 1)) : VS G X nL Q S kc n L (v :: st) pc :=
  fun H locs ls hS hL hl => lv_dup F.exec F.code hd hv (k H locs ls hS hL hl)
theorem VS_pop (F : Fx G X cc nL own ret d MC MS) {v : Value} (hd : decode cc pc = .ok (.pop, 1)) (hv : v.category = 1) (k : VS G X nL Q S kc n L st (pc + 1)) : VS G X nL Q S kc n L (v :: st) pc :=
  fun H locs ls hS hL hl => lv_pop F.exec F.code hd hv (k H locs ls hS hL hl)
theorem VS_null (F : Fx G X cc nL own ret d MC MS) (hd : decode cc pc = .ok (.aconst_null, 1)) (k : VS G X nL Q S kc n L (.null :: st) (pc + 1)) : VS G X nL Q S kc n L st pc :=
  fun H locs ls hS hL hl => lv_null F.exec F.code hd (k H locs ls hS hL hl)
theorem VS_objInit (F : Fx G X cc nL own ret d MC MS) {idx a : Nat} (hd : decode cc pc = .ok (.invokespecial idx, 3)) (h1 : Cond.methodLink own idx Lib.objectInit ∈ lw_all) (h2 : Cond.instanceMethod Lib.objectInit ∈ lw_all) (h3 : Cond.code Lib.objectInit ⟨#[0xb1]⟩ 1 none ∈ lw_all) (hd1 : 1 ≤ d) (hst : (st.map fun v => v.category).sum ≤ 20) (kk : VS G X nL Q S kc n L st (pc + 3)) : VS G X nL Q S kc n L (.ref a :: st) pc := by
  intro H locs ls hS hL hl
  have hR := F.room
  exact W.objInit F.exec F.code F.hown (F.wd _ h1) (F.wd _ h2) (F.wd _ h3) rfl (by rw [F.maxL]; exact hl.1) rfl hd (Nat.le_trans hd1 hR.1) (by show 2 * 0 + _ + 12 ≤ _; omega) (W.eq (g2 := F0 (xm X) (pc + 3) ls st) rfl (kk H locs ls hS hL hl))
theorem VS_getf (F : Fx G X cc nL own ret d MC MS) {idx ci k a : Nat} {fs : List Value} {v : Value} (hd : decode cc pc = .ok (.getfield idx, 3)) (fa : FAc own idx ci k) (he : rd G h a (.inr (ci, fs))) (hs : ∀ H, S H → Sim G h H) (hv : fs[k]? = some v) (kk : VS G X nL Q S kc n L (v :: st) (pc + 3)) : VS G X nL Q S kc n L (.ref a :: st) pc := by
  intro H locs ls hS hL hl
  obtain ⟨C, T, N, ty0, ref, ⟨hc, hin, hty, hnm⟩, hk, hlk, hsm⟩ := fa
  exact cl_get F hin ((hs H hS).rd he) hc hk (F.wd _ hlk) (fsame F.wd hsm) hv hd (kk H locs ls hS hL hl)
theorem Sim.pushN {H H1 : Heap} (hS : Sim G h H) (hz : H1.size = H.size + 1) (hq : ∀ q, q < H.size → H1[q]? = H[q]?) : Sim G h H1 :=
  ⟨fun b e hb => ⟨(hS.1 b e hb).1, (hS.1 b e hb).2.kept (hq b (hS.1 b e hb).2.lt)⟩, fun b hlt => by rw [hq b (Nat.lt_of_lt_of_le hlt hS.2.2)]; exact hS.2.1 b hlt, by rw [hz]; exact Nat.le_succ_of_le hS.2.2⟩
/-- the heap changes in a cell that is not told -/
theorem Sim.off {H H1 : Heap} {a : Nat} (hS : Sim G h H) (ha : h a = Option.none) (hb : bz G ≤ a) (hz : H1.size = H.size) (hq : ∀ q, q ≠ a → H1[q]? = H[q]?) : Sim G h H1 :=
  ⟨fun b e hbe => ⟨(hS.1 b e hbe).1, (hS.1 b e hbe).2.kept (hq b (fun q => by rw [q, ha] at hbe; cases hbe))⟩, fun b hlt => by rw [hq b (fun q => absurd hlt (by rw [q]; exact Nat.not_lt.mpr hb))]; exact hS.2.1 b hlt, by rw [hz]; exact hS.2.2⟩
/-- a cell is told from here on -/
theorem Sim.tell {H : Heap} {a : Nat} {e : va_E} (hS : Sim G h H) (hb : bz G ≤ a) (he : va_at G.1 CL (a, e) H) : Sim G (hset h a e) H := by
  refine ⟨fun b e' hbe => ?_, hS.2.1, hS.2.2⟩
  by_cases hba : b = a
  · subst hba
    rw [hset_self] at hbe
    cases hbe
    exact ⟨hb, he⟩
  · rw [hset_ne hba] at hbe
    exact hS.1 b e' hbe
/-- new, of a class of failures: not told yet -/
theorem V_newF (F : Fx G X cc nL own ret d MC MS) {idx ci N : Nat} {E : String} {T0 : u_T} {K0 : Nat} {fs : List Value} (hd : decode cc pc = .ok (.new idx, 3)) (nw : NWx own idx ci N fs) (hE : CL[ci]? = some (E, T0, K0)) (hr1 : kc + 1 ≤ MC) (hr2 : n + N ≤ MS) (kk : ∀ a : Nat, h a = none → bz G ≤ a → VS G X nL Q (fun H => Sim G h H ∧ FQ E a (xs X).vm H) (kc + 1) (n + N) L (.ref a :: st) (pc + 3)) : VV G X nL Q h kc n L st pc := by
  intro H locs ls hS hL hl
  obtain ⟨C, T, ty, K, ⟨hc, hin, hty, hnm⟩, hcl, hinst, hini, hfs⟩ := nw
  cases hE.symm.trans hc
  have hKn := F.kn.1.1 ci _ hc
  have hR := F.room
  obtain ⟨hfc, kE, hkE, hord⟩ := hKn.2
  refine W.newcK F.exec F.code F.hown (F.wd _ hcl) (F.wd _ hinst) (F.wd _ hini) rfl hd (Nat.le_trans hr1 hR.2.2.1) (Nat.le_trans hr2 hR.2.2.2) hfc rfl fun H1 kC hkC e1 z1 o1 => ?_
  cases hkE.symm.trans hkC
  exact kk H.size (hS.none (Nat.le_refl _)) hS.2.2 H1 locs ls ⟨hS.pushN z1 o1, _, _, hfc, hkC, hord, e1⟩ hL hl
/-- a call of such a constructor -/
theorem VS_callF {y : MethodName} {cc' : ByteArray} {mL' nn d' idx b : Nat} {As st0 : List Value} {E : String} {q : Nat} {Post : Option Value → AH → Prop} (F : Fx G X cc nL own ret d MC MS) (hd : decode cc pc = .ok (.invokespecial idx, 3)) (lk : LkI own idx y cc' mL' nn) (hc : CtF G (xl X) y cc' mL' d' E q (.ref b :: As) h Post)
    (hs : ∀ H, S H → Sim G h H ∧ FQ E q (xs X).vm H) (hn : As.length = nn) (hst : st0 = As.reverse ++ .ref b :: st) (hsum : (st.map fun v => v.category).sum ≤ 8) (hd1 : d' + 1 ≤ d) (hm : mL' ≤ 45) (hr1 : kc ≤ MC) (hr2 : n ≤ MS)
    (kk : ∀ v h', Post v h' → VV G X nL Q h' kc n L (v.toList ++ st) (pc + 3)) : VS G X nL Q S kc n L st0 pc := by
  intro H locs ls hS hL hl T hT XX
  obtain ⟨v, st₀, t, T', Lo, h0, X', hLf, e1, e2, ⟨v', h', hv, hp, hs2⟩, hgo⟩ := va_runI (rest := st) F.fix hc (cwI nn F.wd lk.1 rfl rfl rfl (F.wd _ lk.2.1) (F.wd _ lk.2.2.1) (F.wd _ lk.2.2.2.1) lk.2.2.2.2.1 lk.2.2.2.2.2 (roomR hd1 hm F.room)) ⟨preF.blind, fun U hU hW => preF.at F.kn (hs H hS) hU hW⟩ rfl hn hl.1 hst (lv_room hsum) hd ⟨by show kc + 0 ≤ _; exact Nat.le_trans hr1 F.room.2.2.1, by show n + 0 ≤ _; exact Nat.le_trans hr2 F.room.2.2.2⟩ T hT XX
  cases hv
  have hLL : ∀ q ∈ locs ++ Lo, fr G q.base := fun q hq => (List.mem_append.mp hq).elim (hL q) (hLf q)
  obtain ⟨t2, a1, b1⟩ := kk v h' hp T'.heap (locs ++ Lo) ls (by rw [e1]; exact hs2) hLL hl T' rfl X'
  exact ⟨t2, hgo t2 a1, b1⟩
/-- the cell at q under Throwable's constructor: what is known of its slots -/
def HX (G : GG) (h : AH) (q : Nat) (c0 : Cell) (KV : List (Nat × Value)) (H : Heap) : Prop := Sim G h H ∧ ∃ ce : Cell, H[q]? = some ce ∧ ce.cls = c0.cls ∧ ce.vm = .none ∧ ce.monitor = c0.monitor ∧ ce.slots.size = c0.slots.size ∧ ∀ x ∈ KV, ce.slots[x.1]? = some x.2
theorem VS_putX {q : Nat} {c0 : Cell} {KV KV2 : List (Nat × Value)} {idx : Nat} {ref nm desc : String} {cf i : Nat} {k : Class} {f : Field} {v : Value} (F : Fx G X cc nL own ret d MC MS) (hd : decode cc pc = .ok (.putfield idx, 3)) (hlink : Cond.fieldLink own idx ref nm desc ∈ lw_all)
    (hi : (xs X).fieldFound? ref nm desc = some (cf, k, i, f)) (hst : f.isStatic = false) (hfin : hasFlag f.accessFlags Acc.final = false ∨ ((xm X).cls = cf ∧ (xt X).name = "<init>")) (hq : h q = none) (hb : bz G ≤ q) (hlt : f.slot < c0.slots.size) (hn : narrow f.type v = v) (hfit : (xs X).fitsSlot c0.cls .none f.slot v = true)
    (hK : ∀ x ∈ KV2, x = (f.slot, v) ∨ x ∈ KV ∧ x.1 ≠ f.slot) (k : VS G X nL Q (HX G h q c0 KV2) kc n L st (pc + 3)) : VS G X nL Q (HX G h q c0 KV) kc n L (v :: .ref q :: st) pc := by
  intro H locs ls hS hL hl
  obtain ⟨hSim, ce, h1, h2, h3, h4, h5, h6⟩ := hS
  have hqs : q < H.size := (Array.getElem?_eq_some_iff.mp h1).1
  refine W.putf F.exec F.code F.hown (F.wd _ hlink) hi hst hfin h1 (by rw [h3]; exact fun z => by cases z) (by rw [h5]; exact hlt) hn (by rw [h2, h3]; exact hfit) rfl rfl hd ?_
  refine k _ _ ls ⟨hSim.off hq hb (by simp) (fun p hp => by simp [Array.getElem?_setIfInBounds, Ne.symm hp]), ce.setSlot f.slot v, by simp [Array.getElem?_setIfInBounds, hqs], h2, h3, h4, by rw [k2_slotsz]; exact h5, fun x hx => ?_⟩ ?_ hl
  · rcases hK x hx with rfl | ⟨hx1, hx2⟩
    · exact Cell.slots_setSlot_self _ (by rw [h5]; exact hlt)
    · rw [slot_ne _ _ (Ne.symm hx2)]; exact h6 x hx1
  · intro z hz
    rcases List.mem_append.mp hz with h0 | h0
    · exact hL z h0
    · rw [List.mem_singleton.mp h0]; exact hb
theorem VS_getsX {q : Nat} {c0 : Cell} {KV : List (Nat × Value)} {idx : Nat} {ref nm desc : String} {cf i aS : Nat} {k : Class} {f : Field} {v : Value} {cellS : Cell} (F : Fx G X cc nL own ret d MC MS) (hd : decode cc pc = .ok (.getstatic idx, 3)) (hlink : Cond.fieldLink own idx ref nm desc ∈ lw_all)
    (hi : (xs X).fieldFound? ref nm desc = some (cf, k, i, f)) (hst : f.isStatic = true) (hinit : k.init = .initialized) (hsta : k.statics = some aS) (hb : aS < bz G) (hcS : G.2.2.1[aS]? = some cellS) (hkn : cellS.vm ≠ .unknown) (hv : cellS.slots[f.slot]? = some v)
    (k : VS G X nL Q (HX G h q c0 KV) kc n L (v :: st) (pc + 3)) : VS G X nL Q (HX G h q c0 KV) kc n L st pc := by
  intro H locs ls hS hL hl
  exact W.gets F.exec F.code F.hown (F.wd _ hlink) hi hst hinit hsta (by rw [hS.1.2.1 aS hb]; exact hcS) hkn hv rfl hd (k H locs ls hS hL hl)
end VSROWS
/-- a contract over an object as born, out of a walk from the entry -/
theorem CtF.of {G : GG} {l : Launch} {y : MethodName} {cc : ByteArray} {mL : Nat} {d : Nat} {E : String} {q : Nat} {av : List Value} {h : AH} {Post : Option Value → AH → Prop} (hy : plainName y.cls = true) (hlen : (lg_sl av).length ≤ mL) (hcat : ∀ v ∈ av, v.category = 1)
    (body : ∀ X : CX, xl X = l → Fx G X cc mL y.cls none d 0 0 → (xt X).name = y.name → (xl X).admits (xe X) → Sim G h (xs X).heap → FQ E q (xs X).vm (xs X).heap → VS G X mL (EQ G X 0 0 Post) (fun H => (Sim G h H ∧ FQ E q (xs X).vm H) ∧ H = (xs X).heap) 0 0 (lvA av mL) [] 0) : CtF G l y cc mL d E q av h Post := by
  refine Met.ofW (cc := cc) (maxL := mL) (ret := none) hy rfl ?_
  intro p e s m args below meth c s₁ B hml hv
  obtain ⟨rfl, hKn, hSim, hFQ⟩ := hv
  have hts := atoms_spec (ws := ws_ y cc mL none) B.pre
  have hts : ∀ w ∈ lw_all, w.before _ s = true := fun w h => hts w (List.mem_cons_of_mem _ h)
  have hown : s.vm.findClass y.cls = some m.cls := findClass_of_methodNamed B.named
  have hin : meth.name = y.name := (name_of_methodNamed B.named B.method).1
  have F : Fx G (p, l, e, (headSpec (ws_ y cc mL none) (rmD d 0 0)).room, s, m, av.toArray, below, meth, c) cc mL y.cls none d 0 0 :=
    ⟨B.exec, B.bytes, hml, hown, hts, B.returns, B.notSynchronized, hKn, Nat.le_refl _, Nat.le_refl _, Nat.le_refl _, Nat.le_refl _⟩
  rw [lg_entry_eq]
  exact body (p, l, e, (headSpec (ws_ y cc mL none) (rmD d 0 0)).room, s, m, av.toArray, below, meth, c) rfl F hin B.admits hSim hFQ s.heap [] _ ⟨⟨hSim, hFQ⟩, rfl⟩ (fun q h => by cases h) (lvH.entry hlen hcat)
theorem VS.imp {G : GG} {X : CX} {nL : Nat} {Q : State → Prop} {S S2 : Heap → Prop} {kc n : Nat} {L : LV} {st : List Value} {pc : Nat} (hi : ∀ H, S H → S2 H) (k : VS G X nL Q S2 kc n L st pc) : VS G X nL Q S kc n L st pc := fun H locs ls hS hL hl => k H locs ls (hi H hS) hL hl
theorem thr_in : ∀ w ∈ Bundle.throwableAtoms.filter vx_no, w ∈ lw_all := by
  intro w hw
  obtain ⟨h1, h2⟩ := List.mem_filter.mp hw
  unfold Bundle.throwableAtoms at h1
  simp only [List.mem_cons, List.not_mem_nil, or_false] at h1
  rcases h1 with rfl | rfl | rfl | rfl | rfl | rfl | rfl | rfl | rfl | rfl | rfl | rfl | rfl | rfl | rfl | rfl | rfl | rfl | rfl | rfl | rfl | rfl | rfl | rfl
  · exact q118
  · exact q523
  · exact q532
  · exact q544
  · exact q547
  · exact q549
  · exact q524
  · exact q525
  · exact q180
  · exact q181
  · exact q526
  · exact q531
  · exact q545
  · exact q768
  · exact q513
  · exact q769
  · exact q515
  · exact q770
  · exact q517
  · exact q527
  · exact absurd h2 (by decide)
  · exact q529
  · exact absurd h2 (by decide)
  · exact q519
theorem V_fillRoom {e : Env} {V : State} {g : JFrame} {T : ThrowableC} {q : Nat} {ce : Cell} (htop : V.topJava?.isSome) {lim : Nat × Nat} (hlim : e.platform.stackLimits V.me = lim) (hframes : V.frames.length + 2 < lim.1) (hwords : (stackUse (.java g :: V.frames.tail)).2 + 41 ≤ lim.2) :
    e.platform.stackFull (((V.setTop g).threads[(V.setTop g).cur]?).getD { frames := [] }) (V.setTop g).frames (1 + 2) = false ∧
    e.platform.stackFull ((((fillInside V g T.fill q ce).setTop (fillJ T.fill q 16 [])).threads[((fillInside V g T.fill q ce).setTop (fillJ T.fill q 16 [])).cur]?).getD { frames := [] }) ((fillInside V g T.fill q ce).setTop (fillJ T.fill q 16 [])).frames (nativeFrameWords "java/lang/Throwable" "fillInStackTrace" 2) = false := by
  obtain ⟨g₀, hg⟩ := Option.isSome_iff_exists.mp htop
  obtain ⟨tl, htl⟩ := State.topJava?_eq_some.mp hg
  have hlen : V.frames.length = (Frame.java g :: V.frames.tail).length := by rw [htl]; rfl
  have hfg : (V.setTop g).frames = .java g :: V.frames.tail := by rw [State.frames_setTop _ htl, htl]; rfl
  have hlimg : e.platform.stackLimits (V.setTop g).me = lim := by rw [State.stackLimits_setTop _ htop]; exact hlim
  have htopE : (V.setCell q (ce.withEntry V.cur)).topJava?.isSome := htop
  have hfF : (fillInside V g T.fill q ce).frames = .java (entryFrameSync T.fill #[.ref q] 1 q) :: .java g :: V.frames.tail := frames_entered (g := g) htopE _
  have htopF : (fillInside V g T.fill q ce).topJava?.isSome := by rw [State.topJava?_of_frames hfF]; rfl
  have hlimF : e.platform.stackLimits (fillInside V g T.fill q ce).me = lim := by
    rw [State.stackLimits_pushFrame, State.stackLimits_setTop _ htopE]; exact hlim
  have hw14 : (stackUse [Frame.java (fillJ T.fill q 16 [])]).2 = 14 := by
    rw [stackUse_java, stackUse_nil]
    simp [operandWords]
  exact ⟨roomAbove (pushed := []) (base := .java g :: V.frames.tail) (free := 41) (lim := lim) hfg hlimg (by rw [← hlen]; simp only [List.length_nil]; omega) hwords (by simp only [stackUse_nil]; omega),
    roomAbove (pushed := [.java (fillJ T.fill q 16 [])]) (base := .java g :: V.frames.tail) (free := 41) (lim := lim) (State.frames_setTop _ hfF) (by rw [State.stackLimits_setTop _ htopF]; exact hlimF)
      (by rw [← hlen]; simp only [List.length_cons, List.length_nil]; omega) hwords (by rw [hw14]; decide)⟩
theorem VS_fill {G : GG} {X : CX} {cc : ByteArray} {nL : Nat} {own : String} {ret : Option FieldType} {d MC MS : Nat} {Q : State → Prop} {h : AH} {kc n : Nat} {L : LV} {st : List Value} {pc : Nat} {q : Nat} {c0 cellS : Cell} {KV : List (Nat × Value)} {T : ThrowableC} {B : BackC} {u0 : RefV} (F : Fx G X cc nL own ret d MC MS)
    (hA : (xl X).admits (xe X)) (hl0 : (xl X).stackTraces = false) (L0 : T.Links (xe X).platform (xs X)) (hmc : (xm X).cls = T.cT) (hd : decode cc pc = .ok (.invokevirtual 27, 3)) (hq : h q = none) (hb : bz G ≤ q)
    (hsel0 : selectMethod (xe X).platform (xs X).vm c0.cls T.fill0 = .method T.fill0) (hselF : selectMethod (xe X).platform (xs X).vm c0.cls T.fill = .method T.fill)
    (hbS : T.aS < bz G) (hcS : G.2.2.1[T.aS]? = some cellS) (hknS : cellS.vm ≠ .unknown) (hvU : cellS.slots[T.fUnassigned.slot]? = some u0.v) (hm1 : c0.monitor.owner = none) (hm2 : c0.monitor.count = 0)
    (hlt : T.fStack.slot < c0.slots.size) (hfit : (xs X).fitsSlot c0.cls .none T.fStack.slot u0.v = true) (hKS : (T.fStack.slot, u0.v) ∈ KV) (LB : B.Links T (xe X).platform (xs X)) (hKB : (B.fBack.slot, Value.null) ∈ KV) (hsum : (st.map fun v => v.category).sum ≤ 8) (hd1 : 3 ≤ d)
    (k : VS G X nL Q (HX G h q c0 KV) kc n L (.ref q :: st) (pc + 3)) : VS G X nL Q (HX G h q c0 KV) kc n L (.ref q :: st) pc := by
  intro H locs ls hS9 hL hl T0 hT XX
  obtain ⟨hSim, ce, h1, h2, h3, h4, h5, h6⟩ := id hS9
  subst hT
  have htr : (xe X).platform.stackTraces = false := (show (xe X).platform.stackTraces = (xl X).stackTraces by rw [hA.platform]).trans hl0
  have hobj : ∀ k, ce.vm ≠ .statics k := fun k => by rw [h3]; exact fun z => by cases z
  have hR := F.room
  obtain ⟨vm1, hW1, st1⟩ := Steps.invokeVirtualCold (tb := (xP X).tables) (e := xe X) (below := xb X) (s₀ := xs X) (U := T0) (c := xc X) (f := F0 (xm X) pc ls (.ref q :: st)) (args := []) (rest := st) (a := q) (cell := ce) (r := T.fill) (m := T.fill) XX.here F.exec (by rw [F.code]; exact hd) XX.warmed
    (hmc ▸ L0.mlink27) (hmc ▸ L0.mright27) L0.notHandle (hmc ▸ L0.cls) L0.file L0.pool27 L0.cls L0.notInterface (L0.method L0.fillAt) L0.fillStatic (by rw [L0.fillParams]; rfl) rfl h1 hobj (by rw [h2]; exact hselF) (L0.method L0.fillAt) L0.fillAbstract L0.cls L0.notInterface
  have Xn := XX.noted hW1
  have hfr : (T0.setVm vm1).frames.length + 2 < ((xe X).platform.stackLimits (T0.setVm vm1).me).1 := Xn.framesAbove (n := 2) (by omega)
  have hwd : (stackUse (.java (F0 (xm X) pc ls st) :: (T0.setVm vm1).frames.tail)).2 + 41 ≤ ((xe X).platform.stackLimits (T0.setVm vm1).me).2 := Xn.stackAbove (g := F0 (xm X) pc ls st) (by rw [F.maxL]; exact hl.1) (K := 41) (by have e9 : ((F0 (xm X) pc ls st).stack.map (fun v => v.category)).sum = (st.map (fun v => v.category)).sum := rfl; show 2 * 0 + _ + 41 ≤ _; omega)
  obtain ⟨vm2, hW2, st2⟩ := Steps.fillColdAnyV (xP X) (e := xe X) (below := xb X) (s₀ := xs X) (V := T0.setVm vm1) (g := F0 (xm X) pc ls st) (c := xc X) (self := q) Xn.here F.exec T L0 hW1 (Nn := fun u => u) heapOnly_id (fun _ _ => rfl) (fun _ => rfl) (fun u x y => setCell_twice _ _ _ _) (cell := ce) (cellS := cellS) (cN := ce.withEntry (T0.setVm vm1).cur) (u0 := u0) (ig := .invokevirtual 27) (len := 3) []
    h1 hobj (by rw [h3]; exact fun z => by cases z) (Or.inl (by rw [h4]; exact hm1)) (h6 _ hKS) (by rw [h2]; exact hsel0) ((hSim.2.1 _ hbS).trans hcS) (fun z => absurd hbS (by rw [z]; exact Nat.not_lt.mpr hb)) hknS hvU (fun _ hu => hu) (fun _ hu => hu) rfl rfl rfl (by simp [Cell.withEntry]) ⟨by rw [h5]; exact hlt, by rw [h2, h3]; exact hfit⟩ (by rw [F.code]; exact hd)
    (fun _ vm hW hAt t hr => L0.nativeOff (xP X) htr hAt (by exact hW) ((V_fillRoom (e := xe X) (V := (T0.setVm vm1).setVm vm) (g := F0 (xm X) pc ls st) (T := T) (q := q) (ce := ce) Xn.here.top rfl hfr hwd).2) hr)
    (V_fillRoom (e := xe X) (V := T0.setVm vm1) (g := F0 (xm X) pc ls st) (T := T) (q := q) (ce := ce) Xn.here.top rfl hfr hwd).1 ⟨B, LB, h6 _ hKB, fun _ _ => rfl⟩
  have hlf : ((ce.withEntry (T0.setVm vm1).cur).setSlot T.fStack.slot u0.v).left = ce.setSlot T.fStack.slot u0.v := by
    rw [Cell.left_setSlot, Cell.left_withEntry _ (by rw [h4]; exact hm1) (by rw [h4]; exact hm2)]
  have X3 := (XX.noted hW2).stored (a := q) h1 T.fStack.slot u0.v
  have hqs : q < T0.heap.size := (Array.getElem?_eq_some_iff.mp h1).1
  obtain ⟨t2, a1, b1⟩ := k ((T0.setVm vm2).setCell q (ce.setSlot T.fStack.slot u0.v)).heap (locs ++ [⟨q, T.fStack.slot⟩]) ls
    ⟨hSim.off hq hb (by show (T0.heap.setIfInBounds _ _).size = _; simp) (fun p hp => by show (T0.heap.setIfInBounds _ _)[p]? = _; simp [Array.getElem?_setIfInBounds, Ne.symm hp]), ce.setSlot T.fStack.slot u0.v, by show (T0.heap.setIfInBounds _ _)[q]? = _; simp [Array.getElem?_setIfInBounds, hqs], h2, h3, h4, by rw [k2_slotsz]; exact h5, fun x hx => by rw [Cell.setSlot_same (h6 _ hKS)]; exact h6 x hx⟩
    (fun z hz => (List.mem_append.mp hz).elim (hL z) (fun h0 => by rw [List.mem_singleton.mp h0]; exact hb)) hl _ rfl X3
  refine ⟨t2, st1 _ (st2 _ ?_), b1⟩
  rw [hlf]
  exact a1
/-- a class of the class's own failures -/
def FXc (E : String) (ci : Nat) (T0 : u_T) (ty : Nat → FieldType) (w0 : Value) : Prop := ClsI ci E T0 1 ty ∧ defaultValue (ty 0) = w0 ∧
  Cond.selects E Bundle.tFill0 Bundle.tFill0 ∈ lw_all ∧ Cond.selects E Bundle.tFill Bundle.tFill ∈ lw_all ∧
  (Cond.lays E Bundle.tN "cause" "Ljava/lang/Throwable;" ∈ lw_all ∧ Cond.lays E Bundle.tN "stackTrace" Bundle.steD ∈ lw_all ∧ Cond.lays E Bundle.tN "suppressedExceptions" Bundle.listD ∈ lw_all ∧ Cond.lays E Bundle.tN "detailMessage" "Ljava/lang/String;" ∈ lw_all ∧ Cond.lays E Bundle.tN "backtrace" "Ljava/lang/Object;" ∈ lw_all) ∧
  ((T0 0).2.1 ≠ "cause" ∧ (T0 0).2.1 ≠ "stackTrace" ∧ (T0 0).2.1 ≠ "suppressedExceptions" ∧ (T0 0).2.1 ≠ "detailMessage")
theorem fx_X9 : FXc RX9 7 TEX9 tyEX9 .null := ⟨ki_X9, rfl, q2453, q535, ⟨q2454, q2455, q2456, q2457, q2458⟩, by decide +kernel⟩
theorem fx_X18 : FXc RX18 15 TEX18 tyEX18 (.int 0) := ⟨ki_X18, rfl, q3571, q536, ⟨q3572, q3573, q3574, q3575, q3576⟩, by decide +kernel⟩
theorem fx_X19 : FXc RX19 16 TEX19 tyEX19 (.int 0) := ⟨ki_X19, rfl, q3625, q534, ⟨q3626, q3627, q3628, q3629, q3630⟩, by decide +kernel⟩
set_option maxHeartbeats 4000000 in
/-- Throwable.<init>(String, Throwable) -/
theorem ct_T4 {G : GG} {l : Launch} {h : AH} {q ci : Nat} {E : String} {T0 : u_T} {ty : Nat → FieldType} {w0 : Value} {cz : Option Nat} (hl0 : l.stackTraces = false) (hc : FXc E ci T0 ty w0) (hq : h q = none) (hb : bz G ≤ q) : CtF G l yJ13_init_4 cJ13_init_4 3 4 E q [.ref q, .null, va_rf cz] h (PV (hset h q (.inr (ci, [w0])))) := by
  refine CtF.of (by decide) (by cases cz <;> exact Nat.le_of_ble_eq_true rfl) (by cases cz <;> exact cat1 rfl) (fun X hXl F hin hA hSim0 hFQ0 => ?_)
  subst hXl
  have howns : (xe X).platform.frameOwnsMonitors = true := by rw [hA.platform]
  have hfin : (xe X).platform.finalization = false := by rw [hA.platform]
  have hpl : (xe X).platform.magicAccessors = ({} : Platform).magicAccessors := by rw [hA.platform]
  have hU := F.kn.2.2.2.2.2.2.2.2.2.1
  have hN := F.kn.2.2.2.2.2.2.2.2.2.2.1
  have hkp : ∀ a : Nat, a < G.2.2.1.size → ¬ fr G a → (xs X).heap[a]? = G.2.2.1[a]? := fun a ha _ => hSim0.2.1 a ha
  have hU' : vx_Zq Bundle.tN "UNASSIGNED_STACK" Bundle.steD (fr G) (xs X) (xs X).heap := hU.kept hkp
  have hN' : vx_Zq Bundle.tN "SUPPRESSED_SENTINEL" Bundle.listD (fr G) (xs X) (xs X).heap := hN.kept hkp
  have iU : (Cond.isRef (.static Bundle.tN "UNASSIGNED_STACK" Bundle.steD)).before (xa X) (xs X) = true := vx_isRefq hU'.1
  have iN : (Cond.isRef (.static Bundle.tN "SUPPRESSED_SENTINEL" Bundle.listD)).before (xa X) (xs X) = true := vx_isRefq hN'.1
  have hW : ∀ w ∈ Bundle.throwableAtoms, w.before (xa X) (xs X) = true := vx_own (fun w hw => F.wd _ (thr_in w hw)) iU iN hU'.2.word hN'.2.word
  obtain ⟨T, Z, L0, LZ, Y⟩ := ThrowableC.of_atoms (args := xa X) howns hfin hpl hW
  have hmc : (xm X).cls = T.cT := Option.some.inj (F.hown.symm.trans Y.found)
  obtain ⟨cX, kX, hfc, hk, hord, hcell⟩ := hFQ0
  obtain ⟨hki, hw0, s0, s1, ⟨lC, lS, lP, lM, lB⟩, n1, n2, n3, n4⟩ := hc
  obtain ⟨hci, hcin, hcty, -⟩ := hki
  obtain ⟨hSl, hcX2, -⟩ := F.kn.1.1 ci _ hci
  have hcX : cX = G.1.1 ci := Option.some.inj (hfc.symm.trans hcX2)
  obtain ⟨cfK, kfK, fiK, fK, hiK, hsK⟩ := hSl 0 Nat.zero_lt_one
  have lK := u_lays (args := xa X) (s := xs X) F.wd hcin (k := 0) Nat.zero_lt_one
  have hsel0 : selectMethod (xe X).platform (xs X).vm cX T.fill0 = .method T.fill0 := by
    obtain ⟨c2, r2, m2, q1, q2, q3, q4, -⟩ := Cond.selects_spec (F.wd _ s0)
    cases Option.some.inj (q1.symm.trans hfc)
    cases Option.some.inj (q2.symm.trans (State.methodFound?_of_named Y.fill0 (by decide)))
    cases Option.some.inj (q3.symm.trans Y.fill0)
    rw [Launch.admits_selectMethod hA]; exact q4
  have hselF : selectMethod (xe X).platform (xs X).vm cX T.fill = .method T.fill := by
    obtain ⟨c2, r2, m2, q1, q2, q3, q4, -⟩ := Cond.selects_spec (F.wd _ s1)
    cases Option.some.inj (q1.symm.trans hfc)
    cases Option.some.inj (q2.symm.trans (State.methodFound?_of_named Y.fill (by decide)))
    cases Option.some.inj (q3.symm.trans Y.fill)
    rw [Launch.admits_selectMethod hA]; exact q4
  -- the statics
  obtain ⟨cU, kU, iU2, fU, aU, cellS, -, g2, -, g4, g5, g6, -, -, -, g10⟩ := hU.2
  cases g2.symm.trans Y.unassigned
  cases Option.some.inj (g4.symm.trans L0.statics)
  have hbS : T.aS < bz G := Nat.not_le.mp g10
  have hcS1 : (xs X).heap[T.aS]? = some cellS := (hSim0.2.1 _ hbS).trans g5
  obtain ⟨u0, hu0⟩ := Cond.staticRefV Y.unassigned L0.unassignedStatic L0.statics hcS1 g6 iU
  obtain ⟨sen, hsen⟩ := Cond.staticRefV Y.sentinel L0.sentinelStatic L0.statics hcS1 g6 iN
  have hknS : cellS.vm ≠ .unknown := fun z => by rw [z] at g6; cases g6
  -- the fields
  obtain ⟨ci198, i198, fB, hk198, hg198, ha198, hsB, -, hnB, htB, hffB⟩ := Cond.ownField (t := .object "java/lang/Object") Y.found L0.cls (by decide +kernel) (F.wd _ q522) (F.wd _ q521) (xe X).platform hpl
  obtain ⟨iM, hffM⟩ := Y.msg
  obtain ⟨tyC, -⟩ := Cond.laysAt hfc hk Y.cause (F.wd _ lC)
  obtain ⟨tyS, -⟩ := Cond.laysAt hfc hk Y.stack (F.wd _ lS)
  obtain ⟨tyP, -⟩ := Cond.laysAt hfc hk Y.supp (F.wd _ lP)
  obtain ⟨tyM, -⟩ := Cond.laysAt hfc hk hffM (F.wd _ lM)
  obtain ⟨tyB, -⟩ := Cond.laysAt hfc hk hffB (F.wd _ lB)
  have nmM : T.fMsg.name = "detailMessage" := (State.fieldFound?_type hffM (t := .object "java/lang/String") (by decide +kernel)).1
  have nmK : fK.name = (T0 0).2.1 := (State.fieldFound?_type hiK (hcty 0 (by decide))).1
  have bC := u_apart (args := xa X) (Or.inl (F.wd _ lB)) (Or.inl (F.wd _ lC)) hffB Y.cause (by rw [hnB, Y.causeName]; decide)
  have bS := u_apart (args := xa X) (Or.inl (F.wd _ lB)) (Or.inl (F.wd _ lS)) hffB Y.stack (by rw [hnB, Y.stackName]; decide)
  have bP := u_apart (args := xa X) (Or.inl (F.wd _ lB)) (Or.inl (F.wd _ lP)) hffB Y.supp (by rw [hnB, Y.suppName]; decide)
  have sP := u_apart (args := xa X) (Or.inl (F.wd _ lS)) (Or.inl (F.wd _ lP)) Y.stack Y.supp (by rw [Y.stackName, Y.suppName]; decide)
  have kC := u_apart (args := xa X) lK (Or.inl (F.wd _ lC)) hiK Y.cause (by rw [nmK, Y.causeName]; exact n1)
  have kS := u_apart (args := xa X) lK (Or.inl (F.wd _ lS)) hiK Y.stack (by rw [nmK, Y.stackName]; exact n2)
  have kP := u_apart (args := xa X) lK (Or.inl (F.wd _ lP)) hiK Y.supp (by rw [nmK, Y.suppName]; exact n3)
  have kM := u_apart (args := xa X) lK (Or.inl (F.wd _ lM)) hiK hffM (by rw [nmK, nmM]; exact n4)
  rw [hsK] at kC kS kP kM
  have tC : ∀ v : Value, v.isRef = true → Takes (xs X) (freshCell cX kX) T.fCause v := fun v hv => Takes.of_laid hk hord tyC (by rw [Y.causeType]; exact fits_refV_object _ ⟨v, hv⟩)
  have tS : Takes (xs X) (freshCell cX kX) T.fStack u0.v := Takes.of_laid hk hord tyS (by rw [Y.stackType]; exact fits_refV_array _ u0)
  have tP : Takes (xs X) (freshCell cX kX) T.fSupp sen.v := Takes.of_laid hk hord tyP (by rw [Y.suppType]; exact fits_refV_object _ sen)
  have tM : Takes (xs X) (freshCell cX kX) T.fMsg .null := Takes.of_laid hk hord tyM (by rw [Y.msgType]; rfl)
  have hw1 : (freshCell cX kX).slots[G.1.2 ci 0]? = some w0 := by
    have h3 := (u_facts hfc hk lK hiK).2.2
    rw [(State.fieldFound?_type hiK (hcty 0 (by decide))).2] at h3
    rw [← hsK, ← hw0]
    exact k2_blank h3
  have hwB : (freshCell cX kX).slots[fB.slot]? = some .null := by
    have h3 := fresh_default (c := cX) tyB
    rw [htB] at h3
    exact h3
  have hczr : (va_rf cz).isRef = true := by cases cz <;> rfl
  have hczc : (va_rf cz).category = 1 := by cases cz <;> rfl
  have hNm : (xm X).cls = T.cT ∧ (xt X).name = "<init>" := ⟨hmc, hin⟩
  have hKV : ∀ f : Nat, fB.slot ≠ f → G.1.2 ci 0 ≠ f → ∀ (v : Value), ∀ x ∈ [(fB.slot, Value.null), (G.1.2 ci 0, w0)], x = (f, v) ∨ x ∈ [(fB.slot, Value.null), (G.1.2 ci 0, w0)] ∧ x.1 ≠ f := by
    intro f h1 h2 v x hx
    refine Or.inr ⟨hx, ?_⟩
    simp only [List.mem_cons, List.not_mem_nil, or_false] at hx
    rcases hx with rfl | rfl
    · exact h1
    · exact h2
  refine VS_aload_n (i := 0) F dJ13_init_4_0 rfl rfl ?_
  refine VS_objInit F dJ13_init_4_1 q526 q180 q181 (by decide) (Nat.le_of_ble_eq_true rfl) ?_
  refine VS.imp (S2 := HX G h q (freshCell cX kX) [(fB.slot, .null), (G.1.2 ci 0, w0)]) (fun H hH => ⟨hH.1.1, freshCell cX kX, by rw [hH.2]; exact hcell, rfl, rfl, rfl, rfl, fun x hx => ?_⟩) ?_
  · simp only [List.mem_cons, List.not_mem_nil, or_false] at hx
    rcases hx with rfl | rfl
    · exact hwB
    · exact hw1
  refine VS_aload_n (i := 0) F dJ13_init_4_4 rfl rfl ?_
  refine VS_aload_n (i := 0) F dJ13_init_4_5 rfl rfl ?_
  refine VS_putX (KV2 := [(fB.slot, .null), (G.1.2 ci 0, w0)]) F dJ13_init_4_6 q768 Y.cause L0.causeInstance (Or.inr hNm) hq hb (tC (.ref q) rfl).1 (narrow_ref _ _) (tC (.ref q) rfl).2 (hKV _ bC kC _) ?_
  refine VS_aload_n (i := 0) F dJ13_init_4_9 rfl rfl ?_
  refine VS_getsX F dJ13_init_4_10 q527 Y.unassigned L0.unassignedStatic L0.initialized L0.statics hbS g5 hknS hu0 ?_
  refine VS_putX (KV2 := [(T.fStack.slot, u0.v), (fB.slot, .null), (G.1.2 ci 0, w0)]) F dJ13_init_4_13 q769 Y.stack L0.stackInstance (Or.inr hNm) hq hb tS.1 (narrow_refV _ _) tS.2 (fun x hx => (List.mem_cons.mp hx).elim Or.inl (fun hx => hKV _ bS kS u0.v x hx)) ?_
  refine VS_aload_n (i := 0) F dJ13_init_4_16 rfl rfl ?_
  refine VS_getsX F dJ13_init_4_17 q529 Y.sentinel L0.sentinelStatic L0.initialized L0.statics hbS g5 hknS hsen ?_
  refine VS_putX (KV2 := [(T.fStack.slot, u0.v), (fB.slot, .null), (G.1.2 ci 0, w0)]) F dJ13_init_4_20 q770 Y.supp L0.suppInstance (Or.inr hNm) hq hb tP.1 (narrow_refV _ _) tP.2 (fun x hx => Or.inr ⟨hx, ?_⟩) ?_
  · simp only [List.mem_cons, List.not_mem_nil, or_false] at hx
    rcases hx with rfl | rfl | rfl
    · exact sP
    · exact bP
    · exact kP
  refine VS_aload_n (i := 0) F dJ13_init_4_23 rfl rfl ?_
  refine VS_fill (B := { ci198 := ci198, i198 := i198, fBack := fB }) F hA hl0 L0 hmc dJ13_init_4_24 hq hb hsel0 hselF hbS g5 hknS hu0 rfl rfl tS.1 tS.2 List.mem_cons_self ⟨hk198, hg198, ha198, hsB⟩ (List.mem_cons_of_mem _ List.mem_cons_self) (Nat.le_of_ble_eq_true rfl) (by decide) ?_
  refine VS_pop F dJ13_init_4_27 rfl ?_
  refine VS_aload_n (i := 0) F dJ13_init_4_28 rfl rfl ?_
  refine VS_aload_nN (i := 1) F dJ13_init_4_29 rfl rfl ?_
  refine VS_putX (KV2 := [(G.1.2 ci 0, w0)]) F dJ13_init_4_30 q767 hffM L0.msgInstance (Or.inr hNm) hq hb tM.1 (narrow_isRef _ rfl) tM.2 (fun x hx => Or.inr ⟨List.mem_cons_of_mem _ (List.mem_cons_of_mem _ hx), by rw [List.mem_singleton.mp hx]; exact kM⟩) ?_
  refine VS_aload_n (i := 0) F dJ13_init_4_33 rfl rfl ?_
  refine VS_aload_nQ (i := 2) F dJ13_init_4_34 rfl rfl ?_
  refine VS_putX (KV2 := [(G.1.2 ci 0, w0)]) F dJ13_init_4_35 q768 Y.cause L0.causeInstance (Or.inr hNm) hq hb (tC _ hczr).1 (narrow_isRef _ hczr) (tC _ hczr).2 (fun x hx => Or.inr ⟨hx, by rw [List.mem_singleton.mp hx]; exact kC⟩) ?_
  refine VV.vs (h := hset h q (.inr (ci, [w0]))) (V_vret F dJ13_init_4_38 (Nat.le_refl _) (Nat.le_refl _) ⟨rfl, rfl⟩) (fun H hH => ?_)
  obtain ⟨hS, ce, r1, r2, r3, r4, r5, r6⟩ := hH
  refine hS.tell hb ⟨(E, T0, 1), hci, ce, r1, r2.trans hcX, r3, fun k hk => ?_⟩
  obtain rfl : k = 0 := Nat.lt_one_iff.mp hk
  exact r6 _ (List.mem_singleton.mpr rfl)
theorem ct_E4 {G : GG} {l : Launch} {h : AH} {q ci : Nat} {E : String} {T0 : u_T} {ty : Nat → FieldType} {w0 : Value} {cz : Option Nat} (hl0 : l.stackTraces = false) (hc : FXc E ci T0 ty w0) (hq : h q = none) (hb : bz G ≤ q) : CtF G l yJ14_init_4 cJ14_init_4 3 5 E q [.ref q, .null, va_rf cz] h (PV (hset h q (.inr (ci, [w0])))) := by
  refine CtF.of (by decide) (by cases cz <;> exact Nat.le_of_ble_eq_true rfl) (by cases cz <;> exact cat1 rfl) (fun X hXl F hin hA hSim0 hFQ0 => ?_)
  subst hXl
  refine VS_aload_n (i := 0) F dJ14_init_4_0 rfl rfl ?_
  refine VS_aload_nN (i := 1) F dJ14_init_4_1 rfl rfl ?_
  refine VS_aload_nQ (i := 2) F dJ14_init_4_2 rfl rfl ?_
  refine VS_callF (nn := 2) (As := [.null, va_rf cz]) F dJ14_init_4_3 lk_J14_10 (ct_T4 (cz := cz) hl0 hc hq hb) (fun H hH => hH.1) rfl rfl (Nat.le_of_ble_eq_true rfl) (by decide) (by decide) (Nat.le_refl _) (Nat.le_refl _) ?_
  rintro _ _ ⟨rfl, rfl⟩
  exact V_vret F dJ14_init_4_6 (Nat.le_refl _) (Nat.le_refl _) ⟨rfl, rfl⟩
theorem ct_X8_init {G : GG} {l : Launch} {h : AH} {q ci : Nat} {E : String} {T0 : u_T} {ty : Nat → FieldType} {w0 : Value} {cz : Option Nat} (hl0 : l.stackTraces = false) (hc : FXc E ci T0 ty w0) (hq : h q = none) (hb : bz G ≤ q) : CtF G l yX8_init cX8_init 2 6 E q [.ref q, va_rf cz] h (PV (hset h q (.inr (ci, [w0])))) := by
  refine CtF.of (by decide) (by cases cz <;> exact Nat.le_of_ble_eq_true rfl) (by cases cz <;> exact cat1 rfl) (fun X hXl F hin hA hSim0 hFQ0 => ?_)
  subst hXl
  refine VS_aload_n (i := 0) F dX8_init_0 rfl rfl ?_
  refine VS_null F dX8_init_1 ?_
  refine VS_aload_nQ (i := 1) F dX8_init_2 rfl rfl ?_
  refine VS_callF (nn := 2) (As := [.null, va_rf cz]) F dX8_init_3 lk_X8_1 (ct_E4 (cz := cz) hl0 hc hq hb) (fun H hH => hH.1) rfl rfl (Nat.le_of_ble_eq_true rfl) (by decide) (by decide) (Nat.le_refl _) (Nat.le_refl _) ?_
  rintro _ _ ⟨rfl, rfl⟩
  exact V_vret F dX8_init_6 (Nat.le_refl _) (Nat.le_refl _) ⟨rfl, rfl⟩
theorem ct_X9_init {G : GG} {l : Launch} {h : AH} {q a : Nat} (hl0 : l.stackTraces = false) (hq : h q = none) (hb : bz G ≤ q) : CtF G l yX9_init cX9_init 2 7 RX9 q [.ref q, .ref a] h (PV (hset h q (.inr (7, [.ref a])))) := by
  refine CtF.of (by decide) (Nat.le_of_ble_eq_true rfl) (cat1 rfl) (fun X hXl F hin hA hSim0 hFQ0 => ?_)
  subst hXl
  refine VS_aload_n (i := 0) F dX9_init_0 rfl rfl ?_
  refine VS_null F dX9_init_1 ?_
  refine VS_callF (nn := 1) (As := [.null]) F dX9_init_2 lk_X9_1 (ct_X8_init (cz := none) hl0 fx_X9 hq hb) (fun H hH => hH.1) rfl rfl (Nat.le_of_ble_eq_true rfl) (by decide) (by decide) (Nat.le_refl _) (Nat.le_refl _) ?_
  rintro _ _ ⟨rfl, rfl⟩
  refine V_aload_n (i := 0) F dX9_init_5 rfl rfl ?_
  refine V_aload_n (i := 1) F dX9_init_6 rfl rfl ?_
  refine V_putF F dX9_init_7 ff_X9_7_X9 hset_self hin rfl rfl (by decide) ?_
  exact V_vret F dX9_init_10 (Nat.le_refl _) (Nat.le_refl _) ⟨rfl, hset_hset⟩
theorem ct_X18_init {G : GG} {l : Launch} {h : AH} {q : Nat} {v : Int32} (hl0 : l.stackTraces = false) (hq : h q = none) (hb : bz G ≤ q) : CtF G l yX18_init cX18_init 2 7 RX18 q [.ref q, .int v] h (PV (hset h q (.inr (15, [.int v])))) := by
  refine CtF.of (by decide) (Nat.le_of_ble_eq_true rfl) (cat1 rfl) (fun X hXl F hin hA hSim0 hFQ0 => ?_)
  subst hXl
  refine VS_aload_n (i := 0) F dX18_init_0 rfl rfl ?_
  refine VS_null F dX18_init_1 ?_
  refine VS_callF (nn := 1) (As := [.null]) F dX18_init_2 lk_X18_1 (ct_X8_init (cz := none) hl0 fx_X18 hq hb) (fun H hH => hH.1) rfl rfl (Nat.le_of_ble_eq_true rfl) (by decide) (by decide) (Nat.le_refl _) (Nat.le_refl _) ?_
  rintro _ _ ⟨rfl, rfl⟩
  refine V_aload_n (i := 0) F dX18_init_5 rfl rfl ?_
  refine V_iload_n (i := 1) F dX18_init_6 rfl rfl ?_
  refine V_putF F dX18_init_7 ff_X18_7_X18 hset_self hin rfl rfl (by decide) ?_
  exact V_vret F dX18_init_10 (Nat.le_refl _) (Nat.le_refl _) ⟨rfl, hset_hset⟩
theorem ct_X19_init {G : GG} {l : Launch} {h : AH} {q c : Nat} {v : Int32} (hl0 : l.stackTraces = false) (hq : h q = none) (hb : bz G ≤ q) : CtF G l yX19_init cX19_init 3 7 RX19 q [.ref q, .int v, .ref c] h (PV (hset h q (.inr (16, [.int v])))) := by
  refine CtF.of (by decide) (Nat.le_of_ble_eq_true rfl) (cat1 rfl) (fun X hXl F hin hA hSim0 hFQ0 => ?_)
  subst hXl
  refine VS_aload_n (i := 0) F dX19_init_0 rfl rfl ?_
  refine VS_aload_n (i := 2) F dX19_init_1 rfl rfl ?_
  refine VS_callF (nn := 1) (As := [.ref c]) F dX19_init_2 lk_X19_1 (ct_X8_init (cz := some c) hl0 fx_X19 hq hb) (fun H hH => hH.1) rfl rfl (Nat.le_of_ble_eq_true rfl) (by decide) (by decide) (Nat.le_refl _) (Nat.le_refl _) ?_
  rintro _ _ ⟨rfl, rfl⟩
  refine V_aload_n (i := 0) F dX19_init_5 rfl rfl ?_
  refine V_iload_n (i := 1) F dX19_init_6 rfl rfl ?_
  refine V_putF F dX19_init_7 ff_X19_7_X19 hset_self hin rfl rfl (by decide) ?_
  exact V_vret F dX19_init_10 (Nat.le_refl _) (Nat.le_refl _) ⟨rfl, hset_hset⟩
