/-! a call through an interface of a method that a superinterface declares -/
section VIG
variable {p : Program} {l : Launch} {e : Env} {R : Room} {s : State} {m : MethodId} {args : Array Value} {below : List Frame} {meth : Method} {c : Code} {H : Heap} {locs : List Loc} {cells slots : Nat}
/-- what the call asks of the tables (J declares; the reference names x.cls) -/
def vg_W (C J own : String) (idx : Nat) (x y : MethodName) (U : State) : Prop :=
  ((Cond.methodLink own idx x).before #[] U = true ∧ (Cond.declares ⟨J, x.name, x.desc⟩).before #[] U = true ∧ (Cond.interfaceMethod x.cls J x.name x.desc).before #[] U = true) ∧ ((Cond.publicMethod ⟨J, x.name, x.desc⟩).before #[] U = true ∧ (Cond.publicMethod y).before #[] U = true ∧ (Cond.unhidden C x.name x.desc).before #[] U = true ∧ (Cond.castable C x.cls).before #[] U = true)
theorem vg_call {T : State} (X : Stand p l e R s m args below meth c T locs cells slots) (hexec : p.tables.exec = Jvm.exec) {own C J : String} {index count : Nat} {x y : MethodName} {bytes : ByteArray} {maxL : Nat} {ret : Option FieldType}
    (hown : s.vm.findClass own = some m.cls) (hw : vg_W C J own index x y s)
    (hsel : (Cond.selects C ⟨J, x.name, x.desc⟩ y).before args s = true) (hinst : (Cond.instanceMethod y).before args s = true) (hcode : (Cond.code y bytes maxL ret).before args s = true) (hx : x.cls ≠ "java/lang/invoke/MethodHandle" ∧ x.cls ≠ "java/lang/invoke/VarHandle") (hxo : x.cls ≠ J) (hJ : J ≠ "java/lang/invoke/MethodHandle" ∧ J ≠ "java/lang/invoke/VarHandle")
    {W : Nat} {Pre : Pt → Array Value → Prop} {Post : Pt → Array Value → Option Value → Pt → Prop} (hK : Back l R p e below s args y 5 W Pre Post)
    {b : Addr} {cellB : Cell} {kB : Class} (hcell : T.heap[b]? = some cellB) (hobj : cellB.vm.isStatics = false) (hcls : s.vm.findClass C = some cellB.cls) (hkB : s.vm.classes[cellB.cls]? = some kB)
    {g : JFrame} (hg : g.method = m) (hsize : g.locals.size = c.maxLocals) {argsL rest : List Value} (hlen : ∀ sig, parseMethodDescriptor x.desc = some sig → argsL.length = sig.parameters.length)
    (hstack : g.stack = argsL.reverse ++ .ref b :: rest) (hW : 2 * g.monitorRoom + (rest.map fun v => v.category).sum ≤ W) (hdg : decode c.code g.pc = .ok (.invokeinterface index count, 5))
    (hpre : ∀ vm₁, s.WarmedH vm₁ → Pre ⟨T.setVm vm₁, locs, cells, slots⟩ (Value.ref b :: argsL).toArray) :
    ∃ (v : Option Value) (vm₁ : Vm) (B : Pt), s.WarmedH vm₁ ∧ Stand p l e R s m args below meth c B.U B.locs B.cells B.slots ∧ Post ⟨T.setVm vm₁, locs, cells, slots⟩ (Value.ref b :: argsL).toArray v B ∧
      ∀ target, Steps p.tables e below (B.U.setTop { g with pc := g.pc + 5, stack := v.toList ++ rest }) target → Steps p.tables e below (T.setTop g) target := by
  obtain ⟨⟨w1, w2, w3⟩, w4, w5, w6, w7⟩ := hw
  obtain ⟨r0, r, hn, hrm, hstR, hsigR⟩ := Cond.declares_spec w2
  obtain ⟨hnameR, hdescR⟩ := name_of_methodNamed hn hrm
  obtain ⟨mk, methM, hnamed, hmethM, -, habM⟩ := Cond.instanceMethod_spec hinst
  obtain ⟨c2, r2, m2, q1, q2, q3, q4, -⟩ := Cond.selects_spec hsel
  cases hcls.symm.trans q1
  obtain ⟨c3, t3, u1, u2, u3⟩ := Cond.castable_spec w7
  cases hcls.symm.trans u1
  cases hnamed.symm.trans q3
  have hr2 : r2 = r0 := by
    have hd := State.methodFound?_of_named hn hJ
    exact Option.some.inj (q2.symm.trans hd)
  subst hr2
  have hselP : selectMethod e.platform s.vm cellB.cls r2 = .method mk := by rw [Launch.admits_selectMethod X.admits]; exact q4
  have hpubM : hasFlag methM.accessFlags Acc.public_ = true := Cond.publicMethod_spec hnamed hmethM w5
  have hway : ((cellB.cls :: s.vm.superclasses cellB.cls).any fun k => (declaredIn s.vm r.name r.desc k).any fun (_, z) => z.isPrivate || z.isStatic) = false := by
    rw [hnameR, hdescR]; exact Cond.unhidden_spec hcls w6
  obtain ⟨vm₁, X₁, hstep₁⟩ := Jvm.Stand.invokeinterfaceUp X hexec hown (va_any rfl w1) (va_any rfl w3) (va_any rfl w2) (va_any rfl w4) hxo hx (a := b) (cell := cellB) (kcell := kB) u2 hcell
    (fun z h => by rw [h] at hobj; cases hobj) hkB u3 hn hrm hselP hmethM hway hpubM habM (g := g) hg (argsL := argsL) (rest := rest) (hlen _ hsigR) hstack hdg
  obtain ⟨v, B, X', hpost, hsteps⟩ := hK m meth c ⟨T.setVm vm₁, locs, cells, slots⟩ { g with stack := rest } (.invokeinterface index count) mk (Value.ref b :: argsL).toArray X₁ hg hsize hdg hW (X₁.named hnamed) (hpre vm₁ X₁.warmed)
  exact ⟨v, vm₁, B, X₁.warmed, X', hpost, fun target h => hstep₁ _ fun acts => by rw [doInvoke_state]; exact hsteps.trans h⟩
def vg_ws (C J : String) (x y : MethodName) (ws : List Cond) : List Cond := ([.selects C ⟨J, x.name, x.desc⟩ y, .instanceMethod y, .initialized y.cls] : List Cond) ++ ws
def vg_pl (J : String) (x : MethodName) (n : Nat) : Prop := (x.cls ≠ "java/lang/invoke/MethodHandle" ∧ x.cls ≠ "java/lang/invoke/VarHandle") ∧ x.cls ≠ J ∧ (J ≠ "java/lang/invoke/MethodHandle" ∧ J ≠ "java/lang/invoke/VarHandle") ∧ (parseMethodDescriptor x.desc).map (fun d => d.parameters.length) = some n
theorem vg_run {x y : MethodName} {bytes cc : ByteArray} {maxL nL mc ms n index count : Nat} {ret : Option FieldType} {ws ws' : List Cond} {rm : Room} {Pc : Array Value → State → Prop} {Qc : Array Value → State → Outcome → State → Prop} {free : Addr → Prop} {Ts : List Cond} {own C J : String} {cC : ClassId} {b : Addr} {As rest : List Value} {g : JFrame}
    (hat : ClassAt s C cC) (S : CallFix p m c cc nL s args Ts own) (hM : Met l y ws rm Pc Qc mc ms free) (ht : ∀ w ∈ Ts, w.before args s = true) (hT : GoodIn Ts (vg_ws C J x y ws)) (hws0 : ws = Cond.code y bytes maxL ret :: ws') (hrc : rm.cells = mc) (hrs : rm.slots = ms) (hw : vg_W C J own index x y s) (hd : vg_pl J x n) (hR : rm.frames + 1 ≤ R.frames ∧ 8 + (maxL + 11) + rm.locals ≤ R.locals) (hp : PreV s H C b Pc As)
    (hg : g.method = m) (hn : As.length = n) (hsize : g.locals.size = nL) (hstack : g.stack = As.reverse ++ .ref b :: rest) (hW : 2 * g.monitorRoom + (rest.map fun v => v.category).sum ≤ 8) (hdg : decode cc g.pc = .ok (.invokeinterface index count, 5)) (hf : cells + mc ≤ R.cells ∧ slots + ms ≤ R.slots) :
    va_Run5 p l e R s m args below meth c H locs cells slots mc ms g rest (Qc (Value.ref b :: As).toArray) (free) := by
  have ok : ∀ w ∈ vg_ws C J x y ws, w.before args s = true := fun w h => ht w (hT w h).1
  have hG : GoodIn Ts ws := fun w h => hT w (by unfold vg_ws; exact List.mem_append_right _ h)
  have hcw : Cond.code y bytes maxL ret ∈ ws := by rw [hws0]; exact List.mem_cons_self
  have hini : (Cond.initialized y.cls).before args s = true := ok _ (by simp [vg_ws])
  have hK : Back l R p e below s args y 5 8 (PreOf R mc ms Pc) (PostOf Qc mc ms free) := back_of (bytes := bytes) (maxL := maxL) (ret := ret) hM hp.1 hrc hrs hR.1 hR.2 (pay_in ht hG) hcw (fun a' U hW => word_at hW (Or.inl (by first | rfl | simp [Cond.onTables, Cond.keeps, Cond.steady])) hini)
  obtain ⟨hx, hb, hml, ho, -⟩ := S
  obtain ⟨-, ⟨cellB, hcB, hoB, hclB⟩, hPc⟩ := hp
  obtain ⟨hfc, kB, hkB, -⟩ := hat
  cases hfc.symm.trans hclB
  intro T hT X
  obtain ⟨v, vm₁, ⟨U', l2, c2, s2⟩, hW₁, X', ⟨g', mk, t, L, e1, e2, hq, h1, hL, h2, h3⟩, st⟩ := vg_call X hx (C := C) (J := J) (bytes := bytes) (maxL := maxL) (ret := ret) ho hw (ok _ (by simp [vg_ws])) (ok _ (by simp [vg_ws])) (ht _ (hG _ hcw).1) hd.1 hd.2.1 hd.2.2.1 hK (by rw [hT]; exact hcB) hoB hclB hkB hg (hsize.trans hml.symm) (argsL := As) (rest := rest) (fun sig h => by
      have h2 := hd.2.2.2
      rw [h] at h2
      exact hn.trans (Option.some.inj h2).symm) hstack hW (by rw [hb]; exact hdg)
    (fun vm₁ hW₁ => ⟨hf.1, hf.2, hPc (T.setVm vm₁) hT hW₁⟩)
  dsimp only [Pt.U, Pt.locs, Pt.cells, Pt.slots] at X' e1 e2 h1 h2 h3 st
  subst h1; subst h2; subst h3
  exact ⟨v, (T.setVm vm₁).calling g' mk (Value.ref b :: As).toArray, t, U', L, hT, X', hL, e1, e2, hq, st⟩
theorem lw_G {C J : String} {x y : MethodName} {b : ByteArray} {L : Nat} {r : Option FieldType} (h2 : Cond.selects C ⟨J, x.name, x.desc⟩ y ∈ lw_all) (h3 : Cond.instanceMethod y ∈ lw_all) (h4 : Cond.initialized y.cls ∈ lw_all) (h5 : Cond.code y b L r ∈ lw_all) : GoodIn lw_all (vg_ws C J x y (ws_ y b L r)) := by
  refine lw_app ?_ (lw_meth h5)
  intro w hw
  simp only [List.mem_cons, List.not_mem_nil, or_false] at hw
  rcases hw with e | e | e <;> rw [e] <;> assumption
end VIG
section CALLG
variable {G : GG} {X : CX} {cc cc' : ByteArray} {nL : Nat} {own C : String} {ret ret' : Option FieldType} {d d' MC MS mc ms mL' nn b : Nat} {Q : State → Prop} {h : AH} {kc n : Nat} {L : LV} {st st0 As : List Value} {pc idx : Nat} {y : MethodName} {Post : Option Value → AH → Prop}
def LkG (own : String) (idx : Nat) (C J : String) (x y : MethodName) (cc : ByteArray) (mL : Nat) (ret : Option FieldType) (nn : Nat) : Prop := GoodIn lw_all (vg_ws C J x y (ws_ y cc mL ret)) ∧ ((Cond.methodLink own idx x ∈ flatC narrow_1 ∧ Cond.declares ⟨J, x.name, x.desc⟩ ∈ lw_tbl ∧ Cond.interfaceMethod x.cls J x.name x.desc ∈ lw_tbl ++ flatC narrow_1) ∧ (Cond.publicMethod ⟨J, x.name, x.desc⟩ ∈ lw_tbl ∧ Cond.publicMethod y ∈ lw_tbl ∧ Cond.unhidden C x.name x.desc ∈ lw_tbl ∧ Cond.castable C x.cls ∈ lw_tbl)) ∧ vg_pl J x nn
theorem V_callG {J : String} {x : MethodName} {count : Nat} (F : Fx G X cc nL own ret d MC MS) (hd : decode cc pc = .ok (.invokeinterface idx count, 5)) (lk : LkG own idx C J x y cc' mL' ret' nn) (hc : Ct G (xl X) y cc' mL' ret' d' mc ms (.ref b :: As) h Post) (hrc : isC G h b C) (hn : As.length = nn) (hst : st0 = As.reverse ++ .ref b :: st) (hsum : (st.map fun v => v.category).sum ≤ 8) (hd1 : d' + 1 ≤ d) (hm : mL' ≤ 45) (hr1 : kc + mc ≤ MC) (hr2 : n + ms ≤ MS)
    (kk : ∀ v h', Post v h' → VV G X nL Q h' (kc + mc) (n + ms) L (v.toList ++ st) (pc + 5)) : VV G X nL Q h kc n L st0 pc := by
  obtain ⟨ci, fs, T0, N0, hc1, hc2⟩ := id hrc
  obtain ⟨hg, ⟨⟨w1, w2, w3⟩, w4, w5, w6, w7⟩, hdd⟩ := lk
  have hF : vg_W C J own idx x y (xs X) := ⟨⟨F.kn.2.2.2.2.2.2.2.2.2.2.2.1 _ _ _ w1, F.kn.2.1 _ w2 rfl, F.kn.2.2.1 _ _ _ _ w3⟩, F.kn.2.1 _ w4 rfl, F.kn.2.1 _ w5 rfl, F.kn.2.1 _ w6 rfl, F.kn.2.1 _ w7 rfl⟩
  exact V_run (len := 5) (fun H locs ls hS hl => vg_run (rest := st) (F.kn.1.1 ci _ hc1).2 F.fix hc F.wd hg rfl rfl rfl hF hdd (roomR hd1 hm F.room) ⟨preG.blind, hrc.cell F hS, fun U hU hW => preG.at F.kn hS hU hW⟩ rfl hn hl.1 hst (lv_room hsum) hd ⟨Nat.le_trans hr1 F.room.2.2.1, Nat.le_trans hr2 F.room.2.2.2⟩) kk
end CALLG
