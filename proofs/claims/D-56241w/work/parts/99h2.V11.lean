/-! ===== a private method of a class above, by invokevirtual ===== -/
section V11
variable {p : Program} {l : Launch} {e : Env} {R : Room} {s : State} {m : MethodId} {args : Array Value} {below : List Frame} {meth : Method} {c : Code}
theorem va_callPV {T : State} {locs : List Loc} {cells slots : Nat} (X : Stand p l e R s m args below meth c T locs cells slots) (hexec : p.tables.exec = Jvm.exec) {own C0 : String} {index : Nat} {y x0 z : MethodName} {bytes : ByteArray} {maxL : Nat} {ret : Option FieldType}
    (hown : s.vm.findClass own = some m.cls) (hlink : (Cond.methodLink own index y).before args s = true) (hsel : (Cond.selects C0 x0 z).before args s = true) (hz : z.cls = y.cls) (hpriv : s.PrivateAt y)
    (hinst : (Cond.instanceMethod y).before args s = true) (hcode : (Cond.code y bytes maxL ret).before args s = true) (hy : y.cls ≠ "java/lang/invoke/MethodHandle" ∧ y.cls ≠ "java/lang/invoke/VarHandle")
    {W : Nat} {Pre : Pt → Array Value → Prop} {Post : Pt → Array Value → Option Value → Pt → Prop} (hK : Back l R p e below s args y 3 W Pre Post)
    {b : Addr} {cellB : Cell} (hcell : T.heap[b]? = some cellB) (hobj : cellB.vm.isStatics = false)
    {g : JFrame} (hg : g.method = m) (hsize : g.locals.size = c.maxLocals) {argsL rest : List Value} (hlen : ∀ sig, parseMethodDescriptor y.desc = some sig → argsL.length = sig.parameters.length)
    (hstack : g.stack = argsL.reverse ++ .ref b :: rest) (hW : 2 * g.monitorRoom + (rest.map fun v => v.category).sum ≤ W) (hdg : decode c.code g.pc = .ok (.invokevirtual index, 3))
    (hpre : ∀ vm₁, s.WarmedH vm₁ → Pre ⟨T.setVm vm₁, locs, cells, slots⟩ (Value.ref b :: argsL).toArray) :
    ∃ (v : Option Value) (vm₁ : Vm) (B : Pt), s.WarmedH vm₁ ∧ Stand p l e R s m args below meth c B.U B.locs B.cells B.slots ∧ Post ⟨T.setVm vm₁, locs, cells, slots⟩ (Value.ref b :: argsL).toArray v B ∧
      ∀ target, Steps p.tables e below (B.U.setTop { g with pc := g.pc + 3, stack := v.toList ++ rest }) target → Steps p.tables e below (T.setTop g) target := by
  obtain ⟨mk, methM, hnamed, hmethM, hstM, habM⟩ := Cond.instanceMethod_spec hinst
  obtain ⟨methM', cM, hmethM', -, -, -, -, -, -, hsigM⟩ := Cond.code_spec hnamed hcode
  cases hmethM.symm.trans hmethM'
  obtain ⟨c2, r2, m2, -, -, q3, -, kP, hkP, hkPi⟩ := Cond.selects_spec hsel
  have e9 : m2.cls = mk.cls := by
    have h1 := findClass_of_methodNamed q3
    rw [hz] at h1
    exact Option.some.inj (h1.symm.trans (findClass_of_methodNamed hnamed))
  rw [e9] at hkP
  obtain ⟨vm₁, X₁, hstep₁⟩ := X.invokevirtual hexec hown hlink hnamed hmethM hstM hkP hkPi hy (a := b) (cell := cellB) hcell (fun q h => by rw [h] at hobj; cases hobj) (selectMethod_private hmethM (hpriv mk methM hnamed hmethM)) hmethM habM hkP hkPi (g := g) hg (argsL := argsL) (rest := rest) (hlen _ hsigM) hstack hdg
  obtain ⟨v, B, X', hpost, hsteps⟩ := hK m meth c ⟨T.setVm vm₁, locs, cells, slots⟩ { g with stack := rest } (.invokevirtual index) mk (Value.ref b :: argsL).toArray X₁ hg hsize hdg hW (X₁.named hnamed) (hpre vm₁ X₁.warmed)
  exact ⟨v, vm₁, B, X₁.warmed, X', hpost, fun target h => hstep₁ _ fun acts => by rw [doInvoke_state]; exact hsteps.trans h⟩
def va_wsPV (own : String) (idx : Nat) (y : MethodName) (ws : List Cond) : List Cond := ([.methodLink own idx y, .instanceMethod y, .initialized y.cls] : List Cond) ++ ws
abbrev va_CP (R : Room) (s : State) (args : Array Value) (own : String) (index : Nat) (y : MethodName) (bytes : ByteArray) (maxL : Nat) (ret : Option FieldType) (ws : List Cond) (rm : Room) (mc ms n : Nat) : Prop :=
  (rm.cells = mc ∧ rm.slots = ms ∧ rm.frames + 1 ≤ R.frames ∧ 8 + (maxL + 11) + rm.locals ≤ R.locals ∧ (∀ w ∈ ws, ∀ (a' : Array Value) (U : State), s.WarmedH U.vm → w.before a' U = true) ∧ Cond.code y bytes maxL ret ∈ ws) ∧
  (Cond.methodLink own index y).before args s = true ∧ (Cond.instanceMethod y).before args s = true ∧ (Cond.initialized y.cls).before args s = true ∧ (Cond.code y bytes maxL ret).before args s = true ∧ (∀ sig, parseMethodDescriptor y.desc = some sig → n = sig.parameters.length)
theorem va_cwPV {own : String} {index maxL mc ms : Nat} {y : MethodName} {bytes : ByteArray} {ret : Option FieldType} {Ts ws ws' : List Cond} {rm : Room} (n : Nat) (ht : ∀ w ∈ Ts, w.before args s = true) (hT : GoodIn Ts (va_wsPV own index y ws)) (hw : ws = Cond.code y bytes maxL ret :: ws') (hrc : rm.cells = mc) (hrs : rm.slots = ms)
    (h2 : (parseMethodDescriptor y.desc).map (fun d => d.parameters.length) = some n) (hR : rm.frames + 1 ≤ R.frames ∧ 8 + (maxL + 11) + rm.locals ≤ R.locals) : va_CP R s args own index y bytes maxL ret ws rm mc ms n := by
  have ok : ∀ w ∈ va_wsPV own index y ws, w.before args s = true := fun w h => ht w (hT w h).1
  have hG : GoodIn Ts ws := fun w h => hT w (by unfold va_wsPV; exact List.mem_append_right _ h)
  have hc : Cond.code y bytes maxL ret ∈ ws := by rw [hw]; exact List.mem_cons_self
  refine ⟨⟨hrc, hrs, hR.1, hR.2, pay_in ht hG, hc⟩, ok _ (by simp [va_wsPV]), ok _ (by simp [va_wsPV]), ok _ (by simp [va_wsPV]), ht _ (hG _ hc).1, fun sig h => ?_⟩
  rw [h] at h2
  exact (Option.some.inj h2).symm
variable {H : Heap} {locs : List Loc} {cells slots : Nat}
theorem va_runPV {y x0 z : MethodName} {bytes cc : ByteArray} {maxL nL mc ms n index : Nat} {ret : Option FieldType} {ws : List Cond} {rm : Room} {Pc : Array Value → State → Prop} {Qc : Array Value → State → Outcome → State → Prop} {free : Addr → Prop} {Ts : List Cond} {own C C0 : String} {b : Addr} {As rest : List Value} {g : JFrame}
    (S : CallFix p m c cc nL s args Ts own) (hM : Met l y ws rm Pc Qc mc ms free) (cw : va_CP R s args own index y bytes maxL ret ws rm mc ms n) (hsel : (Cond.selects C0 x0 z).before args s = true) (hz : z.cls = y.cls) (hpriv : s.PrivateAt y) (hy : y.cls ≠ "java/lang/invoke/MethodHandle" ∧ y.cls ≠ "java/lang/invoke/VarHandle") (hp : PreV s H C b Pc As)
    (hg : g.method = m) (hn : As.length = n) (hsize : g.locals.size = nL) (hstack : g.stack = As.reverse ++ .ref b :: rest) (hW : 2 * g.monitorRoom + (rest.map fun v => v.category).sum ≤ 8) (hdg : decode cc g.pc = .ok (.invokevirtual index, 3)) (hf : cells + mc ≤ R.cells ∧ slots + ms ≤ R.slots) :
    va_Run p l e R s m args below meth c H locs cells slots mc ms g rest (Qc (Value.ref b :: As).toArray) (free) := by
  obtain ⟨⟨hrc, hrs, hfr, hlo, hws, hcw⟩, hl1, hl4, hini, hcode, hlen⟩ := cw
  have hK : Back l R p e below s args y 3 8 (PreOf R mc ms Pc) (PostOf Qc mc ms free) := back_of (bytes := bytes) (maxL := maxL) (ret := ret) hM hp.1 hrc hrs hfr hlo hws hcw (fun a' U hW => word_at hW (Or.inl (by first | rfl | simp [Cond.onTables, Cond.keeps, Cond.steady])) hini)
  obtain ⟨hx, hb, hml, ho, -⟩ := S
  obtain ⟨-, ⟨cellB, hcB, hoB, hclB⟩, hPc⟩ := hp
  intro T hT X
  obtain ⟨v, vm₁, ⟨U', l2, c2, s2⟩, hW₁, X', ⟨g', mk, t, L, e1, e2, hq, h1, hL, h2, h3⟩, st⟩ := va_callPV X hx (bytes := bytes) (maxL := maxL) (ret := ret) ho hl1 hsel hz hpriv hl4 hcode hy hK (by rw [hT]; exact hcB) hoB hg (hsize.trans hml.symm) (argsL := As) (rest := rest) (fun sig h => hn.trans (hlen sig h)) hstack hW (by rw [hb]; exact hdg)
    (fun vm₁ hW₁ => ⟨hf.1, hf.2, hPc (T.setVm vm₁) hT hW₁⟩)
  dsimp only [Pt.U, Pt.locs, Pt.cells, Pt.slots] at X' e1 e2 h1 h2 h3 st
  subst h1; subst h2; subst h3
  exact ⟨v, (T.setVm vm₁).calling g' mk (Value.ref b :: As).toArray, t, U', L, hT, X', hL, e1, e2, hq, st⟩
end V11
section V11b
variable {G : GG} {X : CX} {cc : ByteArray} {nL : Nat} {own : String} {ret : Option FieldType} {d MC MS : Nat} {Q : State → Prop} {h : AH} {kc n : Nat} {L : LV} {st : List Value} {pc : Nat}
def LkP (own : String) (idx : Nat) (y : MethodName) (cc : ByteArray) (mL : Nat) (ret : Option FieldType) (nn : Nat) : Prop := GoodIn lw_all (va_wsPV own idx y (ws_ y cc mL ret)) ∧ Cond.privateMethod y ∈ lw_tbl ∧ (∃ C0 x0 z, Cond.selects C0 x0 z ∈ lw_all ∧ z.cls = y.cls) ∧ ((y.cls ≠ "java/lang/invoke/MethodHandle" ∧ y.cls ≠ "java/lang/invoke/VarHandle") ∧ (parseMethodDescriptor y.desc).map (fun d => d.parameters.length) = some nn)
theorem lw_P {own : String} {idx : Nat} {y : MethodName} {b : ByteArray} {L : Nat} {r : Option FieldType} (h1 : Cond.methodLink own idx y ∈ lw_all) (h3 : Cond.instanceMethod y ∈ lw_all) (h4 : Cond.initialized y.cls ∈ lw_all) (h5 : Cond.code y b L r ∈ lw_all) : GoodIn lw_all (va_wsPV own idx y (ws_ y b L r)) := by
  refine lw_app ?_ (lw_meth h5)
  intro w hw
  simp only [List.mem_cons, List.not_mem_nil, or_false] at hw
  rcases hw with e | e | e <;> rw [e] <;> assumption
theorem V_callP {y : MethodName} {cc' : ByteArray} {mL' nn d' mc ms idx b : Nat} {ret' : Option FieldType} {As st0 : List Value} {C : String} {Post : Option Value → AH → Prop} (F : Fx G X cc nL own ret d MC MS) (hd : decode cc pc = .ok (.invokevirtual idx, 3)) (lk : LkP own idx y cc' mL' ret' nn) (hc : Ct G (xl X) y cc' mL' ret' d' mc ms (.ref b :: As) h Post) (hrc : isC G h b C) (hn : As.length = nn) (hst : st0 = As.reverse ++ .ref b :: st) (hsum : (st.map fun v => v.category).sum ≤ 8) (hd1 : d' + 1 ≤ d) (hm : mL' ≤ 45) (hr1 : kc + mc ≤ MC) (hr2 : n + ms ≤ MS)
    (kk : ∀ v h', Post v h' → VV G X nL Q h' (kc + mc) (n + ms) L (v.toList ++ st) (pc + 3)) : VV G X nL Q h kc n L st0 pc := by
  obtain ⟨C0, x0, z, hs1, hs2⟩ := lk.2.2.1
  exact V_run (len := 3) (fun H locs ls hS hl => va_runPV (rest := st) F.fix hc (va_cwPV nn F.wd lk.1 rfl rfl rfl lk.2.2.2.2 (roomR hd1 hm F.room)) (F.wd _ hs1) hs2 (Cond.privateMethod_at (F.kn.2.1 _ lk.2.1 rfl)) lk.2.2.2.1 ⟨preG.blind, hrc.cell F hS, fun U hU hW => preG.at F.kn hS hU hW⟩ rfl hn hl.1 hst (lv_room hsum) hd ⟨Nat.le_trans hr1 F.room.2.2.1, Nat.le_trans hr2 F.room.2.2.2⟩) kk
def LkO (own : String) (idx : Nat) (C owner : String) (x y : MethodName) (cc : ByteArray) (mL : Nat) (ret : Option FieldType) (nn : Nat) : Prop := GoodIn lw_all (va_wsO own idx C owner x y (ws_ y cc mL ret)) ∧ (∃ b0 m0 r0, Cond.code ⟨owner, x.name, x.desc⟩ b0 m0 r0 ∈ lw_all) ∧ (owner ≠ "java/lang/invoke/MethodHandle" ∧ owner ≠ "java/lang/invoke/VarHandle" ∧ (parseMethodDescriptor x.desc).map (fun d => d.parameters.length) = some nn)
theorem lw_O {own : String} {idx : Nat} {C o : String} {x y : MethodName} {b : ByteArray} {L : Nat} {r : Option FieldType} (h1 : Cond.methodLink own idx x ∈ lw_all) (h0 : Cond.sameMethod x.cls o x.name x.desc ∈ lw_all) (h6 : Cond.instanceMethod ⟨o, x.name, x.desc⟩ ∈ lw_all) (h2 : Cond.selects C x y ∈ lw_all) (h3 : Cond.instanceMethod y ∈ lw_all) (h4 : Cond.initialized y.cls ∈ lw_all) (h5 : Cond.code y b L r ∈ lw_all) : GoodIn lw_all (va_wsO own idx C o x y (ws_ y b L r)) := by
  refine lw_app ?_ (lw_meth h5)
  intro w hw
  simp only [List.mem_cons, List.not_mem_nil, or_false] at hw
  rcases hw with e | e | e | e | e | e <;> rw [e] <;> assumption
theorem V_callO {owner : String} {x y : MethodName} {cc' : ByteArray} {mL' nn d' mc ms idx b : Nat} {ret' : Option FieldType} {As st0 : List Value} {C : String} {Post : Option Value → AH → Prop} (F : Fx G X cc nL own ret d MC MS) (hd : decode cc pc = .ok (.invokevirtual idx, 3)) (lk : LkO own idx C owner x y cc' mL' ret' nn) (hc : Ct G (xl X) y cc' mL' ret' d' mc ms (.ref b :: As) h Post) (hrc : isC G h b C) (hn : As.length = nn) (hst : st0 = As.reverse ++ .ref b :: st) (hsum : (st.map fun v => v.category).sum ≤ 8) (hd1 : d' + 1 ≤ d) (hm : mL' ≤ 45) (hr1 : kc + mc ≤ MC) (hr2 : n + ms ≤ MS)
    (kk : ∀ v h', Post v h' → VV G X nL Q h' (kc + mc) (n + ms) L (v.toList ++ st) (pc + 3)) : VV G X nL Q h kc n L st0 pc := by
  obtain ⟨b0, m0, r0, h0⟩ := lk.2.1
  exact V_run (len := 3) (fun H locs ls hS hl => va_runU (rest := st) F.fix hc (va_cwO nn F.wd lk.1 rfl rfl rfl h0 lk.2.2 (roomR hd1 hm F.room)) ⟨preG.blind, hrc.cell F hS, fun U hU hW => preG.at F.kn hS hU hW⟩ rfl hn hl.1 hst (lv_room hsum) hd ⟨Nat.le_trans hr1 F.room.2.2.1, Nat.le_trans hr2 F.room.2.2.2⟩) kk
end V11b
