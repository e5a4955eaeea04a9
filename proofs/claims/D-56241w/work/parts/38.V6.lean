set_option maxRecDepth 100000
/-! ===== frames: what stays of a heap; a TreeMap's two caches may come ===== -/
def nTM : va_E → Bool
  | .inl _ => true
  | .inr o => !(o.1 == 23)
/-- the views of a TreeMap: they never change -/
def vcl : va_E → Bool
  | .inl _ => false
  | .inr o => o.1 == 25 || o.1 == 30
/-- a TreeMap's cache: as it was, or the view of this map -/
def cch (h : AH) (a k c : Nat) (f f' : List Value) : Prop := f'[k]? = f[k]? ∨ ∃ v, f'[k]? = some (.ref v) ∧ h v = some (.inr (c, [.ref a]))
/-- a later look of a cell at a, in the heap h -/
def ceq (h : AH) (a : Nat) (e e' : va_E) : Prop := e' = e ∨ ∃ f f' : List Value, e = .inr (23, f) ∧ e' = .inr (23, f') ∧ f'.length = f.length ∧ (∀ k, k ≠ 1 → k ≠ 7 → f'[k]? = f[k]?) ∧ cch h a 1 25 f f' ∧ cch h a 7 30 f f'
theorem ceq.rf {h : AH} {a : Nat} {e : va_E} : ceq h a e e := Or.inl rfl
theorem cch.mono {h h2 : AH} {a k c : Nat} {f f' : List Value} (hc : cch h a k c f f') (hm : ∀ v, h v = some (.inr (c, [.ref a])) → h2 v = some (.inr (c, [.ref a]))) : cch h2 a k c f f' := hc.imp id (fun ⟨v, q1, q2⟩ => ⟨v, q1, hm v q2⟩)
theorem cch.trans {h : AH} {a k c : Nat} {f f' f2 : List Value} (h1 : cch h a k c f f') (h2 : cch h a k c f' f2) : cch h a k c f f2 := by
  rcases h2 with h2 | h2
  · rcases h1 with h1 | ⟨v, q1, q2⟩
    · exact Or.inl (h2.trans h1)
    · exact Or.inr ⟨v, h2.trans q1, q2⟩
  · exact Or.inr h2
theorem ceq.mono {h h2 : AH} {a : Nat} {e e' : va_E} (hc : ceq h a e e') (hm : ∀ v c, vcl (.inr (c, [.ref a])) = true → h v = some (.inr (c, [.ref a])) → h2 v = some (.inr (c, [.ref a]))) : ceq h2 a e e' :=
  hc.imp id (fun ⟨f, f', q1, q2, q3, q4, q5, q6⟩ => ⟨f, f', q1, q2, q3, q4, q5.mono (fun v => hm v 25 rfl), q6.mono (fun v => hm v 30 rfl)⟩)
theorem ceq.trans {h : AH} {x : Nat} {a b c : va_E} (h1 : ceq h x a b) (h2 : ceq h x b c) : ceq h x a c := by
  rcases h1 with rfl | ⟨f, f', rfl, rfl, l1, k1, c1, d1⟩
  · exact h2
  · rcases h2 with rfl | ⟨g, g', e1, rfl, l2, k2, c2, d2⟩
    · exact Or.inr ⟨f, f', rfl, rfl, l1, k1, c1, d1⟩
    · cases e1
      exact Or.inr ⟨f, g', rfl, rfl, l2.trans l1, fun k q1 q2 => (k2 k q1 q2).trans (k1 k q1 q2), c1.trans c2, d1.trans d2⟩
theorem ceq.eq {h : AH} {a : Nat} {e e' : va_E} (hc : ceq h a e e') (hn : nTM e = true) : e' = e := by
  rcases hc with hc | ⟨f, f', rfl, -⟩
  · exact hc
  · cases hn
/-- the same class, or arrays of one class and length -/
def kd : va_E → va_E → Prop
  | .inl x, .inl y => x.1 = y.1 ∧ x.2.1 = y.2.1
  | .inr x, .inr y => x.1 = y.1
  | _, _ => False
theorem kd.rf {e : va_E} : kd e e := by
  cases e with
  | inl x => exact ⟨rfl, rfl⟩
  | inr x => exact (rfl : x.1 = x.1)
theorem kd.trans {a b c : va_E} (h1 : kd a b) (h2 : kd b c) : kd a c := by
  cases a with
  | inl x => cases b with
    | inl y => cases c with
      | inl z => exact ⟨h1.1.trans h2.1, h1.2.trans h2.2⟩
      | inr z => exact h2.elim
    | inr y => exact h1.elim
  | inr x => cases b with
    | inl y => exact h1.elim
    | inr y => cases c with
      | inl z => exact h2.elim
      | inr z => exact Eq.trans (show x.1 = y.1 from h1) (show y.1 = z.1 from h2)
theorem kd.o {i : Nat} {f : List Value} {e : va_E} (h : kd (.inr (i, f)) e) : ∃ f', e = .inr (i, f') := by
  cases e with
  | inl y => exact h.elim
  | inr y => exact ⟨y.2, by rw [show i = y.1 from h]⟩
theorem kd.vcl {e e' : va_E} (h : kd e e') : vcl e' = vcl e := by
  cases e with
  | inl x => cases e' with
    | inl y => rfl
    | inr y => exact h.elim
  | inr x => cases e' with
    | inl y => exact h.elim
    | inr y => show (y.1 == 25 || y.1 == 30) = (x.1 == 25 || x.1 == 30); rw [show x.1 = y.1 from h]
theorem vcl_n {e : va_E} (h : vcl e = true) : nTM e = true := by
  cases e with
  | inl x => rfl
  | inr x =>
    have h2 : x.1 = 25 ∨ x.1 = 30 := by simpa [vcl] using h
    show (!(x.1 == 23)) = true
    rcases h2 with q | q <;> rw [q] <;> rfl
/-- every cell of h is there in h', of its class; but those of M it is the same -/
def Fr (M : Nat → Prop) (h h' : AH) : Prop := ∀ a e, h a = some e → ∃ e', h' a = some e' ∧ kd e e' ∧ (¬ M a ∨ vcl e = true → ceq h' a e e')
abbrev nM : Nat → Prop := fun _ => False
abbrev m1 (a : Nat) : Nat → Prop := fun b => b = a
abbrev m2 (a c : Nat) : Nat → Prop := fun b => b = a ∨ b = c
abbrev Yo (M : Nat → Prop) (h : AH) (a : Nat) : Prop := M a ∨ h a = none
section FR
variable {G : GG} {M N : Nat → Prop} {h h' h2 : AH} {a : Nat} {e x : va_E}
theorem Fr.rf : Fr M h h := fun a e ha => ⟨e, ha, kd.rf, fun _ => ceq.rf⟩
theorem Fr.get (hf : Fr M h h') (ha : h a = some e) (hM : ¬ M a) (hn : nTM e = true) : h' a = some e := by
  obtain ⟨e', h1, -, h2⟩ := hf a e ha
  rw [h1, (h2 (Or.inl hM)).eq hn]
theorem Fr.view (hf : Fr M h h') (ha : h a = some e) (hv : vcl e = true) : h' a = some e := by
  obtain ⟨e', h1, -, h2⟩ := hf a e ha
  rw [h1, (h2 (Or.inr hv)).eq (vcl_n hv)]
theorem Fr.tm {f : List Value} (hf : Fr M h h') (ha : h a = some (.inr (23, f))) (hM : ¬ M a) : ∃ f' : List Value, h' a = some (.inr (23, f')) ∧ f'.length = f.length ∧ (∀ k, k ≠ 1 → k ≠ 7 → f'[k]? = f[k]?) ∧ cch h' a 1 25 f f' ∧ cch h' a 7 30 f f' := by
  obtain ⟨e', h1, -, h2⟩ := hf a _ ha
  rcases h2 (Or.inl hM) with rfl | ⟨g, g', e1, rfl, l, k⟩
  · exact ⟨f, h1, rfl, fun _ _ _ => rfl, Or.inl rfl, Or.inl rfl⟩
  · cases e1
    exact ⟨g', h1, l, k⟩
theorem Fr.obj {i : Nat} {f : List Value} (hf : Fr M h h') (ha : h a = some (.inr (i, f))) : ∃ f', h' a = some (.inr (i, f')) := by
  obtain ⟨e', h1, h2, -⟩ := hf a _ ha
  obtain ⟨f', rfl⟩ := h2.o
  exact ⟨f', h1⟩
theorem Fr.rd (hf : Fr M h h') (ha : rd G h a e) (hM : h a = some e → ¬ M a) (hn : nTM e = true) : rd G h' a e := ha.elim (fun q => Or.inl (hf.get q (hM q) hn)) Or.inr
theorem Fr.isC {C : String} (hf : Fr M h h') (hc : isC G h a C) : isC G h' a C := by
  obtain ⟨ci, fs, T, N, h1, h2⟩ := hc
  rcases h2 with h2 | h2
  · obtain ⟨f', h3⟩ := hf.obj h2
    exact ⟨ci, f', T, N, h1, Or.inl h3⟩
  · exact ⟨ci, fs, T, N, h1, Or.inr h2⟩
theorem Fr.nw (hf : Fr M h h') (ha : h' a = none) : Fr M h (hset h' a x) := by
  intro b e hb
  obtain ⟨e', h1, h2, h3⟩ := hf b e hb
  exact ⟨e', (hset_ne (fun q => by rw [q, ha] at h1; cases h1)).trans h1, h2, fun z => (h3 z).mono (fun v c _ hv => (hset_ne (fun q => by rw [q, ha] at hv; cases hv)).trans hv)⟩
theorem Fr.put {e0 : va_E} (hf : Fr M h h') (h0 : h' a = some e0) (hk : kd e0 x) (hx : vcl x = false) (ha : Yo M h a) : Fr M h (hset h' a x) := by
  intro b e hb
  obtain ⟨e', h1, h2, h3⟩ := hf b e hb
  have hm : ∀ v c, vcl (.inr (c, [.ref b])) = true → h' v = some (.inr (c, [.ref b])) → (hset h' a x) v = some (.inr (c, [.ref b])) := fun v c hc hv => (hset_ne (fun q => by
    rw [q, h0] at hv
    cases hv
    rw [← hk.vcl, hx] at hc
    cases hc)).trans hv
  by_cases q : b = a
  · subst q
    cases h0.symm.trans h1
    refine ⟨x, hset_self, h2.trans hk, fun n => ?_⟩
    rcases n with n | n
    · rcases ha with ha | ha
      · exact absurd ha n
      · rw [ha] at hb; cases hb
    · rw [← h2.vcl, ← hk.vcl, hx] at n
      cases n
  · exact ⟨e', (hset_ne q).trans h1, h2, fun z => (h3 z).mono (hm)⟩
/-- a cell that is new since h -/
theorem Fr.putF {e0 : va_E} (hf : Fr M h h') (h0 : h' a = some e0) (hv : vcl e0 = true) (hn : ∀ b : Nat, e0 ≠ .inr (25, [.ref b]) ∧ e0 ≠ .inr (30, [.ref b])) (ha : h a = none) : Fr M h (hset h' a x) := by
  intro b e hb
  obtain ⟨e', h1, h2, h3⟩ := hf b e hb
  have q : b ≠ a := fun q => by rw [q, ha] at hb; cases hb
  refine ⟨e', (hset_ne q).trans h1, h2, fun z => (h3 z).mono (fun v c hc hv2 => (hset_ne (fun q => ?_)).trans hv2)⟩
  rw [q, h0] at hv2
  cases hv2
  have h5 : c = 25 ∨ c = 30 := by simpa [vcl] using hc
  rcases h5 with rfl | rfl
  · exact (hn b).1 rfl
  · exact (hn b).2 rfl
theorem Fr.tmput {f f' : List Value} (hf : Fr M h h') (ha : h' a = some (.inr (23, f))) (hl : f'.length = f.length) (hk : ∀ k, k ≠ 1 → k ≠ 7 → f'[k]? = f[k]?) (c1 : cch h' a 1 25 f f') (c2 : cch h' a 7 30 f f') : Fr M h (hset h' a (.inr (23, f'))) := by
  intro b e hb
  obtain ⟨e', h1, h2, h3⟩ := hf b e hb
  have hm : ∀ v c b, vcl (.inr (c, [.ref b])) = true → h' v = some (.inr (c, [.ref b])) → (hset h' a (.inr (23, f'))) v = some (.inr (c, [.ref b])) := fun v c b hc hv => (hset_ne (fun q => by
    rw [q, ha] at hv
    cases hv
    cases hc)).trans hv
  by_cases q : b = a
  · subst q
    cases ha.symm.trans h1
    exact ⟨_, hset_self, h2.trans (show 23 = 23 from rfl), fun n => ((h3 n).mono (fun v c => hm v c b)).trans (Or.inr ⟨f, f', rfl, rfl, hl, hk, c1.mono (fun v => hm v 25 b rfl), c2.mono (fun v => hm v 30 b rfl)⟩)⟩
  · exact ⟨e', (hset_ne q).trans h1, h2, fun z => (h3 z).mono (fun v c => hm v c b)⟩
theorem Fr.cal (hf : Fr M h h') (hg : Fr N h' h2) (hN : ∀ a, N a → Yo M h a) : Fr M h h2 := by
  intro b e hb
  obtain ⟨e', h1, h2, h3⟩ := hf b e hb
  obtain ⟨e2, g1, g2, g3⟩ := hg b e' h1
  refine ⟨e2, g1, h2.trans g2, fun n => ((h3 n).mono (fun v c hc hv => hg.view hv hc)).trans (g3 ?_)⟩
  rcases n with n | n
  · exact Or.inl (fun q => (hN b q).elim n (fun z => by rw [z] at hb; cases hb))
  · exact Or.inr (h2.vcl.trans n)
theorem Fr.cal0 (hf : Fr M h h') (hg : Fr nM h' h2) : Fr M h h2 := hf.cal hg (fun _ q => q.elim)
theorem Fr.weak (hf : Fr M h h') (hM : ∀ a, M a → Yo N h a) : Fr N h h' := (Fr.rf (M := N) (h := h)).cal hf hM
theorem Fr.mono (hf : Fr M h h') (hM : ∀ a, M a → N a) : Fr N h h' := hf.weak (fun a q => Or.inl (hM a q))
theorem Fr.none (hf : Fr M h h') (ha : h' a = none) : h a = none := by
  cases hc : h a with
  | none => rfl
  | some e =>
    obtain ⟨e', h1, -⟩ := hf a e hc
    rw [ha] at h1; cases h1
theorem Fr.yo (hf : Fr M h h') (ha : h' a = Option.none) : Yo M h a := Or.inr (hf.none ha)
theorem Yo.m2 {c : Nat} (ha : Yo M h a) (hc : Yo M h c) : ∀ b, m2 a c b → Yo M h b := fun b q => q.elim (fun z => z ▸ ha) (fun z => z ▸ hc)
theorem Yo.m1 (ha : Yo M h a) : ∀ b, m1 a b → Yo M h b := fun b q => q ▸ ha
end FR
theorem rd.nw {G : GG} {h : AH} {a b : Nat} {e x : va_E} (ha : rd G h a e) (hb : h b = none) : rd G (hset h b x) a e := ha.elim (fun q => Or.inl ((hset_ne (fun z => by rw [z, hb] at q; cases q)).trans q)) Or.inr
theorem rd.put {G : GG} {h : AH} {a b : Nat} {e x : va_E} (ha : rd G h a e) (hb : h a = some e → a ≠ b) : rd G (hset h b x) a e := ha.elim (fun q => Or.inl ((hset_ne (hb q)).trans q)) Or.inr
/-- an object of a class whose objects may stand in an array of Objects -/
def isO (G : GG) (h : AH) (a : Nat) : Prop := ∃ C, isC G h a C ∧ Cond.castable C "java/lang/Object" ∈ lw_tbl
theorem Fr.isO {G : GG} {M : Nat → Prop} {h h' : AH} {a : Nat} (hf : Fr M h h') (hc : isO G h a) : isO G h' a := hc.imp (fun C q => ⟨hf.isC q.1, q.2⟩)
abbrev qA (G : GG) (n : Nat) (f : Nat → Option Nat) : va_E := .inl (G.2.1 6, n, .inr (.inr (.inr (.inr f))))
abbrev zA (G : GG) (n : Nat) (f : Nat → Int32) : va_E := .inl (G.2.1 3, n, .inl f)
abbrev bA (G : GG) (n : Nat) (f : Nat → Int32) : va_E := .inl (G.2.1 5, n, .inl f)
/-! ===== thrown things ===== -/
/-- on the way out of an instruction at pc: q, of the class E, is thrown -/
def VX (G : GG) (X : CX) (nL : Nat) (Q : State → Prop) (h : AH) (k n : Nat) (L : LV) (pc : Nat) (E : String) (q : Nat) : Prop :=
  ∀ (H : Heap) (locs : List Loc) (ls : Array Slot) (rest : List Value) (ce : Cell), Sim G h H → (∀ z ∈ locs, fr G z.base) → lvH ls nL L → H[q]? = some ce → ce.vm = .none → (xs X).vm.findClass E = some ce.cls →
    vx_W (xP X) (xl X) (xe X) (xR X) (xs X) (xm X) (xa X) (xb X) (xt X) (xc X) H locs k n Q (F0 (xm X) pc ls rest) q
def xcR (G : GG) (PX : String → Nat → AH → Prop) : Addr → String → State → State → Prop := fun q E _ t => ∃ h', PX E q h' ∧ Sim G h' t.heap
/-- a contract of a method that returns or throws -/
def CtX (G : GG) (l : Launch) (y : MethodName) (cc : ByteArray) (mL : Nat) (ret : Option FieldType) (d mc ms : Nat) (av : List Value) (h : AH) (Post : Option Value → AH → Prop) (PX : String → Nat → AH → Prop) : Prop :=
  vx_Met l y (ws_ y cc mL ret) (rmD d mc ms) (preG G av h) (qcR G Post) (xcR G PX) mc ms (fr G)
/-- a contract of a method with handlers -/
def CtH (G : GG) (l : Launch) (y : MethodName) (cc : ByteArray) (mL : Nat) (ret : Option FieldType) (hh : List (Nat × Nat × Nat × Nat)) (d mc ms : Nat) (av : List Value) (h : AH) (Post : Option Value → AH → Prop) (PX : String → Nat → AH → Prop) : Prop :=
  vx_Met l y (wsW_ y cc mL ret hh) (rmD d mc ms) (preG G av h) (qcR G Post) (xcR G PX) mc ms (fr G)
abbrev EQX (G : GG) (X : CX) (mc ms : Nat) (Post : Option Value → AH → Prop) (PX : String → Nat → AH → Prop) : State → Prop := vx_MQ (xb X) (qcR G Post) (xcR G PX) (xa X) (xs X) mc ms (fr G)
section XROWS
variable {G : GG} {X : CX} {cc : ByteArray} {nL : Nat} {own : String} {ret : Option FieldType} {d MC MS : Nat} {Q : State → Prop} {h : AH} {kc n : Nat} {L : LV} {st : List Value} {pc : Nat} {mc ms : Nat} {Post : Option Value → AH → Prop} {PX : String → Nat → AH → Prop} {E : String} {q : Nat}
theorem VV.rx (k : VV G X nL (EQ G X mc ms Post) h kc n L st pc) : VV G X nL (EQX G X mc ms Post PX) h kc n L st pc := fun H locs ls hS hL hl => vx_ret (k H locs ls hS hL hl)
theorem VX.wide {k' n' : Nat} (h1 : kc ≤ k') (h2 : n ≤ n') (k : VX G X nL Q h k' n' L pc E q) : VX G X nL Q h kc n L pc E q := fun H locs ls rest ce hS hL hl hce hv hcl => vx_widen h1 h2 (k H locs ls rest ce hS hL hl hce hv hcl)
theorem V_xout {own : String} {ret : Option FieldType} {d MC MS : Nat} (F : Fx G X cc nL own ret d MC MS) (hout : ∀ x ∈ (xc X).exceptionTable.toList, covers x pc = false) (hk : kc ≤ mc) (hs : n ≤ ms) (hP : PX E q h) : VX G X nL (EQX G X mc ms Post PX) h kc n L pc E q :=
  fun H locs ls rest ce hS hL hl hce hv hcl => vx_out hout F.locks hce hv hcl (fun t ht hA => ⟨h, hP, by rw [ht]; exact hS⟩) hL hk hs
theorem V_xoutP (F : Fx G X cc nL own ret d MC MS) (hpass : ∀ z ∈ (xc X).exceptionTable.toList, covers z pc = false ∨ (z.catchType ≠ 0 ∧ ∃ nm : String, Cond.classLink own z.catchType nm ∈ lw_all ∧ Cond.not (.castable E nm) ∈ flatC narrow_1)) (hk : kc ≤ mc) (hs : n ≤ ms) (hP : PX E q h) : VX G X nL (EQX G X mc ms Post PX) h kc n L pc E q :=
  fun H locs ls rest ce hS hL hl hce hv hcl => vx_outP F.hown F.locks (fun z hz => (hpass z hz).imp id (fun w => ⟨w.1, w.2.imp (fun nm u => ⟨F.wd _ u.1, F.kn.2.2.2.2.1 _ _ u.2⟩)⟩)) hce hv hcl (fun t ht hA => ⟨h, hP, by rw [ht]; exact hS⟩) hL hk hs
theorem V_xcatch (F : Fx G X cc nL own ret d MC MS) {name : String} (pre : List ExceptionTableEntry) (x : ExceptionTableEntry) (suf : List ExceptionTableEntry) (hsplit : (xc X).exceptionTable.toList = pre ++ x :: suf)
    (hpass : ∀ z ∈ pre, covers z pc = false ∨ (z.catchType ≠ 0 ∧ ∃ nm : String, Cond.classLink own z.catchType nm ∈ lw_all ∧ Cond.not (.castable E nm) ∈ flatC narrow_1)) (hx : covers x pc = true) (h0 : x.catchType ≠ 0) (hlink : Cond.classLink own x.catchType name ∈ lw_all) (hcast : Cond.castable E name ∈ lw_tbl)
    (kk : VV G X nL Q h kc n L [.ref q] x.handlerPc) : VX G X nL Q h kc n L pc E q :=
  fun H locs ls rest ce hS hL hl hce hv hcl => vx_catch F.hown pre x suf hsplit (fun z hz => (hpass z hz).imp id (fun w => ⟨w.1, w.2.imp (fun nm u => ⟨F.wd _ u.1, F.kn.2.2.2.2.1 _ _ u.2⟩)⟩)) hx h0 (F.wd _ hlink) (va_Nw.use rfl (F.kn.2.1 _ hcast rfl)) hce hv hcl (kk H locs ls hS hL hl)
/-- an object of the world, by its class's name -/
def isW (h : AH) (a : Nat) (C : String) : Prop := ∃ (ci : Nat) (fs : List Value) (T : u_T) (N : Nat), CL[ci]? = some (C, T, N) ∧ (h a = some (.inr (ci, fs)) ∨ False)
theorem V_athrow (F : Fx G X cc nL own ret d MC MS) (hd : decode cc pc = .ok (.athrow, 1)) (hc : isW h q E) (k : VX G X nL Q h kc n L pc E q) : VV G X nL Q h kc n L (.ref q :: st) pc := by
  intro H locs ls hS hL hl
  obtain ⟨ci, fs, T0, N0, hc1, hc2⟩ := hc
  obtain ⟨r', hr', cell, g1, g2, g3, -⟩ := (hS.1 q _ (hc2.elim id False.elim)).2
  have hcls := (F.kn.1.1 ci _ hc1).2
  exact vx_athrow F.exec F.code hd (k H locs ls st cell hS hL hl g1 g3 (by rw [g2]; exact hcls.1))
/-! calls -/
variable {y : MethodName} {cc' : ByteArray} {mL' nn d' mc' ms' idx b : Nat} {ret' : Option FieldType} {As st0 : List Value} {C : String} {hh : List (Nat × Nat × Nat × Nat)} {av : Array Value}
theorem V_xrun (hr : ∀ (H : Heap) (locs : List Loc) (ls : Array Slot), Sim G h H → lvH ls nL L → vx_Run (xP X) (xl X) (xe X) (xR X) (xs X) (xm X) (xa X) (xb X) (xt X) (xc X) H locs kc n mc' ms' (F0 (xm X) pc ls st0) st (qcR G Post av) (xcR G PX) (fr G))
    (kk : ∀ v h', Post v h' → VV G X nL Q h' (kc + mc') (n + ms') L (v.toList ++ st) (pc + 3)) (kx : ∀ E q h', PX E q h' → VX G X nL Q h' (kc + mc') (n + ms') L pc E q) : VV G X nL Q h kc n L st0 pc := by
  intro H locs ls hS hL hl T hT XX
  rcases hr H locs ls hS hl T hT XX with ⟨v, st₀, t, T', Lo, h0, X', hLf, e1, e2, ⟨v', h', hv, hp, hs⟩, hst⟩ | ⟨q, st₀, t, T', Lo, E, ce, h0, X', hLf, e1, e2, ⟨h', hp, hs⟩, hce, hcv, hcl, hst⟩
  · cases hv
    have hLL : ∀ q ∈ locs ++ Lo, fr G q.base := fun q hq => (List.mem_append.mp hq).elim (hL q) (hLf q)
    obtain ⟨t2, a1, b1⟩ := kk v h' hp T'.heap (locs ++ Lo) ls (by rw [e1]; exact hs) hLL hl T' rfl X'
    exact ⟨t2, hst t2 a1, b1⟩
  · have hLL : ∀ q ∈ locs ++ Lo, fr G q.base := fun q hq => (List.mem_append.mp hq).elim (hL q) (hLf q)
    obtain ⟨t2, a1, b1⟩ := kx E q h' hp T'.heap (locs ++ Lo) ls st ce (by rw [e1]; exact hs) hLL hl (by rw [e1]; exact hce) hcv hcl T' rfl X'
    exact ⟨t2, hst.trans a1, b1⟩
theorem V_xcV (F : Fx G X cc nL own ret d MC MS) (hd : decode cc pc = .ok (.invokevirtual idx, 3)) (lk : LkV own idx C y cc' mL' ret' nn) (hc : CtX G (xl X) y cc' mL' ret' d' mc' ms' (.ref b :: As) h Post PX) (hrc : isC G h b C) (hn : As.length = nn) (hst : st0 = As.reverse ++ .ref b :: st) (hsum : (st.map fun v => v.category).sum ≤ 8) (hd1 : d' + 1 ≤ d) (hm : mL' ≤ 45) (hr1 : kc + mc' ≤ MC) (hr2 : n + ms' ≤ MS)
    (kk : ∀ v h', Post v h' → VV G X nL Q h' (kc + mc') (n + ms') L (v.toList ++ st) (pc + 3)) (kx : ∀ E q h', PX E q h' → VX G X nL Q h' (kc + mc') (n + ms') L pc E q) : VV G X nL Q h kc n L st0 pc :=
  V_xrun (fun H locs ls hS hl => vx_runV (rest := st) F.fix hc (cwV nn F.wd lk.1 rfl rfl rfl lk.2 (roomR hd1 hm F.room)) ⟨preG.blind, hrc.cell F hS, fun U hU hW => preG.at F.kn hS hU hW⟩ rfl hn hl.1 hst (lv_room hsum) hd ⟨Nat.le_trans hr1 F.room.2.2.1, Nat.le_trans hr2 F.room.2.2.2⟩) kk kx
theorem V_xcS (F : Fx G X cc nL own ret d MC MS) (hd : decode cc pc = .ok (.invokestatic idx, 3)) (lk : LkS own idx y cc' mL' ret' nn) (hc : CtX G (xl X) y cc' mL' ret' d' mc' ms' As h Post PX) (hn : As.length = nn) (hst : st0 = As.reverse ++ st) (hsum : (st.map fun v => v.category).sum ≤ 8) (hd1 : d' + 1 ≤ d) (hm : mL' ≤ 45) (hr1 : kc + mc' ≤ MC) (hr2 : n + ms' ≤ MS)
    (kk : ∀ v h', Post v h' → VV G X nL Q h' (kc + mc') (n + ms') L (v.toList ++ st) (pc + 3)) (kx : ∀ E q h', PX E q h' → VX G X nL Q h' (kc + mc') (n + ms') L pc E q) : VV G X nL Q h kc n L st0 pc :=
  V_xrun (fun H locs ls hS hl => vx_runS (rest := st) F.fix hc (va_cwS nn F.wd lk.1 rfl rfl rfl lk.2 (roomR hd1 hm F.room)) ⟨preG.blind, fun U hU hW => preG.at F.kn hS hU hW⟩ rfl hn hl.1 hst (lv_room hsum) hd ⟨Nat.le_trans hr1 F.room.2.2.1, Nat.le_trans hr2 F.room.2.2.2⟩) kk kx
theorem V_xcSN {host : String} (F : Fx G X cc nL own ret d MC MS) (hd : decode cc pc = .ok (.invokestatic idx, 3)) (lk : LkN own idx y host cc' mL' ret' nn) (hs : Cond.static y ∈ lw_all) (hc : CtX G (xl X) y cc' mL' ret' d' mc' ms' As h Post PX) (hn : As.length = nn) (hst : st0 = As.reverse ++ st) (hsum : (st.map fun v => v.category).sum ≤ 8) (hd1 : d' + 1 ≤ d) (hm : mL' ≤ 45) (hr1 : kc + mc' ≤ MC) (hr2 : n + ms' ≤ MS)
    (kk : ∀ v h', Post v h' → VV G X nL Q h' (kc + mc') (n + ms') L (v.toList ++ st) (pc + 3)) (kx : ∀ E q h', PX E q h' → VX G X nL Q h' (kc + mc') (n + ms') L pc E q) : VV G X nL Q h kc n L st0 pc :=
  V_xrun (fun H locs ls hS hl => vx_runSN (rest := st) F.fix hc ⟨va_cnB nn F.wd lk.1 rfl rfl rfl (F.kn.2.1 _ lk.2.2.1 rfl) (F.wd _ lk.2.1) lk.2.2.2 (roomR hd1 hm F.room), F.wd _ hs, trivial⟩ ⟨preG.blind, fun U hU hW => preG.at F.kn hS hU hW⟩ rfl hn hl.1 hst (lv_room hsum) hd ⟨Nat.le_trans hr1 F.room.2.2.1, Nat.le_trans hr2 F.room.2.2.2⟩) kk kx
theorem V_xcVN {host : String} (F : Fx G X cc nL own ret d MC MS) (hd : decode cc pc = .ok (.invokevirtual idx, 3)) (lk : LkN own idx y host cc' mL' ret' nn) (hs1 : Cond.instanceMethod y ∈ lw_all) (hs2 : Cond.selects C y y ∈ lw_all) (hc : CtX G (xl X) y cc' mL' ret' d' mc' ms' (.ref b :: As) h Post PX) (hrc : isC G h b C) (hn : As.length = nn) (hst : st0 = As.reverse ++ .ref b :: st) (hsum : (st.map fun v => v.category).sum ≤ 8) (hd1 : d' + 1 ≤ d) (hm : mL' ≤ 45) (hr1 : kc + mc' ≤ MC) (hr2 : n + ms' ≤ MS)
    (kk : ∀ v h', Post v h' → VV G X nL Q h' (kc + mc') (n + ms') L (v.toList ++ st) (pc + 3)) (kx : ∀ E q h', PX E q h' → VX G X nL Q h' (kc + mc') (n + ms') L pc E q) : VV G X nL Q h kc n L st0 pc :=
  V_xrun (fun H locs ls hS hl => vx_runVN (rest := st) F.fix hc ⟨va_cnB nn F.wd lk.1 rfl rfl rfl (F.kn.2.1 _ lk.2.2.1 rfl) (F.wd _ lk.2.1) lk.2.2.2 (roomR hd1 hm F.room), F.wd _ hs1, F.wd _ hs2⟩ ⟨preG.blind, hrc.cell F hS, fun U hU hW => preG.at F.kn hS hU hW⟩ rfl hn hl.1 hst (lv_room hsum) hd ⟨Nat.le_trans hr1 F.room.2.2.1, Nat.le_trans hr2 F.room.2.2.2⟩) kk kx
theorem V_xcU {owner : String} {x : MethodName} (F : Fx G X cc nL own ret d MC MS) (hd : decode cc pc = .ok (.invokevirtual idx, 3)) (lk : LkU own idx C owner x y cc' mL' ret' nn) (hc : CtX G (xl X) y cc' mL' ret' d' mc' ms' (.ref b :: As) h Post PX) (hrc : isC G h b C) (hn : As.length = nn) (hst : st0 = As.reverse ++ .ref b :: st) (hsum : (st.map fun v => v.category).sum ≤ 8) (hd1 : d' + 1 ≤ d) (hm : mL' ≤ 45) (hr1 : kc + mc' ≤ MC) (hr2 : n + ms' ≤ MS)
    (kk : ∀ v h', Post v h' → VV G X nL Q h' (kc + mc') (n + ms') L (v.toList ++ st) (pc + 3)) (kx : ∀ E q h', PX E q h' → VX G X nL Q h' (kc + mc') (n + ms') L pc E q) : VV G X nL Q h kc n L st0 pc :=
  V_xrun (fun H locs ls hS hl => vx_runU (rest := st) F.fix hc (va_cwA nn F.wd lk.1 rfl rfl rfl (F.kn.2.1 _ lk.2.1 rfl) lk.2.2 (roomR hd1 hm F.room)) ⟨preG.blind, hrc.cell F hS, fun U hU hW => preG.at F.kn hS hU hW⟩ rfl hn hl.1 hst (lv_room hsum) hd ⟨Nat.le_trans hr1 F.room.2.2.1, Nat.le_trans hr2 F.room.2.2.2⟩) kk kx
def LkVW (own : String) (idx : Nat) (C : String) (y : MethodName) (cc : ByteArray) (mL : Nat) (ret : Option FieldType) (hh : List (Nat × Nat × Nat × Nat)) (nn : Nat) : Prop := GoodIn lw_all (wsV own idx C y (wsW_ y cc mL ret hh)) ∧ (y.cls = C ∧ y.cls ≠ "java/lang/invoke/MethodHandle" ∧ y.cls ≠ "java/lang/invoke/VarHandle" ∧ (parseMethodDescriptor y.desc).map (fun d => d.parameters.length) = some nn)
def LkSW (own : String) (idx : Nat) (y : MethodName) (cc : ByteArray) (mL : Nat) (ret : Option FieldType) (hh : List (Nat × Nat × Nat × Nat)) (nn : Nat) : Prop := GoodIn lw_all (va_wsS own idx y (wsW_ y cc mL ret hh)) ∧ (y.cls ≠ "java/lang/invoke/MethodHandle" ∧ y.cls ≠ "java/lang/invoke/VarHandle" ∧ (parseMethodDescriptor y.desc).map (fun d => d.parameters.length) = some nn)
theorem V_xcVW (F : Fx G X cc nL own ret d MC MS) (hd : decode cc pc = .ok (.invokevirtual idx, 3)) (lk : LkVW own idx C y cc' mL' ret' hh nn) (hc : CtH G (xl X) y cc' mL' ret' hh d' mc' ms' (.ref b :: As) h Post PX) (hrc : isC G h b C) (hn : As.length = nn) (hst : st0 = As.reverse ++ .ref b :: st) (hsum : (st.map fun v => v.category).sum ≤ 8) (hd1 : d' + 1 ≤ d) (hm : mL' ≤ 45) (hr1 : kc + mc' ≤ MC) (hr2 : n + ms' ≤ MS)
    (kk : ∀ v h', Post v h' → VV G X nL Q h' (kc + mc') (n + ms') L (v.toList ++ st) (pc + 3)) (kx : ∀ E q h', PX E q h' → VX G X nL Q h' (kc + mc') (n + ms') L pc E q) : VV G X nL Q h kc n L st0 pc :=
  V_xrun (fun H locs ls hS hl => vx_runVX (rest := st) F.fix hc (vx_cwVW nn F.wd lk.1 rfl rfl rfl lk.2 (roomR hd1 hm F.room)) ⟨preG.blind, hrc.cell F hS, fun U hU hW => preG.at F.kn hS hU hW⟩ rfl hn hl.1 hst (lv_room hsum) hd ⟨Nat.le_trans hr1 F.room.2.2.1, Nat.le_trans hr2 F.room.2.2.2⟩) kk kx
theorem V_xcSW (F : Fx G X cc nL own ret d MC MS) (hd : decode cc pc = .ok (.invokestatic idx, 3)) (lk : LkSW own idx y cc' mL' ret' hh nn) (hc : CtH G (xl X) y cc' mL' ret' hh d' mc' ms' As h Post PX) (hn : As.length = nn) (hst : st0 = As.reverse ++ st) (hsum : (st.map fun v => v.category).sum ≤ 8) (hd1 : d' + 1 ≤ d) (hm : mL' ≤ 45) (hr1 : kc + mc' ≤ MC) (hr2 : n + ms' ≤ MS)
    (kk : ∀ v h', Post v h' → VV G X nL Q h' (kc + mc') (n + ms') L (v.toList ++ st) (pc + 3)) (kx : ∀ E q h', PX E q h' → VX G X nL Q h' (kc + mc') (n + ms') L pc E q) : VV G X nL Q h kc n L st0 pc :=
  V_xrun (fun H locs ls hS hl => vx_runSX (rest := st) F.fix hc (vx_cwSW nn F.wd lk.1 rfl rfl rfl lk.2 (roomR hd1 hm F.room)) ⟨preG.blind, fun U hU hW => preG.at F.kn hS hU hW⟩ rfl hn hl.1 hst (lv_room hsum) hd ⟨Nat.le_trans hr1 F.room.2.2.1, Nat.le_trans hr2 F.room.2.2.2⟩) kk kx
end XROWS
/-- a contract that may throw, out of a walk from the entry -/
theorem CtX.of {G : GG} {l : Launch} {y : MethodName} {cc : ByteArray} {mL : Nat} {ret : Option FieldType} {d mc ms : Nat} {av : List Value} {h : AH} {Post : Option Value → AH → Prop} {PX : String → Nat → AH → Prop} (hy : plainName y.cls = true) (hlen : (lg_sl av).length ≤ mL) (hcat : ∀ v ∈ av, v.category = 1)
    (body : ∀ X : CX, xl X = l → Fx G X cc mL y.cls ret d mc ms → (∀ p, ∀ x ∈ (xc X).exceptionTable.toList, covers x p = false) → VV G X mL (EQX G X mc ms Post PX) h 0 0 (lvA av mL) [] 0) : CtX G l y cc mL ret d mc ms av h Post PX := by
  refine vx_ofW (cc := cc) (maxL := mL) (ret := ret) hy rfl ?_
  intro p e s m args below meth c s₁ B hml ht hv
  obtain ⟨rfl, hKn, hSim⟩ := hv
  have hts := atoms_spec (ws := ws_ y cc mL ret) B.pre
  have hts : ∀ w ∈ lw_all, w.before _ s = true := fun w h => hts w (List.mem_cons_of_mem _ h)
  have hown : s.vm.findClass y.cls = some m.cls := findClass_of_methodNamed B.named
  have F : Fx G (p, l, e, (headSpec (ws_ y cc mL ret) (rmD d mc ms)).room, s, m, av.toArray, below, meth, c) cc mL y.cls ret d mc ms :=
    ⟨B.exec, B.bytes, hml, hown, hts, B.returns, B.notSynchronized, hKn, Nat.le_refl _, Nat.le_refl _, Nat.le_refl _, Nat.le_refl _⟩
  rw [lg_entry_eq]
  exact body (p, l, e, (headSpec (ws_ y cc mL ret) (rmD d mc ms)).room, s, m, av.toArray, below, meth, c) rfl F (fun p x hx => (ht x hx).elim) s.heap [] _ hSim (fun q h => by cases h) (lvH.entry hlen hcat)
theorem CtH.of {G : GG} {l : Launch} {y : MethodName} {cc : ByteArray} {mL : Nat} {ret : Option FieldType} {hh : List (Nat × Nat × Nat × Nat)} {d mc ms : Nat} {av : List Value} {h : AH} {Post : Option Value → AH → Prop} {PX : String → Nat → AH → Prop} (hy : plainName y.cls = true) (hlen : (lg_sl av).length ≤ mL) (hcat : ∀ v ∈ av, v.category = 1)
    (body : ∀ X : CX, xl X = l → Fx G X cc mL y.cls ret d mc ms → (xc X).exceptionTable.toList = tableOf hh → VV G X mL (EQX G X mc ms Post PX) h 0 0 (lvA av mL) [] 0) : CtH G l y cc mL ret hh d mc ms av h Post PX := by
  refine vx_ofWH (cc := cc) (maxL := mL) (ret := ret) (hh := hh) hy rfl ?_
  intro p e s m args below meth c s₁ B hml hv
  obtain ⟨rfl, hKn, hSim⟩ := hv
  have hts0 := atoms_spec (ws := wsW_ y cc mL ret hh) B.pre
  have hts : ∀ w ∈ lw_all, w.before _ s = true := fun w h => hts0 w (List.mem_cons_of_mem _ h)
  have ht := vx_table (x := y) B (hts0 _ List.mem_cons_self)
  have hown : s.vm.findClass y.cls = some m.cls := findClass_of_methodNamed B.named
  have F : Fx G (p, l, e, (headSpec (wsW_ y cc mL ret hh) (rmD d mc ms)).room, s, m, av.toArray, below, meth, c) cc mL y.cls ret d mc ms :=
    ⟨B.exec, B.bytes, hml, hown, hts, B.returns, B.notSynchronized, hKn, Nat.le_refl _, Nat.le_refl _, Nat.le_refl _, Nat.le_refl _⟩
  rw [lg_entry_eq]
  exact body (p, l, e, (headSpec (wsW_ y cc mL ret hh) (rmD d mc ms)).room, s, m, av.toArray, below, meth, c) rfl F ht s.heap [] _ hSim (fun q h => by cases h) (lvH.entry hlen hcat)
