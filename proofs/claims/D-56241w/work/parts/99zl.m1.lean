set_option maxRecDepth 100000
/-! ===== the reference's whole world ===== -/
theorem Ct.mono {G : GG} {l : Launch} {y : MethodName} {cc : ByteArray} {mL : Nat} {ret : Option FieldType} {d mc ms : Nat} {av : List Value} {h : AH} {P1 P2 : Option Value → AH → Prop} (hc : Ct G l y cc mL ret d mc ms av h P1) (hp : ∀ v h2, P1 v h2 → P2 v h2) : Ct G l y cc mL ret d mc ms av h P2 := by
  have hc2 : MetFree l y (headSpec (ws_ y cc mL ret) (rmD d mc ms)) (preG G av h) (fun _ _ _ _ _ => True) (fun a st o t => qcR G P1 a st o t ∧ ∃ L, FrameEnd st o t L mc ms ∧ ∀ q ∈ L, fr G q.base) := hc
  show MetFree l y (headSpec (ws_ y cc mL ret) (rmD d mc ms)) (preG G av h) (fun _ _ _ _ _ => True) (fun a st o t => qcR G P2 a st o t ∧ ∃ L, FrameEnd st o t L mc ms ∧ ∀ q ∈ L, fr G q.base)
  exact MetFree.mono hc2 (fun _ _ q => q) (fun _ _ _ _ _ q => q) (fun a st o t _ q => ⟨by obtain ⟨⟨v, h', e, p, s⟩, -⟩ := q; exact ⟨v, h', e, hp v h' p, s⟩, q.2⟩)
theorem room_up {s : State} {pl : Platform} {r r' : Room} (hf : r.frames ≤ r'.frames) (hl : r.locals ≤ r'.locals) (hc : r.cells ≤ r'.cells) (hs : r.slots ≤ r'.slots) (h : s.hasRoom pl r' = true) : s.hasRoom pl r = true := by
  simp only [State.hasRoom, Bool.and_eq_true, decide_eq_true_eq] at h ⊢
  obtain ⟨⟨⟨⟨y, a, b, c, d, e⟩, f⟩, g⟩, i⟩ := h
  exact ⟨⟨⟨⟨by omega, by omega, by omega, by omega, by omega, e⟩, by omega⟩, by omega⟩, i⟩
theorem Ct.up {G : GG} {l : Launch} {y : MethodName} {cc : ByteArray} {mL : Nat} {ret : Option FieldType} {d d2 mc ms : Nat} {av : List Value} {h : AH} {P1 : Option Value → AH → Prop} (hd : d ≤ d2) (hc : Ct G l y cc mL ret d mc ms av h P1) : Ct G l y cc mL ret d2 mc ms av h P1 := by
  intro p e ha hcs hk s m args below hfr happ hP hK
  obtain ⟨a1, a2, a3, a4, a5, a6, a7, a8⟩ := (Spec.appliesLoose_iff hfr).mp happ
  exact hc p e ha hcs hk s m args below hfr ((Spec.appliesLoose_iff hfr).mpr ⟨a1, a2, a3, a4, a5, a6, room_up (r := rmD d mc ms) (r' := rmD d2 mc ms) hd (Nat.mul_le_mul_left 64 hd) (Nat.le_refl _) (Nat.le_refl _) a7, a8⟩) hP hK
def mF (A : Nat → Nat) (V : Nat → Value) : List Value := [.ref (A 0), .ref (A 1), .ref (A 2), .ref (A 3), V 4, V 5, V 6, V 7, .ref (A 4), V 9, V 10, V 11, .ref (A 5), V 13, .ref (A 6), .ref (A 7), V 16, V 17, .ref (A 8), .ref (A 9), V 20, .ref (A 10), V 22, .ref (A 11), V 24]
def mN (i : Nat) : Nat := [304, 2432, 304, 304, 60, 60, 8, 8, 60, 60, 10, 155].getD i 0
def mC (G : GG) (i : Nat) (f : Nat → Nat) : va_E := .inl (if i = 5 then G.2.1 4 else G.2.1 0, mN i, .inl (fun j => if i = 10 then rP (f j) else nI (f j)))
def upV (V : Nat → Value) (k : Nat) (c : Value) : Nat → Value := fun i => if i = k then c else V i
def upF (F : Nat → Nat → Nat) (k : Nat) (f : Nat → Nat) : Nat → Nat → Nat := fun i => if i = k then f else F i
theorem upV_s {V : Nat → Value} {k : Nat} {c : Value} : upV V k c k = c := if_pos rfl
theorem upV_n {V : Nat → Value} {k i : Nat} {c : Value} (h : i ≠ k) : upV V k c i = V i := if_neg h
theorem upF_s {F : Nat → Nat → Nat} {k : Nat} {f : Nat → Nat} : upF F k f k = f := if_pos rfl
theorem upF_n {F : Nat → Nat → Nat} {k i : Nat} {f : Nat → Nat} (h : i ≠ k) : upF F k f i = F i := if_neg h
def MP (m : Nat) (A : Nat → Nat) (b : Nat) : Prop := b = m ∨ ∃ i, i < 12 ∧ b = A i
def MC (G : GG) (h : AH) (m : Nat) (A : Nat → Nat) (V : Nat → Value) (F : Nat → Nat → Nat) : Prop := h m = some (.inr (0, mF A V)) ∧ (∀ i, i < 12 → h (A i) = some (mC G i (F i))) ∧ ∀ i j, i < 12 → j < 12 → A i = A j → i = j
def EqM (m : Nat) (A : Nat → Nat) (h h2 : AH) : Prop := ∀ b, ¬ MP m A b → h2 b = h b
section MCs
variable {G : GG} {h h2 : AH} {m : Nat} {A : Nat → Nat} {V : Nat → Value} {F : Nat → Nat → Nat}
theorem MC.mm (hM : MC G h m A V F) : h m = some (.inr (0, mF A V)) := hM.1
theorem MC.a0 (hM : MC G h m A V F) : h (A 0) = some (iA G 304 (fun i => nI (F 0 i))) := hM.2.1 0 (by decide)
theorem MC.a1 (hM : MC G h m A V F) : h (A 1) = some (iA G 2432 (fun i => nI (F 1 i))) := hM.2.1 1 (by decide)
theorem MC.a2 (hM : MC G h m A V F) : h (A 2) = some (iA G 304 (fun i => nI (F 2 i))) := hM.2.1 2 (by decide)
theorem MC.a3 (hM : MC G h m A V F) : h (A 3) = some (iA G 304 (fun i => nI (F 3 i))) := hM.2.1 3 (by decide)
theorem MC.a4 (hM : MC G h m A V F) : h (A 4) = some (iA G 60 (fun i => nI (F 4 i))) := hM.2.1 4 (by decide)
theorem MC.a5 (hM : MC G h m A V F) : h (A 5) = some (chA G 60 (fun i => nI (F 5 i))) := hM.2.1 5 (by decide)
theorem MC.a6 (hM : MC G h m A V F) : h (A 6) = some (iA G 8 (fun i => nI (F 6 i))) := hM.2.1 6 (by decide)
theorem MC.a7 (hM : MC G h m A V F) : h (A 7) = some (iA G 8 (fun i => nI (F 7 i))) := hM.2.1 7 (by decide)
theorem MC.a8 (hM : MC G h m A V F) : h (A 8) = some (iA G 60 (fun i => nI (F 8 i))) := hM.2.1 8 (by decide)
theorem MC.a9 (hM : MC G h m A V F) : h (A 9) = some (iA G 60 (fun i => nI (F 9 i))) := hM.2.1 9 (by decide)
theorem MC.a10 (hM : MC G h m A V F) : h (A 10) = some (iA G 10 (fun i => rP (F 10 i))) := hM.2.1 10 (by decide)
theorem MC.a11 (hM : MC G h m A V F) : h (A 11) = some (iA G 155 (fun i => nI (F 11 i))) := hM.2.1 11 (by decide)
theorem MC.ne (hM : MC G h m A V F) {i j : Nat} (hi : i < 12) (hj : j < 12) (hn : i ≠ j) : A i ≠ A j := fun e => hn (hM.2.2 i j hi hj e)
theorem MC.am (hM : MC G h m A V F) {i : Nat} (hi : i < 12) : A i ≠ m := ne_ao (hM.2.1 i hi) hM.1
theorem MC.setm (hM : MC G h m A V F) (V2 : Nat → Value) : MC G (hset h m (.inr (0, mF A V2))) m A V2 F := ⟨hset_self, fun i hi => (hset_ne (hM.am hi)).trans (hM.2.1 i hi), hM.2.2⟩
theorem MC.seta (hM : MC G h m A V F) (i : Nat) (hi : i < 12) (f : Nat → Nat) : MC G (hset h (A i) (mC G i f)) m A V (upF F i f) := by
  refine ⟨(hset_ne (Ne.symm (hM.am hi))).trans hM.1, fun j hj => ?_, hM.2.2⟩
  by_cases e : j = i
  · subst e; rw [hset_self, upF_s]
  · rw [hset_ne (fun q => e (hM.2.2 j i hj hi q)), upF_n e]; exact hM.2.1 j hj
theorem EqM.rf : EqM m A h h := fun _ _ => rfl
theorem EqM.setm {e : va_E} (hE : EqM m A h h2) : EqM m A h (hset h2 m e) := fun b hb => (hset_ne (fun q => hb (Or.inl q))).trans (hE b hb)
theorem EqM.seta {e : va_E} {i : Nat} (hE : EqM m A h h2) (hi : i < 12) : EqM m A h (hset h2 (A i) e) := fun b hb => (hset_ne (fun q => hb (Or.inr ⟨i, hi, q⟩))).trans (hE b hb)
theorem EqM.trans {h3 : AH} (hE : EqM m A h h2) (hE2 : EqM m A h2 h3) : EqM m A h h3 := fun b hb => (hE2 b hb).trans (hE b hb)
theorem mF_set4 {c : Value} : (mF A V).set 4 c = mF A (upV V 4 c) := rfl
theorem mF_set5 {c : Value} : (mF A V).set 5 c = mF A (upV V 5 c) := rfl
theorem mF_set6 {c : Value} : (mF A V).set 6 c = mF A (upV V 6 c) := rfl
theorem mF_set7 {c : Value} : (mF A V).set 7 c = mF A (upV V 7 c) := rfl
theorem mF_set9 {c : Value} : (mF A V).set 9 c = mF A (upV V 9 c) := rfl
theorem mF_set10 {c : Value} : (mF A V).set 10 c = mF A (upV V 10 c) := rfl
theorem mF_set11 {c : Value} : (mF A V).set 11 c = mF A (upV V 11 c) := rfl
theorem mF_set13 {c : Value} : (mF A V).set 13 c = mF A (upV V 13 c) := rfl
theorem mF_set16 {c : Value} : (mF A V).set 16 c = mF A (upV V 16 c) := rfl
theorem mF_set17 {c : Value} : (mF A V).set 17 c = mF A (upV V 17 c) := rfl
theorem mF_set20 {c : Value} : (mF A V).set 20 c = mF A (upV V 20 c) := rfl
theorem mF_set22 {c : Value} : (mF A V).set 22 c = mF A (upV V 22 c) := rfl
theorem mF_set24 {c : Value} : (mF A V).set 24 c = mF A (upV V 24 c) := rfl
theorem mF_len : (mF A V).length = 25 := rfl
/-- a run of the reference is a frame -/
theorem MC.fr {V2 : Nat → Value} {F2 : Nat → Nat → Nat} (hM : MC G h m A V F) (hM2 : MC G h2 m A V2 F2) (hE : EqM m A h h2) : Fr (MP m A) h h2 := by
  intro b e hb
  by_cases q : MP m A b
  · rcases id q with rfl | ⟨i, hi, rfl⟩
    · rw [hM.1] at hb; cases hb
      exact ⟨_, hM2.1, rfl, fun z => z.elim (fun z => absurd q z) (fun z => by cases z)⟩
    · rw [hM.2.1 i hi] at hb; cases hb
      exact ⟨_, hM2.2.1 i hi, ⟨rfl, rfl⟩, fun z => z.elim (fun z => absurd q z) (fun z => by cases z)⟩
  · exact ⟨e, (hE b q).trans hb, kd.rf, fun _ => ceq.rf⟩
/-- a frame that keeps off the reference's cells keeps it -/
theorem MC.off {M : Nat → Prop} (hM : MC G h m A V F) (hx : Fr M h h2) (hn : ∀ b, MP m A b → ¬ M b) : MC G h2 m A V F :=
  ⟨hx.get hM.1 (hn _ (Or.inl rfl)) rfl, fun i hi => hx.get (hM.2.1 i hi) (hn _ (Or.inr ⟨i, hi, rfl⟩)) rfl, hM.2.2⟩
end MCs
def Z3 (g : Nat → Nat) : Prop := ∀ i, 304 ≤ i → g i = 0
/-- what the fields and the arrays hold -/
def MV (W tm : Nat) (gb τ g : Nat → Nat) (sn : Option (Nat → Nat)) (hs : List (Nat → Nat)) (l : List Nat) (ep fc : Nat) (ot : List Nat) (cd : Nat) (V : Nat → Value) (F : Nat → Nat → Nat) : Prop :=
  (F 0 = g ∧ F 3 = gb ∧ F 11 = τ ∧ V 24 = .int (nI tm)) ∧ ((V 4 = .int (nI 0) ∧ sn = none) ∨ (V 4 = .int (nI 1) ∧ sn = some (F 2))) ∧ (V 5 = .int (nI hs.length) ∧ V 6 = .int (nI W) ∧ V 7 = .int (nI cd)) ∧ (V 9 = .int (nI l.length) ∧ V 10 = .int (rP ep) ∧ V 11 = .int (rP fc) ∧ V 13 = .int (nI ot.length)) ∧
    (∀ j, j < hs.length → ∀ i, i < 304 → F 1 (304 * j + i) = hs.getD j Z0 i) ∧ ((∀ i, i < l.length → F 4 i = l.getD i 0) ∧ ∀ i, F 4 i < 65536) ∧ ((∀ i, i < ot.length → F 5 i = ot.getD i 0) ∧ ∀ i, F 5 i < 65536) ∧ ((∀ i, F 6 i < 2 ^ 27) ∧ ∀ i, F 7 i < 2 ^ 27) ∧ Z3 (F 2) ∧ Z3 (F 3)
def MW (G : GG) (h : AH) (m : Nat) (A : Nat → Nat) (W tm : Nat) (gb τ g : Nat → Nat) (sn : Option (Nat → Nat)) (hs : List (Nat → Nat)) (l : List Nat) (ep fc : Nat) (ot : List Nat) (cd : Nat) : Prop := ∃ V F, MC G h m A V F ∧ MV W tm gb τ g sn hs l ep fc ot cd V F
section MVs
variable {W tm : Nat} {gb τ g : Nat → Nat} {sn : Option (Nat → Nat)} {hs : List (Nat → Nat)} {l : List Nat} {ep fc : Nat} {ot : List Nat} {cd : Nat} {V : Nat → Value} {F : Nat → Nat → Nat}
theorem MV.gg (h : MV W tm gb τ g sn hs l ep fc ot cd V F) : F 0 = g := h.1.1
theorem MV.b (h : MV W tm gb τ g sn hs l ep fc ot cd V F) : F 3 = gb := h.1.2.1
theorem MV.t (h : MV W tm gb τ g sn hs l ep fc ot cd V F) : F 11 = τ ∧ V 24 = .int (nI tm) := h.1.2.2
theorem MV.tl (h : MV W tm gb τ g sn hs l ep fc ot cd V F) : F 11 = τ := h.1.2.2.1
theorem MV.v24 (h : MV W tm gb τ g sn hs l ep fc ot cd V F) : V 24 = .int (nI tm) := h.1.2.2.2
theorem MV.s (h : MV W tm gb τ g sn hs l ep fc ot cd V F) : (V 4 = .int (nI 0) ∧ sn = none) ∨ (V 4 = .int (nI 1) ∧ sn = some (F 2)) := h.2.1
theorem MV.v5 (h : MV W tm gb τ g sn hs l ep fc ot cd V F) : V 5 = .int (nI hs.length) := h.2.2.1.1
theorem MV.v6 (h : MV W tm gb τ g sn hs l ep fc ot cd V F) : V 6 = .int (nI W) := h.2.2.1.2.1
theorem MV.v7 (h : MV W tm gb τ g sn hs l ep fc ot cd V F) : V 7 = .int (nI cd) := h.2.2.1.2.2
theorem MV.v9 (h : MV W tm gb τ g sn hs l ep fc ot cd V F) : V 9 = .int (nI l.length) := h.2.2.2.1.1
theorem MV.v10 (h : MV W tm gb τ g sn hs l ep fc ot cd V F) : V 10 = .int (rP ep) := h.2.2.2.1.2.1
theorem MV.v11 (h : MV W tm gb τ g sn hs l ep fc ot cd V F) : V 11 = .int (rP fc) := h.2.2.2.1.2.2.1
theorem MV.v13 (h : MV W tm gb τ g sn hs l ep fc ot cd V F) : V 13 = .int (nI ot.length) := h.2.2.2.1.2.2.2
theorem MV.k (h : MV W tm gb τ g sn hs l ep fc ot cd V F) : ∀ j, j < hs.length → ∀ i, i < 304 → F 1 (304 * j + i) = hs.getD j Z0 i := h.2.2.2.2.1
theorem MV.i (h : MV W tm gb τ g sn hs l ep fc ot cd V F) : (∀ i, i < l.length → F 4 i = l.getD i 0) ∧ ∀ i, F 4 i < 65536 := h.2.2.2.2.2.1
theorem MV.o (h : MV W tm gb τ g sn hs l ep fc ot cd V F) : (∀ i, i < ot.length → F 5 i = ot.getD i 0) ∧ ∀ i, F 5 i < 65536 := h.2.2.2.2.2.2.1
theorem MV.e (h : MV W tm gb τ g sn hs l ep fc ot cd V F) : ∀ i, F 6 i < 2 ^ 27 := h.2.2.2.2.2.2.2.1.1
theorem MV.f (h : MV W tm gb τ g sn hs l ep fc ot cd V F) : ∀ i, F 7 i < 2 ^ 27 := h.2.2.2.2.2.2.2.1.2
theorem MV.z (h : MV W tm gb τ g sn hs l ep fc ot cd V F) : Z3 (F 2) := h.2.2.2.2.2.2.2.2.1
theorem MV.zb (h : MV W tm gb τ g sn hs l ep fc ot cd V F) : Z3 (F 3) := h.2.2.2.2.2.2.2.2.2
/-- fields of no account: 7 is the code; start, starts, takenMany, at, toldMany -/
theorem MV.cod (h : MV W tm gb τ g sn hs l ep fc ot cd V F) (k : Nat) : MV W tm gb τ g sn hs l ep fc ot k (upV V 7 (.int (nI k))) F := ⟨h.1, h.2.1, ⟨h.v5, h.v6, rfl⟩, h.2.2.2⟩
theorem MV.fld (h : MV W tm gb τ g sn hs l ep fc ot cd V F) {k : Nat} {c : Value} (hk : k = 16 ∨ k = 17 ∨ k = 20 ∨ k = 22) : MV W tm gb τ g sn hs l ep fc ot cd (upV V k c) F := by
  have e : ∀ i, i ≤ 13 ∨ i = 24 → upV V k c i = V i := fun i hi => upV_n (by omega)
  refine ⟨⟨h.gg, h.b, h.tl, ?_⟩, ?_, ⟨?_, ?_, ?_⟩, ⟨?_, ?_, ?_, ?_⟩, h.2.2.2.2⟩ <;> (try rw [e _ (by decide)])
  · exact h.v24
  · exact h.2.1
  · exact h.v5
  · exact h.v6
  · exact h.v7
  · exact h.v9
  · exact h.v10
  · exact h.v11
  · exact h.v13
/-- arrays of no account: takenTrains, takenLegs, berths -/
theorem MV.arr (h : MV W tm gb τ g sn hs l ep fc ot cd V F) {k : Nat} {f : Nat → Nat} (hk : k = 8 ∨ k = 9 ∨ k = 10) : MV W tm gb τ g sn hs l ep fc ot cd V (upF F k f) := by
  have e : ∀ i, (i ≤ 7 ∨ i = 11) → upF F k f i = F i := fun i hi => upF_n (by omega)
  unfold MV
  rw [e 0 (by decide), e 1 (by decide), e 2 (by decide), e 3 (by decide), e 4 (by decide), e 5 (by decide), e 6 (by decide), e 7 (by decide), e 11 (by decide)]
  exact h
theorem MV.ea (h : MV W tm gb τ g sn hs l ep fc ot cd V F) {f : Nat → Nat} (hf : ∀ i, f i < 2 ^ 27) : MV W tm gb τ g sn hs l ep fc ot cd V (upF F 6 f) := ⟨h.1, h.2.1, h.2.2.1, h.2.2.2.1, h.k, h.i, h.o, ⟨hf, h.f⟩, h.z, h.zb⟩
theorem MV.th (h : MV W tm gb τ g sn hs l ep fc ot cd V F) {f : Nat → Nat} (hf : ∀ i, f i < 2 ^ 27) : MV W tm gb τ g sn hs l ep fc ot cd V (upF F 7 f) := ⟨h.1, h.2.1, h.2.2.1, h.2.2.2.1, h.k, h.i, h.o, ⟨h.e, hf⟩, h.z, h.zb⟩
/-- a new row -/
theorem MV.row (h : MV W tm gb τ g sn hs l ep fc ot cd V F) (g2 : Nat → Nat) : MV W tm gb τ g2 sn hs l ep fc ot cd V (upF F 0 g2) := ⟨⟨rfl, h.b, h.t⟩, h.2⟩
/-- a new row before -/
theorem MV.bef (h : MV W tm gb τ g sn hs l ep fc ot cd V F) {g2 : Nat → Nat} (hz : Z3 g2) : MV W tm g2 τ g sn hs l ep fc ot cd V (upF F 3 g2) := ⟨⟨h.gg, rfl, h.t⟩, h.2.1, h.2.2.1, h.2.2.2.1, h.k, h.i, h.o, ⟨h.e, h.f⟩, h.z, hz⟩
theorem MV.tld (h : MV W tm gb τ g sn hs l ep fc ot cd V F) (t2 : Nat → Nat) : MV W tm gb t2 g sn hs l ep fc ot cd V (upF F 11 t2) := ⟨⟨h.gg, h.b, rfl, h.v24⟩, h.2⟩
theorem MV.tml (h : MV W tm gb τ g sn hs l ep fc ot cd V F) (M : Nat) : MV W M gb τ g sn hs l ep fc ot cd (upV V 24 (.int (nI M))) F := ⟨⟨h.gg, h.b, h.tl, rfl⟩, h.2⟩
theorem MV.wit (h : MV W tm gb τ g sn hs l ep fc ot cd V F) (W2 : Nat) : MV W2 tm gb τ g sn hs l ep fc ot cd (upV V 6 (.int (nI W2))) F := ⟨h.1, h.2.1, ⟨h.v5, rfl, h.v7⟩, h.2.2.2⟩
theorem MV.fau (h : MV W tm gb τ g sn hs l ep fc ot cd V F) (e2 : Nat) : MV W tm gb τ g sn hs l e2 fc ot cd (upV V 10 (.int (rP e2))) F := ⟨h.1, h.2.1, h.2.2.1, ⟨h.v9, rfl, h.v11, h.v13⟩, h.2.2.2.2⟩
theorem MV.fai (h : MV W tm gb τ g sn hs l ep fc ot cd V F) (e2 : Nat) : MV W tm gb τ g sn hs l ep e2 ot cd (upV V 11 (.int (rP e2))) F := ⟨h.1, h.2.1, h.2.2.1, ⟨h.v9, h.v10, rfl, h.v13⟩, h.2.2.2.2⟩
theorem MV.emp (h : MV W tm gb τ g sn hs l ep fc ot cd V F) : MV W tm gb τ g sn hs [] ep fc ot cd (upV V 9 (.int (nI 0))) F := ⟨h.1, h.2.1, h.2.2.1, ⟨rfl, h.v10, h.v11, h.v13⟩, h.k, ⟨fun i hi => absurd hi (Nat.not_lt_zero i), h.i.2⟩, h.2.2.2.2.2.2⟩
/-- a change is kept -/
theorem kpK_at {gk g : Nat → Nat} {hs : List (Nat → Nat)} (h8 : hs.length ≤ 8) (hk : ∀ j, j < hs.length → ∀ i, i < 304 → gk (304 * j + i) = hs.getD j Z0 i) : ∀ j, j < (pushH hs g).length → ∀ i, i < 304 → kpK gk g hs.length (304 * j + i) = (pushH hs g).getD j Z0 i := by
  intro j hj i hi
  unfold pushH at hj ⊢
  unfold kpK
  by_cases q : hs.length = 8
  · rw [if_pos q] at hj ⊢
    rw [if_pos q]
    rw [List.length_append, List.length_tail, List.length_singleton] at hj
    unfold cpN shN
    by_cases e : j = 7
    · subst e
      rw [if_pos (by omega), List.getD_eq_getElem?_getD, List.getElem?_append_right (by rw [List.length_tail]; omega), List.length_tail, q]
      show g (0 + (304 * 7 + i - 2128)) = g i
      congr 1; omega
    · rw [if_neg (by omega), if_pos (by omega), List.getD_eq_getElem?_getD, List.getElem?_append_left (by rw [List.length_tail]; omega), List.getElem?_tail, ← List.getD_eq_getElem?_getD, ← hk (j + 1) (by omega) i hi]
      congr 1; omega
  · rw [if_neg q] at hj ⊢
    rw [if_neg q]
    rw [List.length_append, List.length_singleton] at hj
    unfold cpN
    by_cases e : j = hs.length
    · subst e
      rw [if_pos (by omega), List.getD_eq_getElem?_getD, List.getElem?_append_right (Nat.le_refl _), Nat.sub_self]
      show g (0 + (304 * hs.length + i - 304 * hs.length)) = g i
      congr 1; omega
    · rw [if_neg (by omega), List.getD_eq_getElem?_getD, List.getElem?_append_left (by omega), ← List.getD_eq_getElem?_getD]
      exact hk j (by omega) i hi
theorem pushH_len {hs : List (Nat → Nat)} {g : Nat → Nat} (h8 : hs.length ≤ 8) : (pushH hs g).length = kpC hs.length := by
  unfold pushH kpC
  split
  · rename_i q; rw [List.length_append, List.length_tail, List.length_singleton]; omega
  · rw [List.length_append, List.length_singleton]
/-- the history after a change, by isWithin -/
def hsW (W : Nat) (hs : List (Nat → Nat)) (g : Nat → Nat) : List (Nat → Nat) := if W = 0 then pushH hs g else hs
def kpV (V : Nat → Value) (W ch : Nat) : Nat → Value := if W = 0 then upV (upV V 7 (.int (nI 0))) 5 (.int (nI (kpC ch))) else upV V 7 (.int (nI 0))
def kpG (F : Nat → Nat → Nat) (W : Nat) (g : Nat → Nat) (ch : Nat) : Nat → Nat → Nat := if W = 0 then upF F 1 (kpK (F 1) g ch) else F
theorem kpV_n {W ch i : Nat} (h7 : i ≠ 7) (h5 : i ≠ 5) : kpV V W ch i = V i := by
  unfold kpV; split
  · rw [upV_n h5, upV_n h7]
  · rw [upV_n h7]
theorem kpG_n {W ch i : Nat} {g2 : Nat → Nat} (h : i ≠ 1) : kpG F W g2 ch i = F i := by
  unfold kpG; split
  · rw [upF_n h]
  · rfl
theorem MV.kp (h : MV W tm gb τ g sn hs l ep fc ot cd V F) (h8 : hs.length ≤ 8) (g2 : Nat → Nat) : MV W tm gb τ g sn (hsW W hs g2) l ep fc ot 0 (kpV V W hs.length) (kpG F W g2 hs.length) := by
  unfold MV
  rw [kpG_n (i := 0) (by decide), kpG_n (i := 2) (by decide), kpG_n (i := 3) (by decide), kpG_n (i := 4) (by decide), kpG_n (i := 5) (by decide), kpG_n (i := 6) (by decide), kpG_n (i := 7) (by decide), kpG_n (i := 11) (by decide), kpV_n (i := 4) (by decide) (by decide), kpV_n (i := 6) (by decide) (by decide), kpV_n (i := 9) (by decide) (by decide), kpV_n (i := 10) (by decide) (by decide), kpV_n (i := 11) (by decide) (by decide), kpV_n (i := 13) (by decide) (by decide), kpV_n (i := 24) (by decide) (by decide)]
  unfold hsW kpV kpG
  by_cases hw : W = 0
  · rw [if_pos hw, if_pos hw, if_pos hw, pushH_len h8]
    refine ⟨h.1, h.2.1, ⟨rfl, h.v6, rfl⟩, h.2.2.2.1, ?_, h.2.2.2.2.2⟩
    rw [← pushH_len (g := g2) h8, upF_s]
    exact kpK_at h8 h.k
  · rw [if_neg hw, if_neg hw, if_neg hw]
    exact ⟨h.1, h.2.1, ⟨h.v5, h.v6, rfl⟩, h.2.2.2.1, h.k, h.2.2.2.2.2⟩
end MVs
/-- keeps -/
theorem MC.kp {G : GG} {h : AH} {m : Nat} {A : Nat → Nat} {V : Nat → Value} {F : Nat → Nat → Nat} {W ch : Nat} {g : Nat → Nat} (hM : MC G h m A V F) : MC G (kpH G h m (mF A V) (A 1) (F 1) W ch g) m A (kpV V W ch) (kpG F W g ch) ∧ EqM m A h (kpH G h m (mF A V) (A 1) (F 1) W ch g) := by
  unfold kpH kpF kpV kpG
  by_cases hw : W = 0
  · rw [if_pos hw, if_pos hw, if_pos hw, if_pos hw, mF_set7, mF_set5]
    exact ⟨(hM.setm _).seta 1 (by decide) _, EqM.rf.setm.seta (by decide)⟩
  · rw [if_neg hw, if_neg hw, if_neg hw, if_neg hw, mF_set7]
    exact ⟨hM.setm _, EqM.rf.setm⟩
/-- what is told of a state -/
def SVI (n : Nat) (g : Nat → Nat) (sn : Option (Nat → Nat)) (hs : List (Nat → Nat)) (l : List Nat) (ep fc : Nat) (ot : List Nat) : Prop :=
  (INV n g ∧ Z3 g) ∧ (∀ gs, sn = some gs → INV n gs ∧ Z3 gs) ∧ (∀ i, i < hs.length → INV n (hs.getD i Z0) ∧ Z3 (hs.getD i Z0)) ∧ hs.length ≤ 8 ∧ l.length ≤ 60 ∧ (∀ c, c ∈ l → 32 ≤ c ∧ c ≤ 126) ∧ ep ≤ 100 ∧ fc ≤ 100 ∧ ot.length ≤ 60 ∧ (∀ c, c ∈ ot → c < 256)
/-- the end of a query: the code, the answer -/
def QE (G : GG) (h : AH) (m : Nat) (A : Nat → Nat) (W tm : Nat) (gb τ g : Nat → Nat) (sn : Option (Nat → Nat)) (hs : List (Nat → Nat)) (l : List Nat) (ep fc : Nat) (ot : List Nat) (c : Nat) (v0 v : Value) : Option Value → AH → Prop :=
  fun r h2 => r = some (if c = 0 then v else v0) ∧ MW G h2 m A W tm gb τ g sn hs l ep fc ot c ∧ Fr (MP m A) h h2
section QEs
variable {G : GG} {h : AH} {m : Nat} {A : Nat → Nat} {W tm : Nat} {gb τ g : Nat → Nat} {sn : Option (Nat → Nat)} {hs : List (Nat → Nat)} {l : List Nat} {ep fc : Nat} {ot : List Nat} {cd : Nat} {V : Nat → Value} {F : Nat → Nat → Nat}
theorem QE.mk {V2 : Nat → Value} {F2 : Nat → Nat → Nat} {h2 : AH} {c : Nat} {v0 v : Value} {r : Option Value} (hM : MC G h m A V F) (hr : r = some (if c = 0 then v else v0)) (hM2 : MC G h2 m A V2 F2) (hV2 : MV W tm gb τ g sn hs l ep fc ot c V2 F2) (hE : EqM m A h h2) : QE G h m A W tm gb τ g sn hs l ep fc ot c v0 v r h2 :=
  ⟨hr, ⟨V2, F2, hM2, hV2⟩, hM.fr hM2 hE⟩
theorem QE.px {c : Nat} {v : Value} {r : Option Value} {h2 : AH} (hM : MC G h m A V F) (hV : MV W tm gb τ g sn hs l ep fc ot cd V F) (hp : PX c (fun k => hset h m (.inr (0, (mF A V).set 7 (.int (nI k))))) v (hset h m (.inr (0, (mF A V).set 7 (.int (nI 0))))) r h2) : QE G h m A W tm gb τ g sn hs l ep fc ot c (.int (nI 0)) v r h2 := by
  by_cases q : c = 0
  · obtain ⟨rfl, rfl⟩ := hp.2 q
    subst q
    exact QE.mk hM rfl (hM.setm (upV V 7 (.int (nI 0)))) (hV.cod 0) EqM.rf.setm
  · obtain ⟨rfl, rfl⟩ := hp.1 q
    exact QE.mk hM (by rw [if_neg q]) (hM.setm (upV V 7 (.int (nI c)))) (hV.cod c) EqM.rf.setm
theorem QE.py {c : Nat} {v0 v : Value} {r : Option Value} {h2 : AH} (hM : MC G h m A V F) (hV : MV W tm gb τ g sn hs l ep fc ot cd V F) (hp : PY c (fun k => hset h m (.inr (0, (mF A V).set 7 (.int (nI k))))) v0 v (hset h m (.inr (0, (mF A V).set 7 (.int (nI 0))))) r h2) : QE G h m A W tm gb τ g sn hs l ep fc ot c v0 v r h2 := by
  by_cases q : c = 0
  · obtain ⟨rfl, rfl⟩ := hp.2 q
    subst q
    exact QE.mk hM rfl (hM.setm (upV V 7 (.int (nI 0)))) (hV.cod 0) EqM.rf.setm
  · obtain ⟨rfl, rfl⟩ := hp.1 q
    exact QE.mk hM (by rw [if_neg q]) (hM.setm (upV V 7 (.int (nI c)))) (hV.cod c) EqM.rf.setm
theorem QE.pr (c : Nat) {v0 v w : Value} {r : Option Value} {h2 : AH} (hM : MC G h m A V F) (hV : MV W tm gb τ g sn hs l ep fc ot cd V F) (hw : w = if c = 0 then v else v0) (hp : PR w (hset h m (.inr (0, (mF A V).set 7 (.int (nI c))))) r h2) : QE G h m A W tm gb τ g sn hs l ep fc ot c v0 v r h2 := by
  obtain ⟨rfl, rfl⟩ := hp
  exact QE.mk hM (by rw [hw]) (hM.setm (upV V 7 (.int (nI c)))) (hV.cod c) EqM.rf.setm
end QEs
