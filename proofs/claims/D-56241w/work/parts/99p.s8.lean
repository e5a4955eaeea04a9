set_option maxRecDepth 100000
/-! ===== the class's whole world ===== -/
def kQ : va_E → Bool
  | .inl (_, _, .inr (.inr (.inr (.inr _)))) => true
  | _ => false
/-- M keeps off every cell of a railway but the trains' arrays -/
def KR (M : Nat → Prop) (h : AH) : Prop := (∀ c, (c = 2 ∨ c = 3 ∨ c = 4 ∨ c = 8 ∨ c = 11 ∨ c = 18 ∨ c = 23 ∨ c = 24 ∨ c = 27) → offK M h (kO c)) ∧ offK M h kQ
/-- .. and off those arrays too, if they lie in P -/
def KM (G : GG) (P M : Nat → Prop) (h : AH) : Prop := KR M h ∧ ∀ z f, h z = some (iA G 8 f) → P z → ¬ M z
theorem KM.nM {G : GG} {P : Nat → Prop} {h : AH} : KM G P nM h := ⟨⟨fun _ _ => offK.nM, offK.nM⟩, fun _ _ _ _ z => z⟩
theorem KM.m1o {G : GG} {P : Nat → Prop} {h : AH} {a c : Nat} {fs : List Value} (ha : h a = some (.inr (c, fs))) (hc : ¬ (c = 2 ∨ c = 3 ∨ c = 4 ∨ c = 8 ∨ c = 11 ∨ c = 18 ∨ c = 23 ∨ c = 24 ∨ c = 27)) : KM G P (m1 a) h :=
  ⟨⟨fun d hd => offK.m1 ha (kO_ne (fun e => hc (e ▸ hd))), offK.m1 ha rfl⟩, fun z f hz _ e => ne_ao hz ha e⟩
theorem KM.or {G : GG} {P M N K : Nat → Prop} {h : AH} (h1 : KM G P M h) (h2 : KM G P N h) (hK : ∀ z, K z → M z ∨ N z) : KM G P K h :=
  ⟨⟨fun c hc a e ha hs q => (hK a q).elim (h1.1.1 c hc a e ha hs) (h2.1.1 c hc a e ha hs), fun a e ha hs q => (hK a q).elim (h1.1.2 a e ha hs) (h2.1.2 a e ha hs)⟩, fun z f hz hp q => (hK z q).elim (h1.2 z f hz hp) (h2.2 z f hz hp)⟩
theorem KM.mT {G : GG} {P : Nat → Prop} {h : AH} {a mc n : Nat} {A V : Nat → Nat} (hL : LLs h a mc n A V) : KM G P (mT a n A) h := by
  have hk : ∀ {S : va_E → Bool}, (∀ f, S (.inr (19, f)) = false) → (∀ f, S (.inr (20, f)) = false) → offK (_root_.Jvm.Pilot.CSleeperRailwayLaw_law_r7090_9649fd.mT a n A) h S := by
    intro S h1 h2 b e hb hs q
    rcases q with rfl | ⟨i, hi, rfl⟩
    · cases hL.1.symm.trans hb; rw [h1] at hs; cases hs
    · cases (hL.2.2 i hi).symm.trans hb; rw [h2] at hs; cases hs
  refine ⟨⟨fun c hc => hk (fun _ => kO_ne (by omega)) (fun _ => kO_ne (by omega)), hk (fun _ => rfl) (fun _ => rfl)⟩, fun z f hz _ q => ?_⟩
  rcases q with rfl | ⟨i, hi, rfl⟩
  · cases hL.1.symm.trans hz
  · cases (hL.2.2 i hi).symm.trans hz
theorem KM.arS {G : GG} {P : Nat → Prop} {h : AH} {b N : Nat} {c : Nat → Nat} (hb : h b = some (byA G N c)) (hN : 16 ≤ N) : KM G P (m1 b) h :=
  ⟨⟨fun d hd => offK.m1 hb rfl, offK.m1 hb rfl⟩, fun z f hz _ e => by
    cases (show z = b from e)
    have := hb.symm.trans hz
    injection this with this
    injection this with this
    injection this with _ this
    injection this with this _
    omega⟩
theorem KM.sb {G : GG} {P : Nat → Prop} {h : AH} {s b N : Nat} {l : List Nat} (hS : SBs G h s b N l) : KM G P (m2 s b) h := by
  obtain ⟨ml, c, h1, h2, -, h3, -⟩ := hS
  exact KM.or (KM.m1o h1 (by decide)) (KM.arS h2 h3.1) (fun z q => q)
theorem RW.frK {G : GG} {M : Nat → Prop} {h h2 : AH} {r : Nat} {D : RD} {g : Nat → Nat} (hW : RW G h r D g) (hx : Fr M h h2) (hk : KR M h) (hA : ∀ t i, t < g 1 → i < 5 → ¬ M (D.2.1.2.2.2.2 t i)) : RW G h2 r D g :=
  ⟨hx.get hW.1 ((hk.1 2 (by omega)).o hW.1) rfl, hW.2.1.fr hx ((hk.1 18 (by omega)).o hW.2.1.1.1) (fun c f q => hk.2 _ _ q rfl) (hk.1 27 (by omega)),
    hW.2.2.1.fr hx (hk.1 3 (by omega)) ((hk.1 18 (by omega)).o hW.2.2.1.2.1.1) (fun c f q => hk.2 _ _ q rfl) (hk.1 4 (by omega)) (fun t ht i hi => hA t i ht hi),
    hW.2.2.2.1.frk hx (hk.1 23 (by omega)) (hk.1 24 (by omega)) (hk.1 27 (by omega)) (hk.1 8 (by omega)), hW.2.2.2.2.frk hx (hk.1 23 (by omega)) (hk.1 24 (by omega)) (hk.1 27 (by omega)) (hk.1 11 (by omega))⟩
/-- a railway, its trains' arrays in P -/
def RG (G : GG) (P : Nat → Prop) (h : AH) (r : Nat) (g : Nat → Nat) : Prop := ∃ D : RD, RW G h r D g ∧ ∀ t i, t < g 1 → i < 5 → P (D.2.1.2.2.2.2 t i)
theorem RG.fr {G : GG} {P M : Nat → Prop} {h h2 : AH} {r : Nat} {g : Nat → Nat} (hR : RG G P h r g) (hx : Fr M h h2) (hk : KM G P M h) : RG G P h2 r g := by
  obtain ⟨D, hW, hP⟩ := hR
  refine ⟨D, hW.frK hx hk.1 (fun t i ht hi => ?_), hP⟩
  obtain ⟨-, f, q, -⟩ := hW.2.2.1.2.2 t ht
  exact hk.2 _ _ (q i hi) (hP t i ht hi)
/-- the snapshot -/
def SNP (G : GG) (P : Nat → Prop) (h : AH) (so : Option Nat) (sn : Option (Nat → Nat)) : Prop := match so, sn with
  | none, none => True
  | some r, some g => RG G P h r g
  | _, _ => False
theorem SNP.fr {G : GG} {P M : Nat → Prop} {h h2 : AH} {so : Option Nat} {sn : Option (Nat → Nat)} (hS : SNP G P h so sn) (hx : Fr M h h2) (hk : KM G P M h) : SNP G P h2 so sn := by
  cases so with
  | none => cases sn with
    | none => exact trivial
    | some g => exact hS.elim
  | some r => cases sn with
    | none => exact hS.elim
    | some g => exact RG.fr (show RG G P h r g from hS) hx hk
abbrev Z0 : Nat → Nat := fun _ => 0
/-- the history's railways -/
def HRR (G : GG) (P : Nat → Prop) (h : AH) (V : Nat → Nat) (hs : List (Nat → Nat)) : Prop := ∀ i, i < hs.length → RG G P h (V i) (hs.getD i Z0)
theorem HRR.fr {G : GG} {P M : Nat → Prop} {h h2 : AH} {V : Nat → Nat} {hs : List (Nat → Nat)} (hS : HRR G P h V hs) (hx : Fr M h h2) (hk : KM G P M h) : HRR G P h2 V hs := fun i hi => (hS i hi).fr hx hk
theorem HRR.tail {G : GG} {P : Nat → Prop} {h : AH} {V : Nat → Nat} {hs : List (Nat → Nat)} (hS : HRR G P h V hs) : HRR G P h (fun i => V (i + 1)) hs.tail := by
  intro i hi
  rw [List.length_tail] at hi
  have h1 := hS (i + 1) (by omega)
  rw [List.getD_eq_getElem?_getD] at h1 ⊢
  rw [List.getElem?_tail]; exact h1
theorem HRR.push {G : GG} {P : Nat → Prop} {h : AH} {V : Nat → Nat} {hs : List (Nat → Nat)} {n r : Nat} {g : Nat → Nat} (hS : HRR G P h V hs) (hn : n = hs.length) (hR : RG G P h r g) : HRR G P h (upo V n r) (hs ++ [g]) := by
  subst hn
  intro i hi
  rw [List.length_append, List.length_singleton] at hi
  by_cases e : i = hs.length
  · subst e
    rw [upo_s, List.getD_eq_getElem?_getD, List.getElem?_append_right (Nat.le_refl _), Nat.sub_self]; exact hR
  · rw [upo_n e, List.getD_eq_getElem?_getD, List.getElem?_append_left (by omega), ← List.getD_eq_getElem?_getD]; exact hS i (by omega)
theorem HRR.init {G : GG} {P : Nat → Prop} {h : AH} {V : Nat → Nat} {hs : List (Nat → Nat)} (hS : HRR G P h V hs) : HRR G P h V hs.dropLast := by
  intro i hi
  rw [List.length_dropLast] at hi
  have h1 := hS i (by omega)
  rw [List.getD_eq_getElem?_getD] at h1 ⊢
  rw [List.getElem?_dropLast, if_pos (by omega)]; exact h1
/-- the output's text; its bytes lie in P and are not b -/
def OUT (G : GG) (P : Nat → Prop) (b : Nat) (h : AH) (o : Nat) (l : List Nat) : Prop := l.length ≤ 200 ∧
  ((∃ v hs hz c, h o = some (.inr (22, [.ref v, .int (nI 0), .int hs, .int hz])) ∧ h v = some (byA G l.length c) ∧ by8 c ∧ begW c l ∧ P v ∧ v ≠ b) ∨ Gstr G "" o ∧ l = [])
theorem OUT.fr {G : GG} {P M : Nat → Prop} {h h2 : AH} {b o : Nat} {l : List Nat} (hO : OUT G P b h o l) (hx : Fr M h h2) (h1 : offK M h (kO 22)) (hvv : ∀ v, P v → v ≠ b → ¬ M v) : OUT G P b h2 o l := by
  obtain ⟨hl, ⟨v, hs, hz, c, q1, q2, q3, q4, q5, q6⟩ | q⟩ := hO
  · exact ⟨hl, Or.inl ⟨v, hs, hz, c, hx.get q1 (h1.o q1) rfl, hx.get q2 (hvv v q5 q6) rfl, q3, q4, q5, q6⟩⟩
  · exact ⟨hl, Or.inr q⟩
theorem OUT.fr0 {G : GG} {P : Nat → Prop} {h h2 : AH} {b o : Nat} {l : List Nat} (hO : OUT G P b h o l) (hx : Fr nM h h2) : OUT G P b h2 o l := hO.fr hx offK.nM (fun _ _ _ => id)
theorem LLs.frm {M : Nat → Prop} {h h2 : AH} {a mc n : Nat} {A V : Nat → Nat} (hL : LLs h a mc n A V) (hx : Fr M h h2) (h1 : ¬ M a) (h3 : ∀ i, i < n → ¬ M (A i)) : LLs h2 a mc n A V := ⟨hx.get hL.1 h1 rfl, hL.2.1, fun i hi => hx.get (hL.2.2 i hi) (h3 i hi) rfl⟩
/-- an object of the class at xo, with what it holds -/
def CW (G : GG) (P : Nat → Prop) (h : AH) (xo : Nat) (g : Nat → Nat) (sn : Option (Nat → Nat)) (hs : List (Nat → Nat)) (l : List Nat) (ep fc : Int32) (ot : List Nat) : Prop :=
  ∃ (r : Nat) (so : Option Nat) (hl sb o mc : Nat) (A V : Nat → Nat) (b N : Nat), h xo = some (.inr (1, [.ref r, va_rf so, .ref hl, .ref sb, .int ep, .int fc, .ref o])) ∧ RG G P h r g ∧ SNP G P h so sn ∧ LLs h hl mc hs.length A V ∧ HRR G P h V hs ∧
    SBs G h sb b N l ∧ OUT G P b h o ot ∧ P xo ∧ P hl ∧ (∀ i, i < hs.length → P (A i)) ∧ P sb ∧ P b
theorem CW.fr0 {G : GG} {P : Nat → Prop} {h h2 : AH} {xo : Nat} {g : Nat → Nat} {sn : Option (Nat → Nat)} {hs : List (Nat → Nat)} {l : List Nat} {ep fc : Int32} {ot : List Nat} (hC : CW G P h xo g sn hs l ep fc ot) (hx : Fr nM h h2) : CW G P h2 xo g sn hs l ep fc ot := by
  obtain ⟨r, so, hl, sb, o, mc, A, V, b, N, q1, q2, q3, q4, q5, q6, q7, q8⟩ := hC
  exact ⟨r, so, hl, sb, o, mc, A, V, b, N, hx.get q1 id rfl, q2.fr hx KM.nM, q3.fr hx KM.nM, q4.frm hx id (fun _ _ => id), q5.fr hx KM.nM, q6.fr0 hx, q7.fr0 hx, q8⟩
theorem LLs.frk {M : Nat → Prop} {h h2 : AH} {a mc n : Nat} {A V : Nat → Nat} (hL : LLs h a mc n A V) (hx : Fr M h h2) (h1 : offK M h (kO 19)) (h3 : offK M h (kO 20)) : LLs h2 a mc n A V := hL.frm hx (h1.o hL.1) (fun i hi => h3.o (hL.2.2 i hi))
theorem LLs.off {h : AH} {a mc n : Nat} {A V : Nat → Nat} (hL : LLs h a mc n A V) {S : va_E → Bool} (h1 : ∀ f, S (.inr (19, f)) = false) (h2 : ∀ f, S (.inr (20, f)) = false) : offK (mT a n A) h S := by
  intro b e hb hs q
  rcases q with rfl | ⟨i, hi, rfl⟩
  · cases hL.1.symm.trans hb; rw [h1] at hs; cases hs
  · cases (hL.2.2 i hi).symm.trans hb; rw [h2] at hs; cases hs
theorem LLs.offo {h : AH} {a mc n c : Nat} {A V : Nat → Nat} (hL : LLs h a mc n A V) (h1 : c ≠ 19) (h2 : c ≠ 20) : offK (mT a n A) h (kO c) := hL.off (fun _ => kO_ne (Ne.symm h1)) (fun _ => kO_ne (Ne.symm h2))
theorem LLs.noa {h : AH} {a mc n v : Nat} {A V : Nat → Nat} (hL : LLs h a mc n A V) {t N : Nat} {f : Nat → Int32} (hv : h v = some (.inl (t, N, .inl f))) : ¬ mT a n A v := fun q => by
  rcases q with rfl | ⟨i, hi, rfl⟩
  · cases hL.1.symm.trans hv
  · cases (hL.2.2 i hi).symm.trans hv
theorem SBs.off {G : GG} {h : AH} {s b N : Nat} {l : List Nat} (hS : SBs G h s b N l) {c : Nat} (hc : c ≠ 21) : offK (m2 s b) h (kO c) := by
  obtain ⟨ml, c2, h1, h2, -⟩ := hS
  intro z e hz hs q
  rcases q with rfl | rfl
  · cases h1.symm.trans hz; rw [kO_ne (Ne.symm hc)] at hs; cases hs
  · cases h2.symm.trans hz; cases hs
theorem LLs.sb {G : GG} {h : AH} {a mc n s b N : Nat} {A V : Nat → Nat} {l : List Nat} (hL : LLs h a mc n A V) (hS : SBs G h s b N l) : ¬ mT a n A s ∧ ¬ mT a n A b := by
  obtain ⟨ml, c, h1, h2, -⟩ := hS
  exact ⟨(hL.offo (by decide) (by decide)).o h1, hL.noa h2⟩
theorem OUT.frS {G : GG} {P : Nat → Prop} {h h2 : AH} {s b b2 o N : Nat} {l l1 : List Nat} (hO : OUT G P b h o l) (hS : SBs G h s b N l1) (hx : Fr (m2 s b) h h2) (hb : b2 = b ∨ h b2 = none) : OUT G P b2 h2 o l := by
  obtain ⟨hl, ⟨v, hs, hz, c, q1, q2, q3, q4, q5, q6⟩ | q⟩ := hO
  · obtain ⟨ml, c2, z1, z2, -⟩ := id hS
    exact ⟨hl, Or.inl ⟨v, hs, hz, c, hx.get q1 ((hS.off (by decide)).o q1) rfl, hx.get q2 (fun e => e.elim (fun e => ne_ao q2 z1 e) q6) rfl, q3, q4, q5, fun e => hb.elim (fun z => q6 (e.trans z)) (fun z => by rw [← e, q2] at z; cases z)⟩⟩
  · exact ⟨hl, Or.inr q⟩
theorem OUT.frL {G : GG} {P : Nat → Prop} {h h2 : AH} {b o a mc n : Nat} {A V : Nat → Nat} {l : List Nat} (hO : OUT G P b h o l) (hL : LLs h a mc n A V) (hx : Fr (mT a n A) h h2) : OUT G P b h2 o l := by
  obtain ⟨hl, ⟨v, hs, hz, c, q1, q2, q3, q4, q5, q6⟩ | q⟩ := hO
  · exact ⟨hl, Or.inl ⟨v, hs, hz, c, hx.get q1 ((hL.offo (by decide) (by decide)).o q1) rfl, hx.get q2 (hL.noa q2) rfl, q3, q4, q5, q6⟩⟩
  · exact ⟨hl, Or.inr q⟩
theorem OUT.fr1 {G : GG} {P : Nat → Prop} {h h2 : AH} {b o a c : Nat} {fs : List Value} {l : List Nat} (hO : OUT G P b h o l) (ha : h a = some (.inr (c, fs))) (hc : c ≠ 22) (hx : Fr (m1 a) h h2) : OUT G P b h2 o l := by
  obtain ⟨hl, ⟨v, hs, hz, c2, q1, q2, q3, q4, q5, q6⟩ | q⟩ := hO
  · exact ⟨hl, Or.inl ⟨v, hs, hz, c2, hx.get q1 (fun e => ne_oo q1 ha (Ne.symm hc) e) rfl, hx.get q2 (fun e => ne_ao q2 ha e) rfl, q3, q4, q5, q6⟩⟩
  · exact ⟨hl, Or.inr q⟩
theorem OUT.rd {G : GG} {P : Nat → Prop} {h : AH} {b o : Nat} {l : List Nat} (hO : OUT G P b h o l) : ∃ v hs hz c, _root_.Jvm.Pilot.CSleeperRailwayLaw_law_r7090_9649fd.rd G h o (.inr (22, [.ref v, .int (nI 0), .int hs, .int hz])) ∧ _root_.Jvm.Pilot.CSleeperRailwayLaw_law_r7090_9649fd.rd G h v (byA G l.length c) ∧ by8 c ∧ begW c l := by
  obtain ⟨hl, ⟨v, hs, hz, c, q1, q2, q3, q4, q5, q6⟩ | ⟨q, rfl⟩⟩ := hO
  · exact ⟨v, hs, hz, c, Or.inl q1, Or.inl q2, q3, q4⟩
  · obtain ⟨v, hz, h1, h2, -⟩ := q
    exact ⟨v, _, hz, fun j => (txl "").getD j 0, Or.inr h1, Or.inr h2, fun j => by show (([] : List Nat)).getD j 0 < 256; rw [List.getD_eq_getElem?_getD, List.getElem?_nil]; decide, fun i hi => absurd hi (Nat.not_lt_zero i)⟩
/-- a new text becomes the output -/
theorem OUT.new {G : GG} {P : Nat → Prop} {h0 h : AH} {b a N s : Nat} {l0 lt : List Nat} (hS : SBs G h0 s b N l0) (hl : lt.length ≤ 200) (hT : ∃ v, h0 v = none ∧ ∃ hs hz c, h a = some (.inr (22, [.ref v, .int (nI 0), .int hs, .int hz])) ∧ h v = some (byA G lt.length c) ∧ by8 c ∧ begW c lt) (hP0 : ∀ z, h0 z = none → P z) : OUT G P b h a lt := by
  obtain ⟨v, hv, hs, hz, c, q1, q2, q3, q4⟩ := hT
  obtain ⟨ml, c2, -, hb, -⟩ := hS
  exact ⟨hl, Or.inl ⟨v, hs, hz, c, q1, q2, q3, q4, hP0 v hv, fun e => by rw [e, hb] at hv; cases hv⟩⟩
theorem SNP.none_ {G : GG} {P : Nat → Prop} {h : AH} {sn : Option (Nat → Nat)} (hS : SNP G P h none sn) : sn = none := by
  cases sn with
  | none => rfl
  | some g => exact hS.elim
theorem SNP.some_ {G : GG} {P : Nat → Prop} {h : AH} {r : Nat} {sn : Option (Nat → Nat)} (hS : SNP G P h (some r) sn) : ∃ gs, sn = some gs ∧ RG G P h r gs := by
  cases sn with
  | none => exact hS.elim
  | some g => exact ⟨g, rfl, hS⟩
theorem RO.rg {G : GG} {P : Nat → Prop} {h0 h : AH} {r : Nat} {D : RD} {g : Nat → Nat} (hO : RO G h0 r D g) (hW : RW G h r D g) (hP : ∀ z, h0 z = none → P z) : RG G P h r g := ⟨D, hW, fun t i ht hi => hP _ (hO.A t ht i hi)⟩
/-- an exception's class and index, by its kind -/
def exK (kd : String) : String × Nat := if kd = "index" then (eIX, 34) else if kd = "argument" then (eAR, 35) else if kd = "state" then (eST, 36) else if kd = "element" then (eEL, 38) else ("java/lang/UnsupportedOperationException", 37)
def KDS (kd : String) : Prop := kd = "index" ∨ kd = "argument" ∨ kd = "state" ∨ kd = "element" ∨ kd = "rule"
theorem kdK_mem {k c : Nat} (hk : k < 10) : KDS (kdK k c) := by
  have hk9 : k = 0 ∨ k = 1 ∨ k = 2 ∨ k = 3 ∨ k = 4 ∨ k = 5 ∨ k = 6 ∨ k = 7 ∨ k = 8 ∨ k = 9 := by omega
  unfold KDS
  rcases hk9 with rfl | rfl | rfl | rfl | rfl | rfl | rfl | rfl | rfl | rfl <;> simp only [kdK, kdAS, kdAT, kdET, kdDT, kdAC, kdRL, kdSD, kdCO, kdBK, kdCB] <;> (repeat' split) <;> simp
theorem exK_isC {h : AH} {q : Nat} {kd : String} (hk : KDS kd) (hq : h q = some (.inr ((exK kd).2, []))) : isW h q (exK kd).1 := by
  rcases hk with rfl | rfl | rfl | rfl | rfl
  · exact ⟨34, _, _, _, rfl, Or.inl hq⟩
  · exact ⟨35, _, _, _, rfl, Or.inl hq⟩
  · exact ⟨36, _, _, _, rfl, Or.inl hq⟩
  · exact ⟨38, _, _, _, rfl, Or.inl hq⟩
  · exact ⟨37, _, _, _, rfl, Or.inl hq⟩
theorem ct_X9_pub {G : GG} {l : Launch} {h : AH} {q0 a : Nat} {kd : String} (hk : KDS kd) (hl0 : l.stackTraces = false) (hq : h q0 = some (.inr (7, [.ref a]))) (hG : Gstr G kd a) : Ct G l yX9_asPublicException cX9_asPublicException 3 (some (.object "java/lang/RuntimeException")) 6 1 6 [.ref q0] h (fun r h2 => ∃ q, r = some (.ref q) ∧ h q = none ∧ h2 q = some (.inr ((exK kd).2, [])) ∧ Fr nM h h2) := by
  rcases hk with rfl | rfl | rfl | rfl | rfl
  · exact ct_X9_pub_index hl0 hq hG
  · exact ct_X9_pub_argument hl0 hq hG
  · exact ct_X9_pub_state hl0 hq hG
  · exact ct_X9_pub_element hl0 hq hG
  · exact ct_X9_pub_rule hl0 hq hG
/-- the history after one more change -/
def pushH (hs : List (Nat → Nat)) (g : Nat → Nat) : List (Nat → Nat) := (if hs.length = 8 then hs.tail else hs) ++ [g]

theorem ct_X1_write {G : GG} {l : Launch} {h : AH} {P : Nat → Prop} {xo n : Nat} {g : Nat → Nat} {sn : Option (Nat → Nat)} {hs : List (Nat → Nat)} {l0 : List Nat} {ep fc : Int32} {ot : List Nat} {h0 : AH} {a : Nat} {lt : List Nat}  (hC : CW G P h0 xo g sn hs l0 ep fc ot) (hF : Fr nM h0 h) (hP0 : ∀ z, h0 z = none → P z) (hlt : lt.length ≤ 200) (hT : ∃ v, h0 v = none ∧ ∃ hs hz c, h a = some (.inr (22, [.ref v, .int (nI 0), .int hs, .int hz])) ∧ h v = some (byA G lt.length c) ∧ by8 c ∧ begW c lt) : Ct G l yX1_write cX1_write 2 (some .int) 2 (0) (0) [.ref xo, .ref a] h (fun r0 h2 => r0 = some (.int (nI lt.length)) ∧ CW G P h2 xo g sn hs l0 ep fc lt ∧ Fr P h h2) := by
  refine Ct.of (by decide) (Nat.le_of_ble_eq_true rfl) (cat1 rfl) (fun X hXl F HN => ?_)
  subst hXl
  obtain ⟨r, so, hl, sb, o, mc, A, V, b, N, hx0, hRG, hSN, hLL, hHR, hSB, hOU, hPx, hPl, hPA, hPs, hPb⟩ := id hC
  have hx1 := hF.get hx0 id rfl
  obtain ⟨v, hv0, ha1, hz1, c1, hva, hvb, hc8, hcb⟩ := id hT
  refine V_aload_n (i := 0) F dX1_write_0 rfl rfl ?_
  refine V_aload_n (i := 1) F dX1_write_1 rfl rfl ?_
  refine V_putf F dX1_write_2 fp_X1_37_X1 hx1 rfl rfl (Nat.le_of_ble_eq_true rfl) ?_
  refine VV.heap (h' := (hset h (xo) (.inr (1, [.ref (r), va_rf (so), .ref (hl), .ref (sb), .int (ep), .int (fc), .ref (a)])))) rfl ?_
  refine V_aload_n (i := 0) F dX1_write_5 rfl rfl ?_
  refine V_getf F dX1_write_6 fc_X1_37_X1 (.inl (hset_self (e := .inr (1, [.ref (r), va_rf (so), .ref (hl), .ref (sb), .int (ep), .int (fc), .ref (a)])))) rfl ?_
  have qx : (hset h (xo) (.inr (1, [.ref (r), va_rf (so), .ref (hl), .ref (sb), .int (ep), .int (fc), .ref (a)]))) xo = some (.inr (1, [.ref (r), va_rf (so), .ref (hl), .ref (sb), .int (ep), .int (fc), .ref (a)])) := (hset_self (e := .inr (1, [.ref (r), va_rf (so), .ref (hl), .ref (sb), .int (ep), .int (fc), .ref (a)])))
  have qf := ((Fr.rf (M := P) (h := h)).put (x := .inr (1, [.ref (r), va_rf (so), .ref (hl), .ref (sb), .int (ep), .int (fc), .ref (a)])) hx1 rfl rfl (Or.inl hPx))
  refine V_callV (st := []) (nn := 0) F dX1_write_9 lk_X1_362 (ct_J6_length (.inl ((hset_ne (ne_oo hva hx1 (by decide))).trans hva)) (.inl ((hset_ne (ne_ao hvb hx1)).trans hvb)) hc8 (by omega)) ⟨22, _, _, _, rfl, .inl ((hset_ne (ne_oo hva hx1 (by decide))).trans hva)⟩ rfl rfl (Nat.le_of_ble_eq_true rfl) (Nat.le_of_ble_eq_true rfl) (Nat.le_of_ble_eq_true rfl) (by omega) (by omega) ?_
  refine PRk ?_
  have k1 : Fr (m1 xo) h _ := Fr.rf.put (x := .inr (1, [.ref (r), va_rf (so), .ref (hl), .ref (sb), .int (ep), .int (fc), .ref (a)])) hx1 rfl rfl (Or.inl rfl)
  have hm : KM G P (m1 xo) h := KM.m1o hx1 (by decide)
  exact V_iret F dX1_write_12 rfl (by first | exact Nat.le_of_ble_eq_true rfl | omega) (by first | exact Nat.le_of_ble_eq_true rfl | omega) ⟨rfl, ⟨r, so, hl, sb, a, mc, A, V, b, N, qx, (hRG.fr hF KM.nM).fr k1 hm, (hSN.fr hF KM.nM).fr k1 hm, (hLL.frm hF id (fun _ _ => id)).frk k1 (offK.m1 hx1 rfl) (offK.m1 hx1 rfl), (hHR.fr hF KM.nM).fr k1 hm, (hSB.fr0 hF).fr k1 (fun e => by obtain ⟨ml, c, z1, -⟩ := hSB.fr0 hF; exact ne_oo z1 hx1 (by decide) e) (fun e => by obtain ⟨ml, c, z1, z2, -⟩ := hSB.fr0 hF; exact ne_ao z2 hx1 e), OUT.fr1 (OUT.new hSB hlt hT hP0) hx1 (by decide) k1, hPx, hPl, hPA, hPs, hPb⟩, qf⟩
theorem ct_X1_outputAt {G : GG} {l : Launch} {h : AH} {P : Nat → Prop} {xo n : Nat} {g : Nat → Nat} {sn : Option (Nat → Nat)} {hs : List (Nat → Nat)} {l0 : List Nat} {ep fc : Int32} {ot : List Nat} {p : Int32}  (hl0 : l.stackTraces = false) (hC : CW G P h xo g sn hs l0 ep fc ot) (hP : ∀ z, h z = none → P z)  : CtX G l yX1_outputAt cX1_outputAt 2 (some .char) 7 (1) (6) [.ref xo, .int p] h (fun r0 h2 => iR p ot.length ∧ r0 = some (.int (nI (ot.getD (tn p) 0))) ∧ h = h2) (XF h (fun E => ¬ iR p ot.length ∧ E = eIX)) := by
  refine CtX.of (by decide) (Nat.le_of_ble_eq_true rfl) (cat1 rfl) (fun X hXl F HT => ?_)
  subst hXl
  obtain ⟨r, so, hl, sb, o, mc, A, V, b, N, hx, hRG, hSN, hLL, hHR, hSB, hOU, hPx, hPl, hPA, hPs, hPb⟩ := id hC
  obtain ⟨vo, oh, oz, oc, o1, o2, o3, o4⟩ := hOU.rd
  have hoL := hOU.1
  refine V_iload_n (i := 1) F dX1_outputAt_0 rfl rfl ?_
  refine V_iconst (v := nI 0) F dX1_outputAt_1 rfl ?_
  refine V_aload_n (i := 0) F dX1_outputAt_2 rfl rfl ?_
  refine V_getf F dX1_outputAt_3 fc_X1_37_X1 (.inl hx) rfl ?_
  refine V_callV (st := [.int (nI (0)), .int (p)]) (nn := 0) F dX1_outputAt_6 lk_X1_362 (ct_J6_length o1 o2 o3 (by omega)) ⟨22, _, _, _, rfl, o1⟩ rfl rfl (Nat.le_of_ble_eq_true rfl) (Nat.le_of_ble_eq_true rfl) (Nat.le_of_ble_eq_true rfl) (by omega) (by omega) ?_
  refine PRk ?_
  refine V_iconst (v := nI 1) F dX1_outputAt_9 rfl ?_
  refine V_isub F dX1_outputAt_10 ?_
  refine V_callS (st := []) (nn := 3) F dX1_outputAt_11 lk_X1_130 (ct_isBetween) rfl rfl (Nat.le_of_ble_eq_true rfl) (Nat.le_of_ble_eq_true rfl) (Nat.le_of_ble_eq_true rfl) (by omega) (by omega) ?_
  refine PRk ?_
  refine V_xcS (st := []) (nn := 1) F dX1_outputAt_14 lk_X1_127 (ct_X1_checkIndex hl0) rfl rfl (Nat.le_of_ble_eq_true rfl) (Nat.le_of_ble_eq_true rfl) (Nat.le_of_ble_eq_true rfl) (by omega) (by omega) ?_ ?_
  · rintro _ _ ⟨rfl, rfl, hd⟩
    have hP_14 : nI 0 ≤ p ∧ p ≤ nI ot.length - nI 1 := b2_nz hd
    obtain ⟨k, hk, rfl⟩ := iR_of ((iR_in (by omega)).mp hP_14) (by omega)
    refine V_aload_n (i := 0) F dX1_outputAt_17 rfl rfl ?_
    refine V_getf F dX1_outputAt_18 fc_X1_37_X1 (.inl hx) rfl ?_
    refine V_iload_n (i := 1) F dX1_outputAt_21 rfl rfl ?_
    refine V_callV (st := []) (nn := 1) F dX1_outputAt_22 lk_X1_386 (ct_J6_charAt o1 o2 o3 (by omega) hk) ⟨22, _, _, _, rfl, o1⟩ rfl rfl (Nat.le_of_ble_eq_true rfl) (Nat.le_of_ble_eq_true rfl) (Nat.le_of_ble_eq_true rfl) (by omega) (by omega) ?_
    refine PRk ?_
    have ock := o4 k hk
    exact VV.rx (V_iret F dX1_outputAt_25 (nar_c (by have := o3 k; omega)) (by omega) (by omega) ⟨(iR_nI (by omega)).mpr hk, by rw [tn_nI (by omega), ock], rfl⟩)
  · exact fun E q h2 hp => V_xout F (HT _) (by omega) (by omega) (XF.of Fr.rf hp (fun hc => ⟨fun z => b2_z hc.1 ((iR_in (by omega)).mpr z), hc.2⟩))
theorem ct_X1_type {G : GG} {l : Launch} {h : AH} {P : Nat → Prop} {xo n : Nat} {g : Nat → Nat} {sn : Option (Nat → Nat)} {hs : List (Nat → Nat)} {l0 : List Nat} {ep fc : Int32} {ot : List Nat} {c : Nat}  (hl0 : l.stackTraces = false) (hC : CW G P h xo g sn hs l0 ep fc ot) (hP : ∀ z, h z = none → P z) (hc6 : c < 65536) (hl60 : l0.length ≤ 60)  : CtX G l yX1_type cX1_type 2 (some .int) 7 (4) (220) [.ref xo, .int (nI c)] h (fun r0 h2 => (nI 32 ≤ nI c ∧ nI c ≤ nI 126) ∧ l0.length < 60 ∧ r0 = some (.int (nI (l0.length + 1))) ∧ CW G P h2 xo g sn hs (l0 ++ [c]) ep fc ot ∧ Fr P h h2) (XF h (fun E => (¬ (nI 32 ≤ nI c ∧ nI c ≤ nI 126) ∧ E = eAR) ∨ ((nI 32 ≤ nI c ∧ nI c ≤ nI 126) ∧ ¬ l0.length < 60 ∧ E = eST))) := by
  refine CtX.of (by decide) (Nat.le_of_ble_eq_true rfl) (cat1 rfl) (fun X hXl F HT => ?_)
  subst hXl
  obtain ⟨r, so, hl, sb, o, mc, A, V, b, N, hx, hRG, hSN, hLL, hHR, hSB, hOU, hPx, hPl, hPA, hPs, hPb⟩ := id hC
  refine V_iload_n (i := 1) F dX1_type_0 rfl rfl ?_
  refine V_bipush (v := nI 32) F dX1_type_1 rfl ?_
  refine V_bipush (v := nI 126) F dX1_type_3 rfl ?_
  refine V_callS (st := []) (nn := 3) F dX1_type_5 lk_X1_130 (ct_isBetween) rfl rfl (Nat.le_of_ble_eq_true rfl) (Nat.le_of_ble_eq_true rfl) (Nat.le_of_ble_eq_true rfl) (by omega) (by omega) ?_
  refine PRk ?_
  refine V_xcS (st := []) (nn := 1) F dX1_type_8 lk_X1_134 (ct_X1_checkArgument hl0) rfl rfl (Nat.le_of_ble_eq_true rfl) (Nat.le_of_ble_eq_true rfl) (Nat.le_of_ble_eq_true rfl) (by omega) (by omega) ?_ ?_
  · rintro _ _ ⟨rfl, rfl, hd⟩
    have hP_8 : nI 32 ≤ nI c ∧ nI c ≤ nI 126 := b2_nz hd
    have hc126 : c ≤ 126 := by have := hP_8.2; rw [Int32.le_iff_toInt_le, nI_toInt (by omega), nI_toInt (by decide)] at this; omega
    refine V_aload_n (i := 0) F dX1_type_11 rfl rfl ?_
    refine V_getf F dX1_type_12 fc_X1_24_X1 (.inl hx) rfl ?_
    refine V_callV (st := []) (nn := 0) F dX1_type_15 lk_X1_390 (ct_J5_length hSB) hSB.isC rfl rfl (Nat.le_of_ble_eq_true rfl) (Nat.le_of_ble_eq_true rfl) (Nat.le_of_ble_eq_true rfl) (by omega) (by omega) ?_
    refine PRk ?_
    refine V_bipush (v := nI 60) F dX1_type_18 rfl ?_
    refine V_icmp_geN (tgt := 27) F dX1_type_20 (by decide) (by omega) (by decide) (fun c_20 => ?_) (fun c_20 => ?_)
    · refine V_iconst (v := nI 0) F dX1_type_27 rfl ?_
      refine V_xcS (st := []) (nn := 1) F dX1_type_28 lk_X1_391 (ct_X1_checkState hl0) rfl rfl (Nat.le_of_ble_eq_true rfl) (Nat.le_of_ble_eq_true rfl) (Nat.le_of_ble_eq_true rfl) (by omega) (by omega) ?_ ?_
      · rintro _ _ ⟨rfl, rfl, hd⟩
        exact absurd rfl hd
      · exact fun E q h2 hp => V_xout F (HT _) (by omega) (by omega) (XF.of Fr.rf hp (fun hc => Or.inr ⟨hP_8, by omega, hc.2⟩))
    · refine V_iconst (v := nI 1) F dX1_type_23 rfl ?_
      refine V_goto (tgt := 28) F dX1_type_24 (by decide) ?_
      refine V_xcS (st := []) (nn := 1) F dX1_type_28 lk_X1_391 (ct_X1_checkState hl0) rfl rfl (Nat.le_of_ble_eq_true rfl) (Nat.le_of_ble_eq_true rfl) (Nat.le_of_ble_eq_true rfl) (by omega) (by omega) ?_ ?_
      · rintro _ _ ⟨rfl, rfl, hd⟩
        refine V_aload_n (i := 0) F dX1_type_31 rfl rfl ?_
        refine V_getf F dX1_type_32 fc_X1_24_X1 (.inl hx) rfl ?_
        refine V_iload_n (i := 1) F dX1_type_35 rfl rfl ?_
        refine V_callV (st := []) (nn := 1) F dX1_type_36 lk_X1_394 (ct_J5_appendC hSB (by omega) (by omega)) hSB.isC rfl rfl (Nat.le_of_ble_eq_true rfl) (Nat.le_of_ble_eq_true rfl) (Nat.le_of_ble_eq_true rfl) (by omega) (by omega) ?_
        rintro _ h3 ⟨rfl, b3, N3, hS3, hbb, hx3⟩
        have hx31 := hx3.get hx ((hSB.off (c := 1) (by decide)).o hx) rfl
        refine V_pop F dX1_type_39 rfl ?_
        refine V_aload_n (i := 0) F dX1_type_40 rfl rfl ?_
        refine V_getf F dX1_type_41 fc_X1_24_X1 (.inl hx31) rfl ?_
        refine V_callV (st := []) (nn := 0) F dX1_type_44 lk_X1_390 (ct_J5_length hS3) hS3.isC rfl rfl (Nat.le_of_ble_eq_true rfl) (Nat.le_of_ble_eq_true rfl) (Nat.le_of_ble_eq_true rfl) (by omega) (by omega) ?_
        refine PRk ?_
        have hm : KM G P (m2 sb b) h := KM.sb hSB
        have hb3 : P b3 := hbb.elim (fun z => z.1 ▸ hPb) (hP b3)
        exact VV.rx (V_iret F dX1_type_47 rfl (by first | exact Nat.le_of_ble_eq_true rfl | omega) (by first | exact Nat.le_of_ble_eq_true rfl | omega) ⟨hP_8, by omega, by rw [List.length_append]; rfl, ⟨r, so, hl, sb, o, mc, A, V, b3, N3, hx31, hRG.fr hx3 hm, hSN.fr hx3 hm, hLL.frk hx3 (hSB.off (by decide)) (hSB.off (by decide)), hHR.fr hx3 hm, hS3, hOU.frS hSB hx3 (hbb.imp (fun z => z.1) id), hPx, hPl, hPA, hPs, hb3⟩, hx3.mono (fun z q => q.elim (fun e => e ▸ hPs) (fun e => e ▸ hPb))⟩)
      · exact fun E q h2 hp => absurd hp.1.1 (by decide)
  · exact fun E q h2 hp => V_xout F (HT _) (by omega) (by omega) (XF.of Fr.rf hp (fun hc => Or.inl ⟨b2_z hc.1, hc.2⟩))
theorem ct_X1_save {G : GG} {l : Launch} {h : AH} {P : Nat → Prop} {xo n : Nat} {g : Nat → Nat} {sn : Option (Nat → Nat)} {hs : List (Nat → Nat)} {l0 : List Nat} {ep fc : Int32} {ot : List Nat}  (hC : CW G P h xo g sn hs l0 ep fc ot) (hP : ∀ z, h z = none → P z) (hV : INV n g)  : Ct G l yX1_save cX1_save 1 (some .int) 2 (0) (0) [.ref xo] h (fun r0 h2 => r0 = some (.int (nI (g 2))) ∧ CW G P h2 xo g (some g) hs l0 ep fc ot ∧ Fr P h h2) := by
  refine Ct.of (by decide) (Nat.le_of_ble_eq_true rfl) (cat1 rfl) (fun X hXl F HN => ?_)
  subst hXl
  obtain ⟨r, so, hl, sb, o, mc, A, V, b, N, hx, hRG, hSN, hLL, hHR, hSB, hOU, hPx, hPl, hPA, hPs, hPb⟩ := id hC
  obtain ⟨⟨⟨ti, tia, tf⟩, ⟨tt, tl, ta, x, A9⟩, ⟨sm, smc, sA, sK, sV⟩, ⟨bm, bmc, bA, bK, bV⟩⟩, hW, -⟩ := id hRG
  refine V_aload_n (i := 0) F dX1_save_0 rfl rfl ?_
  refine V_aload_n (i := 0) F dX1_save_1 rfl rfl ?_
  refine V_getf F dX1_save_2 fc_X1_44_X1 (.inl hx) rfl ?_
  refine V_putf F dX1_save_5 fp_X1_432_X1 hx rfl rfl (Nat.le_of_ble_eq_true rfl) ?_
  refine VV.heap (h' := (hset h (xo) (.inr (1, [.ref (r), .ref (r), .ref (hl), .ref (sb), .int (ep), .int (fc), .ref (o)])))) rfl ?_
  have qx : (hset h (xo) (.inr (1, [.ref (r), .ref (r), .ref (hl), .ref (sb), .int (ep), .int (fc), .ref (o)]))) xo = some (.inr (1, [.ref (r), .ref (r), .ref (hl), .ref (sb), .int (ep), .int (fc), .ref (o)])) := (hset_self (e := .inr (1, [.ref (r), .ref (r), .ref (hl), .ref (sb), .int (ep), .int (fc), .ref (o)])))
  have k1 : Fr (m1 xo) h ((hset h (xo) (.inr (1, [.ref (r), .ref (r), .ref (hl), .ref (sb), .int (ep), .int (fc), .ref (o)])))) := Fr.rf.put (x := .inr (1, [.ref (r), .ref (r), .ref (hl), .ref (sb), .int (ep), .int (fc), .ref (o)])) hx rfl rfl (Or.inl rfl)
  have km : KM G P (m1 xo) h := KM.m1o hx (by decide)
  have hW2 := hW.fr1 k1 hx (by decide)
  refine V_aload_n (i := 0) F dX1_save_8 rfl rfl ?_
  refine V_callV (st := []) (nn := 0) F dX1_save_9 lk_X1_268 (ct_X1_suitcaseCount (so := some r) qx hW2 hV) ⟨1, _, _, _, rfl, .inl qx⟩ rfl rfl (Nat.le_of_ble_eq_true rfl) (Nat.le_of_ble_eq_true rfl) (Nat.le_of_ble_eq_true rfl) (by omega) (by omega) ?_
  rintro _ _ ⟨rfl, rfl⟩
  exact V_iret F dX1_save_12 rfl (by first | exact Nat.le_of_ble_eq_true rfl | omega) (by first | exact Nat.le_of_ble_eq_true rfl | omega) ⟨rfl, ⟨r, some r, hl, sb, o, mc, A, V, b, N, qx, hRG.fr k1 km, hRG.fr k1 km, hLL.frk k1 (offK.m1 hx rfl) (offK.m1 hx rfl), hHR.fr k1 km, (hSB).fr k1 (fun e => by obtain ⟨ml, c, z1, -⟩ := hSB; exact ne_oo z1 hx (by decide) e) (fun e => by obtain ⟨ml, c, z1, z2, -⟩ := hSB; exact ne_ao z2 hx e), hOU.fr1 hx (by decide) k1, hPx, hPl, hPA, hPs, hPb⟩, k1.mono (fun z e => e ▸ hPx)⟩
theorem ct_X1_undo {G : GG} {l : Launch} {h : AH} {P : Nat → Prop} {xo n : Nat} {g : Nat → Nat} {sn : Option (Nat → Nat)} {hs : List (Nat → Nat)} {l0 : List Nat} {ep fc : Int32} {ot : List Nat}  (hl0 : l.stackTraces = false) (hC : CW G P h xo g sn hs l0 ep fc ot) (hP : ∀ z, h z = none → P z) (hs8 : hs.length ≤ 8)  : CtX G l yX1_undo cX1_undo 1 (some .int) 7 (1) (6) [.ref xo] h (fun r0 h2 => hs.length ≠ 0 ∧ r0 = some (.int (nI (hs.length - 1))) ∧ CW G P h2 xo (hs.getD (hs.length - 1) Z0) sn hs.dropLast l0 ep fc ot ∧ Fr P h h2) (XF h (fun E => hs.length = 0 ∧ E = eEL)) := by
  refine CtX.of (by decide) (Nat.le_of_ble_eq_true rfl) (cat1 rfl) (fun X hXl F HT => ?_)
  subst hXl
  obtain ⟨r, so, hl, sb, o, mc, A, V, b, N, hx, hRG, hSN, hLL, hHR, hSB, hOU, hPx, hPl, hPA, hPs, hPb⟩ := id hC
  refine V_aload_n (i := 0) F dX1_undo_0 rfl rfl ?_
  refine V_getf F dX1_undo_1 fc_X1_15_X1 (.inl hx) rfl ?_
  refine V_callU (st := []) (nn := 0) F dX1_undo_4 ⟨lw_U q3671 q3672 q3673 q1761 q102 q1762, q1759, (by decide +kernel)⟩ (ct_LL_isEmpty hLL (by omega)) ⟨19, _, _, _, rfl, .inl hLL.1⟩ rfl rfl (Nat.le_of_ble_eq_true rfl) (Nat.le_of_ble_eq_true rfl) (Nat.le_of_ble_eq_true rfl) (by omega) (by omega) ?_
  refine PRk ?_
  refine V_if_neB (tgt := 14) F dX1_undo_7 (by decide) (fun c_7 => ?_) (fun c_7 => ?_)
  · refine V_iconst (v := nI 0) F dX1_undo_14 rfl ?_
    refine V_xcS (st := []) (nn := 1) F dX1_undo_15 lk_X1_119 (ct_X1_checkElement hl0) rfl rfl (Nat.le_of_ble_eq_true rfl) (Nat.le_of_ble_eq_true rfl) (Nat.le_of_ble_eq_true rfl) (by omega) (by omega) ?_ ?_
    · rintro _ _ ⟨rfl, rfl, hd⟩
      exact absurd rfl hd
    · exact fun E q h2 hp => V_xout F (HT _) (by omega) (by omega) (XF.of Fr.rf hp (fun hc => ⟨c_7, hc.2⟩))
  · refine V_iconst (v := nI 1) F dX1_undo_10 rfl ?_
    refine V_goto (tgt := 15) F dX1_undo_11 (by decide) ?_
    refine V_xcS (st := []) (nn := 1) F dX1_undo_15 lk_X1_119 (ct_X1_checkElement hl0) rfl rfl (Nat.le_of_ble_eq_true rfl) (Nat.le_of_ble_eq_true rfl) (Nat.le_of_ble_eq_true rfl) (by omega) (by omega) ?_ ?_
    · rintro _ _ ⟨rfl, rfl, hd⟩
      refine V_aload_n (i := 0) F dX1_undo_18 rfl rfl ?_
      refine V_aload_n (i := 0) F dX1_undo_19 rfl rfl ?_
      refine V_getf F dX1_undo_20 fc_X1_15_X1 (.inl hx) rfl ?_
      refine V_callV (st := [.ref (xo)]) (nn := 0) F dX1_undo_23 lk_X1_429 (ct_LL_removeLast hLL (by omega)) ⟨19, _, _, _, rfl, .inl hLL.1⟩ rfl rfl (Nat.le_of_ble_eq_true rfl) (Nat.le_of_ble_eq_true rfl) (Nat.le_of_ble_eq_true rfl) (by omega) (by omega) ?_
      rintro _ h3 ⟨rfl, hL3, hx3⟩
      have hm3 : KM G P (mT hl hs.length A) h := KM.mT hLL
      have hx31 := hx3.get hx ((hLL.offo (by decide) (by decide)).o hx) rfl
      have hF3 : Fr P h h3 := hx3.mono (fun z q => q.elim (fun e => e ▸ hPl) (fun ⟨i, hi, e⟩ => e ▸ hPA i hi))
      have hR9 := (hHR (hs.length - 1) (by omega)).fr hx3 hm3
      obtain ⟨D9, hW9, -⟩ := id hR9
      refine V_ckS F dX1_undo_26 q252 ⟨2, _, _, _, rfl, (.inl hW9.1)⟩ ?_
      refine V_putf F dX1_undo_29 fp_X1_44_X1 hx31 rfl rfl (Nat.le_of_ble_eq_true rfl) ?_
      refine VV.heap (h' := (hset h3 (xo) (.inr (1, [.ref ((V (hs.length - 1))), va_rf (so), .ref (hl), .ref (sb), .int (ep), .int (fc), .ref (o)])))) rfl ?_
      have qx : (hset h3 (xo) (.inr (1, [.ref ((V (hs.length - 1))), va_rf (so), .ref (hl), .ref (sb), .int (ep), .int (fc), .ref (o)]))) xo = some (.inr (1, [.ref ((V (hs.length - 1))), va_rf (so), .ref (hl), .ref (sb), .int (ep), .int (fc), .ref (o)])) := (hset_self (e := .inr (1, [.ref ((V (hs.length - 1))), va_rf (so), .ref (hl), .ref (sb), .int (ep), .int (fc), .ref (o)])))
      have k1 : Fr (m1 xo) h3 ((hset h3 (xo) (.inr (1, [.ref ((V (hs.length - 1))), va_rf (so), .ref (hl), .ref (sb), .int (ep), .int (fc), .ref (o)])))) := Fr.rf.put (x := .inr (1, [.ref ((V (hs.length - 1))), va_rf (so), .ref (hl), .ref (sb), .int (ep), .int (fc), .ref (o)])) hx31 rfl rfl (Or.inl rfl)
      have km : KM G P (m1 xo) h3 := KM.m1o hx31 (by decide)
      have hL4 := hL3.frk k1 (offK.m1 hx31 rfl) (offK.m1 hx31 rfl)
      have qf := (hF3.put (x := .inr (1, [.ref ((V (hs.length - 1))), va_rf (so), .ref (hl), .ref (sb), .int (ep), .int (fc), .ref (o)])) hx31 rfl rfl (Or.inl hPx))
      refine V_aload_n (i := 0) F dX1_undo_32 rfl rfl ?_
      refine V_getf F dX1_undo_33 fc_X1_15_X1 (.inl (hset_self (e := .inr (1, [.ref ((V (hs.length - 1))), va_rf (so), .ref (hl), .ref (sb), .int (ep), .int (fc), .ref (o)])))) rfl ?_
      refine V_callV (st := []) (nn := 0) F dX1_undo_36 lk_X1_48 (ct_LL_size hL4) ⟨19, _, _, _, rfl, .inl hL4.1⟩ rfl rfl (Nat.le_of_ble_eq_true rfl) (Nat.le_of_ble_eq_true rfl) (Nat.le_of_ble_eq_true rfl) (by omega) (by omega) ?_
      refine PRk ?_
      have hS3 := hSB.fr hx3 (hLL.sb hSB).1 (hLL.sb hSB).2
      exact VV.rx (V_iret F dX1_undo_39 rfl (by first | exact Nat.le_of_ble_eq_true rfl | omega) (by first | exact Nat.le_of_ble_eq_true rfl | omega) ⟨c_7, rfl, ⟨_, so, hl, sb, o, _, A, V, b, N, qx, hR9.fr k1 km, (hSN.fr hx3 hm3).fr k1 km, (by rw [List.length_dropLast]; exact hL4), ((hHR.fr hx3 hm3).init).fr k1 km, (hS3).fr k1 (fun e => by obtain ⟨ml, c, z1, -⟩ := hS3; exact ne_oo z1 hx31 (by decide) e) (fun e => by obtain ⟨ml, c, z1, z2, -⟩ := hS3; exact ne_ao z2 hx31 e), (hOU.frL hLL hx3).fr1 hx31 (by decide) k1, hPx, hPl, (fun i hi => hPA i (by rw [List.length_dropLast] at hi; omega)), hPs, hPb⟩, qf⟩)
    · exact fun E q h2 hp => absurd hp.1.1 (by decide)
theorem ct_X1_restore {G : GG} {l : Launch} {h : AH} {P : Nat → Prop} {xo n : Nat} {g : Nat → Nat} {sn : Option (Nat → Nat)} {hs : List (Nat → Nat)} {l0 : List Nat} {ep fc : Int32} {ot : List Nat}  (hl0 : l.stackTraces = false) (hC : CW G P h xo g sn hs l0 ep fc ot) (hP : ∀ z, h z = none → P z) (hVs : ∀ gs, sn = some gs → INV n gs)  : CtX G l yX1_restore cX1_restore 1 (some .int) 7 (1) (6) [.ref xo] h (fun r0 h2 => (∃ gs, sn = some gs ∧ r0 = some (.int (nI (gs 2))) ∧ CW G P h2 xo gs sn [] l0 ep fc ot) ∧ Fr P h h2) (XF h (fun E => sn = none ∧ E = eST)) := by
  refine CtX.of (by decide) (Nat.le_of_ble_eq_true rfl) (cat1 rfl) (fun X hXl F HT => ?_)
  subst hXl
  obtain ⟨r, so, hl, sb, o, mc, A, V, b, N, hx, hRG, hSN, hLL, hHR, hSB, hOU, hPx, hPl, hPA, hPs, hPb⟩ := id hC
  refine V_aload_n (i := 0) F dX1_restore_0 rfl rfl ?_
  refine V_getf F dX1_restore_1 fc_X1_432_X1 (.inl hx) rfl ?_
  refine V_ifnullQ (tgt := 11) F dX1_restore_4 (by decide) (fun qrs => ?_) (fun rs qrs => ?_)
  · refine V_iconst (v := nI 0) F dX1_restore_11 rfl ?_
    refine V_xcS (st := []) (nn := 1) F dX1_restore_12 lk_X1_391 (ct_X1_checkState hl0) rfl rfl (Nat.le_of_ble_eq_true rfl) (Nat.le_of_ble_eq_true rfl) (Nat.le_of_ble_eq_true rfl) (by omega) (by omega) ?_ ?_
    · rintro _ _ ⟨rfl, rfl, hd⟩
      exact absurd rfl hd
    · exact fun E q h2 hp => V_xout F (HT _) (by omega) (by omega) (XF.of Fr.rf hp (fun hc => ⟨SNP.none_ (by rw [qrs] at hSN; exact hSN), hc.2⟩))
  · refine V_iconst (v := nI 1) F dX1_restore_7 rfl ?_
    refine V_goto (tgt := 12) F dX1_restore_8 (by decide) ?_
    refine V_xcS (st := []) (nn := 1) F dX1_restore_12 lk_X1_391 (ct_X1_checkState hl0) rfl rfl (Nat.le_of_ble_eq_true rfl) (Nat.le_of_ble_eq_true rfl) (Nat.le_of_ble_eq_true rfl) (by omega) (by omega) ?_ ?_
    · rintro _ _ ⟨rfl, rfl, hd⟩
      obtain ⟨gs, hgs, hRs⟩ := SNP.some_ (by rw [qrs] at hSN; exact hSN)
      refine V_aload_n (i := 0) F dX1_restore_15 rfl rfl ?_
      refine V_aload_n (i := 0) F dX1_restore_16 rfl rfl ?_
      refine V_getf F dX1_restore_17 fc_X1_432_X1 (.inl hx) rfl ?_
      refine V_putf F dX1_restore_20 fp_X1_44_X1 hx (nar_rfO _ _) (fit_rfO _ _) (Nat.le_of_ble_eq_true rfl) ?_
      refine VV.heap (h' := (hset h (xo) (.inr (1, [va_rf (so), va_rf (so), .ref (hl), .ref (sb), .int (ep), .int (fc), .ref (o)])))) rfl ?_
      have qx : (hset h (xo) (.inr (1, [va_rf (so), va_rf (so), .ref (hl), .ref (sb), .int (ep), .int (fc), .ref (o)]))) xo = some (.inr (1, [va_rf (so), va_rf (so), .ref (hl), .ref (sb), .int (ep), .int (fc), .ref (o)])) := (hset_self (e := .inr (1, [va_rf (so), va_rf (so), .ref (hl), .ref (sb), .int (ep), .int (fc), .ref (o)])))
      have k1 : Fr (m1 xo) h ((hset h (xo) (.inr (1, [va_rf (so), va_rf (so), .ref (hl), .ref (sb), .int (ep), .int (fc), .ref (o)])))) := Fr.rf.put (x := .inr (1, [va_rf (so), va_rf (so), .ref (hl), .ref (sb), .int (ep), .int (fc), .ref (o)])) hx rfl rfl (Or.inl rfl)
      have km : KM G P (m1 xo) h := KM.m1o hx (by decide)
      have qf := ((Fr.rf (M := P) (h := h)).put (x := .inr (1, [va_rf (so), va_rf (so), .ref (hl), .ref (sb), .int (ep), .int (fc), .ref (o)])) hx rfl rfl (Or.inl hPx))
      have hL3 := hLL.frk k1 (offK.m1 hx rfl) (offK.m1 hx rfl)
      refine V_aload_n (i := 0) F dX1_restore_23 rfl rfl ?_
      refine V_getf F dX1_restore_24 fc_X1_15_X1 (.inl (hset_self (e := .inr (1, [va_rf (so), va_rf (so), .ref (hl), .ref (sb), .int (ep), .int (fc), .ref (o)])))) rfl ?_
      refine V_callV (st := []) (nn := 0) F dX1_restore_27 lk_X1_435 (ct_LL_clear hL3) ⟨19, _, _, _, rfl, .inl hL3.1⟩ rfl rfl (Nat.le_of_ble_eq_true rfl) (Nat.le_of_ble_eq_true rfl) (Nat.le_of_ble_eq_true rfl) (by omega) (by omega) ?_
      rintro _ h5 ⟨rfl, hL5, hx5⟩
      have hm5 : KM G P (mT hl hs.length A) ((hset h (xo) (.inr (1, [va_rf (so), va_rf (so), .ref (hl), .ref (sb), .int (ep), .int (fc), .ref (o)])))) := KM.mT hL3
      have hx51 := hx5.get qx ((hL3.offo (by decide) (by decide)).o qx) rfl
      rw [qrs] at hx51
      have hF5 : Fr P h h5 := qf.cal hx5 (fun z q => Or.inl (q.elim (fun e => e ▸ hPl) (fun ⟨i, hi, e⟩ => e ▸ hPA i hi)))
      have hR5 := (hRs.fr k1 km).fr hx5 hm5
      obtain ⟨⟨⟨ti, tia, tf⟩, ⟨tt, tl, ta, x, A9⟩, ⟨sm, smc, sA, sK, sV⟩, ⟨bm, bmc, bA, bK, bV⟩⟩, hW5, -⟩ := id hR5
      have hS3 : SBs G ((hset h (xo) (.inr (1, [va_rf (so), va_rf (so), .ref (hl), .ref (sb), .int (ep), .int (fc), .ref (o)])))) sb b N l0 := (hSB).fr k1 (fun e => by obtain ⟨ml, c, z1, -⟩ := hSB; exact ne_oo z1 hx (by decide) e) (fun e => by obtain ⟨ml, c, z1, z2, -⟩ := hSB; exact ne_ao z2 hx e)
      refine V_aload_n (i := 0) F dX1_restore_30 rfl rfl ?_
      refine V_callV (st := []) (nn := 0) F dX1_restore_31 lk_X1_268 (ct_X1_suitcaseCount (so := some rs) hx51 hW5 (hVs gs hgs)) ⟨1, _, _, _, rfl, .inl hx51⟩ rfl rfl (Nat.le_of_ble_eq_true rfl) (Nat.le_of_ble_eq_true rfl) (Nat.le_of_ble_eq_true rfl) (by omega) (by omega) ?_
      rintro _ _ ⟨rfl, rfl⟩
      exact VV.rx (V_iret F dX1_restore_34 rfl (by first | exact Nat.le_of_ble_eq_true rfl | omega) (by first | exact Nat.le_of_ble_eq_true rfl | omega) ⟨⟨gs, hgs, rfl, ⟨rs, some rs, hl, sb, o, _, A, V, b, N, hx51, hR5, (by rw [hgs]; exact hR5), hL5, (fun i hi => absurd hi (Nat.not_lt_zero i)), hS3.fr hx5 (hL3.sb hS3).1 (hL3.sb hS3).2, (hOU.fr1 hx (by decide) k1).frL hL3 hx5, hPx, hPl, (fun i hi => absurd hi (Nat.not_lt_zero i)), hPs, hPb⟩⟩, hF5⟩)
    · exact fun E q h2 hp => absurd hp.1.1 (by decide)
theorem ct_X1_commit {G : GG} {l : Launch} {h : AH} {P : Nat → Prop} {xo n : Nat} {g : Nat → Nat} {sn : Option (Nat → Nat)} {hs : List (Nat → Nat)} {l0 : List Nat} {ep fc : Int32} {ot : List Nat} {q2 : Nat} {g2 : Nat → Nat} {v : Int32}  (hC : CW G P h xo g sn hs l0 ep fc ot) (hP : ∀ z, h z = none → P z) (hs8 : hs.length ≤ 8) (hRc : RG G P h q2 g2)  : Ct G l yX1_commit cX1_commit 3 (some .int) 4 (1) (3) [.ref xo, .ref q2, .int v] h (fun r0 h2 => r0 = some (.int v) ∧ CW G P h2 xo g2 sn (pushH hs g) l0 ep fc ot ∧ Fr P h h2) := by
  refine Ct.of (by decide) (Nat.le_of_ble_eq_true rfl) (cat1 rfl) (fun X hXl F HN => ?_)
  subst hXl
  obtain ⟨r, so, hl, sb, o, mc, A, V, b, N, hx, hRG, hSN, hLL, hHR, hSB, hOU, hPx, hPl, hPA, hPs, hPb⟩ := id hC
  refine V_aload_n (i := 0) F dX1_commit_0 rfl rfl ?_
  refine V_getf F dX1_commit_1 fc_X1_15_X1 (.inl hx) rfl ?_
  refine V_callV (st := []) (nn := 0) F dX1_commit_4 lk_X1_48 (ct_LL_size hLL) ⟨19, _, _, _, rfl, .inl hLL.1⟩ rfl rfl (Nat.le_of_ble_eq_true rfl) (Nat.le_of_ble_eq_true rfl) (Nat.le_of_ble_eq_true rfl) (by omega) (by omega) ?_
  refine PRk ?_
  refine V_bipush (v := nI 8) F dX1_commit_7 rfl ?_
  refine V_icmp_neN (tgt := 20) F dX1_commit_9 (by decide) (by omega) (by decide) (fun c_9 => ?_) (fun c_9 => ?_)
  · refine V_aload_n (i := 0) F dX1_commit_20 rfl rfl ?_
    refine V_getf F dX1_commit_21 fc_X1_15_X1 (.inl hx) rfl ?_
    refine V_aload_n (i := 0) F dX1_commit_24 rfl rfl ?_
    refine V_getf F dX1_commit_25 fc_X1_44_X1 (.inl hx) rfl ?_
    refine V_callV (st := []) (nn := 1) F dX1_commit_28 lk_X1_56 (ct_LL_addLast hLL) ⟨19, _, _, _, rfl, .inl hLL.1⟩ rfl rfl (Nat.le_of_ble_eq_true rfl) (Nat.le_of_ble_eq_true rfl) (Nat.le_of_ble_eq_true rfl) (by omega) (by omega) ?_
    rintro _ h2 ⟨rfl, o2, ho2, hL2, hx2⟩
    have hm2 : KM G P (mT hl hs.length A) h := KM.mT hLL
    have hx21 := hx2.get hx ((hLL.offo (by decide) (by decide)).o hx) rfl
    have hF2 : Fr P h h2 := hx2.mono (fun z q => (q.elim (fun e => e ▸ hPl) (fun ⟨i, hi, e⟩ => e ▸ hPA _ (by omega))))
    refine V_aload_n (i := 0) F dX1_commit_31 rfl rfl ?_
    refine V_aload_n (i := 1) F dX1_commit_32 rfl rfl ?_
    refine V_putf F dX1_commit_33 fp_X1_44_X1 hx21 rfl rfl (Nat.le_of_ble_eq_true rfl) ?_
    refine VV.heap (h' := (hset h2 (xo) (.inr (1, [.ref (q2), va_rf (so), .ref (hl), .ref (sb), .int (ep), .int (fc), .ref (o)])))) rfl ?_
    have qx : (hset h2 (xo) (.inr (1, [.ref (q2), va_rf (so), .ref (hl), .ref (sb), .int (ep), .int (fc), .ref (o)]))) xo = some (.inr (1, [.ref (q2), va_rf (so), .ref (hl), .ref (sb), .int (ep), .int (fc), .ref (o)])) := (hset_self (e := .inr (1, [.ref (q2), va_rf (so), .ref (hl), .ref (sb), .int (ep), .int (fc), .ref (o)])))
    have k1 : Fr (m1 xo) h2 ((hset h2 (xo) (.inr (1, [.ref (q2), va_rf (so), .ref (hl), .ref (sb), .int (ep), .int (fc), .ref (o)])))) := Fr.rf.put (x := .inr (1, [.ref (q2), va_rf (so), .ref (hl), .ref (sb), .int (ep), .int (fc), .ref (o)])) hx21 rfl rfl (Or.inl rfl)
    have km : KM G P (m1 xo) h2 := KM.m1o hx21 (by decide)
    have qf := (hF2.put (x := .inr (1, [.ref (q2), va_rf (so), .ref (hl), .ref (sb), .int (ep), .int (fc), .ref (o)])) hx21 rfl rfl (Or.inl hPx))
    refine V_iload_n (i := 2) F dX1_commit_36 rfl rfl ?_
    have hS2 := hSB.fr hx2 (hLL.sb hSB).1 (hLL.sb hSB).2
    have hpu : pushH hs g = hs ++ [g] := by unfold pushH; rw [if_neg (by omega)]
    exact V_iret F dX1_commit_37 rfl (by first | exact Nat.le_of_ble_eq_true rfl | omega) (by first | exact Nat.le_of_ble_eq_true rfl | omega) ⟨rfl, (by rw [hpu]; exact ⟨q2, so, hl, sb, o, _, _, _, b, N, qx, ((hRc).fr hx2 hm2).fr k1 km, ((hSN).fr hx2 hm2).fr k1 km, (by rw [List.length_append]; exact hL2.frk k1 (offK.m1 hx21 rfl) (offK.m1 hx21 rfl)), ((hHR.fr hx2 hm2).push rfl (hRG.fr hx2 hm2)).fr k1 km, (hS2).fr k1 (fun e => by obtain ⟨ml, c, z1, -⟩ := hS2; exact ne_oo z1 hx21 (by decide) e) (fun e => by obtain ⟨ml, c, z1, z2, -⟩ := hS2; exact ne_ao z2 hx21 e), (hOU.frL hLL hx2).fr1 hx21 (by decide) k1, hPx, hPl, (fun i hi => by rw [List.length_append, List.length_singleton] at hi; by_cases e : i = hs.length; (subst e; rw [upo_s]; exact hP _ ho2); (rw [upo_n e]; exact hPA _ (by omega))), hPs, hPb⟩), qf⟩
  · refine V_aload_n (i := 0) F dX1_commit_12 rfl rfl ?_
    refine V_getf F dX1_commit_13 fc_X1_15_X1 (.inl hx) rfl ?_
    refine V_callV (st := []) (nn := 0) F dX1_commit_16 lk_X1_52 (ct_LL_removeFirst hLL (by omega)) ⟨19, _, _, _, rfl, .inl hLL.1⟩ rfl rfl (Nat.le_of_ble_eq_true rfl) (Nat.le_of_ble_eq_true rfl) (Nat.le_of_ble_eq_true rfl) (by omega) (by omega) ?_
    rintro _ h1 ⟨rfl, hL1, hx1⟩
    have hm1 : KM G P (mT hl hs.length A) h := KM.mT hLL
    have hx11 := hx1.get hx ((hLL.offo (by decide) (by decide)).o hx) rfl
    have hF1 : Fr P h h1 := hx1.mono (fun z q => q.elim (fun e => e ▸ hPl) (fun ⟨i, hi, e⟩ => e ▸ hPA i hi))
    have hS1 := hSB.fr hx1 (hLL.sb hSB).1 (hLL.sb hSB).2
    refine V_pop F dX1_commit_19 rfl ?_
    refine V_aload_n (i := 0) F dX1_commit_20 rfl rfl ?_
    refine V_getf F dX1_commit_21 fc_X1_15_X1 (.inl hx11) rfl ?_
    refine V_aload_n (i := 0) F dX1_commit_24 rfl rfl ?_
    refine V_getf F dX1_commit_25 fc_X1_44_X1 (.inl hx11) rfl ?_
    refine V_callV (st := []) (nn := 1) F dX1_commit_28 lk_X1_56 (ct_LL_addLast hL1) ⟨19, _, _, _, rfl, .inl hL1.1⟩ rfl rfl (Nat.le_of_ble_eq_true rfl) (Nat.le_of_ble_eq_true rfl) (Nat.le_of_ble_eq_true rfl) (by omega) (by omega) ?_
    rintro _ h2 ⟨rfl, o2, ho2, hL2, hx2⟩
    have hm2 : KM G P (mT hl (hs.length - 1) (fun i => A (i + 1))) h1 := KM.mT hL1
    have hx21 := hx2.get hx11 ((hL1.offo (by decide) (by decide)).o hx11) rfl
    have hF2 : Fr P h h2 := hF1.cal hx2 (fun z q => Or.inl (q.elim (fun e => e ▸ hPl) (fun ⟨i, hi, e⟩ => e ▸ hPA _ (by omega))))
    refine V_aload_n (i := 0) F dX1_commit_31 rfl rfl ?_
    refine V_aload_n (i := 1) F dX1_commit_32 rfl rfl ?_
    refine V_putf F dX1_commit_33 fp_X1_44_X1 hx21 rfl rfl (Nat.le_of_ble_eq_true rfl) ?_
    refine VV.heap (h' := (hset h2 (xo) (.inr (1, [.ref (q2), va_rf (so), .ref (hl), .ref (sb), .int (ep), .int (fc), .ref (o)])))) rfl ?_
    have qx : (hset h2 (xo) (.inr (1, [.ref (q2), va_rf (so), .ref (hl), .ref (sb), .int (ep), .int (fc), .ref (o)]))) xo = some (.inr (1, [.ref (q2), va_rf (so), .ref (hl), .ref (sb), .int (ep), .int (fc), .ref (o)])) := (hset_self (e := .inr (1, [.ref (q2), va_rf (so), .ref (hl), .ref (sb), .int (ep), .int (fc), .ref (o)])))
    have k1 : Fr (m1 xo) h2 ((hset h2 (xo) (.inr (1, [.ref (q2), va_rf (so), .ref (hl), .ref (sb), .int (ep), .int (fc), .ref (o)])))) := Fr.rf.put (x := .inr (1, [.ref (q2), va_rf (so), .ref (hl), .ref (sb), .int (ep), .int (fc), .ref (o)])) hx21 rfl rfl (Or.inl rfl)
    have km : KM G P (m1 xo) h2 := KM.m1o hx21 (by decide)
    have qf := (hF2.put (x := .inr (1, [.ref (q2), va_rf (so), .ref (hl), .ref (sb), .int (ep), .int (fc), .ref (o)])) hx21 rfl rfl (Or.inl hPx))
    refine V_iload_n (i := 2) F dX1_commit_36 rfl rfl ?_
    have hS2 := hS1.fr hx2 (hL1.sb hS1).1 (hL1.sb hS1).2
    have hpu : pushH hs g = hs.tail ++ [g] := by unfold pushH; rw [if_pos (by omega)]
    exact V_iret F dX1_commit_37 rfl (by first | exact Nat.le_of_ble_eq_true rfl | omega) (by first | exact Nat.le_of_ble_eq_true rfl | omega) ⟨rfl, (by rw [hpu]; exact ⟨q2, so, hl, sb, o, _, _, _, b, N, qx, (((hRc).fr hx1 hm1).fr hx2 hm2).fr k1 km, (((hSN).fr hx1 hm1).fr hx2 hm2).fr k1 km, (by rw [List.length_append, List.length_tail]; exact hL2.frk k1 (offK.m1 hx21 rfl) (offK.m1 hx21 rfl)), ((((hHR).fr hx1 hm1).tail.fr hx2 hm2).push (by rw [List.length_tail]) (((hRG).fr hx1 hm1).fr hx2 hm2)).fr k1 km, (hS2).fr k1 (fun e => by obtain ⟨ml, c, z1, -⟩ := hS2; exact ne_oo z1 hx21 (by decide) e) (fun e => by obtain ⟨ml, c, z1, z2, -⟩ := hS2; exact ne_ao z2 hx21 e), ((hOU.frL hLL hx1).frL hL1 hx2).fr1 hx21 (by decide) k1, hPx, hPl, (fun i hi => by rw [List.length_append, List.length_tail, List.length_singleton] at hi; by_cases e : i = hs.length - 1; (subst e; rw [upo_s]; exact hP _ (hx1.none ho2)); (rw [upo_n e]; exact hPA _ (by omega))), hPs, hPb⟩), qf⟩
