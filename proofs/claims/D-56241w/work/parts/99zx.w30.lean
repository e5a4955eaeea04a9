set_option maxRecDepth 100000
/-! ===== the law's world ===== -/
/-- all cells but the reference's and the law's own two arrays -/
def PL (m : Nat) (A : Nat → Nat) (ao ad : Nat) (z : Nat) : Prop := ¬ MP m A z ∧ z ≠ ao ∧ z ≠ ad
def LWD (G : GG) (h : AH) (xo m : Nat) (A : Nat → Nat) (ao ad : Nat) (n j : Nat) (g : Nat → Nat) (sn : Option (Nat → Nat)) (hs : List (Nat → Nat)) (tx : List Nat) (ep fc : Nat) (ot : List Nat) : Prop :=
  CW G (PL m A ao ad) h xo g sn hs tx (rP ep) (rP fc) ot ∧ (∃ (tm cd : Nat) (gb τ : Nat → Nat), MW G h m A 0 tm gb τ g sn hs tx ep fc ot cd) ∧ SVI n g sn hs tx ep fc ot ∧ (∃ f, h ao = some (lA G 1 f)) ∧ (∃ f, h ad = some (dA G 1 f)) ∧ tx.length ≤ j
theorem okM_l {G : GG} {n : Nat} {f : Nat → Int64} : okM (lA G n f) = true := rfl
theorem okM_d {G : GG} {n : Nat} {f : Nat → UInt64} : okM (dA G n f) = true := rfl
theorem okM_m {G : GG} {i : Nat} {f : Nat → Nat} : okM (mC G i f) = true := rfl
theorem MW.ofm {G : GG} {h : AH} {m : Nat} {A : Nat → Nat} {V : Nat → Value} {F : Nat → Nat → Nat} {ao ad : Nat} (hM : MC G h m A V F) : OFM (PL m A ao ad) (MP m A) h := by
  refine ⟨fun z hz hp => hp.1 hz, fun z e hz he => ?_⟩
  rcases hz with rfl | ⟨i, hi, rfl⟩
  · rw [hM.1] at he; cases he; rfl
  · rw [hM.2.1 i hi] at he; cases he; rfl
theorem OFM.l {G : GG} {h : AH} {P : Nat → Prop} {a : Nat} {f : Nat → Int64} (ha : h a = some (lA G 1 f)) (hp : ¬ P a) : OFM P (m1 a) h :=
  ⟨fun z hz q => hp (hz ▸ q), fun z e hz he => by rw [show z = a from hz, ha] at he; cases he; rfl⟩
theorem OFM.d {G : GG} {h : AH} {P : Nat → Prop} {a : Nat} {f : Nat → UInt64} (ha : h a = some (dA G 1 f)) (hp : ¬ P a) : OFM P (m1 a) h :=
  ⟨fun z hz q => hp (hz ▸ q), fun z e hz he => by rw [show z = a from hz, ha] at he; cases he; rfl⟩
/-- a frame of the class's side keeps the reference -/
theorem MW.off {G : GG} {h h2 : AH} {m : Nat} {A : Nat → Nat} {W tm : Nat} {gb τ g : Nat → Nat} {sn : Option (Nat → Nat)} {hs : List (Nat → Nat)} {l : List Nat} {ep fc : Nat} {ot : List Nat} {cd : Nat} {M : Nat → Prop} (hM : MW G h m A W tm gb τ g sn hs l ep fc ot cd) (hx : Fr M h h2) (hn : ∀ b, MP m A b → ¬ M b) : MW G h2 m A W tm gb τ g sn hs l ep fc ot cd := by
  obtain ⟨V, F, hC, hE⟩ := hM
  exact ⟨V, F, hC.off hx hn, hE⟩
/-- the arrays' places -/
def DIS (m : Nat) (A : Nat → Nat) (ao ad : Nat) : Prop := ao ≠ ad ∧ ¬ MP m A ao ∧ ¬ MP m A ad
theorem LWD.P0 {G : GG} {h : AH} {xo m : Nat} {A : Nat → Nat} {ao ad n j : Nat} {g : Nat → Nat} {sn : Option (Nat → Nat)} {hs : List (Nat → Nat)} {tx : List Nat} {ep fc : Nat} {ot : List Nat} (hL : LWD G h xo m A ao ad n j g sn hs tx ep fc ot) : ∀ z, h z = none → PL m A ao ad z := by
  obtain ⟨-, ⟨tm, cd, gb, τ, V, F, hC, -⟩, -, ⟨f, hf⟩, ⟨f2, hf2⟩, -⟩ := hL
  intro z hz
  refine ⟨?_, (fun e => by rw [e, hf] at hz; cases hz), (fun e => by rw [e, hf2] at hz; cases hz)⟩
  rintro (rfl | ⟨i, hi, rfl⟩)
  · rw [hC.1] at hz; cases hz
  · rw [hC.2.1 i hi] at hz; cases hz
/-- behind a wrapper of a query -/
def XQ (G : GG) (P : Nat → Prop) (h : AH) (xo ao : Nat) (g : Nat → Nat) (sn : Option (Nat → Nat)) (hs : List (Nat → Nat)) (l : List Nat) (ep fc : Nat) (ot : List Nat) (c : Nat) (v : Int32) : Option Value → AH → Prop :=
  fun r h2 => ∃ f, c < 5 ∧ r = some (.int (nI c)) ∧ CW G P h2 xo g sn hs l (rP ep) (rP fc) ot ∧ h2 ao = some (lA G 1 f) ∧ (c = 0 → f 0 = v.toInt64) ∧ Fr (fun z => P z ∨ z = ao) h h2
theorem Fr.ao {P : Nat → Prop} {h h2 : AH} {a : Nat} {e : va_E} (hx : Fr P h h2) (ha : h a = some e) (hp : ¬ P a) (hn : nTM e = true) : h2 a = some e := hx.get ha hp hn
theorem XQ.of {G : GG} {P : Nat → Prop} {h : AH} {xo ao : Nat} {g : Nat → Nat} {sn : Option (Nat → Nat)} {hs : List (Nat → Nat)} {l : List Nat} {ep fc : Nat} {ot : List Nat} {c : Nat} {v : Int32} {f0 : Nat → Int64} (hao : h ao = some (lA G 1 f0)) (hp : ¬ P ao) {r : Option Value} {h2 : AH}
    (hq : (∃ (y : Int32) (h3 : AH) (f : Nat → Int64), SOK G P h xo g sn hs l ep fc ot c v y h3 ∧ h3 ao = some (lA G 1 f) ∧ r = some (.int (nI 0)) ∧ h2 = hset h3 ao (lA G 1 (vp_updL f 0 (y.toInt64)))) ∨ (∃ k, 0 < k ∧ k < 5 ∧ r = some (.int (nI k)) ∧ SNO G P h xo g sn hs l ep fc ot c k h2)) : XQ G P h xo ao g sn hs l ep fc ot c v r h2 := by
  rcases hq with ⟨y, h3, f, ⟨rfl, rfl, hC, hx⟩, hf, rfl, rfl⟩ | ⟨k, k0, k5, rfl, rfl, hC, hx⟩
  · have k1 : Fr (m1 ao) h3 (hset h3 ao (lA G 1 (vp_updL f 0 (y.toInt64)))) := Fr.rf.put (x := lA G 1 (vp_updL f 0 (y.toInt64))) hf ⟨rfl, rfl⟩ rfl (Or.inl rfl)
    exact ⟨_, by decide, rfl, hC.frX k1 (OFM.l hf hp), hset_self, fun _ => if_pos rfl, (hx.mono (fun z q => Or.inl q)).cal k1 (fun z q => Or.inl (Or.inr q))⟩
  · exact ⟨f0, k5, rfl, hC, hx.ao hao hp rfl, fun z => absurd z (by omega), hx.mono (fun z q => Or.inl q)⟩
/-- behind a wrapper that tells a double -/
def XD (G : GG) (P : Nat → Prop) (h : AH) (xo ad : Nat) (g : Nat → Nat) (sn : Option (Nat → Nat)) (hs : List (Nat → Nat)) (l : List Nat) (ep fc : Nat) (ot : List Nat) (c : Nat) (v : UInt64) : Option Value → AH → Prop :=
  fun r h2 => ∃ f, c < 5 ∧ r = some (.int (nI c)) ∧ CW G P h2 xo g sn hs l (rP ep) (rP fc) ot ∧ h2 ad = some (dA G 1 f) ∧ (c = 0 → f 0 = v) ∧ Fr (fun z => P z ∨ z = ad) h h2
theorem XD.of {T : Type} {G : GG} {P : Nat → Prop} {h : AH} {xo ad : Nat} {g : Nat → Nat} {sn : Option (Nat → Nat)} {hs : List (Nat → Nat)} {l : List Nat} {ep fc : Nat} {ot : List Nat} {c : Nat} {v : T} {w : T → UInt64} {f0 : Nat → UInt64} (hao : h ad = some (dA G 1 f0)) (hp : ¬ P ad) {r : Option Value} {h2 : AH}
    (hq : (∃ (y : T) (h3 : AH) (f : Nat → UInt64), SOK G P h xo g sn hs l ep fc ot c v y h3 ∧ h3 ad = some (dA G 1 f) ∧ r = some (.int (nI 0)) ∧ h2 = hset h3 ad (dA G 1 (vf_upd f 0 (w y)))) ∨ (∃ k, 0 < k ∧ k < 5 ∧ r = some (.int (nI k)) ∧ SNO G P h xo g sn hs l ep fc ot c k h2)) : XD G P h xo ad g sn hs l ep fc ot c (w v) r h2 := by
  rcases hq with ⟨y, h3, f, ⟨rfl, rfl, hC, hx⟩, hf, rfl, rfl⟩ | ⟨k, k0, k5, rfl, rfl, hC, hx⟩
  · have k1 : Fr (m1 ad) h3 (hset h3 ad (dA G 1 (vf_upd f 0 (w y)))) := Fr.rf.put (x := dA G 1 (vf_upd f 0 (w y))) hf ⟨rfl, rfl⟩ rfl (Or.inl rfl)
    exact ⟨_, by decide, rfl, hC.frX k1 (OFM.d hf hp), hset_self, fun _ => if_pos rfl, (hx.mono (fun z q => Or.inl q)).cal k1 (fun z q => Or.inl (Or.inr q))⟩
  · exact ⟨f0, k5, rfl, hC, hx.ao hao hp rfl, fun z => absurd z (by omega), hx.mono (fun z q => Or.inl q)⟩
/-- behind a wrapper whose call may change the object: Nx = what it is then -/
def XN (G : GG) (P : Nat → Prop) (h : AH) (xo ao : Nat) (g : Nat → Nat) (sn : Option (Nat → Nat)) (hs : List (Nat → Nat)) (l : List Nat) (ep fc : Nat) (ot : List Nat) (c : Nat) (Nx : Int32 → AH → Prop) : Option Value → AH → Prop :=
  fun r h2 => ∃ f, c < 5 ∧ r = some (.int (nI c)) ∧ h2 ao = some (lA G 1 f) ∧ (c ≠ 0 → CW G P h2 xo g sn hs l (rP ep) (rP fc) ot) ∧ (c = 0 → ∃ y : Int32, f 0 = y.toInt64 ∧ Nx y h2) ∧ Fr (fun z => P z ∨ z = ao) h h2
theorem XN.of {G : GG} {P : Nat → Prop} {h : AH} {xo ao : Nat} {g : Nat → Nat} {sn : Option (Nat → Nat)} {hs : List (Nat → Nat)} {l : List Nat} {ep fc : Nat} {ot : List Nat} {c : Nat} {Nx : Int32 → AH → Prop} {f0 : Nat → Int64} (hao : h ao = some (lA G 1 f0)) (hp : ¬ P ao) {r : Option Value} {h2 : AH}
    (hN : ∀ y h3 h4 f, Nx y h3 → h3 ao = some (lA G 1 f) → Fr (m1 ao) h3 h4 → Nx y h4)
    (hq : (∃ (y : Int32) (h3 : AH) (f : Nat → Int64), (c = 0 ∧ Nx y h3 ∧ Fr P h h3) ∧ h3 ao = some (lA G 1 f) ∧ r = some (.int (nI 0)) ∧ h2 = hset h3 ao (lA G 1 (vp_updL f 0 (y.toInt64)))) ∨ (∃ k, 0 < k ∧ k < 5 ∧ r = some (.int (nI k)) ∧ SNO G P h xo g sn hs l ep fc ot c k h2)) : XN G P h xo ao g sn hs l ep fc ot c Nx r h2 := by
  rcases hq with ⟨y, h3, f, ⟨rfl, hC, hx⟩, hf, rfl, rfl⟩ | ⟨k, k0, k5, rfl, rfl, hC, hx⟩
  · have k1 : Fr (m1 ao) h3 (hset h3 ao (lA G 1 (vp_updL f 0 (y.toInt64)))) := Fr.rf.put (x := lA G 1 (vp_updL f 0 (y.toInt64))) hf ⟨rfl, rfl⟩ rfl (Or.inl rfl)
    exact ⟨_, by decide, rfl, hset_self, fun z => absurd rfl z, fun _ => ⟨y, if_pos rfl, hN y h3 _ f hC hf k1⟩, (hx.mono (fun z q => Or.inl q)).cal k1 (fun z q => Or.inl (Or.inr q))⟩
  · exact ⟨f0, k5, rfl, hx.ao hao hp rfl, fun _ => hC, fun z => absurd z (by omega), hx.mono (fun z q => Or.inl q)⟩
