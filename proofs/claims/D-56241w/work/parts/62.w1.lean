set_option maxRecDepth 100000
/-! ===== the class's world over a row g ===== -/
/-- a departure and an arrival without the delay -/
def dpG (g : Nat → Nat) (t : Nat) : Nat → Nat
  | 0 => g (16 + 36 * t + 1)
  | k + 1 => dpG g t k + (g (16 + 36 * t + (4 + 3 * (k + 1) + 1)) + g (16 + 36 * t + (4 + 3 * (k + 1) + 2)))
def avG (g : Nat → Nat) (t k : Nat) : Nat := dpG g t (k - 1) + g (16 + 36 * t + (4 + 3 * k + 1))
theorem LvG_dp {g : Nat → Nat} {t k : Nat} : LvG g t k = dpG g t k + g (16 + 36 * t + 2) := by
  induction k with
  | zero => rfl
  | succ k ih => unfold LvG dpG; omega
theorem CmG_av {g : Nat → Nat} {t k : Nat} : CmG g t k = avG g t k + g (16 + 36 * t + 2) := by unfold CmG avG; rw [LvG_dp]; omega
/-- cells: a leg, a suitcase, a booking -/
abbrev LgE (g : Nat → Nat) (t k : Nat) : va_E := .inr (5, [.int (nI t), .int (nI k), .int (nI (plG g t k)), .int (nI (plG g t (k + 1))), .int (nI (LvG g t k)), .int (nI (CmG g t (k + 1)))])
abbrev SuE (g : Nat → Nat) (i : Nat) : va_E := .inr (8, [.int (nI (g (232 + 4 * i + 0))), .int (nI (g (232 + 4 * i + 1))), .int (nI (g (232 + 4 * i + 2))), .int (nI (g (232 + 4 * i + 3)))])
abbrev BoE (g : Nat → Nat) (i : Nat) : va_E := .inr (11, [.int (nI (g (264 + 4 * i + 0))), .int (nI (g (264 + 4 * i + 1))), .int (nI (g (264 + 4 * i + 2))), .int (nI (g (264 + 4 * i + 3)))])
/-- a train at x, its five rows at A 0 .. A 4 -/
def TRs (G : GG) (h : AH) (x : Nat) (A : Nat → Nat) (g : Nat → Nat) (t : Nat) : Prop :=
  h x = some (.inr (4, [.int (nI (g (16 + 36 * t + 0))), .ref (A 0), .ref (A 1), .ref (A 2), .ref (A 3), .ref (A 4), .int (nI (g (16 + 36 * t + 3))), .int (nI (g (16 + 36 * t + 2)))])) ∧
  ∃ f : Nat → Nat → Nat, (∀ i, i < 5 → h (A i) = some (iA G 8 (fun k => nI (f i k)))) ∧
    (∀ k, k < g (16 + 36 * t + 3) → f 0 k = plG g t k) ∧ (∀ k, 0 < k → k < g (16 + 36 * t + 3) → f 1 k = avG g t k) ∧ (∀ k, k < g (16 + 36 * t + 3) → f 2 k = dpG g t k) ∧
    (∀ k, k < 8 → f 3 k = g (16 + 36 * t + (28 + k))) ∧ (∀ k, k < 8 → f 4 k = bkG g t k (g 3))
abbrev DT : Type := Nat × Nat × (Nat → Nat)
abbrev DR : Type := Nat × Nat × Nat × (Nat → Nat) × (Nat → Nat → Nat)
abbrev DM : Type := Nat × Nat × (Nat → Nat) × (Nat → Nat) × (Nat → Nat)
abbrev RD : Type := DT × DR × DM × DM
/-- the transfers; the trains; the suitcases; the bookings; the whole railway -/
def RWt (G : GG) (h : AH) (d : DT) (g : Nat → Nat) : Prop := ALs G h d.1 d.2.1 (g 0) (g 0) d.2.2 ∧ ∀ k, k < g 0 → IV G h (d.2.2 k) (nI (g (8 + k)))
def RWr (G : GG) (h : AH) (d : DR) (g : Nat → Nat) : Prop := h d.1 = some (.inr (3, [.ref d.2.1])) ∧ ALs G h d.2.1 d.2.2.1 (g 1) (g 1) d.2.2.2.1 ∧ ∀ t, t < g 1 → TRs G h (d.2.2.2.1 t) (d.2.2.2.2 t) g t
def RWs (G : GG) (h : AH) (d : DM) (g : Nat → Nat) : Prop := TMp h d.1 d.2.1 (g 2) d.2.2.1 d.2.2.2.1 d.2.2.2.2 ∧ d.2.1 + g 2 ≤ 2 * g 4 ∧ ∀ i, i < g 2 → IV G h (d.2.2.2.1 i) (nI (g (232 + 4 * i + 0))) ∧ h (d.2.2.2.2 i) = some (SuE g i)
def RWb (G : GG) (h : AH) (d : DM) (g : Nat → Nat) : Prop := TMp h d.1 d.2.1 (g 3) d.2.2.1 d.2.2.2.1 d.2.2.2.2 ∧ d.2.1 + g 3 ≤ 2 * g 5 ∧ ∀ i, i < g 3 → IV G h (d.2.2.2.1 i) (nI (g (264 + 4 * i + 0))) ∧ h (d.2.2.2.2 i) = some (BoE g i)
def RW (G : GG) (h : AH) (r : Nat) (D : RD) (g : Nat → Nat) : Prop :=
  h r = some (.inr (2, [.ref D.1.1, .ref D.2.1.1, .ref D.2.2.1.1, .ref D.2.2.2.1, .int (nI (g 4)), .int (nI (g 5)), .int (nI (g 6)), .int (nI (g 7))])) ∧ RWt G h D.1 g ∧ RWr G h D.2.1 g ∧ RWs G h D.2.2.1 g ∧ RWb G h D.2.2.2 g
/-- M has no cell of the kind S -/
def offK (M : Nat → Prop) (h : AH) (S : va_E → Bool) : Prop := ∀ a e, h a = some e → S e = true → ¬ M a
def kO (c : Nat) : va_E → Bool
  | .inr o => o.1 == c
  | .inl _ => false
/-- an array of ints, signs, bytes or booleans -/
def kI : va_E → Bool
  | .inl (_, _, .inl _) => true
  | _ => false
theorem offK.o {M : Nat → Prop} {h : AH} {c a : Nat} {f : List Value} (hk : offK M h (kO c)) (ha : h a = some (.inr (c, f))) : ¬ M a := hk a _ ha (by show (c == c) = true; exact beq_self_eq_true c)
theorem offK.nM {h : AH} {S : va_E → Bool} : offK nM h S := fun _ _ _ _ q => q
/-- nothing of the world lies in the base heap -/
abbrev HB (G : GG) (h : AH) : Prop := ∀ a e, h a = some e → bz G ≤ a
theorem VV.bs {G : GG} {X : CX} {nL : Nat} {Q : State → Prop} {h : AH} {kc n : Nat} {L : LV} {st : List Value} {pc : Nat} (k : HB G h → VV G X nL Q h kc n L st pc) : VV G X nL Q h kc n L st pc :=
  fun H locs ls hS hL hl => k (fun a e ha => (hS.1 a e ha).1) H locs ls hS hL hl
theorem HB.no {G : GG} {h : AH} {a : Nat} {e : va_E} (hb : HB G h) (hc : BC G a e) : h a = none := by
  cases q : h a with
  | none => rfl
  | some e2 => exact absurd hc.1 (Nat.not_lt.mpr (hb a e2 q))
theorem ALs.frQ {G : GG} {M : Nat → Prop} {h h2 : AH} {a ar mc n : Nat} {f : Nat → Nat} (hA : ALs G h a ar mc n f) (hx : Fr M h h2) (h1 : ¬ M a) (h3 : ∀ c f, h ar = some (qA G c f) → ¬ M ar) : ALs G h2 a ar mc n f := by
  obtain ⟨p, o, cap, g, q, w, z⟩ := hA
  exact ⟨hx.get p h1 rfl, fun i hi => hx.isO (o i hi), cap, g, hx.rd q (fun y => h3 _ _ y) rfl, fun hc => hx.get (w hc) (h3 _ _ (w hc)) rfl, z⟩
theorem offK.al {G : GG} {h : AH} {a ar mc n : Nat} {f : Nat → Nat} {S : va_E → Bool} (hA : ALs G h a ar mc n f) (hb : HB G h) (h1 : ∀ f, S (.inr (18, f)) = false) (h2 : ∀ c n f, S (.inl (c, n, .inr (.inr (.inr (.inr f))))) = false) : offK (m2 a ar) h S := by
  intro b e hbe hs q
  rcases q with rfl | rfl
  · cases hA.1.symm.trans hbe; rw [h1] at hs; cases hs
  · obtain ⟨-, -, cap, g, q, -⟩ := hA
    rcases q with q | q
    · cases q.symm.trans hbe; rw [h2] at hs; cases hs
    · rw [hb.no q] at hbe; cases hbe
theorem offK.m1 {h : AH} {a : Nat} {e : va_E} {S : va_E → Bool} (ha : h a = some e) (hs : S e = false) : offK (m1 a) h S := by
  intro b e2 hb h2 q
  cases (show b = a from q)
  cases ha.symm.trans hb
  rw [hs] at h2; cases h2
theorem kO_ne {c d : Nat} {f : List Value} (h : c ≠ d) : kO d (.inr (c, f)) = false := by show (c == d) = false; exact beq_eq_false_iff_ne.mpr h
theorem Fr.ar2 {G : GG} {h h2 : AH} {M : Nat → Prop} {ar ar2 : Nat} (hx : Fr M h h2) (h0 : h ar = Option.none) (hq : ar2 = ar ∨ h2 ar2 = Option.none ∧ bz G ≤ ar2) : h ar2 = Option.none := hq.elim (fun e => e ▸ h0) (fun q => hx.none q.1)
section FRW
variable {G : GG} {M : Nat → Prop} {h h2 : AH} {a ar mc n t r it i ci : Nat} {f A K V : Nat → Nat} {g : Nat → Nat}
theorem ALs.fr0 (hA : ALs G h a ar mc n f) (hx : Fr nM h h2) : ALs G h2 a ar mc n f := hA.fr hx id (fun _ _ => id)
theorem TMp.fr0 (hM : TMp h t mc n A K V) (hx : Fr nM h h2) : TMp h2 t mc n A K V := hM.fr hx id (fun _ _ => id)
theorem ITR.fr0 (hI : ITR h it a i mc) (hx : Fr nM h h2) : ITR h2 it a i mc := hI.fr hx id
theorem ITR.isC (hI : ITR h it a i mc) : isC G h it "java/util/ArrayList$Itr" := hI.elim (fun _ q => ⟨26, _, _, _, rfl, .inl q⟩)
theorem VIT.isC28 (hI : VIT 28 h it t mc n i A) : isC G h it "java/util/TreeMap$ValueIterator" := hI.elim (fun _ q => ⟨28, _, _, _, rfl, .inl q⟩)
theorem VIT.isC29 (hI : VIT 29 h it t mc n i A) : isC G h it "java/util/TreeMap$KeyIterator" := hI.elim (fun _ q => ⟨29, _, _, _, rfl, .inl q⟩)
theorem ALs.isC (hA : ALs G h a ar mc n f) : isC G h a "java/util/ArrayList" := ⟨18, _, _, _, rfl, .inl hA.1⟩
theorem TMp.isC (hM : TMp h t mc n A K V) : isC G h t "java/util/TreeMap" := by
  obtain ⟨-, rt, L, R, P, C, lo, hi, ⟨x0, x1, x6, x7, x8, q, -⟩, -⟩ := hM
  exact ⟨23, _, _, _, rfl, .inl q⟩
theorem IV.fr {v : Int32} (hv : IV G h a v) (hx : Fr M h h2) (hM : offK M h (kO 27)) : IV G h2 a v := hx.rd hv (fun q => hM.o q) rfl
theorem TRs.fr {x : Nat} {B : Nat → Nat} (hT : TRs G h x B g t) (hx : Fr M h h2) (h1 : ¬ M x) (h3 : ∀ i, i < 5 → ¬ M (B i)) : TRs G h2 x B g t := by
  obtain ⟨p, f, q, z⟩ := hT
  exact ⟨hx.get p h1 rfl, f, fun i hi => hx.get (q i hi) (h3 i hi) rfl, z⟩
theorem TRs.fr0 {x : Nat} {B : Nat → Nat} (hT : TRs G h x B g t) (hx : Fr nM h h2) : TRs G h2 x B g t := hT.fr hx id (fun _ _ => id)
theorem RWt.fr {d : DT} (hR : RWt G h d g) (hx : Fr M h h2) (h1 : ¬ M d.1) (h3 : ∀ c f, h d.2.1 = some (qA G c f) → ¬ M d.2.1) (h4 : offK M h (kO 27)) : RWt G h2 d g :=
  ⟨hR.1.frQ hx h1 h3, fun k hk => (hR.2 k hk).fr hx h4⟩
theorem RWt.fr0 {d : DT} (hR : RWt G h d g) (hx : Fr nM h h2) : RWt G h2 d g := hR.fr hx id (fun _ _ _ => id) offK.nM
theorem RWr.fr {d : DR} (hR : RWr G h d g) (hx : Fr M h h2) (h0 : offK M h (kO 3)) (h1 : ¬ M d.2.1) (h3 : ∀ c f, h d.2.2.1 = some (qA G c f) → ¬ M d.2.2.1) (h4 : offK M h (kO 4)) (h5 : ∀ t, t < g 1 → ∀ i, i < 5 → ¬ M (d.2.2.2.2 t i)) : RWr G h2 d g :=
  ⟨hx.get hR.1 (h0.o hR.1) rfl, hR.2.1.frQ hx h1 h3, fun t ht => (hR.2.2 t ht).fr hx (h4.o (hR.2.2 t ht).1) (h5 t ht)⟩
theorem RWr.fr0 {d : DR} (hR : RWr G h d g) (hx : Fr nM h h2) : RWr G h2 d g := hR.fr hx offK.nM id (fun _ _ _ => id) offK.nM (fun _ _ _ _ => id)
theorem RWs.fr {d : DM} (hR : RWs G h d g) (hx : Fr M h h2) (h1 : ¬ M d.1) (h2' : ∀ i, i < g 2 → ¬ M (d.2.2.1 i)) (h4 : offK M h (kO 27)) (h5 : offK M h (kO 8)) : RWs G h2 d g :=
  ⟨hR.1.fr hx h1 h2', hR.2.1, fun i hi => ⟨(hR.2.2 i hi).1.fr hx h4, hx.get (hR.2.2 i hi).2 (h5.o (hR.2.2 i hi).2) rfl⟩⟩
theorem RWs.fr0 {d : DM} (hR : RWs G h d g) (hx : Fr nM h h2) : RWs G h2 d g := hR.fr hx id (fun _ _ => id) offK.nM offK.nM
theorem RWb.fr {d : DM} (hR : RWb G h d g) (hx : Fr M h h2) (h1 : ¬ M d.1) (h2' : ∀ i, i < g 3 → ¬ M (d.2.2.1 i)) (h4 : offK M h (kO 27)) (h5 : offK M h (kO 11)) : RWb G h2 d g :=
  ⟨hR.1.fr hx h1 h2', hR.2.1, fun i hi => ⟨(hR.2.2 i hi).1.fr hx h4, hx.get (hR.2.2 i hi).2 (h5.o (hR.2.2 i hi).2) rfl⟩⟩
theorem RWb.fr0 {d : DM} (hR : RWb G h d g) (hx : Fr nM h h2) : RWb G h2 d g := hR.fr hx id (fun _ _ => id) offK.nM offK.nM
theorem RW.fr0 {D : RD} (hR : RW G h r D g) (hx : Fr nM h h2) : RW G h2 r D g := ⟨hx.get hR.1 id rfl, hR.2.1.fr0 hx, hR.2.2.1.fr0 hx, hR.2.2.2.1.fr0 hx, hR.2.2.2.2.fr0 hx⟩
theorem RWr.fr1 {d : DR} {c : Nat} {fs : List Value} (hR : RWr G h d g) (hx : Fr (m1 a) h h2) (ha : h a = some (.inr (c, fs))) (hc : c ≠ 3 ∧ c ≠ 18 ∧ c ≠ 4) : RWr G h2 d g :=
  hR.fr hx (offK.m1 ha (kO_ne hc.1)) (fun q => ne_oo hR.2.1.1 ha (Ne.symm hc.2.1) q) (fun _ _ z q => ne_ao z ha q) (offK.m1 ha (kO_ne hc.2.2)) (fun t ht i hi q => by
    obtain ⟨-, f, hA, -⟩ := hR.2.2 t ht
    exact ne_ao (hA i hi) ha q)
end FRW
/-- lists of legs: all of a row, one train's after the other's -/
def lgT (g : Nat → Nat) (t : Nat) : List (Nat × Nat) := (List.range (g (16 + 36 * t + 3) - 1)).map (fun k => (t, k))
def lgL (g : Nat → Nat) : List (Nat × Nat) := (List.range (g 1)).flatMap (lgT g)
/-- what an iterator at train t, leg k still tells -/
def rmL (g : Nat → Nat) (t k : Nat) : List (Nat × Nat) := (lgT g t).drop k ++ ((List.range (g 1)).drop (t + 1)).flatMap (lgT g)
/-- a list of legs in the heap -/
def LGS (G : GG) (h : AH) (a ar : Nat) (g : Nat → Nat) (L : List (Nat × Nat)) (f : Nat → Nat) : Prop := ALs G h a ar L.length L.length f ∧ ∀ i, i < L.length → h (f i) = some (LgE g (L.getD i (0, 0)).1 (L.getD i (0, 0)).2)
theorem LGS.fr {G : GG} {M : Nat → Prop} {h h2 : AH} {a ar : Nat} {g : Nat → Nat} {L : List (Nat × Nat)} {f : Nat → Nat} (hL : LGS G h a ar g L f) (hx : Fr M h h2) (h1 : ¬ M a) (h3 : ∀ c f, h ar = some (qA G c f) → ¬ M ar) (h4 : offK M h (kO 5)) : LGS G h2 a ar g L f :=
  ⟨hL.1.frQ hx h1 h3, fun i hi => hx.get (hL.2 i hi) (h4.o (hL.2 i hi)) rfl⟩
theorem LGS.fr0 {G : GG} {h h2 : AH} {a ar : Nat} {g : Nat → Nat} {L : List (Nat × Nat)} {f : Nat → Nat} (hL : LGS G h a ar g L f) (hx : Fr nM h h2) : LGS G h2 a ar g L f := hL.fr hx id (fun _ _ _ => id) offK.nM
theorem LGS.snoc {G : GG} {h h2 : AH} {a ar ar2 x t k : Nat} {g : Nat → Nat} {L : List (Nat × Nat)} {f : Nat → Nat} (hL : LGS G h a ar g L f) (hb : HB G h) (hx : h x = some (LgE g t k)) (hA : ALs G h2 a ar2 (L.length + 1) (L.length + 1) (up f L.length x)) (hF : Fr (m2 a ar) h h2) : LGS G h2 a ar2 g (L ++ [(t, k)]) (up f L.length x) := by
  have hk : offK (m2 a ar) h (kO 5) := offK.al hL.1 hb (fun _ => rfl) (fun _ _ _ => rfl)
  refine ⟨by rw [List.length_append]; exact hA, fun i hi => ?_⟩
  rw [List.length_append, List.length_singleton] at hi
  by_cases e : i = L.length
  · subst e
    rw [up_s, List.getD_eq_getElem?_getD, List.getElem?_append_right (Nat.le_refl _), Nat.sub_self]
    exact hF.get hx (hk.o hx) rfl
  · rw [up_n e, List.getD_eq_getElem?_getD, List.getElem?_append_left (by omega), ← List.getD_eq_getElem?_getD]
    have hi2 : i < L.length := by omega
    exact hF.get (hL.2 i hi2) (hk.o (hL.2 i hi2)) rfl
/-- bounds of a row that the class's side asks -/
theorem GW.b {g : Nat → Nat} (hI : GW g) : GB g := hI.1
theorem GW.st {g : Nat → Nat} (hI : GW g) {t : Nat} (ht : t < g 1) : 1 ≤ g (16 + 36 * t + 3) ∧ g (16 + 36 * t + 3) ≤ 8 := hI.2.2.2.2.2.1 t ht
theorem GW.t6 {g : Nat → Nat} (hI : GW g) {t : Nat} (ht : t < g 1) : t < 6 := Nat.lt_of_lt_of_le ht hI.2.2.1
theorem GW.pl {g : Nat → Nat} (hI : GW g) {t k : Nat} (ht : t < g 1) (hk : k < g (16 + 36 * t + 3)) : plG g t k < g 0 := hI.2.2.2.2.2.2 t k ht hk
theorem mem_lgL {g : Nat → Nat} {t k : Nat} : (t, k) ∈ lgL g ↔ t < g 1 ∧ k < g (16 + 36 * t + 3) - 1 := by
  unfold lgL lgT
  simp only [List.mem_flatMap, List.mem_range, List.mem_map, Prod.mk.injEq]
  constructor
  · rintro ⟨t', h1, k', h2, rfl, rfl⟩; exact ⟨h1, h2⟩
  · rintro ⟨h1, h2⟩; exact ⟨t, h1, k, h2, rfl, rfl⟩
theorem lgL_at {g : Nat → Nat} {i : Nat} (hi : i < (lgL g).length) : ((lgL g).getD i (0, 0)).1 < g 1 ∧ ((lgL g).getD i (0, 0)).2 < g (16 + 36 * ((lgL g).getD i (0, 0)).1 + 3) - 1 := by
  have h := List.getElem_mem hi
  rw [List.getD_eq_getElem?_getD, List.getElem?_eq_getElem hi, Option.getD_some]
  exact mem_lgL.mp h
theorem rmL_0 {g : Nat → Nat} (h : 0 < g 1) : rmL g 0 0 = lgL g := by
  unfold rmL lgL
  obtain ⟨m, hm⟩ : ∃ m, g 1 = m + 1 := ⟨g 1 - 1, by omega⟩
  rw [hm, List.drop_zero, List.range_succ_eq_map, List.drop_succ_cons, List.drop_zero, List.flatMap_cons]
theorem rmL_next {g : Nat → Nat} {t k : Nat} (ht : t < g 1) (hk : g (16 + 36 * t + 3) - 1 ≤ k) (ht2 : t + 1 < g 1) : rmL g t k = rmL g (t + 1) 0 := by
  unfold rmL
  have e1 : (lgT g t).drop k = [] := List.drop_eq_nil_of_le (by unfold lgT; rw [List.length_map, List.length_range]; exact hk)
  rw [e1, List.nil_append, List.drop_zero]
  have e2 : (List.range (g 1)).drop (t + 1) = (t + 1) :: (List.range (g 1)).drop (t + 1 + 1) := by
    rw [List.drop_eq_getElem_cons (by rw [List.length_range]; exact ht2), List.getElem_range]
  rw [e2, List.flatMap_cons]
theorem rmL_end {g : Nat → Nat} {t k : Nat} (hk : g (16 + 36 * t + 3) - 1 ≤ k) (ht2 : g 1 ≤ t + 1) : rmL g t k = [] := by
  unfold rmL
  have e1 : (lgT g t).drop k = [] := List.drop_eq_nil_of_le (by unfold lgT; rw [List.length_map, List.length_range]; exact hk)
  rw [e1, List.drop_eq_nil_of_le (by rw [List.length_range]; exact ht2)]
  rfl
theorem rmL_cons {g : Nat → Nat} {t k : Nat} (hk : k < g (16 + 36 * t + 3) - 1) : rmL g t k = (t, k) :: rmL g t (k + 1) := by
  unfold rmL
  have hl : k < (lgT g t).length := by unfold lgT; rw [List.length_map, List.length_range]; exact hk
  rw [List.drop_eq_getElem_cons hl, List.cons_append]
  congr 1
  have h2 : (lgT g t)[k]? = some (t, k) := by
    unfold lgT
    rw [List.getElem?_map, List.getElem?_range hk]
    rfl
  rw [List.getElem?_eq_getElem hl] at h2
  exact Option.some.inj h2
/-- an iterator of a timetable: what it still tells -/
def ITL (h : AH) (it tt : Nat) (g : Nat → Nat) (rest : List (Nat × Nat)) : Prop := ∃ t k, h it = some (.inr (9, [.int (nI t), .int (nI k), .ref tt])) ∧ k ≤ 8 ∧ ((t < g 1 ∧ rest = rmL g t k) ∨ (t = g 1 ∧ rest = []))
/-- the same, standing at the next leg -/
def ITN (h : AH) (it tt : Nat) (g : Nat → Nat) (rest : List (Nat × Nat)) : Prop := ∃ t k, h it = some (.inr (9, [.int (nI t), .int (nI k), .ref tt])) ∧ k ≤ 8 ∧ ((t < g 1 ∧ k < g (16 + 36 * t + 3) - 1 ∧ rest = rmL g t k) ∨ (t = g 1 ∧ rest = []))
theorem ITN.l {h : AH} {it tt : Nat} {g : Nat → Nat} {rest : List (Nat × Nat)} (hI : ITN h it tt g rest) : ITL h it tt g rest := by
  obtain ⟨t, k, hc, h8, hs⟩ := hI
  exact ⟨t, k, hc, h8, hs.imp (fun q => ⟨q.1, q.2.2⟩) id⟩
theorem ITL.fr {M : Nat → Prop} {h h2 : AH} {it tt : Nat} {g : Nat → Nat} {rest : List (Nat × Nat)} (hI : ITL h it tt g rest) (hx : Fr M h h2) (h1 : ¬ M it) : ITL h2 it tt g rest := by
  obtain ⟨t, k, hc, hs⟩ := hI
  exact ⟨t, k, hx.get hc h1 rfl, hs⟩
theorem ITL.isC {G : GG} {h : AH} {it tt : Nat} {g : Nat → Nat} {rest : List (Nat × Nat)} (hI : ITL h it tt g rest) : isC G h it "SleeperRailway$Timetable$1" := by
  obtain ⟨t, k, hc, -⟩ := hI
  exact ⟨9, _, _, _, rfl, .inl hc⟩
theorem ITN.hd {h : AH} {it tt u v : Nat} {g : Nat → Nat} {xs : List (Nat × Nat)} (hI : ITN h it tt g ((u, v) :: xs)) : h it = some (.inr (9, [.int (nI u), .int (nI v), .ref tt])) ∧ u < g 1 ∧ v < g (16 + 36 * u + 3) - 1 ∧ xs = rmL g u (v + 1) := by
  obtain ⟨t, k, hc, -, hs⟩ := hI
  rcases hs with ⟨h1, h2, h3⟩ | ⟨-, h3⟩
  · rw [rmL_cons h2] at h3
    injection h3 with h4 h5
    injection h4 with h6 h7
    subst h6; subst h7
    exact ⟨hc, h1, h2, h5⟩
  · cases h3
theorem lgL_len {g : Nat → Nat} (hI : GW g) : (lgL g).length ≤ 42 := by
  have hz : ∀ n, n ≤ g 1 → ((List.range n).flatMap (lgT g)).length ≤ 7 * n := by
    intro n
    induction n with
    | zero => intro _; exact Nat.le_refl 0
    | succ n ih =>
      intro hn
      have h1 := ih (by omega)
      have h2 := (hI.st (t := n) (by omega)).2
      rw [List.range_succ, List.flatMap_append, List.length_append, List.flatMap_cons, List.flatMap_nil, List.append_nil]
      unfold lgT at h1 ⊢
      rw [List.length_map, List.length_range]
      omega
  have h1 := hz (g 1) (Nat.le_refl _)
  have h2 := hI.2.2.1
  unfold lgL
  omega
