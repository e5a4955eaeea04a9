set_option maxRecDepth 100000
/-- one place of a table changed -/
def upo {α : Type} (f : Nat → α) (k : Nat) (v : α) : Nat → α := fun j => if j = k then v else f j
theorem upo_s {α : Type} {f : Nat → α} {k : Nat} {v : α} : upo f k v k = v := if_pos rfl
theorem upo_n {α : Type} {f : Nat → α} {k j : Nat} {v : α} (h : j ≠ k) : upo f k v j = f j := if_neg h
/-- a tree by the places of its nodes in order: children, parents, and the stretch lo i .. hi i - 1 of the places under i -/
def WT (n : Nat) (rt : Option Nat) (L R P : Nat → Option Nat) (lo hi : Nat → Nat) : Prop :=
  (∀ i, i < n → lo i ≤ i ∧ i < hi i ∧ hi i ≤ n) ∧
  (∀ i, i < n → L i = none → lo i = i) ∧
  (∀ i j, i < n → L i = some j → j < i ∧ lo j = lo i ∧ hi j = i ∧ P j = some i) ∧
  (∀ i, i < n → R i = none → hi i = i + 1) ∧
  (∀ i j, i < n → R i = some j → i < j ∧ j < n ∧ lo j = i + 1 ∧ hi j = hi i ∧ P j = some i) ∧
  (∀ i, i < n → P i = none → rt = some i) ∧
  (∀ i j, i < n → P i = some j → j < n ∧ (L j = some i ∨ R j = some i)) ∧
  (∀ r, rt = some r → r < n ∧ P r = none ∧ lo r = 0 ∧ hi r = n) ∧
  (rt = none → n = 0)
theorem WT.rotL {n : Nat} {rt : Option Nat} {L R P L' R' P' : Nat → Option Nat} {lo hi : Nat → Nat} {rt' : Option Nat} {p r : Nat} (hw : WT n rt L R P lo hi) (hp : p < n) (hr : R p = some r)
    (hL : ∀ j, L' j = if j = r then some p else if P p = some j ∧ L j = some p then some r else L j)
    (hR : ∀ j, R' j = if j = p then L r else if P p = some j ∧ L j ≠ some p then some r else R j)
    (hP : ∀ j, P' j = if j = p then some r else if j = r then P p else if L r = some j then some p else P j)
    (hrt : rt' = if P p = none then some r else rt) : WT n rt' L' R' P' (upo lo r (lo p)) (upo hi p r) := by
  obtain ⟨h1, h2, h3, h4, h5, h6, h7, h8, h9⟩ := hw
  have e1 := h1 p hp
  have e5 := h5 p r hp hr
  have hrn : r < n := e5.2.1
  have e1r := h1 r hrn
  have eP : ∀ q, P p = some q → q < n ∧ (L q = some p ∨ R q = some p) := fun q hq => h7 p q hp hq
  have eL : ∀ q, L r = some q → q < r ∧ lo q = lo r ∧ hi q = r ∧ P q = some r := fun q hq => h3 r q hrn hq
  refine ⟨?_, ?_, ?_, ?_, ?_, ?_, ?_, ?_, ?_⟩
  · grind [upo]
  · grind [upo]
  · intro i j hi hij
    rw [hL] at hij
    have hP' := hP j
    by_cases a1 : i = r
    · grind [upo]
    · rw [if_neg a1] at hij
      by_cases a2 : P p = some i ∧ L i = some p
      · have := h3 i p hi a2.2
        grind [upo]
      · rw [if_neg a2] at hij
        have := h3 i j hi hij
        grind [upo]
  · grind [upo]
  · intro i j hi hij
    rw [hR] at hij
    have hP' := hP j
    by_cases a1 : i = p
    · rw [if_pos a1] at hij
      have := h3 r j hrn hij
      grind [upo]
    · rw [if_neg a1] at hij
      by_cases a2 : P p = some i ∧ L i ≠ some p
      · have := h7 p i hp a2.1
        have := h5 i p hi (this.2.resolve_left a2.2)
        grind [upo]
      · rw [if_neg a2] at hij
        have := h5 i j hi hij
        grind [upo]
  · grind [upo]
  · intro i j hi hij
    rw [hP] at hij
    by_cases a1 : i = p
    · grind [upo]
    · rw [if_neg a1] at hij
      by_cases a2 : i = r
      · have := h7 p j hp
        grind [upo]
      · rw [if_neg a2] at hij
        by_cases a3 : L r = some i
        · grind [upo]
        · rw [if_neg a3] at hij
          have := h7 i j hi hij
          grind [upo]
  · grind [upo]
  · grind [upo]

theorem WT.rotR {n : Nat} {rt : Option Nat} {L R P L' R' P' : Nat → Option Nat} {lo hi : Nat → Nat} {rt' : Option Nat} {p r : Nat} (hw : WT n rt L R P lo hi) (hp : p < n) (hr : L p = some r)
    (hL : ∀ j, L' j = if j = p then R r else if P p = some j ∧ R j ≠ some p then some r else L j)
    (hR : ∀ j, R' j = if j = r then some p else if P p = some j ∧ R j = some p then some r else R j)
    (hP : ∀ j, P' j = if j = p then some r else if j = r then P p else if R r = some j then some p else P j)
    (hrt : rt' = if P p = none then some r else rt) : WT n rt' L' R' P' (upo lo p (r + 1)) (upo hi r (hi p)) := by
  obtain ⟨h1, h2, h3, h4, h5, h6, h7, h8, h9⟩ := hw
  have e1 := h1 p hp
  have e5 := h3 p r hp hr
  have hrn : r < n := by omega
  have e1r := h1 r hrn
  have eP : ∀ q, P p = some q → q < n ∧ (L q = some p ∨ R q = some p) := fun q hq => h7 p q hp hq
  have eL : ∀ q, R r = some q → r < q ∧ q < n ∧ lo q = r + 1 ∧ hi q = hi r ∧ P q = some r := fun q hq => h5 r q hrn hq
  refine ⟨?_, ?_, ?_, ?_, ?_, ?_, ?_, ?_, ?_⟩
  · grind [upo]
  · grind [upo]
  · intro i j hi hij
    rw [hL] at hij
    have hP' := hP j
    by_cases a1 : i = p
    · rw [if_pos a1] at hij
      have := h5 r j hrn hij
      grind [upo]
    · rw [if_neg a1] at hij
      by_cases a2 : P p = some i ∧ R i ≠ some p
      · have := h7 p i hp a2.1
        have := h3 i p hi (this.2.resolve_right a2.2)
        grind [upo]
      · rw [if_neg a2] at hij
        have := h3 i j hi hij
        grind [upo]
  · grind [upo]
  · intro i j hi hij
    rw [hR] at hij
    have hP' := hP j
    by_cases a1 : i = r
    · grind [upo]
    · rw [if_neg a1] at hij
      by_cases a2 : P p = some i ∧ R i = some p
      · have := h5 i p hi a2.2
        grind [upo]
      · rw [if_neg a2] at hij
        have := h5 i j hi hij
        grind [upo]
  · grind [upo]
  · intro i j hi hij
    rw [hP] at hij
    by_cases a1 : i = p
    · grind [upo]
    · rw [if_neg a1] at hij
      by_cases a2 : i = r
      · have := h7 p j hp
        grind [upo]
      · rw [if_neg a2] at hij
        by_cases a3 : R r = some i
        · grind [upo]
        · rw [if_neg a3] at hij
          have := h7 i j hi hij
          grind [upo]
  · grind [upo]
  · grind [upo]

/-! a TreeMap's nodes in the heap: node i at A i -/
def cB (b : Bool) : Int32 := if b then 1 else 0
theorem nar_cB (b : Bool) : narrow .boolean (.int (cB b)) = .int (cB b) := by cases b <;> rfl
theorem fit_cB (b : Bool) : fits .boolean (.int (cB b)) = true := by cases b <;> rfl
def ndc (A K V : Nat → Nat) (L R P : Nat → Option Nat) (C : Nat → Bool) (i : Nat) : List Value := [.ref (K i), .ref (V i), va_rf ((L i).map A), va_rf ((R i).map A), va_rf ((P i).map A), .int (cB (C i))]
def TN (h : AH) (n : Nat) (A K V : Nat → Nat) (L R P : Nat → Option Nat) (C : Nat → Bool) : Prop := ∀ i, i < n → h (A i) = some (.inr (24, ndc A K V L R P C i))
def AI (n : Nat) (A : Nat → Nat) : Prop := ∀ i j, i < n → j < n → A i = A j → i = j
def mT (t n : Nat) (A : Nat → Nat) : Nat → Prop := fun b => b = t ∨ ∃ i, i < n ∧ b = A i
section TN
variable {h : AH} {n i : Nat} {A K V : Nat → Nat} {L R P : Nat → Option Nat} {C : Nat → Bool} {o : Option Nat}
theorem TN.put {L2 R2 P2 : Nat → Option Nat} {C2 : Nat → Bool} {K2 V2 : Nat → Nat} {x : List Value} (hT : TN h n A K V L R P C) (hA : AI n A) (hi : i < n) (hx : x = ndc A K2 V2 L2 R2 P2 C2 i) (ho : ∀ j, j ≠ i → ndc A K2 V2 L2 R2 P2 C2 j = ndc A K V L R P C j) : TN (hset h (A i) (.inr (24, x))) n A K2 V2 L2 R2 P2 C2 := by
  intro j hj
  by_cases q : j = i
  · subst q
    rw [hset_self, hx]
  · rw [hset_ne (fun z => q (hA j i hj hi z)), ho j q]
    exact hT j hj
theorem TN.putL (hT : TN h n A K V L R P C) (hA : AI n A) (hi : i < n) : TN (hset h (A i) (.inr (24, (ndc A K V L R P C i).set 2 (va_rf (o.map A))))) n A K V (upo L i o) R P C :=
  hT.put hA hi (by unfold ndc; rw [upo_s]; rfl) (fun j hj => by unfold ndc; rw [upo_n hj])
theorem TN.putR (hT : TN h n A K V L R P C) (hA : AI n A) (hi : i < n) : TN (hset h (A i) (.inr (24, (ndc A K V L R P C i).set 3 (va_rf (o.map A))))) n A K V L (upo R i o) P C :=
  hT.put hA hi (by unfold ndc; rw [upo_s]; rfl) (fun j hj => by unfold ndc; rw [upo_n hj])
theorem TN.putP (hT : TN h n A K V L R P C) (hA : AI n A) (hi : i < n) : TN (hset h (A i) (.inr (24, (ndc A K V L R P C i).set 4 (va_rf (o.map A))))) n A K V L R (upo P i o) C :=
  hT.put hA hi (by unfold ndc; rw [upo_s]; rfl) (fun j hj => by unfold ndc; rw [upo_n hj])
theorem TN.putC {o : Bool} (hT : TN h n A K V L R P C) (hA : AI n A) (hi : i < n) : TN (hset h (A i) (.inr (24, (ndc A K V L R P C i).set 5 (.int (cB o))))) n A K V L R P (upo C i o) :=
  hT.put hA hi (by unfold ndc; rw [upo_s]; rfl) (fun j hj => by unfold ndc; rw [upo_n hj])
theorem TN.putK {o : Nat} (hT : TN h n A K V L R P C) (hA : AI n A) (hi : i < n) : TN (hset h (A i) (.inr (24, (ndc A K V L R P C i).set 0 (.ref o)))) n A (upo K i o) V L R P C :=
  hT.put hA hi (by unfold ndc; rw [upo_s]; rfl) (fun j hj => by unfold ndc; rw [upo_n hj])
theorem TN.putV {o : Nat} (hT : TN h n A K V L R P C) (hA : AI n A) (hi : i < n) : TN (hset h (A i) (.inr (24, (ndc A K V L R P C i).set 1 (.ref o)))) n A K (upo V i o) L R P C :=
  hT.put hA hi (by unfold ndc; rw [upo_s]; rfl) (fun j hj => by unfold ndc; rw [upo_n hj])
theorem TN.oth {b ci : Nat} {f : List Value} {x : va_E} (hT : TN h n A K V L R P C) (hb : h b = some (.inr (ci, f))) (hc : ci ≠ 24) : TN (hset h b x) n A K V L R P C := fun i hi => (hset_ne (ne_oo (hT i hi) hb (Ne.symm hc))).trans (hT i hi)
theorem TN.nw {b : Nat} {x : va_E} (hT : TN h n A K V L R P C) (hb : h b = none) : TN (hset h b x) n A K V L R P C := fun i hi => (hset_ne (fun z => by have := hT i hi; rw [z, hb] at this; cases this)).trans (hT i hi)
theorem TN.fr {M : Nat → Prop} {h2 : AH} (hT : TN h n A K V L R P C) (hx : Fr M h h2) (hM : ∀ i, i < n → ¬ M (A i)) : TN h2 n A K V L R P C := fun i hi => hx.get (hT i hi) (hM i hi) rfl
theorem TN.ext {L2 R2 P2 : Nat → Option Nat} {C2 : Nat → Bool} (hT : TN h n A K V L R P C) (h1 : ∀ j, L2 j = L j) (h2 : ∀ j, R2 j = R j) (h3 : ∀ j, P2 j = P j) (h4 : ∀ j, C2 j = C j) : TN h n A K V L2 R2 P2 C2 := fun i hi => by rw [hT i hi]; unfold ndc; rw [h1, h2, h3, h4]
end TN
/-- the map's own cell: its root, its size (n), its count of changes; its views, if there are any, are views of it -/
def TC (h : AH) (t n mc : Nat) (ro : Option Nat) : Prop := ∃ x0 x1 x6 x7 x8 : Value, h t = some (.inr (23, [x0, x1, .null, va_rf ro, .int (nI n), .int (nI mc), x6, x7, x8])) ∧ (x1 = .null ∨ ∃ v, x1 = .ref v ∧ h v = some (.inr (25, [.ref t]))) ∧ (x7 = .null ∨ ∃ v, x7 = .ref v ∧ h v = some (.inr (30, [.ref t])))
section MROWS
variable {G : GG} {X : CX} {cc : ByteArray} {nL : Nat} {own : String} {ret : Option FieldType} {d MC MS : Nat} {Q : State → Prop} {h : AH} {kc n : Nat} {L : LV} {st : List Value} {pc : Nat}
theorem V_ifnullM {A : Nat → Nat} (F : Fx G X cc nL own ret d MC MS) {o : Option Nat} {off : Int} {tgt : Nat} (hd : decode cc pc = .ok (.ifnull off, 3)) (ht : (pc : Int) + off = (tgt : Int)) (k1 : o = none → VV G X nL Q h kc n L st tgt) (k2 : ∀ i, o = some i → VV G X nL Q h kc n L st (pc + 3)) : VV G X nL Q h kc n L (va_rf (o.map A) :: st) pc := by
  cases o with
  | none => exact V_ifnullN F hd ht (k1 rfl)
  | some i => exact V_ifnull F hd (k2 i rfl)
theorem V_ifnonnullM {A : Nat → Nat} (F : Fx G X cc nL own ret d MC MS) {o : Option Nat} {off : Int} {tgt : Nat} (hd : decode cc pc = .ok (.ifnonnull off, 3)) (ht : (pc : Int) + off = (tgt : Int)) (k1 : ∀ i, o = some i → VV G X nL Q h kc n L st tgt) (k2 : o = none → VV G X nL Q h kc n L st (pc + 3)) : VV G X nL Q h kc n L (va_rf (o.map A) :: st) pc := by
  cases o with
  | none => exact V_ifnonnullN F hd (k2 rfl)
  | some i => exact V_ifnonnull F hd ht (k1 i rfl)
theorem map_eq {A : Nat → Nat} {n : Nat} (hA : AI n A) {o : Option Nat} {i : Nat} (ho : ∀ j, o = some j → j < n) (hi : i < n) (h : o.map A = some (A i)) : o = some i := by
  cases o with
  | none => cases h
  | some j => exact congrArg some (hA j i (ho j rfl) hi (Option.some.inj h))
theorem V_if_neC (F : Fx G X cc nL own ret d MC MS) {c : Bool} {off : Int} {tgt : Nat} (hd : decode cc pc = .ok (.ifCond .ne off, 3)) (ht : (pc : Int) + off = (tgt : Int)) (k1 : c = true → VV G X nL Q h kc n L st tgt) (k2 : c = false → VV G X nL Q h kc n L st (pc + 3)) : VV G X nL Q h kc n L (.int (cB c) :: st) pc := by
  cases c with
  | false => exact V_if_ne F hd ht (fun z => absurd (rfl : (cB false : Int32) = 0) z) (fun _ => k2 rfl)
  | true => exact V_if_ne F hd ht (fun _ => k1 rfl) (fun z => absurd z (by decide))
theorem V_icmp_ne1C (F : Fx G X cc nL own ret d MC MS) {c : Bool} {off : Int} {tgt : Nat} (hd : decode cc pc = .ok (.if_icmp .ne off, 3)) (ht : (pc : Int) + off = (tgt : Int)) (k1 : c = false → VV G X nL Q h kc n L st tgt) (k2 : c = true → VV G X nL Q h kc n L st (pc + 3)) : VV G X nL Q h kc n L (.int (nI 1) :: .int (cB c) :: st) pc := by
  cases c with
  | false => exact V_icmp_ne F hd ht (fun _ => k1 rfl) (fun z => absurd z (by decide))
  | true => exact V_icmp_ne F hd ht (fun z => absurd (rfl : (cB true : Int32) = nI 1) z) (fun _ => k2 rfl)
end MROWS

theorem WT.bL {n : Nat} {rt : Option Nat} {L R P : Nat → Option Nat} {lo hi : Nat → Nat} (hw : WT n rt L R P lo hi) {i j : Nat} (hi' : i < n) (h : L i = some j) : j < n := by have := hw.2.2.1 i j hi' h; omega
theorem WT.bR {n : Nat} {rt : Option Nat} {L R P : Nat → Option Nat} {lo hi : Nat → Nat} (hw : WT n rt L R P lo hi) {i j : Nat} (hi' : i < n) (h : R i = some j) : j < n := (hw.2.2.2.2.1 i j hi' h).2.1
theorem WT.bP {n : Nat} {rt : Option Nat} {L R P : Nat → Option Nat} {lo hi : Nat → Nat} (hw : WT n rt L R P lo hi) {i j : Nat} (hi' : i < n) (h : P i = some j) : j < n := (hw.2.2.2.2.2.2.1 i j hi' h).1
theorem vw_fr {M : Nat → Prop} {h h2 : AH} {c t : Nat} {x : Value} (hv : x = .null ∨ ∃ v, x = .ref v ∧ h v = some (.inr (c, [.ref t]))) (hx : Fr M h h2) (hc : vcl (.inr (c, [.ref t])) = true) : x = .null ∨ ∃ v, x = .ref v ∧ h2 v = some (.inr (c, [.ref t])) := hv.imp id (fun ⟨v, q1, q2⟩ => ⟨v, q1, hx.view q2 hc⟩)
/-- what rotateLeft does -/
def rlL (L P : Nat → Option Nat) (p r : Nat) : Nat → Option Nat := fun j => if j = r then some p else if P p = some j ∧ L j = some p then some r else L j
def rlR (L R P : Nat → Option Nat) (p r : Nat) : Nat → Option Nat := fun j => if j = p then L r else if P p = some j ∧ L j ≠ some p then some r else R j
def rlP (L P : Nat → Option Nat) (p r : Nat) : Nat → Option Nat := fun j => if j = p then some r else if j = r then P p else if L r = some j then some p else P j
def rrL (L R P : Nat → Option Nat) (p r : Nat) : Nat → Option Nat := fun j => if j = p then R r else if P p = some j ∧ R j ≠ some p then some r else L j
def rrR (R P : Nat → Option Nat) (p r : Nat) : Nat → Option Nat := fun j => if j = r then some p else if P p = some j ∧ R j = some p then some r else R j
def rrP (R P : Nat → Option Nat) (p r : Nat) : Nat → Option Nat := fun j => if j = p then some r else if j = r then P p else if R r = some j then some p else P j
/-- the colour of a node; of none: black -/
def cO (C : Nat → Bool) (o : Option Nat) : Bool := o.elim true C
def stC (C : Nat → Bool) (o : Option Nat) (c : Bool) : Nat → Bool := fun j => if o = some j then c else C j
theorem stC_upo {C : Nat → Bool} {i : Nat} {c : Bool} (j : Nat) : stC C (some i) c j = upo C i c j := by
  unfold stC upo
  by_cases q : j = i
  · subst q; simp
  · rw [if_neg q, if_neg (fun z => q (Option.some.inj z).symm)]
theorem WT.Pne {n : Nat} {rt : Option Nat} {L R P : Nat → Option Nat} {lo hi : Nat → Nat} (hw : WT n rt L R P lo hi) {p g : Nat} (hp : p < n) (hg : P p = some g) : p ≠ g := by
  obtain ⟨h1, h2⟩ := hw.2.2.2.2.2.2.1 p g hp hg
  rcases h2 with h2 | h2
  · have := hw.2.2.1 g p h1 h2; omega
  · have := hw.2.2.2.2.1 g p h1 h2; omega
theorem WT.Pin {n : Nat} {rt : Option Nat} {L R P : Nat → Option Nat} {lo hi : Nat → Nat} (hw : WT n rt L R P lo hi) {p g : Nat} (hp : p < n) (hg : P p = some g) : lo g ≤ lo p ∧ hi p ≤ hi g ∧ (g < lo p ∨ hi p ≤ g) := by
  obtain ⟨h1, h2⟩ := hw.2.2.2.2.2.2.1 p g hp hg
  have h3 := hw.1 g h1
  rcases h2 with h2 | h2
  · have := hw.2.2.1 g p h1 h2; omega
  · have := hw.2.2.2.2.1 g p h1 h2; omega
def mA (n : Nat) (A : Nat → Nat) : Nat → Prop := fun b => ∃ i, i < n ∧ b = A i
def roR (P : Nat → Option Nat) (rt : Option Nat) (p r : Nat) : Option Nat := if P p = none then some r else rt

theorem ct_parentOf {G : GG} {l : Launch} {h : AH} {n : Nat} {A K V : Nat → Nat} {L R P : Nat → Option Nat} {C : Nat → Bool} {o : Option Nat} (hT : TN h n A K V L R P C) (ho : ∀ i, o = some i → i < n) : Ct G l yJ10_parentOf cJ10_parentOf 1 (some (.object "java/util/TreeMap$Entry")) 0 (0) (0) [va_rf (o.map A)] h (PR (va_rf ((o.bind P).map A)) h) := by
  refine Ct.of (by decide) (by cases o <;> exact Nat.le_refl 1) (fun v hv => by rw [List.mem_singleton.mp hv]; exact cat_rf _) (fun X hXl F HN => ?_)
  subst hXl
  refine V_aload_nQ (i := 0) F dJ10_parentOf_0 rfl rfl ?_
  refine V_ifnonnullM (tgt := 8) F dJ10_parentOf_1 (by decide) (fun i qi => ?_) (fun qi => ?_)
  · have hi : i < n := ho i qi
    refine VV.loc (L' := [some (.ref (A i))]) (by rw [qi]; rfl) ?_
    refine V_aload_n (i := 0) F dJ10_parentOf_8 rfl rfl ?_
    refine V_getf F dJ10_parentOf_9 fc_J10_124_J41 (.inl (hT i hi)) rfl ?_
    exact V_aret F dJ10_parentOf_12 (Or.inl ⟨_, rfl⟩) (rf_or _) (by first | exact Nat.le_of_ble_eq_true rfl | omega) (by first | exact Nat.le_of_ble_eq_true rfl | omega) ⟨by rw [show o = _ from qi]; rfl, rfl⟩
  · refine VV.loc (L' := [some (.null)]) (by rw [qi]; rfl) ?_
    refine V_null F dJ10_parentOf_4 ?_
    refine V_goto (tgt := 12) F dJ10_parentOf_5 (by decide) ?_
    exact V_aret F dJ10_parentOf_12 (Or.inl ⟨_, rfl⟩) (Or.inl rfl) (by first | exact Nat.le_of_ble_eq_true rfl | omega) (by first | exact Nat.le_of_ble_eq_true rfl | omega) ⟨by rw [show o = _ from qi]; rfl, rfl⟩
theorem ct_leftOf {G : GG} {l : Launch} {h : AH} {n : Nat} {A K V : Nat → Nat} {L R P : Nat → Option Nat} {C : Nat → Bool} {o : Option Nat} (hT : TN h n A K V L R P C) (ho : ∀ i, o = some i → i < n) : Ct G l yJ10_leftOf cJ10_leftOf 1 (some (.object "java/util/TreeMap$Entry")) 0 (0) (0) [va_rf (o.map A)] h (PR (va_rf ((o.bind L).map A)) h) := by
  refine Ct.of (by decide) (by cases o <;> exact Nat.le_refl 1) (fun v hv => by rw [List.mem_singleton.mp hv]; exact cat_rf _) (fun X hXl F HN => ?_)
  subst hXl
  refine V_aload_nQ (i := 0) F dJ10_leftOf_0 rfl rfl ?_
  refine V_ifnonnullM (tgt := 8) F dJ10_leftOf_1 (by decide) (fun i qi => ?_) (fun qi => ?_)
  · have hi : i < n := ho i qi
    refine VV.loc (L' := [some (.ref (A i))]) (by rw [qi]; rfl) ?_
    refine V_aload_n (i := 0) F dJ10_leftOf_8 rfl rfl ?_
    refine V_getf F dJ10_leftOf_9 fc_J10_111_J41 (.inl (hT i hi)) rfl ?_
    exact V_aret F dJ10_leftOf_12 (Or.inl ⟨_, rfl⟩) (rf_or _) (by first | exact Nat.le_of_ble_eq_true rfl | omega) (by first | exact Nat.le_of_ble_eq_true rfl | omega) ⟨by rw [show o = _ from qi]; rfl, rfl⟩
  · refine VV.loc (L' := [some (.null)]) (by rw [qi]; rfl) ?_
    refine V_null F dJ10_leftOf_4 ?_
    refine V_goto (tgt := 12) F dJ10_leftOf_5 (by decide) ?_
    exact V_aret F dJ10_leftOf_12 (Or.inl ⟨_, rfl⟩) (Or.inl rfl) (by first | exact Nat.le_of_ble_eq_true rfl | omega) (by first | exact Nat.le_of_ble_eq_true rfl | omega) ⟨by rw [show o = _ from qi]; rfl, rfl⟩
theorem ct_rightOf {G : GG} {l : Launch} {h : AH} {n : Nat} {A K V : Nat → Nat} {L R P : Nat → Option Nat} {C : Nat → Bool} {o : Option Nat} (hT : TN h n A K V L R P C) (ho : ∀ i, o = some i → i < n) : Ct G l yJ10_rightOf cJ10_rightOf 1 (some (.object "java/util/TreeMap$Entry")) 0 (0) (0) [va_rf (o.map A)] h (PR (va_rf ((o.bind R).map A)) h) := by
  refine Ct.of (by decide) (by cases o <;> exact Nat.le_refl 1) (fun v hv => by rw [List.mem_singleton.mp hv]; exact cat_rf _) (fun X hXl F HN => ?_)
  subst hXl
  refine V_aload_nQ (i := 0) F dJ10_rightOf_0 rfl rfl ?_
  refine V_ifnonnullM (tgt := 8) F dJ10_rightOf_1 (by decide) (fun i qi => ?_) (fun qi => ?_)
  · have hi : i < n := ho i qi
    refine VV.loc (L' := [some (.ref (A i))]) (by rw [qi]; rfl) ?_
    refine V_aload_n (i := 0) F dJ10_rightOf_8 rfl rfl ?_
    refine V_getf F dJ10_rightOf_9 fc_J10_114_J41 (.inl (hT i hi)) rfl ?_
    exact V_aret F dJ10_rightOf_12 (Or.inl ⟨_, rfl⟩) (rf_or _) (by first | exact Nat.le_of_ble_eq_true rfl | omega) (by first | exact Nat.le_of_ble_eq_true rfl | omega) ⟨by rw [show o = _ from qi]; rfl, rfl⟩
  · refine VV.loc (L' := [some (.null)]) (by rw [qi]; rfl) ?_
    refine V_null F dJ10_rightOf_4 ?_
    refine V_goto (tgt := 12) F dJ10_rightOf_5 (by decide) ?_
    exact V_aret F dJ10_rightOf_12 (Or.inl ⟨_, rfl⟩) (Or.inl rfl) (by first | exact Nat.le_of_ble_eq_true rfl | omega) (by first | exact Nat.le_of_ble_eq_true rfl | omega) ⟨by rw [show o = _ from qi]; rfl, rfl⟩
theorem ct_colorOf {G : GG} {l : Launch} {h : AH} {n : Nat} {A K V : Nat → Nat} {L R P : Nat → Option Nat} {C : Nat → Bool} {o : Option Nat} (hT : TN h n A K V L R P C) (ho : ∀ i, o = some i → i < n) : Ct G l yJ10_colorOf cJ10_colorOf 1 (some .boolean) 0 (0) (0) [va_rf (o.map A)] h (PR (.int (cB (cO C o))) h) := by
  refine Ct.of (by decide) (by cases o <;> exact Nat.le_refl 1) (fun v hv => by rw [List.mem_singleton.mp hv]; exact cat_rf _) (fun X hXl F HN => ?_)
  subst hXl
  refine V_aload_nQ (i := 0) F dJ10_colorOf_0 rfl rfl ?_
  refine V_ifnonnullM (tgt := 8) F dJ10_colorOf_1 (by decide) (fun i qi => ?_) (fun qi => ?_)
  · have hi : i < n := ho i qi
    refine VV.loc (L' := [some (.ref (A i))]) (by rw [qi]; rfl) ?_
    refine V_aload_n (i := 0) F dJ10_colorOf_8 rfl rfl ?_
    refine V_getf F dJ10_colorOf_9 fc_J10_290_J41 (.inl (hT i hi)) rfl ?_
    exact V_iret F dJ10_colorOf_12 (nar_cB _) (by first | exact Nat.le_of_ble_eq_true rfl | omega) (by first | exact Nat.le_of_ble_eq_true rfl | omega) ⟨by rw [show o = _ from qi]; rfl, rfl⟩
  · refine VV.loc (L' := [some (.null)]) (by rw [qi]; rfl) ?_
    refine V_iconst (v := nI 1) F dJ10_colorOf_4 rfl ?_
    refine V_goto (tgt := 12) F dJ10_colorOf_5 (by decide) ?_
    exact V_iret F dJ10_colorOf_12 rfl (by first | exact Nat.le_of_ble_eq_true rfl | omega) (by first | exact Nat.le_of_ble_eq_true rfl | omega) ⟨by rw [show o = _ from qi]; rfl, rfl⟩
theorem ct_setColor {G : GG} {l : Launch} {h : AH} {n : Nat} {A K V : Nat → Nat} {L R P : Nat → Option Nat} {C : Nat → Bool} {o : Option Nat} {c : Bool} (hT : TN h n A K V L R P C) (hAI : AI n A) (ho : ∀ i, o = some i → i < n) : Ct G l yJ10_setColor cJ10_setColor 2 none 0 (0) (0) [va_rf (o.map A), .int (cB c)] h (fun r0 h2 => r0 = none ∧ TN h2 n A K V L R P (stC C o c) ∧ Fr (mA n A) h h2 ∧ ∀ b, (∀ i, i < n → b ≠ A i) → h2 b = h b) := by
  refine Ct.of (by decide) (by cases o <;> exact Nat.le_refl 2) (fun v hv => by rcases List.mem_cons.mp hv with q | q; rw [q]; exact cat_rf _; rw [List.mem_singleton.mp q]; rfl) (fun X hXl F HN => ?_)
  subst hXl
  refine V_aload_nQ (i := 0) F dJ10_setColor_0 rfl rfl ?_
  refine V_ifnullM (tgt := 9) F dJ10_setColor_1 (by decide) (fun qi => ?_) (fun i qi => ?_)
  · refine VV.loc (L' := [some (.null), some (.int (cB (c)))]) (by rw [qi]; rfl) ?_
    exact V_vret F dJ10_setColor_9 (by first | exact Nat.le_of_ble_eq_true rfl | omega) (by first | exact Nat.le_of_ble_eq_true rfl | omega) ⟨rfl, hT.ext (fun _ => rfl) (fun _ => rfl) (fun _ => rfl) (fun j => by unfold stC; rw [qi]; exact if_neg (fun z => by cases z)), Fr.rf, fun _ _ => rfl⟩
  · have hi : i < n := ho i qi
    refine VV.loc (L' := [some (.ref (A i)), some (.int (cB (c)))]) (by rw [qi]; rfl) ?_
    refine V_aload_n (i := 0) F dJ10_setColor_4 rfl rfl ?_
    refine V_iload_n (i := 1) F dJ10_setColor_5 rfl rfl ?_
    refine VV.stk (st' := .int (cB c) :: .ref (A i) :: []) rfl ?_
    refine V_putf F dJ10_setColor_6 fp_J10_290_J41 (hT i hi) (nar_cB _) (fit_cB _) (Nat.le_of_ble_eq_true rfl) ?_
    have hT1 := hT.putC (o := c) hAI hi
    exact V_vret F dJ10_setColor_9 (by first | exact Nat.le_of_ble_eq_true rfl | omega) (by first | exact Nat.le_of_ble_eq_true rfl | omega) ⟨rfl, hT1.ext (fun _ => rfl) (fun _ => rfl) (fun _ => rfl) (fun j => by rw [qi]; exact stC_upo j), ((Fr.rf (M := mA n A) (h := h)).put (x := .inr (24, (ndc A K V L R P C i).set 5 (.int (cB c)))) (hT i hi) rfl rfl (Or.inl ⟨i, hi, rfl⟩)), fun b hb => hset_ne (hb i hi)⟩
theorem ct_rotateLeft {G : GG} {l : Launch} {h : AH} {t n mc nz : Nat} {A K V : Nat → Nat} {L R P : Nat → Option Nat} {C : Nat → Bool} {rt : Option Nat} {lo hi : Nat → Nat} {p r : Nat} (hC : TC h t nz mc (rt.map A)) (hT : TN h n A K V L R P C) (hAI : AI n A) (hw : WT n rt L R P lo hi) (hp : p < n) (hr : R p = some r) : Ct G l yJ10_rotateLeft cJ10_rotateLeft 3 none 0 (0) (0) [.ref t, .ref (A p)] h (fun r0 h2 => r0 = none ∧ TC h2 t nz mc ((roR P rt p r).map A) ∧ TN h2 n A K V (rlL L P p r) (rlR L R P p r) (rlP L P p r) C ∧ Fr (mT t n A) h h2) := by
  refine Ct.of (by decide) (Nat.le_of_ble_eq_true rfl) (cat1 rfl) (fun X hXl F HN => ?_)
  subst hXl
  obtain ⟨x0, x1, x6, x7, x8, ht, hv1, hv7⟩ := id hC
  have hr2 : r < n := hw.bR hp hr
  have hpr : p ≠ r := by have := hw.2.2.2.2.1 p r hp hr; omega
  refine V_aload_n (i := 1) F dJ10_rotateLeft_0 rfl rfl ?_
  refine V_ifnull F dJ10_rotateLeft_1 ?_
  refine V_aload_n (i := 1) F dJ10_rotateLeft_4 rfl rfl ?_
  refine V_getf F dJ10_rotateLeft_5 fc_J10_114_J41 (.inl (hT p hp)) rfl ?_
  refine VV.stk (st' := [.ref (A r)]) (by first | (rw [hr]; rfl) | rw [hr]) ?_
  refine V_astore_n (i := 2) F dJ10_rotateLeft_8 rfl (Nat.le_of_ble_eq_true rfl) (Nat.le_of_ble_eq_true rfl) ?_
  refine V_aload_n (i := 1) F dJ10_rotateLeft_9 rfl rfl ?_
  refine V_aload_n (i := 2) F dJ10_rotateLeft_10 rfl rfl ?_
  refine V_getf F dJ10_rotateLeft_11 fc_J10_111_J41 (.inl (hT r hr2)) rfl ?_
  refine VV.stk (st' := va_rf ((L r).map A) :: .ref (A p) :: []) rfl ?_
  refine V_putf F dJ10_rotateLeft_14 fp_J10_114_J41 (hT p hp) (nar_rfO _ _) (fit_rfO _ _) (Nat.le_of_ble_eq_true rfl) ?_
  have hT1 := hT.putR (o := L r) hAI hp
  refine V_aload_n (i := 2) F dJ10_rotateLeft_17 rfl rfl ?_
  refine V_getf F dJ10_rotateLeft_18 fc_J10_111_J41 (.inl (hT1 r hr2)) rfl ?_
  refine V_ifnullM (tgt := 32) F dJ10_rotateLeft_21 (by decide) (fun qq => ?_) (fun q qq => ?_)
  · refine V_aload_n (i := 2) F dJ10_rotateLeft_32 rfl rfl ?_
    refine V_aload_n (i := 1) F dJ10_rotateLeft_33 rfl rfl ?_
    refine V_getf F dJ10_rotateLeft_34 fc_J10_124_J41 (.inl (hT1 p hp)) rfl ?_
    refine VV.stk (st' := va_rf ((P p).map A) :: .ref (A r) :: []) rfl ?_
    refine V_putf F dJ10_rotateLeft_37 fp_J10_124_J41 (hT1 r hr2) (nar_rfO _ _) (fit_rfO _ _) (Nat.le_of_ble_eq_true rfl) ?_
    have hT2 := hT1.putP (o := P p) hAI hr2
    refine V_aload_n (i := 1) F dJ10_rotateLeft_40 rfl rfl ?_
    refine V_getf F dJ10_rotateLeft_41 fc_J10_124_J41 (.inl (hT2 p hp)) rfl ?_
    refine VV.stk (st' := [va_rf ((P p).map A)]) (by first | (rw [(upo_n hpr)]; rfl) | rw [(upo_n hpr)]) ?_
    refine V_ifnonnullM (tgt := 55) F dJ10_rotateLeft_44 (by decide) (fun g qg => ?_) (fun qg => ?_)
    · have hg : g < n := hw.bP hp qg
      refine V_aload_n (i := 1) F dJ10_rotateLeft_55 rfl rfl ?_
      refine V_getf F dJ10_rotateLeft_56 fc_J10_124_J41 (.inl (hT2 p hp)) rfl ?_
      refine VV.stk (st' := [.ref (A g)]) (by first | (rw [((upo_n hpr).trans qg)]; rfl) | rw [((upo_n hpr).trans qg)]) ?_
      refine V_getf F dJ10_rotateLeft_59 fc_J10_111_J41 (.inl (hT2 g hg)) rfl ?_
      refine V_aload_n (i := 1) F dJ10_rotateLeft_62 rfl rfl ?_
      refine V_acmp_ne (rx := (L g).map A) (ry := some (A p)) (tgt := 77) F dJ10_rotateLeft_63 (by decide) (fun c_63 => ?_) (fun c_63 => ?_)
      · refine V_aload_n (i := 1) F dJ10_rotateLeft_77 rfl rfl ?_
        refine V_getf F dJ10_rotateLeft_78 fc_J10_124_J41 (.inl (hT2 p hp)) rfl ?_
        refine VV.stk (st' := [.ref (A g)]) (by first | (rw [((upo_n hpr).trans qg)]; rfl) | rw [((upo_n hpr).trans qg)]) ?_
        refine V_aload_n (i := 2) F dJ10_rotateLeft_81 rfl rfl ?_
        refine VV.stk (st' := va_rf ((some r).map A) :: .ref (A g) :: []) rfl ?_
        refine V_putf F dJ10_rotateLeft_82 fp_J10_114_J41 (hT2 g hg) (nar_rfO _ _) (fit_rfO _ _) (Nat.le_of_ble_eq_true rfl) ?_
        have hT3 := hT2.putR (o := some r) hAI hg
        refine V_aload_n (i := 2) F dJ10_rotateLeft_85 rfl rfl ?_
        refine V_aload_n (i := 1) F dJ10_rotateLeft_86 rfl rfl ?_
        refine VV.stk (st' := va_rf ((some p).map A) :: .ref (A r) :: []) rfl ?_
        refine V_putf F dJ10_rotateLeft_87 fp_J10_111_J41 (hT3 r hr2) (nar_rfO _ _) (fit_rfO _ _) (Nat.le_of_ble_eq_true rfl) ?_
        have hT4 := hT3.putL (o := some p) hAI hr2
        refine V_aload_n (i := 1) F dJ10_rotateLeft_90 rfl rfl ?_
        refine V_aload_n (i := 2) F dJ10_rotateLeft_91 rfl rfl ?_
        refine VV.stk (st' := va_rf ((some r).map A) :: .ref (A p) :: []) rfl ?_
        refine V_putf F dJ10_rotateLeft_92 fp_J10_124_J41 (hT4 p hp) (nar_rfO _ _) (fit_rfO _ _) (Nat.le_of_ble_eq_true rfl) ?_
        have hT5 := hT4.putP (o := some r) hAI hp
        have hfr := ((((((Fr.rf (M := mT t n A) (h := h)).put (x := .inr (24, (ndc A K V L R P C p).set 3 (va_rf ((L r).map A)))) (hT p hp) rfl rfl (Or.inl (Or.inr ⟨p, hp, rfl⟩))).put (x := .inr (24, (ndc A K V L (upo R p (L r)) P C r).set 4 (va_rf ((P p).map A)))) (hT1 r hr2) rfl rfl (Or.inl (Or.inr ⟨r, hr2, rfl⟩))).put (x := .inr (24, (ndc A K V L (upo R p (L r)) (upo P r (P p)) C g).set 3 (va_rf ((some r).map A)))) (hT2 g hg) rfl rfl (Or.inl (Or.inr ⟨g, hg, rfl⟩))).put (x := .inr (24, (ndc A K V L (upo (upo R p (L r)) g (some r)) (upo P r (P p)) C r).set 2 (va_rf ((some p).map A)))) (hT3 r hr2) rfl rfl (Or.inl (Or.inr ⟨r, hr2, rfl⟩))).put (x := .inr (24, (ndc A K V (upo L r (some p)) (upo (upo R p (L r)) g (some r)) (upo P r (P p)) C p).set 4 (va_rf ((some r).map A)))) (hT4 p hp) rfl rfl (Or.inl (Or.inr ⟨p, hp, rfl⟩)))
        have hcg : (L g).map A = some (A p) ↔ L g = some p := ⟨fun z => map_eq hAI (fun j hj => hw.bL hg hj) hp z, fun z => by rw [z]; rfl⟩
        first | rw [hcg] at c_63 | rw [ne_eq, hcg] at c_63
        have hpg := hw.Pne hp qg
        have hpi := hw.Pin hp qg
        have hp1 := hw.1 p hp
        have hr1 := hw.1 r hr2
        have hpc := hw.2.2.2.2.1 p r hp hr
        have hgr : g ≠ r := by omega
        have hTf := hT5.ext (L2 := rlL L P p r) (R2 := rlR L R P p r) (P2 := rlP L P p r) (C2 := C) (fun j => by unfold rlL; grind [upo]) (fun j => by unfold rlR; grind [upo]) (fun j => by unfold rlP; grind [upo]) (fun j => rfl)
        have hro : roR P rt p r = rt := by unfold roR; rw [if_neg (by rw [qg]; exact fun z => nomatch z)]
        exact V_vret F dJ10_rotateLeft_95 (by first | exact Nat.le_of_ble_eq_true rfl | omega) (by first | exact Nat.le_of_ble_eq_true rfl | omega) ⟨rfl, ⟨x0, x1, x6, x7, x8, by rw [hro]; exact ((hset_ne (ne_oo ((hset_ne (ne_oo ((hset_ne (ne_oo ((hset_ne (ne_oo ((hset_ne (ne_oo ht (hT p hp) (by decide))).trans ht) (hT1 r hr2) (by decide))).trans ((hset_ne (ne_oo ht (hT p hp) (by decide))).trans ht)) (hT2 g hg) (by decide))).trans ((hset_ne (ne_oo ((hset_ne (ne_oo ht (hT p hp) (by decide))).trans ht) (hT1 r hr2) (by decide))).trans ((hset_ne (ne_oo ht (hT p hp) (by decide))).trans ht))) (hT3 r hr2) (by decide))).trans ((hset_ne (ne_oo ((hset_ne (ne_oo ((hset_ne (ne_oo ht (hT p hp) (by decide))).trans ht) (hT1 r hr2) (by decide))).trans ((hset_ne (ne_oo ht (hT p hp) (by decide))).trans ht)) (hT2 g hg) (by decide))).trans ((hset_ne (ne_oo ((hset_ne (ne_oo ht (hT p hp) (by decide))).trans ht) (hT1 r hr2) (by decide))).trans ((hset_ne (ne_oo ht (hT p hp) (by decide))).trans ht)))) (hT4 p hp) (by decide))).trans ((hset_ne (ne_oo ((hset_ne (ne_oo ((hset_ne (ne_oo ((hset_ne (ne_oo ht (hT p hp) (by decide))).trans ht) (hT1 r hr2) (by decide))).trans ((hset_ne (ne_oo ht (hT p hp) (by decide))).trans ht)) (hT2 g hg) (by decide))).trans ((hset_ne (ne_oo ((hset_ne (ne_oo ht (hT p hp) (by decide))).trans ht) (hT1 r hr2) (by decide))).trans ((hset_ne (ne_oo ht (hT p hp) (by decide))).trans ht))) (hT3 r hr2) (by decide))).trans ((hset_ne (ne_oo ((hset_ne (ne_oo ((hset_ne (ne_oo ht (hT p hp) (by decide))).trans ht) (hT1 r hr2) (by decide))).trans ((hset_ne (ne_oo ht (hT p hp) (by decide))).trans ht)) (hT2 g hg) (by decide))).trans ((hset_ne (ne_oo ((hset_ne (ne_oo ht (hT p hp) (by decide))).trans ht) (hT1 r hr2) (by decide))).trans ((hset_ne (ne_oo ht (hT p hp) (by decide))).trans ht))))), vw_fr hv1 hfr rfl, vw_fr hv7 hfr rfl⟩, hTf, hfr⟩
      · refine V_aload_n (i := 1) F dJ10_rotateLeft_66 rfl rfl ?_
        refine V_getf F dJ10_rotateLeft_67 fc_J10_124_J41 (.inl (hT2 p hp)) rfl ?_
        refine VV.stk (st' := [.ref (A g)]) (by first | (rw [((upo_n hpr).trans qg)]; rfl) | rw [((upo_n hpr).trans qg)]) ?_
        refine V_aload_n (i := 2) F dJ10_rotateLeft_70 rfl rfl ?_
        refine VV.stk (st' := va_rf ((some r).map A) :: .ref (A g) :: []) rfl ?_
        refine V_putf F dJ10_rotateLeft_71 fp_J10_111_J41 (hT2 g hg) (nar_rfO _ _) (fit_rfO _ _) (Nat.le_of_ble_eq_true rfl) ?_
        have hT6 := hT2.putL (o := some r) hAI hg
        refine V_goto (tgt := 85) F dJ10_rotateLeft_74 (by decide) ?_
        refine V_aload_n (i := 2) F dJ10_rotateLeft_85 rfl rfl ?_
        refine V_aload_n (i := 1) F dJ10_rotateLeft_86 rfl rfl ?_
        refine VV.stk (st' := va_rf ((some p).map A) :: .ref (A r) :: []) rfl ?_
        refine V_putf F dJ10_rotateLeft_87 fp_J10_111_J41 (hT6 r hr2) (nar_rfO _ _) (fit_rfO _ _) (Nat.le_of_ble_eq_true rfl) ?_
        have hT7 := hT6.putL (o := some p) hAI hr2
        refine V_aload_n (i := 1) F dJ10_rotateLeft_90 rfl rfl ?_
        refine V_aload_n (i := 2) F dJ10_rotateLeft_91 rfl rfl ?_
        refine VV.stk (st' := va_rf ((some r).map A) :: .ref (A p) :: []) rfl ?_
        refine V_putf F dJ10_rotateLeft_92 fp_J10_124_J41 (hT7 p hp) (nar_rfO _ _) (fit_rfO _ _) (Nat.le_of_ble_eq_true rfl) ?_
        have hT8 := hT7.putP (o := some r) hAI hp
        have hfr := ((((((Fr.rf (M := mT t n A) (h := h)).put (x := .inr (24, (ndc A K V L R P C p).set 3 (va_rf ((L r).map A)))) (hT p hp) rfl rfl (Or.inl (Or.inr ⟨p, hp, rfl⟩))).put (x := .inr (24, (ndc A K V L (upo R p (L r)) P C r).set 4 (va_rf ((P p).map A)))) (hT1 r hr2) rfl rfl (Or.inl (Or.inr ⟨r, hr2, rfl⟩))).put (x := .inr (24, (ndc A K V L (upo R p (L r)) (upo P r (P p)) C g).set 2 (va_rf ((some r).map A)))) (hT2 g hg) rfl rfl (Or.inl (Or.inr ⟨g, hg, rfl⟩))).put (x := .inr (24, (ndc A K V (upo L g (some r)) (upo R p (L r)) (upo P r (P p)) C r).set 2 (va_rf ((some p).map A)))) (hT6 r hr2) rfl rfl (Or.inl (Or.inr ⟨r, hr2, rfl⟩))).put (x := .inr (24, (ndc A K V (upo (upo L g (some r)) r (some p)) (upo R p (L r)) (upo P r (P p)) C p).set 4 (va_rf ((some r).map A)))) (hT7 p hp) rfl rfl (Or.inl (Or.inr ⟨p, hp, rfl⟩)))
        have hcg : (L g).map A = some (A p) ↔ L g = some p := ⟨fun z => map_eq hAI (fun j hj => hw.bL hg hj) hp z, fun z => by rw [z]; rfl⟩
        first | rw [hcg] at c_63 | rw [ne_eq, hcg] at c_63
        have hpg := hw.Pne hp qg
        have hpi := hw.Pin hp qg
        have hp1 := hw.1 p hp
        have hr1 := hw.1 r hr2
        have hpc := hw.2.2.2.2.1 p r hp hr
        have hgr : g ≠ r := by omega
        have hTf := hT8.ext (L2 := rlL L P p r) (R2 := rlR L R P p r) (P2 := rlP L P p r) (C2 := C) (fun j => by unfold rlL; grind [upo]) (fun j => by unfold rlR; grind [upo]) (fun j => by unfold rlP; grind [upo]) (fun j => rfl)
        have hro : roR P rt p r = rt := by unfold roR; rw [if_neg (by rw [qg]; exact fun z => nomatch z)]
        exact V_vret F dJ10_rotateLeft_95 (by first | exact Nat.le_of_ble_eq_true rfl | omega) (by first | exact Nat.le_of_ble_eq_true rfl | omega) ⟨rfl, ⟨x0, x1, x6, x7, x8, by rw [hro]; exact ((hset_ne (ne_oo ((hset_ne (ne_oo ((hset_ne (ne_oo ((hset_ne (ne_oo ((hset_ne (ne_oo ht (hT p hp) (by decide))).trans ht) (hT1 r hr2) (by decide))).trans ((hset_ne (ne_oo ht (hT p hp) (by decide))).trans ht)) (hT2 g hg) (by decide))).trans ((hset_ne (ne_oo ((hset_ne (ne_oo ht (hT p hp) (by decide))).trans ht) (hT1 r hr2) (by decide))).trans ((hset_ne (ne_oo ht (hT p hp) (by decide))).trans ht))) (hT6 r hr2) (by decide))).trans ((hset_ne (ne_oo ((hset_ne (ne_oo ((hset_ne (ne_oo ht (hT p hp) (by decide))).trans ht) (hT1 r hr2) (by decide))).trans ((hset_ne (ne_oo ht (hT p hp) (by decide))).trans ht)) (hT2 g hg) (by decide))).trans ((hset_ne (ne_oo ((hset_ne (ne_oo ht (hT p hp) (by decide))).trans ht) (hT1 r hr2) (by decide))).trans ((hset_ne (ne_oo ht (hT p hp) (by decide))).trans ht)))) (hT7 p hp) (by decide))).trans ((hset_ne (ne_oo ((hset_ne (ne_oo ((hset_ne (ne_oo ((hset_ne (ne_oo ht (hT p hp) (by decide))).trans ht) (hT1 r hr2) (by decide))).trans ((hset_ne (ne_oo ht (hT p hp) (by decide))).trans ht)) (hT2 g hg) (by decide))).trans ((hset_ne (ne_oo ((hset_ne (ne_oo ht (hT p hp) (by decide))).trans ht) (hT1 r hr2) (by decide))).trans ((hset_ne (ne_oo ht (hT p hp) (by decide))).trans ht))) (hT6 r hr2) (by decide))).trans ((hset_ne (ne_oo ((hset_ne (ne_oo ((hset_ne (ne_oo ht (hT p hp) (by decide))).trans ht) (hT1 r hr2) (by decide))).trans ((hset_ne (ne_oo ht (hT p hp) (by decide))).trans ht)) (hT2 g hg) (by decide))).trans ((hset_ne (ne_oo ((hset_ne (ne_oo ht (hT p hp) (by decide))).trans ht) (hT1 r hr2) (by decide))).trans ((hset_ne (ne_oo ht (hT p hp) (by decide))).trans ht))))), vw_fr hv1 hfr rfl, vw_fr hv7 hfr rfl⟩, hTf, hfr⟩
    · refine V_aload_n (i := 0) F dJ10_rotateLeft_47 rfl rfl ?_
      refine V_aload_n (i := 2) F dJ10_rotateLeft_48 rfl rfl ?_
      refine V_putf F dJ10_rotateLeft_49 fp_J10_101_J10 ((hset_ne (ne_oo ((hset_ne (ne_oo ht (hT p hp) (by decide))).trans ht) (hT1 r hr2) (by decide))).trans ((hset_ne (ne_oo ht (hT p hp) (by decide))).trans ht)) rfl rfl (Nat.le_of_ble_eq_true rfl) ?_
      refine VV.heap (h' := (hset (hset (hset h (A p) (.inr (24, (ndc A K V L R P C p).set 3 (va_rf ((L r).map A))))) (A r) (.inr (24, (ndc A K V L (upo R p (L r)) P C r).set 4 (va_rf ((P p).map A))))) (t) (.inr (23, [x0, x1, .null, .ref (A r), .int (nI (nz)), .int (nI (mc)), x6, x7, x8])))) rfl ?_
      refine V_goto (tgt := 85) F dJ10_rotateLeft_52 (by decide) ?_
      refine V_aload_n (i := 2) F dJ10_rotateLeft_85 rfl rfl ?_
      refine V_aload_n (i := 1) F dJ10_rotateLeft_86 rfl rfl ?_
      refine VV.stk (st' := va_rf ((some p).map A) :: .ref (A r) :: []) rfl ?_
      refine V_putf F dJ10_rotateLeft_87 fp_J10_111_J41 ((hT2.oth (x := .inr (23, [x0, x1, .null, .ref (A r), .int (nI (nz)), .int (nI (mc)), x6, x7, x8])) ((hset_ne (ne_oo ((hset_ne (ne_oo ht (hT p hp) (by decide))).trans ht) (hT1 r hr2) (by decide))).trans ((hset_ne (ne_oo ht (hT p hp) (by decide))).trans ht)) (by decide)) r hr2) (nar_rfO _ _) (fit_rfO _ _) (Nat.le_of_ble_eq_true rfl) ?_
      have hT9 := ((hT2.oth (x := .inr (23, [x0, x1, .null, .ref (A r), .int (nI (nz)), .int (nI (mc)), x6, x7, x8])) ((hset_ne (ne_oo ((hset_ne (ne_oo ht (hT p hp) (by decide))).trans ht) (hT1 r hr2) (by decide))).trans ((hset_ne (ne_oo ht (hT p hp) (by decide))).trans ht)) (by decide))).putL (o := some p) hAI hr2
      refine V_aload_n (i := 1) F dJ10_rotateLeft_90 rfl rfl ?_
      refine V_aload_n (i := 2) F dJ10_rotateLeft_91 rfl rfl ?_
      refine VV.stk (st' := va_rf ((some r).map A) :: .ref (A p) :: []) rfl ?_
      refine V_putf F dJ10_rotateLeft_92 fp_J10_124_J41 (hT9 p hp) (nar_rfO _ _) (fit_rfO _ _) (Nat.le_of_ble_eq_true rfl) ?_
      have hT10 := hT9.putP (o := some r) hAI hp
      have hfr := ((((((Fr.rf (M := mT t n A) (h := h)).put (x := .inr (24, (ndc A K V L R P C p).set 3 (va_rf ((L r).map A)))) (hT p hp) rfl rfl (Or.inl (Or.inr ⟨p, hp, rfl⟩))).put (x := .inr (24, (ndc A K V L (upo R p (L r)) P C r).set 4 (va_rf ((P p).map A)))) (hT1 r hr2) rfl rfl (Or.inl (Or.inr ⟨r, hr2, rfl⟩))).put (x := .inr (23, [x0, x1, .null, .ref (A r), .int (nI (nz)), .int (nI (mc)), x6, x7, x8])) ((hset_ne (ne_oo ((hset_ne (ne_oo ht (hT p hp) (by decide))).trans ht) (hT1 r hr2) (by decide))).trans ((hset_ne (ne_oo ht (hT p hp) (by decide))).trans ht)) rfl rfl (Or.inl (Or.inl rfl))).put (x := .inr (24, (ndc A K V L (upo R p (L r)) (upo P r (P p)) C r).set 2 (va_rf ((some p).map A)))) ((hT2.oth (x := .inr (23, [x0, x1, .null, .ref (A r), .int (nI (nz)), .int (nI (mc)), x6, x7, x8])) ((hset_ne (ne_oo ((hset_ne (ne_oo ht (hT p hp) (by decide))).trans ht) (hT1 r hr2) (by decide))).trans ((hset_ne (ne_oo ht (hT p hp) (by decide))).trans ht)) (by decide)) r hr2) rfl rfl (Or.inl (Or.inr ⟨r, hr2, rfl⟩))).put (x := .inr (24, (ndc A K V (upo L r (some p)) (upo R p (L r)) (upo P r (P p)) C p).set 4 (va_rf ((some r).map A)))) (hT9 p hp) rfl rfl (Or.inl (Or.inr ⟨p, hp, rfl⟩)))
      have hr1 := hw.1 r hr2
      have hTf := hT10.ext (L2 := rlL L P p r) (R2 := rlR L R P p r) (P2 := rlP L P p r) (C2 := C) (fun j => by unfold rlL; grind [upo]) (fun j => by unfold rlR; grind [upo]) (fun j => by unfold rlP; grind [upo]) (fun j => rfl)
      have hro : roR P rt p r = some r := by unfold roR; rw [if_pos qg]
      exact V_vret F dJ10_rotateLeft_95 (by first | exact Nat.le_of_ble_eq_true rfl | omega) (by first | exact Nat.le_of_ble_eq_true rfl | omega) ⟨rfl, ⟨x0, x1, x6, x7, x8, by rw [hro]; exact ((hset_ne (ne_oo ((hset_ne (ne_oo (hset_self (e := .inr (23, [x0, x1, .null, .ref (A r), .int (nI (nz)), .int (nI (mc)), x6, x7, x8]))) ((hT2.oth (x := .inr (23, [x0, x1, .null, .ref (A r), .int (nI (nz)), .int (nI (mc)), x6, x7, x8])) ((hset_ne (ne_oo ((hset_ne (ne_oo ht (hT p hp) (by decide))).trans ht) (hT1 r hr2) (by decide))).trans ((hset_ne (ne_oo ht (hT p hp) (by decide))).trans ht)) (by decide)) r hr2) (by decide))).trans (hset_self (e := .inr (23, [x0, x1, .null, .ref (A r), .int (nI (nz)), .int (nI (mc)), x6, x7, x8])))) (hT9 p hp) (by decide))).trans ((hset_ne (ne_oo (hset_self (e := .inr (23, [x0, x1, .null, .ref (A r), .int (nI (nz)), .int (nI (mc)), x6, x7, x8]))) ((hT2.oth (x := .inr (23, [x0, x1, .null, .ref (A r), .int (nI (nz)), .int (nI (mc)), x6, x7, x8])) ((hset_ne (ne_oo ((hset_ne (ne_oo ht (hT p hp) (by decide))).trans ht) (hT1 r hr2) (by decide))).trans ((hset_ne (ne_oo ht (hT p hp) (by decide))).trans ht)) (by decide)) r hr2) (by decide))).trans (hset_self (e := .inr (23, [x0, x1, .null, .ref (A r), .int (nI (nz)), .int (nI (mc)), x6, x7, x8]))))), vw_fr hv1 hfr rfl, vw_fr hv7 hfr rfl⟩, hTf, hfr⟩
  · have hq : q < n := hw.bL hr2 qq
    have hpq : p ≠ q := by have h1 := hw.2.2.2.2.1 p r hp hr; have h2 := hw.2.2.1 r q hr2 qq; have h3 := hw.1 q hq; omega
    refine V_aload_n (i := 2) F dJ10_rotateLeft_24 rfl rfl ?_
    refine V_getf F dJ10_rotateLeft_25 fc_J10_111_J41 (.inl (hT1 r hr2)) rfl ?_
    refine VV.stk (st' := [.ref (A q)]) (by first | (rw [qq]; rfl) | rw [qq]) ?_
    refine V_aload_n (i := 1) F dJ10_rotateLeft_28 rfl rfl ?_
    refine VV.stk (st' := va_rf ((some p).map A) :: .ref (A q) :: []) rfl ?_
    refine V_putf F dJ10_rotateLeft_29 fp_J10_124_J41 (hT1 q hq) (nar_rfO _ _) (fit_rfO _ _) (Nat.le_of_ble_eq_true rfl) ?_
    have hT11 := hT1.putP (o := some p) hAI hq
    refine V_aload_n (i := 2) F dJ10_rotateLeft_32 rfl rfl ?_
    refine V_aload_n (i := 1) F dJ10_rotateLeft_33 rfl rfl ?_
    refine V_getf F dJ10_rotateLeft_34 fc_J10_124_J41 (.inl (hT11 p hp)) rfl ?_
    refine VV.stk (st' := [va_rf ((P p).map A), .ref (A r)]) (by first | (rw [(upo_n hpq)]; rfl) | rw [(upo_n hpq)]) ?_
    refine VV.stk (st' := va_rf ((P p).map A) :: .ref (A r) :: []) rfl ?_
    refine V_putf F dJ10_rotateLeft_37 fp_J10_124_J41 (hT11 r hr2) (nar_rfO _ _) (fit_rfO _ _) (Nat.le_of_ble_eq_true rfl) ?_
    have hT12 := hT11.putP (o := P p) hAI hr2
    refine V_aload_n (i := 1) F dJ10_rotateLeft_40 rfl rfl ?_
    refine V_getf F dJ10_rotateLeft_41 fc_J10_124_J41 (.inl (hT12 p hp)) rfl ?_
    refine VV.stk (st' := [va_rf ((P p).map A)]) (by first | (rw [((upo_n hpr).trans (upo_n hpq))]; rfl) | rw [((upo_n hpr).trans (upo_n hpq))]) ?_
    refine V_ifnonnullM (tgt := 55) F dJ10_rotateLeft_44 (by decide) (fun g qg => ?_) (fun qg => ?_)
    · have hg : g < n := hw.bP hp qg
      refine V_aload_n (i := 1) F dJ10_rotateLeft_55 rfl rfl ?_
      refine V_getf F dJ10_rotateLeft_56 fc_J10_124_J41 (.inl (hT12 p hp)) rfl ?_
      refine VV.stk (st' := [.ref (A g)]) (by first | (rw [((upo_n hpr).trans ((upo_n hpq).trans qg))]; rfl) | rw [((upo_n hpr).trans ((upo_n hpq).trans qg))]) ?_
      refine V_getf F dJ10_rotateLeft_59 fc_J10_111_J41 (.inl (hT12 g hg)) rfl ?_
      refine V_aload_n (i := 1) F dJ10_rotateLeft_62 rfl rfl ?_
      refine V_acmp_ne (rx := (L g).map A) (ry := some (A p)) (tgt := 77) F dJ10_rotateLeft_63 (by decide) (fun c_63 => ?_) (fun c_63 => ?_)
      · refine V_aload_n (i := 1) F dJ10_rotateLeft_77 rfl rfl ?_
        refine V_getf F dJ10_rotateLeft_78 fc_J10_124_J41 (.inl (hT12 p hp)) rfl ?_
        refine VV.stk (st' := [.ref (A g)]) (by first | (rw [((upo_n hpr).trans ((upo_n hpq).trans qg))]; rfl) | rw [((upo_n hpr).trans ((upo_n hpq).trans qg))]) ?_
        refine V_aload_n (i := 2) F dJ10_rotateLeft_81 rfl rfl ?_
        refine VV.stk (st' := va_rf ((some r).map A) :: .ref (A g) :: []) rfl ?_
        refine V_putf F dJ10_rotateLeft_82 fp_J10_114_J41 (hT12 g hg) (nar_rfO _ _) (fit_rfO _ _) (Nat.le_of_ble_eq_true rfl) ?_
        have hT13 := hT12.putR (o := some r) hAI hg
        refine V_aload_n (i := 2) F dJ10_rotateLeft_85 rfl rfl ?_
        refine V_aload_n (i := 1) F dJ10_rotateLeft_86 rfl rfl ?_
        refine VV.stk (st' := va_rf ((some p).map A) :: .ref (A r) :: []) rfl ?_
        refine V_putf F dJ10_rotateLeft_87 fp_J10_111_J41 (hT13 r hr2) (nar_rfO _ _) (fit_rfO _ _) (Nat.le_of_ble_eq_true rfl) ?_
        have hT14 := hT13.putL (o := some p) hAI hr2
        refine V_aload_n (i := 1) F dJ10_rotateLeft_90 rfl rfl ?_
        refine V_aload_n (i := 2) F dJ10_rotateLeft_91 rfl rfl ?_
        refine VV.stk (st' := va_rf ((some r).map A) :: .ref (A p) :: []) rfl ?_
        refine V_putf F dJ10_rotateLeft_92 fp_J10_124_J41 (hT14 p hp) (nar_rfO _ _) (fit_rfO _ _) (Nat.le_of_ble_eq_true rfl) ?_
        have hT15 := hT14.putP (o := some r) hAI hp
        have hfr := (((((((Fr.rf (M := mT t n A) (h := h)).put (x := .inr (24, (ndc A K V L R P C p).set 3 (va_rf ((L r).map A)))) (hT p hp) rfl rfl (Or.inl (Or.inr ⟨p, hp, rfl⟩))).put (x := .inr (24, (ndc A K V L (upo R p (L r)) P C q).set 4 (va_rf ((some p).map A)))) (hT1 q hq) rfl rfl (Or.inl (Or.inr ⟨q, hq, rfl⟩))).put (x := .inr (24, (ndc A K V L (upo R p (L r)) (upo P q (some p)) C r).set 4 (va_rf ((P p).map A)))) (hT11 r hr2) rfl rfl (Or.inl (Or.inr ⟨r, hr2, rfl⟩))).put (x := .inr (24, (ndc A K V L (upo R p (L r)) (upo (upo P q (some p)) r (P p)) C g).set 3 (va_rf ((some r).map A)))) (hT12 g hg) rfl rfl (Or.inl (Or.inr ⟨g, hg, rfl⟩))).put (x := .inr (24, (ndc A K V L (upo (upo R p (L r)) g (some r)) (upo (upo P q (some p)) r (P p)) C r).set 2 (va_rf ((some p).map A)))) (hT13 r hr2) rfl rfl (Or.inl (Or.inr ⟨r, hr2, rfl⟩))).put (x := .inr (24, (ndc A K V (upo L r (some p)) (upo (upo R p (L r)) g (some r)) (upo (upo P q (some p)) r (P p)) C p).set 4 (va_rf ((some r).map A)))) (hT14 p hp) rfl rfl (Or.inl (Or.inr ⟨p, hp, rfl⟩)))
        have hcg : (L g).map A = some (A p) ↔ L g = some p := ⟨fun z => map_eq hAI (fun j hj => hw.bL hg hj) hp z, fun z => by rw [z]; rfl⟩
        first | rw [hcg] at c_63 | rw [ne_eq, hcg] at c_63
        have hpg := hw.Pne hp qg
        have hpi := hw.Pin hp qg
        have hp1 := hw.1 p hp
        have hr1 := hw.1 r hr2
        have hpc := hw.2.2.2.2.1 p r hp hr
        have hgr : g ≠ r := by omega
        have hTf := hT15.ext (L2 := rlL L P p r) (R2 := rlR L R P p r) (P2 := rlP L P p r) (C2 := C) (fun j => by unfold rlL; grind [upo]) (fun j => by unfold rlR; grind [upo]) (fun j => by unfold rlP; grind [upo]) (fun j => rfl)
        have hro : roR P rt p r = rt := by unfold roR; rw [if_neg (by rw [qg]; exact fun z => nomatch z)]
        exact V_vret F dJ10_rotateLeft_95 (by first | exact Nat.le_of_ble_eq_true rfl | omega) (by first | exact Nat.le_of_ble_eq_true rfl | omega) ⟨rfl, ⟨x0, x1, x6, x7, x8, by rw [hro]; exact ((hset_ne (ne_oo ((hset_ne (ne_oo ((hset_ne (ne_oo ((hset_ne (ne_oo ((hset_ne (ne_oo ((hset_ne (ne_oo ht (hT p hp) (by decide))).trans ht) (hT1 q hq) (by decide))).trans ((hset_ne (ne_oo ht (hT p hp) (by decide))).trans ht)) (hT11 r hr2) (by decide))).trans ((hset_ne (ne_oo ((hset_ne (ne_oo ht (hT p hp) (by decide))).trans ht) (hT1 q hq) (by decide))).trans ((hset_ne (ne_oo ht (hT p hp) (by decide))).trans ht))) (hT12 g hg) (by decide))).trans ((hset_ne (ne_oo ((hset_ne (ne_oo ((hset_ne (ne_oo ht (hT p hp) (by decide))).trans ht) (hT1 q hq) (by decide))).trans ((hset_ne (ne_oo ht (hT p hp) (by decide))).trans ht)) (hT11 r hr2) (by decide))).trans ((hset_ne (ne_oo ((hset_ne (ne_oo ht (hT p hp) (by decide))).trans ht) (hT1 q hq) (by decide))).trans ((hset_ne (ne_oo ht (hT p hp) (by decide))).trans ht)))) (hT13 r hr2) (by decide))).trans ((hset_ne (ne_oo ((hset_ne (ne_oo ((hset_ne (ne_oo ((hset_ne (ne_oo ht (hT p hp) (by decide))).trans ht) (hT1 q hq) (by decide))).trans ((hset_ne (ne_oo ht (hT p hp) (by decide))).trans ht)) (hT11 r hr2) (by decide))).trans ((hset_ne (ne_oo ((hset_ne (ne_oo ht (hT p hp) (by decide))).trans ht) (hT1 q hq) (by decide))).trans ((hset_ne (ne_oo ht (hT p hp) (by decide))).trans ht))) (hT12 g hg) (by decide))).trans ((hset_ne (ne_oo ((hset_ne (ne_oo ((hset_ne (ne_oo ht (hT p hp) (by decide))).trans ht) (hT1 q hq) (by decide))).trans ((hset_ne (ne_oo ht (hT p hp) (by decide))).trans ht)) (hT11 r hr2) (by decide))).trans ((hset_ne (ne_oo ((hset_ne (ne_oo ht (hT p hp) (by decide))).trans ht) (hT1 q hq) (by decide))).trans ((hset_ne (ne_oo ht (hT p hp) (by decide))).trans ht))))) (hT14 p hp) (by decide))).trans ((hset_ne (ne_oo ((hset_ne (ne_oo ((hset_ne (ne_oo ((hset_ne (ne_oo ((hset_ne (ne_oo ht (hT p hp) (by decide))).trans ht) (hT1 q hq) (by decide))).trans ((hset_ne (ne_oo ht (hT p hp) (by decide))).trans ht)) (hT11 r hr2) (by decide))).trans ((hset_ne (ne_oo ((hset_ne (ne_oo ht (hT p hp) (by decide))).trans ht) (hT1 q hq) (by decide))).trans ((hset_ne (ne_oo ht (hT p hp) (by decide))).trans ht))) (hT12 g hg) (by decide))).trans ((hset_ne (ne_oo ((hset_ne (ne_oo ((hset_ne (ne_oo ht (hT p hp) (by decide))).trans ht) (hT1 q hq) (by decide))).trans ((hset_ne (ne_oo ht (hT p hp) (by decide))).trans ht)) (hT11 r hr2) (by decide))).trans ((hset_ne (ne_oo ((hset_ne (ne_oo ht (hT p hp) (by decide))).trans ht) (hT1 q hq) (by decide))).trans ((hset_ne (ne_oo ht (hT p hp) (by decide))).trans ht)))) (hT13 r hr2) (by decide))).trans ((hset_ne (ne_oo ((hset_ne (ne_oo ((hset_ne (ne_oo ((hset_ne (ne_oo ht (hT p hp) (by decide))).trans ht) (hT1 q hq) (by decide))).trans ((hset_ne (ne_oo ht (hT p hp) (by decide))).trans ht)) (hT11 r hr2) (by decide))).trans ((hset_ne (ne_oo ((hset_ne (ne_oo ht (hT p hp) (by decide))).trans ht) (hT1 q hq) (by decide))).trans ((hset_ne (ne_oo ht (hT p hp) (by decide))).trans ht))) (hT12 g hg) (by decide))).trans ((hset_ne (ne_oo ((hset_ne (ne_oo ((hset_ne (ne_oo ht (hT p hp) (by decide))).trans ht) (hT1 q hq) (by decide))).trans ((hset_ne (ne_oo ht (hT p hp) (by decide))).trans ht)) (hT11 r hr2) (by decide))).trans ((hset_ne (ne_oo ((hset_ne (ne_oo ht (hT p hp) (by decide))).trans ht) (hT1 q hq) (by decide))).trans ((hset_ne (ne_oo ht (hT p hp) (by decide))).trans ht)))))), vw_fr hv1 hfr rfl, vw_fr hv7 hfr rfl⟩, hTf, hfr⟩
      · refine V_aload_n (i := 1) F dJ10_rotateLeft_66 rfl rfl ?_
        refine V_getf F dJ10_rotateLeft_67 fc_J10_124_J41 (.inl (hT12 p hp)) rfl ?_
        refine VV.stk (st' := [.ref (A g)]) (by first | (rw [((upo_n hpr).trans ((upo_n hpq).trans qg))]; rfl) | rw [((upo_n hpr).trans ((upo_n hpq).trans qg))]) ?_
        refine V_aload_n (i := 2) F dJ10_rotateLeft_70 rfl rfl ?_
        refine VV.stk (st' := va_rf ((some r).map A) :: .ref (A g) :: []) rfl ?_
        refine V_putf F dJ10_rotateLeft_71 fp_J10_111_J41 (hT12 g hg) (nar_rfO _ _) (fit_rfO _ _) (Nat.le_of_ble_eq_true rfl) ?_
        have hT16 := hT12.putL (o := some r) hAI hg
        refine V_goto (tgt := 85) F dJ10_rotateLeft_74 (by decide) ?_
        refine V_aload_n (i := 2) F dJ10_rotateLeft_85 rfl rfl ?_
        refine V_aload_n (i := 1) F dJ10_rotateLeft_86 rfl rfl ?_
        refine VV.stk (st' := va_rf ((some p).map A) :: .ref (A r) :: []) rfl ?_
        refine V_putf F dJ10_rotateLeft_87 fp_J10_111_J41 (hT16 r hr2) (nar_rfO _ _) (fit_rfO _ _) (Nat.le_of_ble_eq_true rfl) ?_
        have hT17 := hT16.putL (o := some p) hAI hr2
        refine V_aload_n (i := 1) F dJ10_rotateLeft_90 rfl rfl ?_
        refine V_aload_n (i := 2) F dJ10_rotateLeft_91 rfl rfl ?_
        refine VV.stk (st' := va_rf ((some r).map A) :: .ref (A p) :: []) rfl ?_
        refine V_putf F dJ10_rotateLeft_92 fp_J10_124_J41 (hT17 p hp) (nar_rfO _ _) (fit_rfO _ _) (Nat.le_of_ble_eq_true rfl) ?_
        have hT18 := hT17.putP (o := some r) hAI hp
        have hfr := (((((((Fr.rf (M := mT t n A) (h := h)).put (x := .inr (24, (ndc A K V L R P C p).set 3 (va_rf ((L r).map A)))) (hT p hp) rfl rfl (Or.inl (Or.inr ⟨p, hp, rfl⟩))).put (x := .inr (24, (ndc A K V L (upo R p (L r)) P C q).set 4 (va_rf ((some p).map A)))) (hT1 q hq) rfl rfl (Or.inl (Or.inr ⟨q, hq, rfl⟩))).put (x := .inr (24, (ndc A K V L (upo R p (L r)) (upo P q (some p)) C r).set 4 (va_rf ((P p).map A)))) (hT11 r hr2) rfl rfl (Or.inl (Or.inr ⟨r, hr2, rfl⟩))).put (x := .inr (24, (ndc A K V L (upo R p (L r)) (upo (upo P q (some p)) r (P p)) C g).set 2 (va_rf ((some r).map A)))) (hT12 g hg) rfl rfl (Or.inl (Or.inr ⟨g, hg, rfl⟩))).put (x := .inr (24, (ndc A K V (upo L g (some r)) (upo R p (L r)) (upo (upo P q (some p)) r (P p)) C r).set 2 (va_rf ((some p).map A)))) (hT16 r hr2) rfl rfl (Or.inl (Or.inr ⟨r, hr2, rfl⟩))).put (x := .inr (24, (ndc A K V (upo (upo L g (some r)) r (some p)) (upo R p (L r)) (upo (upo P q (some p)) r (P p)) C p).set 4 (va_rf ((some r).map A)))) (hT17 p hp) rfl rfl (Or.inl (Or.inr ⟨p, hp, rfl⟩)))
        have hcg : (L g).map A = some (A p) ↔ L g = some p := ⟨fun z => map_eq hAI (fun j hj => hw.bL hg hj) hp z, fun z => by rw [z]; rfl⟩
        first | rw [hcg] at c_63 | rw [ne_eq, hcg] at c_63
        have hpg := hw.Pne hp qg
        have hpi := hw.Pin hp qg
        have hp1 := hw.1 p hp
        have hr1 := hw.1 r hr2
        have hpc := hw.2.2.2.2.1 p r hp hr
        have hgr : g ≠ r := by omega
        have hTf := hT18.ext (L2 := rlL L P p r) (R2 := rlR L R P p r) (P2 := rlP L P p r) (C2 := C) (fun j => by unfold rlL; grind [upo]) (fun j => by unfold rlR; grind [upo]) (fun j => by unfold rlP; grind [upo]) (fun j => rfl)
        have hro : roR P rt p r = rt := by unfold roR; rw [if_neg (by rw [qg]; exact fun z => nomatch z)]
        exact V_vret F dJ10_rotateLeft_95 (by first | exact Nat.le_of_ble_eq_true rfl | omega) (by first | exact Nat.le_of_ble_eq_true rfl | omega) ⟨rfl, ⟨x0, x1, x6, x7, x8, by rw [hro]; exact ((hset_ne (ne_oo ((hset_ne (ne_oo ((hset_ne (ne_oo ((hset_ne (ne_oo ((hset_ne (ne_oo ((hset_ne (ne_oo ht (hT p hp) (by decide))).trans ht) (hT1 q hq) (by decide))).trans ((hset_ne (ne_oo ht (hT p hp) (by decide))).trans ht)) (hT11 r hr2) (by decide))).trans ((hset_ne (ne_oo ((hset_ne (ne_oo ht (hT p hp) (by decide))).trans ht) (hT1 q hq) (by decide))).trans ((hset_ne (ne_oo ht (hT p hp) (by decide))).trans ht))) (hT12 g hg) (by decide))).trans ((hset_ne (ne_oo ((hset_ne (ne_oo ((hset_ne (ne_oo ht (hT p hp) (by decide))).trans ht) (hT1 q hq) (by decide))).trans ((hset_ne (ne_oo ht (hT p hp) (by decide))).trans ht)) (hT11 r hr2) (by decide))).trans ((hset_ne (ne_oo ((hset_ne (ne_oo ht (hT p hp) (by decide))).trans ht) (hT1 q hq) (by decide))).trans ((hset_ne (ne_oo ht (hT p hp) (by decide))).trans ht)))) (hT16 r hr2) (by decide))).trans ((hset_ne (ne_oo ((hset_ne (ne_oo ((hset_ne (ne_oo ((hset_ne (ne_oo ht (hT p hp) (by decide))).trans ht) (hT1 q hq) (by decide))).trans ((hset_ne (ne_oo ht (hT p hp) (by decide))).trans ht)) (hT11 r hr2) (by decide))).trans ((hset_ne (ne_oo ((hset_ne (ne_oo ht (hT p hp) (by decide))).trans ht) (hT1 q hq) (by decide))).trans ((hset_ne (ne_oo ht (hT p hp) (by decide))).trans ht))) (hT12 g hg) (by decide))).trans ((hset_ne (ne_oo ((hset_ne (ne_oo ((hset_ne (ne_oo ht (hT p hp) (by decide))).trans ht) (hT1 q hq) (by decide))).trans ((hset_ne (ne_oo ht (hT p hp) (by decide))).trans ht)) (hT11 r hr2) (by decide))).trans ((hset_ne (ne_oo ((hset_ne (ne_oo ht (hT p hp) (by decide))).trans ht) (hT1 q hq) (by decide))).trans ((hset_ne (ne_oo ht (hT p hp) (by decide))).trans ht))))) (hT17 p hp) (by decide))).trans ((hset_ne (ne_oo ((hset_ne (ne_oo ((hset_ne (ne_oo ((hset_ne (ne_oo ((hset_ne (ne_oo ht (hT p hp) (by decide))).trans ht) (hT1 q hq) (by decide))).trans ((hset_ne (ne_oo ht (hT p hp) (by decide))).trans ht)) (hT11 r hr2) (by decide))).trans ((hset_ne (ne_oo ((hset_ne (ne_oo ht (hT p hp) (by decide))).trans ht) (hT1 q hq) (by decide))).trans ((hset_ne (ne_oo ht (hT p hp) (by decide))).trans ht))) (hT12 g hg) (by decide))).trans ((hset_ne (ne_oo ((hset_ne (ne_oo ((hset_ne (ne_oo ht (hT p hp) (by decide))).trans ht) (hT1 q hq) (by decide))).trans ((hset_ne (ne_oo ht (hT p hp) (by decide))).trans ht)) (hT11 r hr2) (by decide))).trans ((hset_ne (ne_oo ((hset_ne (ne_oo ht (hT p hp) (by decide))).trans ht) (hT1 q hq) (by decide))).trans ((hset_ne (ne_oo ht (hT p hp) (by decide))).trans ht)))) (hT16 r hr2) (by decide))).trans ((hset_ne (ne_oo ((hset_ne (ne_oo ((hset_ne (ne_oo ((hset_ne (ne_oo ht (hT p hp) (by decide))).trans ht) (hT1 q hq) (by decide))).trans ((hset_ne (ne_oo ht (hT p hp) (by decide))).trans ht)) (hT11 r hr2) (by decide))).trans ((hset_ne (ne_oo ((hset_ne (ne_oo ht (hT p hp) (by decide))).trans ht) (hT1 q hq) (by decide))).trans ((hset_ne (ne_oo ht (hT p hp) (by decide))).trans ht))) (hT12 g hg) (by decide))).trans ((hset_ne (ne_oo ((hset_ne (ne_oo ((hset_ne (ne_oo ht (hT p hp) (by decide))).trans ht) (hT1 q hq) (by decide))).trans ((hset_ne (ne_oo ht (hT p hp) (by decide))).trans ht)) (hT11 r hr2) (by decide))).trans ((hset_ne (ne_oo ((hset_ne (ne_oo ht (hT p hp) (by decide))).trans ht) (hT1 q hq) (by decide))).trans ((hset_ne (ne_oo ht (hT p hp) (by decide))).trans ht)))))), vw_fr hv1 hfr rfl, vw_fr hv7 hfr rfl⟩, hTf, hfr⟩
    · refine V_aload_n (i := 0) F dJ10_rotateLeft_47 rfl rfl ?_
      refine V_aload_n (i := 2) F dJ10_rotateLeft_48 rfl rfl ?_
      refine V_putf F dJ10_rotateLeft_49 fp_J10_101_J10 ((hset_ne (ne_oo ((hset_ne (ne_oo ((hset_ne (ne_oo ht (hT p hp) (by decide))).trans ht) (hT1 q hq) (by decide))).trans ((hset_ne (ne_oo ht (hT p hp) (by decide))).trans ht)) (hT11 r hr2) (by decide))).trans ((hset_ne (ne_oo ((hset_ne (ne_oo ht (hT p hp) (by decide))).trans ht) (hT1 q hq) (by decide))).trans ((hset_ne (ne_oo ht (hT p hp) (by decide))).trans ht))) rfl rfl (Nat.le_of_ble_eq_true rfl) ?_
      refine VV.heap (h' := (hset (hset (hset (hset h (A p) (.inr (24, (ndc A K V L R P C p).set 3 (va_rf ((L r).map A))))) (A q) (.inr (24, (ndc A K V L (upo R p (L r)) P C q).set 4 (va_rf ((some p).map A))))) (A r) (.inr (24, (ndc A K V L (upo R p (L r)) (upo P q (some p)) C r).set 4 (va_rf ((P p).map A))))) (t) (.inr (23, [x0, x1, .null, .ref (A r), .int (nI (nz)), .int (nI (mc)), x6, x7, x8])))) rfl ?_
      refine V_goto (tgt := 85) F dJ10_rotateLeft_52 (by decide) ?_
      refine V_aload_n (i := 2) F dJ10_rotateLeft_85 rfl rfl ?_
      refine V_aload_n (i := 1) F dJ10_rotateLeft_86 rfl rfl ?_
      refine VV.stk (st' := va_rf ((some p).map A) :: .ref (A r) :: []) rfl ?_
      refine V_putf F dJ10_rotateLeft_87 fp_J10_111_J41 ((hT12.oth (x := .inr (23, [x0, x1, .null, .ref (A r), .int (nI (nz)), .int (nI (mc)), x6, x7, x8])) ((hset_ne (ne_oo ((hset_ne (ne_oo ((hset_ne (ne_oo ht (hT p hp) (by decide))).trans ht) (hT1 q hq) (by decide))).trans ((hset_ne (ne_oo ht (hT p hp) (by decide))).trans ht)) (hT11 r hr2) (by decide))).trans ((hset_ne (ne_oo ((hset_ne (ne_oo ht (hT p hp) (by decide))).trans ht) (hT1 q hq) (by decide))).trans ((hset_ne (ne_oo ht (hT p hp) (by decide))).trans ht))) (by decide)) r hr2) (nar_rfO _ _) (fit_rfO _ _) (Nat.le_of_ble_eq_true rfl) ?_
      have hT19 := ((hT12.oth (x := .inr (23, [x0, x1, .null, .ref (A r), .int (nI (nz)), .int (nI (mc)), x6, x7, x8])) ((hset_ne (ne_oo ((hset_ne (ne_oo ((hset_ne (ne_oo ht (hT p hp) (by decide))).trans ht) (hT1 q hq) (by decide))).trans ((hset_ne (ne_oo ht (hT p hp) (by decide))).trans ht)) (hT11 r hr2) (by decide))).trans ((hset_ne (ne_oo ((hset_ne (ne_oo ht (hT p hp) (by decide))).trans ht) (hT1 q hq) (by decide))).trans ((hset_ne (ne_oo ht (hT p hp) (by decide))).trans ht))) (by decide))).putL (o := some p) hAI hr2
      refine V_aload_n (i := 1) F dJ10_rotateLeft_90 rfl rfl ?_
      refine V_aload_n (i := 2) F dJ10_rotateLeft_91 rfl rfl ?_
      refine VV.stk (st' := va_rf ((some r).map A) :: .ref (A p) :: []) rfl ?_
      refine V_putf F dJ10_rotateLeft_92 fp_J10_124_J41 (hT19 p hp) (nar_rfO _ _) (fit_rfO _ _) (Nat.le_of_ble_eq_true rfl) ?_
      have hT20 := hT19.putP (o := some r) hAI hp
      have hfr := (((((((Fr.rf (M := mT t n A) (h := h)).put (x := .inr (24, (ndc A K V L R P C p).set 3 (va_rf ((L r).map A)))) (hT p hp) rfl rfl (Or.inl (Or.inr ⟨p, hp, rfl⟩))).put (x := .inr (24, (ndc A K V L (upo R p (L r)) P C q).set 4 (va_rf ((some p).map A)))) (hT1 q hq) rfl rfl (Or.inl (Or.inr ⟨q, hq, rfl⟩))).put (x := .inr (24, (ndc A K V L (upo R p (L r)) (upo P q (some p)) C r).set 4 (va_rf ((P p).map A)))) (hT11 r hr2) rfl rfl (Or.inl (Or.inr ⟨r, hr2, rfl⟩))).put (x := .inr (23, [x0, x1, .null, .ref (A r), .int (nI (nz)), .int (nI (mc)), x6, x7, x8])) ((hset_ne (ne_oo ((hset_ne (ne_oo ((hset_ne (ne_oo ht (hT p hp) (by decide))).trans ht) (hT1 q hq) (by decide))).trans ((hset_ne (ne_oo ht (hT p hp) (by decide))).trans ht)) (hT11 r hr2) (by decide))).trans ((hset_ne (ne_oo ((hset_ne (ne_oo ht (hT p hp) (by decide))).trans ht) (hT1 q hq) (by decide))).trans ((hset_ne (ne_oo ht (hT p hp) (by decide))).trans ht))) rfl rfl (Or.inl (Or.inl rfl))).put (x := .inr (24, (ndc A K V L (upo R p (L r)) (upo (upo P q (some p)) r (P p)) C r).set 2 (va_rf ((some p).map A)))) ((hT12.oth (x := .inr (23, [x0, x1, .null, .ref (A r), .int (nI (nz)), .int (nI (mc)), x6, x7, x8])) ((hset_ne (ne_oo ((hset_ne (ne_oo ((hset_ne (ne_oo ht (hT p hp) (by decide))).trans ht) (hT1 q hq) (by decide))).trans ((hset_ne (ne_oo ht (hT p hp) (by decide))).trans ht)) (hT11 r hr2) (by decide))).trans ((hset_ne (ne_oo ((hset_ne (ne_oo ht (hT p hp) (by decide))).trans ht) (hT1 q hq) (by decide))).trans ((hset_ne (ne_oo ht (hT p hp) (by decide))).trans ht))) (by decide)) r hr2) rfl rfl (Or.inl (Or.inr ⟨r, hr2, rfl⟩))).put (x := .inr (24, (ndc A K V (upo L r (some p)) (upo R p (L r)) (upo (upo P q (some p)) r (P p)) C p).set 4 (va_rf ((some r).map A)))) (hT19 p hp) rfl rfl (Or.inl (Or.inr ⟨p, hp, rfl⟩)))
      have hr1 := hw.1 r hr2
      have hTf := hT20.ext (L2 := rlL L P p r) (R2 := rlR L R P p r) (P2 := rlP L P p r) (C2 := C) (fun j => by unfold rlL; grind [upo]) (fun j => by unfold rlR; grind [upo]) (fun j => by unfold rlP; grind [upo]) (fun j => rfl)
      have hro : roR P rt p r = some r := by unfold roR; rw [if_pos qg]
      exact V_vret F dJ10_rotateLeft_95 (by first | exact Nat.le_of_ble_eq_true rfl | omega) (by first | exact Nat.le_of_ble_eq_true rfl | omega) ⟨rfl, ⟨x0, x1, x6, x7, x8, by rw [hro]; exact ((hset_ne (ne_oo ((hset_ne (ne_oo (hset_self (e := .inr (23, [x0, x1, .null, .ref (A r), .int (nI (nz)), .int (nI (mc)), x6, x7, x8]))) ((hT12.oth (x := .inr (23, [x0, x1, .null, .ref (A r), .int (nI (nz)), .int (nI (mc)), x6, x7, x8])) ((hset_ne (ne_oo ((hset_ne (ne_oo ((hset_ne (ne_oo ht (hT p hp) (by decide))).trans ht) (hT1 q hq) (by decide))).trans ((hset_ne (ne_oo ht (hT p hp) (by decide))).trans ht)) (hT11 r hr2) (by decide))).trans ((hset_ne (ne_oo ((hset_ne (ne_oo ht (hT p hp) (by decide))).trans ht) (hT1 q hq) (by decide))).trans ((hset_ne (ne_oo ht (hT p hp) (by decide))).trans ht))) (by decide)) r hr2) (by decide))).trans (hset_self (e := .inr (23, [x0, x1, .null, .ref (A r), .int (nI (nz)), .int (nI (mc)), x6, x7, x8])))) (hT19 p hp) (by decide))).trans ((hset_ne (ne_oo (hset_self (e := .inr (23, [x0, x1, .null, .ref (A r), .int (nI (nz)), .int (nI (mc)), x6, x7, x8]))) ((hT12.oth (x := .inr (23, [x0, x1, .null, .ref (A r), .int (nI (nz)), .int (nI (mc)), x6, x7, x8])) ((hset_ne (ne_oo ((hset_ne (ne_oo ((hset_ne (ne_oo ht (hT p hp) (by decide))).trans ht) (hT1 q hq) (by decide))).trans ((hset_ne (ne_oo ht (hT p hp) (by decide))).trans ht)) (hT11 r hr2) (by decide))).trans ((hset_ne (ne_oo ((hset_ne (ne_oo ht (hT p hp) (by decide))).trans ht) (hT1 q hq) (by decide))).trans ((hset_ne (ne_oo ht (hT p hp) (by decide))).trans ht))) (by decide)) r hr2) (by decide))).trans (hset_self (e := .inr (23, [x0, x1, .null, .ref (A r), .int (nI (nz)), .int (nI (mc)), x6, x7, x8]))))), vw_fr hv1 hfr rfl, vw_fr hv7 hfr rfl⟩, hTf, hfr⟩
theorem ct_rotateRight {G : GG} {l : Launch} {h : AH} {t n mc nz : Nat} {A K V : Nat → Nat} {L R P : Nat → Option Nat} {C : Nat → Bool} {rt : Option Nat} {lo hi : Nat → Nat} {p r : Nat} (hC : TC h t nz mc (rt.map A)) (hT : TN h n A K V L R P C) (hAI : AI n A) (hw : WT n rt L R P lo hi) (hp : p < n) (hr : L p = some r) : Ct G l yJ10_rotateRight cJ10_rotateRight 3 none 0 (0) (0) [.ref t, .ref (A p)] h (fun r0 h2 => r0 = none ∧ TC h2 t nz mc ((roR P rt p r).map A) ∧ TN h2 n A K V (rrL L R P p r) (rrR R P p r) (rrP R P p r) C ∧ Fr (mT t n A) h h2) := by
  refine Ct.of (by decide) (Nat.le_of_ble_eq_true rfl) (cat1 rfl) (fun X hXl F HN => ?_)
  subst hXl
  obtain ⟨x0, x1, x6, x7, x8, ht, hv1, hv7⟩ := id hC
  have hr2 : r < n := hw.bL hp hr
  have hpr : p ≠ r := by have := hw.2.2.1 p r hp hr; omega
  refine V_aload_n (i := 1) F dJ10_rotateRight_0 rfl rfl ?_
  refine V_ifnull F dJ10_rotateRight_1 ?_
  refine V_aload_n (i := 1) F dJ10_rotateRight_4 rfl rfl ?_
  refine V_getf F dJ10_rotateRight_5 fc_J10_111_J41 (.inl (hT p hp)) rfl ?_
  refine VV.stk (st' := [.ref (A r)]) (by first | (rw [hr]; rfl) | rw [hr]) ?_
  refine V_astore_n (i := 2) F dJ10_rotateRight_8 rfl (Nat.le_of_ble_eq_true rfl) (Nat.le_of_ble_eq_true rfl) ?_
  refine V_aload_n (i := 1) F dJ10_rotateRight_9 rfl rfl ?_
  refine V_aload_n (i := 2) F dJ10_rotateRight_10 rfl rfl ?_
  refine V_getf F dJ10_rotateRight_11 fc_J10_114_J41 (.inl (hT r hr2)) rfl ?_
  refine VV.stk (st' := va_rf ((R r).map A) :: .ref (A p) :: []) rfl ?_
  refine V_putf F dJ10_rotateRight_14 fp_J10_111_J41 (hT p hp) (nar_rfO _ _) (fit_rfO _ _) (Nat.le_of_ble_eq_true rfl) ?_
  have hT1 := hT.putL (o := R r) hAI hp
  refine V_aload_n (i := 2) F dJ10_rotateRight_17 rfl rfl ?_
  refine V_getf F dJ10_rotateRight_18 fc_J10_114_J41 (.inl (hT1 r hr2)) rfl ?_
  refine V_ifnullM (tgt := 32) F dJ10_rotateRight_21 (by decide) (fun qq => ?_) (fun q qq => ?_)
  · refine V_aload_n (i := 2) F dJ10_rotateRight_32 rfl rfl ?_
    refine V_aload_n (i := 1) F dJ10_rotateRight_33 rfl rfl ?_
    refine V_getf F dJ10_rotateRight_34 fc_J10_124_J41 (.inl (hT1 p hp)) rfl ?_
    refine VV.stk (st' := va_rf ((P p).map A) :: .ref (A r) :: []) rfl ?_
    refine V_putf F dJ10_rotateRight_37 fp_J10_124_J41 (hT1 r hr2) (nar_rfO _ _) (fit_rfO _ _) (Nat.le_of_ble_eq_true rfl) ?_
    have hT2 := hT1.putP (o := P p) hAI hr2
    refine V_aload_n (i := 1) F dJ10_rotateRight_40 rfl rfl ?_
    refine V_getf F dJ10_rotateRight_41 fc_J10_124_J41 (.inl (hT2 p hp)) rfl ?_
    refine VV.stk (st' := [va_rf ((P p).map A)]) (by first | (rw [(upo_n hpr)]; rfl) | rw [(upo_n hpr)]) ?_
    refine V_ifnonnullM (tgt := 55) F dJ10_rotateRight_44 (by decide) (fun g qg => ?_) (fun qg => ?_)
    · have hg : g < n := hw.bP hp qg
      refine V_aload_n (i := 1) F dJ10_rotateRight_55 rfl rfl ?_
      refine V_getf F dJ10_rotateRight_56 fc_J10_124_J41 (.inl (hT2 p hp)) rfl ?_
      refine VV.stk (st' := [.ref (A g)]) (by first | (rw [((upo_n hpr).trans qg)]; rfl) | rw [((upo_n hpr).trans qg)]) ?_
      refine V_getf F dJ10_rotateRight_59 fc_J10_114_J41 (.inl (hT2 g hg)) rfl ?_
      refine V_aload_n (i := 1) F dJ10_rotateRight_62 rfl rfl ?_
      refine V_acmp_ne (rx := (R g).map A) (ry := some (A p)) (tgt := 77) F dJ10_rotateRight_63 (by decide) (fun c_63 => ?_) (fun c_63 => ?_)
      · refine V_aload_n (i := 1) F dJ10_rotateRight_77 rfl rfl ?_
        refine V_getf F dJ10_rotateRight_78 fc_J10_124_J41 (.inl (hT2 p hp)) rfl ?_
        refine VV.stk (st' := [.ref (A g)]) (by first | (rw [((upo_n hpr).trans qg)]; rfl) | rw [((upo_n hpr).trans qg)]) ?_
        refine V_aload_n (i := 2) F dJ10_rotateRight_81 rfl rfl ?_
        refine VV.stk (st' := va_rf ((some r).map A) :: .ref (A g) :: []) rfl ?_
        refine V_putf F dJ10_rotateRight_82 fp_J10_111_J41 (hT2 g hg) (nar_rfO _ _) (fit_rfO _ _) (Nat.le_of_ble_eq_true rfl) ?_
        have hT3 := hT2.putL (o := some r) hAI hg
        refine V_aload_n (i := 2) F dJ10_rotateRight_85 rfl rfl ?_
        refine V_aload_n (i := 1) F dJ10_rotateRight_86 rfl rfl ?_
        refine VV.stk (st' := va_rf ((some p).map A) :: .ref (A r) :: []) rfl ?_
        refine V_putf F dJ10_rotateRight_87 fp_J10_114_J41 (hT3 r hr2) (nar_rfO _ _) (fit_rfO _ _) (Nat.le_of_ble_eq_true rfl) ?_
        have hT4 := hT3.putR (o := some p) hAI hr2
        refine V_aload_n (i := 1) F dJ10_rotateRight_90 rfl rfl ?_
        refine V_aload_n (i := 2) F dJ10_rotateRight_91 rfl rfl ?_
        refine VV.stk (st' := va_rf ((some r).map A) :: .ref (A p) :: []) rfl ?_
        refine V_putf F dJ10_rotateRight_92 fp_J10_124_J41 (hT4 p hp) (nar_rfO _ _) (fit_rfO _ _) (Nat.le_of_ble_eq_true rfl) ?_
        have hT5 := hT4.putP (o := some r) hAI hp
        have hfr := ((((((Fr.rf (M := mT t n A) (h := h)).put (x := .inr (24, (ndc A K V L R P C p).set 2 (va_rf ((R r).map A)))) (hT p hp) rfl rfl (Or.inl (Or.inr ⟨p, hp, rfl⟩))).put (x := .inr (24, (ndc A K V (upo L p (R r)) R P C r).set 4 (va_rf ((P p).map A)))) (hT1 r hr2) rfl rfl (Or.inl (Or.inr ⟨r, hr2, rfl⟩))).put (x := .inr (24, (ndc A K V (upo L p (R r)) R (upo P r (P p)) C g).set 2 (va_rf ((some r).map A)))) (hT2 g hg) rfl rfl (Or.inl (Or.inr ⟨g, hg, rfl⟩))).put (x := .inr (24, (ndc A K V (upo (upo L p (R r)) g (some r)) R (upo P r (P p)) C r).set 3 (va_rf ((some p).map A)))) (hT3 r hr2) rfl rfl (Or.inl (Or.inr ⟨r, hr2, rfl⟩))).put (x := .inr (24, (ndc A K V (upo (upo L p (R r)) g (some r)) (upo R r (some p)) (upo P r (P p)) C p).set 4 (va_rf ((some r).map A)))) (hT4 p hp) rfl rfl (Or.inl (Or.inr ⟨p, hp, rfl⟩)))
        have hcg : (R g).map A = some (A p) ↔ R g = some p := ⟨fun z => map_eq hAI (fun j hj => hw.bR hg hj) hp z, fun z => by rw [z]; rfl⟩
        first | rw [hcg] at c_63 | rw [ne_eq, hcg] at c_63
        have hpg := hw.Pne hp qg
        have hpi := hw.Pin hp qg
        have hp1 := hw.1 p hp
        have hr1 := hw.1 r hr2
        have hpc := hw.2.2.1 p r hp hr
        have hgr : g ≠ r := by omega
        have hTf := hT5.ext (L2 := rrL L R P p r) (R2 := rrR R P p r) (P2 := rrP R P p r) (C2 := C) (fun j => by unfold rrL; grind [upo]) (fun j => by unfold rrR; grind [upo]) (fun j => by unfold rrP; grind [upo]) (fun j => rfl)
        have hro : roR P rt p r = rt := by unfold roR; rw [if_neg (by rw [qg]; exact fun z => nomatch z)]
        exact V_vret F dJ10_rotateRight_95 (by first | exact Nat.le_of_ble_eq_true rfl | omega) (by first | exact Nat.le_of_ble_eq_true rfl | omega) ⟨rfl, ⟨x0, x1, x6, x7, x8, by rw [hro]; exact ((hset_ne (ne_oo ((hset_ne (ne_oo ((hset_ne (ne_oo ((hset_ne (ne_oo ((hset_ne (ne_oo ht (hT p hp) (by decide))).trans ht) (hT1 r hr2) (by decide))).trans ((hset_ne (ne_oo ht (hT p hp) (by decide))).trans ht)) (hT2 g hg) (by decide))).trans ((hset_ne (ne_oo ((hset_ne (ne_oo ht (hT p hp) (by decide))).trans ht) (hT1 r hr2) (by decide))).trans ((hset_ne (ne_oo ht (hT p hp) (by decide))).trans ht))) (hT3 r hr2) (by decide))).trans ((hset_ne (ne_oo ((hset_ne (ne_oo ((hset_ne (ne_oo ht (hT p hp) (by decide))).trans ht) (hT1 r hr2) (by decide))).trans ((hset_ne (ne_oo ht (hT p hp) (by decide))).trans ht)) (hT2 g hg) (by decide))).trans ((hset_ne (ne_oo ((hset_ne (ne_oo ht (hT p hp) (by decide))).trans ht) (hT1 r hr2) (by decide))).trans ((hset_ne (ne_oo ht (hT p hp) (by decide))).trans ht)))) (hT4 p hp) (by decide))).trans ((hset_ne (ne_oo ((hset_ne (ne_oo ((hset_ne (ne_oo ((hset_ne (ne_oo ht (hT p hp) (by decide))).trans ht) (hT1 r hr2) (by decide))).trans ((hset_ne (ne_oo ht (hT p hp) (by decide))).trans ht)) (hT2 g hg) (by decide))).trans ((hset_ne (ne_oo ((hset_ne (ne_oo ht (hT p hp) (by decide))).trans ht) (hT1 r hr2) (by decide))).trans ((hset_ne (ne_oo ht (hT p hp) (by decide))).trans ht))) (hT3 r hr2) (by decide))).trans ((hset_ne (ne_oo ((hset_ne (ne_oo ((hset_ne (ne_oo ht (hT p hp) (by decide))).trans ht) (hT1 r hr2) (by decide))).trans ((hset_ne (ne_oo ht (hT p hp) (by decide))).trans ht)) (hT2 g hg) (by decide))).trans ((hset_ne (ne_oo ((hset_ne (ne_oo ht (hT p hp) (by decide))).trans ht) (hT1 r hr2) (by decide))).trans ((hset_ne (ne_oo ht (hT p hp) (by decide))).trans ht))))), vw_fr hv1 hfr rfl, vw_fr hv7 hfr rfl⟩, hTf, hfr⟩
      · refine V_aload_n (i := 1) F dJ10_rotateRight_66 rfl rfl ?_
        refine V_getf F dJ10_rotateRight_67 fc_J10_124_J41 (.inl (hT2 p hp)) rfl ?_
        refine VV.stk (st' := [.ref (A g)]) (by first | (rw [((upo_n hpr).trans qg)]; rfl) | rw [((upo_n hpr).trans qg)]) ?_
        refine V_aload_n (i := 2) F dJ10_rotateRight_70 rfl rfl ?_
        refine VV.stk (st' := va_rf ((some r).map A) :: .ref (A g) :: []) rfl ?_
        refine V_putf F dJ10_rotateRight_71 fp_J10_114_J41 (hT2 g hg) (nar_rfO _ _) (fit_rfO _ _) (Nat.le_of_ble_eq_true rfl) ?_
        have hT6 := hT2.putR (o := some r) hAI hg
        refine V_goto (tgt := 85) F dJ10_rotateRight_74 (by decide) ?_
        refine V_aload_n (i := 2) F dJ10_rotateRight_85 rfl rfl ?_
        refine V_aload_n (i := 1) F dJ10_rotateRight_86 rfl rfl ?_
        refine VV.stk (st' := va_rf ((some p).map A) :: .ref (A r) :: []) rfl ?_
        refine V_putf F dJ10_rotateRight_87 fp_J10_114_J41 (hT6 r hr2) (nar_rfO _ _) (fit_rfO _ _) (Nat.le_of_ble_eq_true rfl) ?_
        have hT7 := hT6.putR (o := some p) hAI hr2
        refine V_aload_n (i := 1) F dJ10_rotateRight_90 rfl rfl ?_
        refine V_aload_n (i := 2) F dJ10_rotateRight_91 rfl rfl ?_
        refine VV.stk (st' := va_rf ((some r).map A) :: .ref (A p) :: []) rfl ?_
        refine V_putf F dJ10_rotateRight_92 fp_J10_124_J41 (hT7 p hp) (nar_rfO _ _) (fit_rfO _ _) (Nat.le_of_ble_eq_true rfl) ?_
        have hT8 := hT7.putP (o := some r) hAI hp
        have hfr := ((((((Fr.rf (M := mT t n A) (h := h)).put (x := .inr (24, (ndc A K V L R P C p).set 2 (va_rf ((R r).map A)))) (hT p hp) rfl rfl (Or.inl (Or.inr ⟨p, hp, rfl⟩))).put (x := .inr (24, (ndc A K V (upo L p (R r)) R P C r).set 4 (va_rf ((P p).map A)))) (hT1 r hr2) rfl rfl (Or.inl (Or.inr ⟨r, hr2, rfl⟩))).put (x := .inr (24, (ndc A K V (upo L p (R r)) R (upo P r (P p)) C g).set 3 (va_rf ((some r).map A)))) (hT2 g hg) rfl rfl (Or.inl (Or.inr ⟨g, hg, rfl⟩))).put (x := .inr (24, (ndc A K V (upo L p (R r)) (upo R g (some r)) (upo P r (P p)) C r).set 3 (va_rf ((some p).map A)))) (hT6 r hr2) rfl rfl (Or.inl (Or.inr ⟨r, hr2, rfl⟩))).put (x := .inr (24, (ndc A K V (upo L p (R r)) (upo (upo R g (some r)) r (some p)) (upo P r (P p)) C p).set 4 (va_rf ((some r).map A)))) (hT7 p hp) rfl rfl (Or.inl (Or.inr ⟨p, hp, rfl⟩)))
        have hcg : (R g).map A = some (A p) ↔ R g = some p := ⟨fun z => map_eq hAI (fun j hj => hw.bR hg hj) hp z, fun z => by rw [z]; rfl⟩
        first | rw [hcg] at c_63 | rw [ne_eq, hcg] at c_63
        have hpg := hw.Pne hp qg
        have hpi := hw.Pin hp qg
        have hp1 := hw.1 p hp
        have hr1 := hw.1 r hr2
        have hpc := hw.2.2.1 p r hp hr
        have hgr : g ≠ r := by omega
        have hTf := hT8.ext (L2 := rrL L R P p r) (R2 := rrR R P p r) (P2 := rrP R P p r) (C2 := C) (fun j => by unfold rrL; grind [upo]) (fun j => by unfold rrR; grind [upo]) (fun j => by unfold rrP; grind [upo]) (fun j => rfl)
        have hro : roR P rt p r = rt := by unfold roR; rw [if_neg (by rw [qg]; exact fun z => nomatch z)]
        exact V_vret F dJ10_rotateRight_95 (by first | exact Nat.le_of_ble_eq_true rfl | omega) (by first | exact Nat.le_of_ble_eq_true rfl | omega) ⟨rfl, ⟨x0, x1, x6, x7, x8, by rw [hro]; exact ((hset_ne (ne_oo ((hset_ne (ne_oo ((hset_ne (ne_oo ((hset_ne (ne_oo ((hset_ne (ne_oo ht (hT p hp) (by decide))).trans ht) (hT1 r hr2) (by decide))).trans ((hset_ne (ne_oo ht (hT p hp) (by decide))).trans ht)) (hT2 g hg) (by decide))).trans ((hset_ne (ne_oo ((hset_ne (ne_oo ht (hT p hp) (by decide))).trans ht) (hT1 r hr2) (by decide))).trans ((hset_ne (ne_oo ht (hT p hp) (by decide))).trans ht))) (hT6 r hr2) (by decide))).trans ((hset_ne (ne_oo ((hset_ne (ne_oo ((hset_ne (ne_oo ht (hT p hp) (by decide))).trans ht) (hT1 r hr2) (by decide))).trans ((hset_ne (ne_oo ht (hT p hp) (by decide))).trans ht)) (hT2 g hg) (by decide))).trans ((hset_ne (ne_oo ((hset_ne (ne_oo ht (hT p hp) (by decide))).trans ht) (hT1 r hr2) (by decide))).trans ((hset_ne (ne_oo ht (hT p hp) (by decide))).trans ht)))) (hT7 p hp) (by decide))).trans ((hset_ne (ne_oo ((hset_ne (ne_oo ((hset_ne (ne_oo ((hset_ne (ne_oo ht (hT p hp) (by decide))).trans ht) (hT1 r hr2) (by decide))).trans ((hset_ne (ne_oo ht (hT p hp) (by decide))).trans ht)) (hT2 g hg) (by decide))).trans ((hset_ne (ne_oo ((hset_ne (ne_oo ht (hT p hp) (by decide))).trans ht) (hT1 r hr2) (by decide))).trans ((hset_ne (ne_oo ht (hT p hp) (by decide))).trans ht))) (hT6 r hr2) (by decide))).trans ((hset_ne (ne_oo ((hset_ne (ne_oo ((hset_ne (ne_oo ht (hT p hp) (by decide))).trans ht) (hT1 r hr2) (by decide))).trans ((hset_ne (ne_oo ht (hT p hp) (by decide))).trans ht)) (hT2 g hg) (by decide))).trans ((hset_ne (ne_oo ((hset_ne (ne_oo ht (hT p hp) (by decide))).trans ht) (hT1 r hr2) (by decide))).trans ((hset_ne (ne_oo ht (hT p hp) (by decide))).trans ht))))), vw_fr hv1 hfr rfl, vw_fr hv7 hfr rfl⟩, hTf, hfr⟩
    · refine V_aload_n (i := 0) F dJ10_rotateRight_47 rfl rfl ?_
      refine V_aload_n (i := 2) F dJ10_rotateRight_48 rfl rfl ?_
      refine V_putf F dJ10_rotateRight_49 fp_J10_101_J10 ((hset_ne (ne_oo ((hset_ne (ne_oo ht (hT p hp) (by decide))).trans ht) (hT1 r hr2) (by decide))).trans ((hset_ne (ne_oo ht (hT p hp) (by decide))).trans ht)) rfl rfl (Nat.le_of_ble_eq_true rfl) ?_
      refine VV.heap (h' := (hset (hset (hset h (A p) (.inr (24, (ndc A K V L R P C p).set 2 (va_rf ((R r).map A))))) (A r) (.inr (24, (ndc A K V (upo L p (R r)) R P C r).set 4 (va_rf ((P p).map A))))) (t) (.inr (23, [x0, x1, .null, .ref (A r), .int (nI (nz)), .int (nI (mc)), x6, x7, x8])))) rfl ?_
      refine V_goto (tgt := 85) F dJ10_rotateRight_52 (by decide) ?_
      refine V_aload_n (i := 2) F dJ10_rotateRight_85 rfl rfl ?_
      refine V_aload_n (i := 1) F dJ10_rotateRight_86 rfl rfl ?_
      refine VV.stk (st' := va_rf ((some p).map A) :: .ref (A r) :: []) rfl ?_
      refine V_putf F dJ10_rotateRight_87 fp_J10_114_J41 ((hT2.oth (x := .inr (23, [x0, x1, .null, .ref (A r), .int (nI (nz)), .int (nI (mc)), x6, x7, x8])) ((hset_ne (ne_oo ((hset_ne (ne_oo ht (hT p hp) (by decide))).trans ht) (hT1 r hr2) (by decide))).trans ((hset_ne (ne_oo ht (hT p hp) (by decide))).trans ht)) (by decide)) r hr2) (nar_rfO _ _) (fit_rfO _ _) (Nat.le_of_ble_eq_true rfl) ?_
      have hT9 := ((hT2.oth (x := .inr (23, [x0, x1, .null, .ref (A r), .int (nI (nz)), .int (nI (mc)), x6, x7, x8])) ((hset_ne (ne_oo ((hset_ne (ne_oo ht (hT p hp) (by decide))).trans ht) (hT1 r hr2) (by decide))).trans ((hset_ne (ne_oo ht (hT p hp) (by decide))).trans ht)) (by decide))).putR (o := some p) hAI hr2
      refine V_aload_n (i := 1) F dJ10_rotateRight_90 rfl rfl ?_
      refine V_aload_n (i := 2) F dJ10_rotateRight_91 rfl rfl ?_
      refine VV.stk (st' := va_rf ((some r).map A) :: .ref (A p) :: []) rfl ?_
      refine V_putf F dJ10_rotateRight_92 fp_J10_124_J41 (hT9 p hp) (nar_rfO _ _) (fit_rfO _ _) (Nat.le_of_ble_eq_true rfl) ?_
      have hT10 := hT9.putP (o := some r) hAI hp
      have hfr := ((((((Fr.rf (M := mT t n A) (h := h)).put (x := .inr (24, (ndc A K V L R P C p).set 2 (va_rf ((R r).map A)))) (hT p hp) rfl rfl (Or.inl (Or.inr ⟨p, hp, rfl⟩))).put (x := .inr (24, (ndc A K V (upo L p (R r)) R P C r).set 4 (va_rf ((P p).map A)))) (hT1 r hr2) rfl rfl (Or.inl (Or.inr ⟨r, hr2, rfl⟩))).put (x := .inr (23, [x0, x1, .null, .ref (A r), .int (nI (nz)), .int (nI (mc)), x6, x7, x8])) ((hset_ne (ne_oo ((hset_ne (ne_oo ht (hT p hp) (by decide))).trans ht) (hT1 r hr2) (by decide))).trans ((hset_ne (ne_oo ht (hT p hp) (by decide))).trans ht)) rfl rfl (Or.inl (Or.inl rfl))).put (x := .inr (24, (ndc A K V (upo L p (R r)) R (upo P r (P p)) C r).set 3 (va_rf ((some p).map A)))) ((hT2.oth (x := .inr (23, [x0, x1, .null, .ref (A r), .int (nI (nz)), .int (nI (mc)), x6, x7, x8])) ((hset_ne (ne_oo ((hset_ne (ne_oo ht (hT p hp) (by decide))).trans ht) (hT1 r hr2) (by decide))).trans ((hset_ne (ne_oo ht (hT p hp) (by decide))).trans ht)) (by decide)) r hr2) rfl rfl (Or.inl (Or.inr ⟨r, hr2, rfl⟩))).put (x := .inr (24, (ndc A K V (upo L p (R r)) (upo R r (some p)) (upo P r (P p)) C p).set 4 (va_rf ((some r).map A)))) (hT9 p hp) rfl rfl (Or.inl (Or.inr ⟨p, hp, rfl⟩)))
      have hr1 := hw.1 r hr2
      have hTf := hT10.ext (L2 := rrL L R P p r) (R2 := rrR R P p r) (P2 := rrP R P p r) (C2 := C) (fun j => by unfold rrL; grind [upo]) (fun j => by unfold rrR; grind [upo]) (fun j => by unfold rrP; grind [upo]) (fun j => rfl)
      have hro : roR P rt p r = some r := by unfold roR; rw [if_pos qg]
      exact V_vret F dJ10_rotateRight_95 (by first | exact Nat.le_of_ble_eq_true rfl | omega) (by first | exact Nat.le_of_ble_eq_true rfl | omega) ⟨rfl, ⟨x0, x1, x6, x7, x8, by rw [hro]; exact ((hset_ne (ne_oo ((hset_ne (ne_oo (hset_self (e := .inr (23, [x0, x1, .null, .ref (A r), .int (nI (nz)), .int (nI (mc)), x6, x7, x8]))) ((hT2.oth (x := .inr (23, [x0, x1, .null, .ref (A r), .int (nI (nz)), .int (nI (mc)), x6, x7, x8])) ((hset_ne (ne_oo ((hset_ne (ne_oo ht (hT p hp) (by decide))).trans ht) (hT1 r hr2) (by decide))).trans ((hset_ne (ne_oo ht (hT p hp) (by decide))).trans ht)) (by decide)) r hr2) (by decide))).trans (hset_self (e := .inr (23, [x0, x1, .null, .ref (A r), .int (nI (nz)), .int (nI (mc)), x6, x7, x8])))) (hT9 p hp) (by decide))).trans ((hset_ne (ne_oo (hset_self (e := .inr (23, [x0, x1, .null, .ref (A r), .int (nI (nz)), .int (nI (mc)), x6, x7, x8]))) ((hT2.oth (x := .inr (23, [x0, x1, .null, .ref (A r), .int (nI (nz)), .int (nI (mc)), x6, x7, x8])) ((hset_ne (ne_oo ((hset_ne (ne_oo ht (hT p hp) (by decide))).trans ht) (hT1 r hr2) (by decide))).trans ((hset_ne (ne_oo ht (hT p hp) (by decide))).trans ht)) (by decide)) r hr2) (by decide))).trans (hset_self (e := .inr (23, [x0, x1, .null, .ref (A r), .int (nI (nz)), .int (nI (mc)), x6, x7, x8]))))), vw_fr hv1 hfr rfl, vw_fr hv7 hfr rfl⟩, hTf, hfr⟩
  · have hq : q < n := hw.bR hr2 qq
    have hpq : p ≠ q := by have h1 := hw.2.2.1 p r hp hr; have h2 := hw.2.2.2.2.1 r q hr2 qq; have h3 := hw.1 q hq; omega
    refine V_aload_n (i := 2) F dJ10_rotateRight_24 rfl rfl ?_
    refine V_getf F dJ10_rotateRight_25 fc_J10_114_J41 (.inl (hT1 r hr2)) rfl ?_
    refine VV.stk (st' := [.ref (A q)]) (by first | (rw [qq]; rfl) | rw [qq]) ?_
    refine V_aload_n (i := 1) F dJ10_rotateRight_28 rfl rfl ?_
    refine VV.stk (st' := va_rf ((some p).map A) :: .ref (A q) :: []) rfl ?_
    refine V_putf F dJ10_rotateRight_29 fp_J10_124_J41 (hT1 q hq) (nar_rfO _ _) (fit_rfO _ _) (Nat.le_of_ble_eq_true rfl) ?_
    have hT11 := hT1.putP (o := some p) hAI hq
    refine V_aload_n (i := 2) F dJ10_rotateRight_32 rfl rfl ?_
    refine V_aload_n (i := 1) F dJ10_rotateRight_33 rfl rfl ?_
    refine V_getf F dJ10_rotateRight_34 fc_J10_124_J41 (.inl (hT11 p hp)) rfl ?_
    refine VV.stk (st' := [va_rf ((P p).map A), .ref (A r)]) (by first | (rw [(upo_n hpq)]; rfl) | rw [(upo_n hpq)]) ?_
    refine VV.stk (st' := va_rf ((P p).map A) :: .ref (A r) :: []) rfl ?_
    refine V_putf F dJ10_rotateRight_37 fp_J10_124_J41 (hT11 r hr2) (nar_rfO _ _) (fit_rfO _ _) (Nat.le_of_ble_eq_true rfl) ?_
    have hT12 := hT11.putP (o := P p) hAI hr2
    refine V_aload_n (i := 1) F dJ10_rotateRight_40 rfl rfl ?_
    refine V_getf F dJ10_rotateRight_41 fc_J10_124_J41 (.inl (hT12 p hp)) rfl ?_
    refine VV.stk (st' := [va_rf ((P p).map A)]) (by first | (rw [((upo_n hpr).trans (upo_n hpq))]; rfl) | rw [((upo_n hpr).trans (upo_n hpq))]) ?_
    refine V_ifnonnullM (tgt := 55) F dJ10_rotateRight_44 (by decide) (fun g qg => ?_) (fun qg => ?_)
    · have hg : g < n := hw.bP hp qg
      refine V_aload_n (i := 1) F dJ10_rotateRight_55 rfl rfl ?_
      refine V_getf F dJ10_rotateRight_56 fc_J10_124_J41 (.inl (hT12 p hp)) rfl ?_
      refine VV.stk (st' := [.ref (A g)]) (by first | (rw [((upo_n hpr).trans ((upo_n hpq).trans qg))]; rfl) | rw [((upo_n hpr).trans ((upo_n hpq).trans qg))]) ?_
      refine V_getf F dJ10_rotateRight_59 fc_J10_114_J41 (.inl (hT12 g hg)) rfl ?_
      refine V_aload_n (i := 1) F dJ10_rotateRight_62 rfl rfl ?_
      refine V_acmp_ne (rx := (R g).map A) (ry := some (A p)) (tgt := 77) F dJ10_rotateRight_63 (by decide) (fun c_63 => ?_) (fun c_63 => ?_)
      · refine V_aload_n (i := 1) F dJ10_rotateRight_77 rfl rfl ?_
        refine V_getf F dJ10_rotateRight_78 fc_J10_124_J41 (.inl (hT12 p hp)) rfl ?_
        refine VV.stk (st' := [.ref (A g)]) (by first | (rw [((upo_n hpr).trans ((upo_n hpq).trans qg))]; rfl) | rw [((upo_n hpr).trans ((upo_n hpq).trans qg))]) ?_
        refine V_aload_n (i := 2) F dJ10_rotateRight_81 rfl rfl ?_
        refine VV.stk (st' := va_rf ((some r).map A) :: .ref (A g) :: []) rfl ?_
        refine V_putf F dJ10_rotateRight_82 fp_J10_111_J41 (hT12 g hg) (nar_rfO _ _) (fit_rfO _ _) (Nat.le_of_ble_eq_true rfl) ?_
        have hT13 := hT12.putL (o := some r) hAI hg
        refine V_aload_n (i := 2) F dJ10_rotateRight_85 rfl rfl ?_
        refine V_aload_n (i := 1) F dJ10_rotateRight_86 rfl rfl ?_
        refine VV.stk (st' := va_rf ((some p).map A) :: .ref (A r) :: []) rfl ?_
        refine V_putf F dJ10_rotateRight_87 fp_J10_114_J41 (hT13 r hr2) (nar_rfO _ _) (fit_rfO _ _) (Nat.le_of_ble_eq_true rfl) ?_
        have hT14 := hT13.putR (o := some p) hAI hr2
        refine V_aload_n (i := 1) F dJ10_rotateRight_90 rfl rfl ?_
        refine V_aload_n (i := 2) F dJ10_rotateRight_91 rfl rfl ?_
        refine VV.stk (st' := va_rf ((some r).map A) :: .ref (A p) :: []) rfl ?_
        refine V_putf F dJ10_rotateRight_92 fp_J10_124_J41 (hT14 p hp) (nar_rfO _ _) (fit_rfO _ _) (Nat.le_of_ble_eq_true rfl) ?_
        have hT15 := hT14.putP (o := some r) hAI hp
        have hfr := (((((((Fr.rf (M := mT t n A) (h := h)).put (x := .inr (24, (ndc A K V L R P C p).set 2 (va_rf ((R r).map A)))) (hT p hp) rfl rfl (Or.inl (Or.inr ⟨p, hp, rfl⟩))).put (x := .inr (24, (ndc A K V (upo L p (R r)) R P C q).set 4 (va_rf ((some p).map A)))) (hT1 q hq) rfl rfl (Or.inl (Or.inr ⟨q, hq, rfl⟩))).put (x := .inr (24, (ndc A K V (upo L p (R r)) R (upo P q (some p)) C r).set 4 (va_rf ((P p).map A)))) (hT11 r hr2) rfl rfl (Or.inl (Or.inr ⟨r, hr2, rfl⟩))).put (x := .inr (24, (ndc A K V (upo L p (R r)) R (upo (upo P q (some p)) r (P p)) C g).set 2 (va_rf ((some r).map A)))) (hT12 g hg) rfl rfl (Or.inl (Or.inr ⟨g, hg, rfl⟩))).put (x := .inr (24, (ndc A K V (upo (upo L p (R r)) g (some r)) R (upo (upo P q (some p)) r (P p)) C r).set 3 (va_rf ((some p).map A)))) (hT13 r hr2) rfl rfl (Or.inl (Or.inr ⟨r, hr2, rfl⟩))).put (x := .inr (24, (ndc A K V (upo (upo L p (R r)) g (some r)) (upo R r (some p)) (upo (upo P q (some p)) r (P p)) C p).set 4 (va_rf ((some r).map A)))) (hT14 p hp) rfl rfl (Or.inl (Or.inr ⟨p, hp, rfl⟩)))
        have hcg : (R g).map A = some (A p) ↔ R g = some p := ⟨fun z => map_eq hAI (fun j hj => hw.bR hg hj) hp z, fun z => by rw [z]; rfl⟩
        first | rw [hcg] at c_63 | rw [ne_eq, hcg] at c_63
        have hpg := hw.Pne hp qg
        have hpi := hw.Pin hp qg
        have hp1 := hw.1 p hp
        have hr1 := hw.1 r hr2
        have hpc := hw.2.2.1 p r hp hr
        have hgr : g ≠ r := by omega
        have hTf := hT15.ext (L2 := rrL L R P p r) (R2 := rrR R P p r) (P2 := rrP R P p r) (C2 := C) (fun j => by unfold rrL; grind [upo]) (fun j => by unfold rrR; grind [upo]) (fun j => by unfold rrP; grind [upo]) (fun j => rfl)
        have hro : roR P rt p r = rt := by unfold roR; rw [if_neg (by rw [qg]; exact fun z => nomatch z)]
        exact V_vret F dJ10_rotateRight_95 (by first | exact Nat.le_of_ble_eq_true rfl | omega) (by first | exact Nat.le_of_ble_eq_true rfl | omega) ⟨rfl, ⟨x0, x1, x6, x7, x8, by rw [hro]; exact ((hset_ne (ne_oo ((hset_ne (ne_oo ((hset_ne (ne_oo ((hset_ne (ne_oo ((hset_ne (ne_oo ((hset_ne (ne_oo ht (hT p hp) (by decide))).trans ht) (hT1 q hq) (by decide))).trans ((hset_ne (ne_oo ht (hT p hp) (by decide))).trans ht)) (hT11 r hr2) (by decide))).trans ((hset_ne (ne_oo ((hset_ne (ne_oo ht (hT p hp) (by decide))).trans ht) (hT1 q hq) (by decide))).trans ((hset_ne (ne_oo ht (hT p hp) (by decide))).trans ht))) (hT12 g hg) (by decide))).trans ((hset_ne (ne_oo ((hset_ne (ne_oo ((hset_ne (ne_oo ht (hT p hp) (by decide))).trans ht) (hT1 q hq) (by decide))).trans ((hset_ne (ne_oo ht (hT p hp) (by decide))).trans ht)) (hT11 r hr2) (by decide))).trans ((hset_ne (ne_oo ((hset_ne (ne_oo ht (hT p hp) (by decide))).trans ht) (hT1 q hq) (by decide))).trans ((hset_ne (ne_oo ht (hT p hp) (by decide))).trans ht)))) (hT13 r hr2) (by decide))).trans ((hset_ne (ne_oo ((hset_ne (ne_oo ((hset_ne (ne_oo ((hset_ne (ne_oo ht (hT p hp) (by decide))).trans ht) (hT1 q hq) (by decide))).trans ((hset_ne (ne_oo ht (hT p hp) (by decide))).trans ht)) (hT11 r hr2) (by decide))).trans ((hset_ne (ne_oo ((hset_ne (ne_oo ht (hT p hp) (by decide))).trans ht) (hT1 q hq) (by decide))).trans ((hset_ne (ne_oo ht (hT p hp) (by decide))).trans ht))) (hT12 g hg) (by decide))).trans ((hset_ne (ne_oo ((hset_ne (ne_oo ((hset_ne (ne_oo ht (hT p hp) (by decide))).trans ht) (hT1 q hq) (by decide))).trans ((hset_ne (ne_oo ht (hT p hp) (by decide))).trans ht)) (hT11 r hr2) (by decide))).trans ((hset_ne (ne_oo ((hset_ne (ne_oo ht (hT p hp) (by decide))).trans ht) (hT1 q hq) (by decide))).trans ((hset_ne (ne_oo ht (hT p hp) (by decide))).trans ht))))) (hT14 p hp) (by decide))).trans ((hset_ne (ne_oo ((hset_ne (ne_oo ((hset_ne (ne_oo ((hset_ne (ne_oo ((hset_ne (ne_oo ht (hT p hp) (by decide))).trans ht) (hT1 q hq) (by decide))).trans ((hset_ne (ne_oo ht (hT p hp) (by decide))).trans ht)) (hT11 r hr2) (by decide))).trans ((hset_ne (ne_oo ((hset_ne (ne_oo ht (hT p hp) (by decide))).trans ht) (hT1 q hq) (by decide))).trans ((hset_ne (ne_oo ht (hT p hp) (by decide))).trans ht))) (hT12 g hg) (by decide))).trans ((hset_ne (ne_oo ((hset_ne (ne_oo ((hset_ne (ne_oo ht (hT p hp) (by decide))).trans ht) (hT1 q hq) (by decide))).trans ((hset_ne (ne_oo ht (hT p hp) (by decide))).trans ht)) (hT11 r hr2) (by decide))).trans ((hset_ne (ne_oo ((hset_ne (ne_oo ht (hT p hp) (by decide))).trans ht) (hT1 q hq) (by decide))).trans ((hset_ne (ne_oo ht (hT p hp) (by decide))).trans ht)))) (hT13 r hr2) (by decide))).trans ((hset_ne (ne_oo ((hset_ne (ne_oo ((hset_ne (ne_oo ((hset_ne (ne_oo ht (hT p hp) (by decide))).trans ht) (hT1 q hq) (by decide))).trans ((hset_ne (ne_oo ht (hT p hp) (by decide))).trans ht)) (hT11 r hr2) (by decide))).trans ((hset_ne (ne_oo ((hset_ne (ne_oo ht (hT p hp) (by decide))).trans ht) (hT1 q hq) (by decide))).trans ((hset_ne (ne_oo ht (hT p hp) (by decide))).trans ht))) (hT12 g hg) (by decide))).trans ((hset_ne (ne_oo ((hset_ne (ne_oo ((hset_ne (ne_oo ht (hT p hp) (by decide))).trans ht) (hT1 q hq) (by decide))).trans ((hset_ne (ne_oo ht (hT p hp) (by decide))).trans ht)) (hT11 r hr2) (by decide))).trans ((hset_ne (ne_oo ((hset_ne (ne_oo ht (hT p hp) (by decide))).trans ht) (hT1 q hq) (by decide))).trans ((hset_ne (ne_oo ht (hT p hp) (by decide))).trans ht)))))), vw_fr hv1 hfr rfl, vw_fr hv7 hfr rfl⟩, hTf, hfr⟩
      · refine V_aload_n (i := 1) F dJ10_rotateRight_66 rfl rfl ?_
        refine V_getf F dJ10_rotateRight_67 fc_J10_124_J41 (.inl (hT12 p hp)) rfl ?_
        refine VV.stk (st' := [.ref (A g)]) (by first | (rw [((upo_n hpr).trans ((upo_n hpq).trans qg))]; rfl) | rw [((upo_n hpr).trans ((upo_n hpq).trans qg))]) ?_
        refine V_aload_n (i := 2) F dJ10_rotateRight_70 rfl rfl ?_
        refine VV.stk (st' := va_rf ((some r).map A) :: .ref (A g) :: []) rfl ?_
        refine V_putf F dJ10_rotateRight_71 fp_J10_114_J41 (hT12 g hg) (nar_rfO _ _) (fit_rfO _ _) (Nat.le_of_ble_eq_true rfl) ?_
        have hT16 := hT12.putR (o := some r) hAI hg
        refine V_goto (tgt := 85) F dJ10_rotateRight_74 (by decide) ?_
        refine V_aload_n (i := 2) F dJ10_rotateRight_85 rfl rfl ?_
        refine V_aload_n (i := 1) F dJ10_rotateRight_86 rfl rfl ?_
        refine VV.stk (st' := va_rf ((some p).map A) :: .ref (A r) :: []) rfl ?_
        refine V_putf F dJ10_rotateRight_87 fp_J10_114_J41 (hT16 r hr2) (nar_rfO _ _) (fit_rfO _ _) (Nat.le_of_ble_eq_true rfl) ?_
        have hT17 := hT16.putR (o := some p) hAI hr2
        refine V_aload_n (i := 1) F dJ10_rotateRight_90 rfl rfl ?_
        refine V_aload_n (i := 2) F dJ10_rotateRight_91 rfl rfl ?_
        refine VV.stk (st' := va_rf ((some r).map A) :: .ref (A p) :: []) rfl ?_
        refine V_putf F dJ10_rotateRight_92 fp_J10_124_J41 (hT17 p hp) (nar_rfO _ _) (fit_rfO _ _) (Nat.le_of_ble_eq_true rfl) ?_
        have hT18 := hT17.putP (o := some r) hAI hp
        have hfr := (((((((Fr.rf (M := mT t n A) (h := h)).put (x := .inr (24, (ndc A K V L R P C p).set 2 (va_rf ((R r).map A)))) (hT p hp) rfl rfl (Or.inl (Or.inr ⟨p, hp, rfl⟩))).put (x := .inr (24, (ndc A K V (upo L p (R r)) R P C q).set 4 (va_rf ((some p).map A)))) (hT1 q hq) rfl rfl (Or.inl (Or.inr ⟨q, hq, rfl⟩))).put (x := .inr (24, (ndc A K V (upo L p (R r)) R (upo P q (some p)) C r).set 4 (va_rf ((P p).map A)))) (hT11 r hr2) rfl rfl (Or.inl (Or.inr ⟨r, hr2, rfl⟩))).put (x := .inr (24, (ndc A K V (upo L p (R r)) R (upo (upo P q (some p)) r (P p)) C g).set 3 (va_rf ((some r).map A)))) (hT12 g hg) rfl rfl (Or.inl (Or.inr ⟨g, hg, rfl⟩))).put (x := .inr (24, (ndc A K V (upo L p (R r)) (upo R g (some r)) (upo (upo P q (some p)) r (P p)) C r).set 3 (va_rf ((some p).map A)))) (hT16 r hr2) rfl rfl (Or.inl (Or.inr ⟨r, hr2, rfl⟩))).put (x := .inr (24, (ndc A K V (upo L p (R r)) (upo (upo R g (some r)) r (some p)) (upo (upo P q (some p)) r (P p)) C p).set 4 (va_rf ((some r).map A)))) (hT17 p hp) rfl rfl (Or.inl (Or.inr ⟨p, hp, rfl⟩)))
        have hcg : (R g).map A = some (A p) ↔ R g = some p := ⟨fun z => map_eq hAI (fun j hj => hw.bR hg hj) hp z, fun z => by rw [z]; rfl⟩
        first | rw [hcg] at c_63 | rw [ne_eq, hcg] at c_63
        have hpg := hw.Pne hp qg
        have hpi := hw.Pin hp qg
        have hp1 := hw.1 p hp
        have hr1 := hw.1 r hr2
        have hpc := hw.2.2.1 p r hp hr
        have hgr : g ≠ r := by omega
        have hTf := hT18.ext (L2 := rrL L R P p r) (R2 := rrR R P p r) (P2 := rrP R P p r) (C2 := C) (fun j => by unfold rrL; grind [upo]) (fun j => by unfold rrR; grind [upo]) (fun j => by unfold rrP; grind [upo]) (fun j => rfl)
        have hro : roR P rt p r = rt := by unfold roR; rw [if_neg (by rw [qg]; exact fun z => nomatch z)]
        exact V_vret F dJ10_rotateRight_95 (by first | exact Nat.le_of_ble_eq_true rfl | omega) (by first | exact Nat.le_of_ble_eq_true rfl | omega) ⟨rfl, ⟨x0, x1, x6, x7, x8, by rw [hro]; exact ((hset_ne (ne_oo ((hset_ne (ne_oo ((hset_ne (ne_oo ((hset_ne (ne_oo ((hset_ne (ne_oo ((hset_ne (ne_oo ht (hT p hp) (by decide))).trans ht) (hT1 q hq) (by decide))).trans ((hset_ne (ne_oo ht (hT p hp) (by decide))).trans ht)) (hT11 r hr2) (by decide))).trans ((hset_ne (ne_oo ((hset_ne (ne_oo ht (hT p hp) (by decide))).trans ht) (hT1 q hq) (by decide))).trans ((hset_ne (ne_oo ht (hT p hp) (by decide))).trans ht))) (hT12 g hg) (by decide))).trans ((hset_ne (ne_oo ((hset_ne (ne_oo ((hset_ne (ne_oo ht (hT p hp) (by decide))).trans ht) (hT1 q hq) (by decide))).trans ((hset_ne (ne_oo ht (hT p hp) (by decide))).trans ht)) (hT11 r hr2) (by decide))).trans ((hset_ne (ne_oo ((hset_ne (ne_oo ht (hT p hp) (by decide))).trans ht) (hT1 q hq) (by decide))).trans ((hset_ne (ne_oo ht (hT p hp) (by decide))).trans ht)))) (hT16 r hr2) (by decide))).trans ((hset_ne (ne_oo ((hset_ne (ne_oo ((hset_ne (ne_oo ((hset_ne (ne_oo ht (hT p hp) (by decide))).trans ht) (hT1 q hq) (by decide))).trans ((hset_ne (ne_oo ht (hT p hp) (by decide))).trans ht)) (hT11 r hr2) (by decide))).trans ((hset_ne (ne_oo ((hset_ne (ne_oo ht (hT p hp) (by decide))).trans ht) (hT1 q hq) (by decide))).trans ((hset_ne (ne_oo ht (hT p hp) (by decide))).trans ht))) (hT12 g hg) (by decide))).trans ((hset_ne (ne_oo ((hset_ne (ne_oo ((hset_ne (ne_oo ht (hT p hp) (by decide))).trans ht) (hT1 q hq) (by decide))).trans ((hset_ne (ne_oo ht (hT p hp) (by decide))).trans ht)) (hT11 r hr2) (by decide))).trans ((hset_ne (ne_oo ((hset_ne (ne_oo ht (hT p hp) (by decide))).trans ht) (hT1 q hq) (by decide))).trans ((hset_ne (ne_oo ht (hT p hp) (by decide))).trans ht))))) (hT17 p hp) (by decide))).trans ((hset_ne (ne_oo ((hset_ne (ne_oo ((hset_ne (ne_oo ((hset_ne (ne_oo ((hset_ne (ne_oo ht (hT p hp) (by decide))).trans ht) (hT1 q hq) (by decide))).trans ((hset_ne (ne_oo ht (hT p hp) (by decide))).trans ht)) (hT11 r hr2) (by decide))).trans ((hset_ne (ne_oo ((hset_ne (ne_oo ht (hT p hp) (by decide))).trans ht) (hT1 q hq) (by decide))).trans ((hset_ne (ne_oo ht (hT p hp) (by decide))).trans ht))) (hT12 g hg) (by decide))).trans ((hset_ne (ne_oo ((hset_ne (ne_oo ((hset_ne (ne_oo ht (hT p hp) (by decide))).trans ht) (hT1 q hq) (by decide))).trans ((hset_ne (ne_oo ht (hT p hp) (by decide))).trans ht)) (hT11 r hr2) (by decide))).trans ((hset_ne (ne_oo ((hset_ne (ne_oo ht (hT p hp) (by decide))).trans ht) (hT1 q hq) (by decide))).trans ((hset_ne (ne_oo ht (hT p hp) (by decide))).trans ht)))) (hT16 r hr2) (by decide))).trans ((hset_ne (ne_oo ((hset_ne (ne_oo ((hset_ne (ne_oo ((hset_ne (ne_oo ht (hT p hp) (by decide))).trans ht) (hT1 q hq) (by decide))).trans ((hset_ne (ne_oo ht (hT p hp) (by decide))).trans ht)) (hT11 r hr2) (by decide))).trans ((hset_ne (ne_oo ((hset_ne (ne_oo ht (hT p hp) (by decide))).trans ht) (hT1 q hq) (by decide))).trans ((hset_ne (ne_oo ht (hT p hp) (by decide))).trans ht))) (hT12 g hg) (by decide))).trans ((hset_ne (ne_oo ((hset_ne (ne_oo ((hset_ne (ne_oo ht (hT p hp) (by decide))).trans ht) (hT1 q hq) (by decide))).trans ((hset_ne (ne_oo ht (hT p hp) (by decide))).trans ht)) (hT11 r hr2) (by decide))).trans ((hset_ne (ne_oo ((hset_ne (ne_oo ht (hT p hp) (by decide))).trans ht) (hT1 q hq) (by decide))).trans ((hset_ne (ne_oo ht (hT p hp) (by decide))).trans ht)))))), vw_fr hv1 hfr rfl, vw_fr hv7 hfr rfl⟩, hTf, hfr⟩
    · refine V_aload_n (i := 0) F dJ10_rotateRight_47 rfl rfl ?_
      refine V_aload_n (i := 2) F dJ10_rotateRight_48 rfl rfl ?_
      refine V_putf F dJ10_rotateRight_49 fp_J10_101_J10 ((hset_ne (ne_oo ((hset_ne (ne_oo ((hset_ne (ne_oo ht (hT p hp) (by decide))).trans ht) (hT1 q hq) (by decide))).trans ((hset_ne (ne_oo ht (hT p hp) (by decide))).trans ht)) (hT11 r hr2) (by decide))).trans ((hset_ne (ne_oo ((hset_ne (ne_oo ht (hT p hp) (by decide))).trans ht) (hT1 q hq) (by decide))).trans ((hset_ne (ne_oo ht (hT p hp) (by decide))).trans ht))) rfl rfl (Nat.le_of_ble_eq_true rfl) ?_
      refine VV.heap (h' := (hset (hset (hset (hset h (A p) (.inr (24, (ndc A K V L R P C p).set 2 (va_rf ((R r).map A))))) (A q) (.inr (24, (ndc A K V (upo L p (R r)) R P C q).set 4 (va_rf ((some p).map A))))) (A r) (.inr (24, (ndc A K V (upo L p (R r)) R (upo P q (some p)) C r).set 4 (va_rf ((P p).map A))))) (t) (.inr (23, [x0, x1, .null, .ref (A r), .int (nI (nz)), .int (nI (mc)), x6, x7, x8])))) rfl ?_
      refine V_goto (tgt := 85) F dJ10_rotateRight_52 (by decide) ?_
      refine V_aload_n (i := 2) F dJ10_rotateRight_85 rfl rfl ?_
      refine V_aload_n (i := 1) F dJ10_rotateRight_86 rfl rfl ?_
      refine VV.stk (st' := va_rf ((some p).map A) :: .ref (A r) :: []) rfl ?_
      refine V_putf F dJ10_rotateRight_87 fp_J10_114_J41 ((hT12.oth (x := .inr (23, [x0, x1, .null, .ref (A r), .int (nI (nz)), .int (nI (mc)), x6, x7, x8])) ((hset_ne (ne_oo ((hset_ne (ne_oo ((hset_ne (ne_oo ht (hT p hp) (by decide))).trans ht) (hT1 q hq) (by decide))).trans ((hset_ne (ne_oo ht (hT p hp) (by decide))).trans ht)) (hT11 r hr2) (by decide))).trans ((hset_ne (ne_oo ((hset_ne (ne_oo ht (hT p hp) (by decide))).trans ht) (hT1 q hq) (by decide))).trans ((hset_ne (ne_oo ht (hT p hp) (by decide))).trans ht))) (by decide)) r hr2) (nar_rfO _ _) (fit_rfO _ _) (Nat.le_of_ble_eq_true rfl) ?_
      have hT19 := ((hT12.oth (x := .inr (23, [x0, x1, .null, .ref (A r), .int (nI (nz)), .int (nI (mc)), x6, x7, x8])) ((hset_ne (ne_oo ((hset_ne (ne_oo ((hset_ne (ne_oo ht (hT p hp) (by decide))).trans ht) (hT1 q hq) (by decide))).trans ((hset_ne (ne_oo ht (hT p hp) (by decide))).trans ht)) (hT11 r hr2) (by decide))).trans ((hset_ne (ne_oo ((hset_ne (ne_oo ht (hT p hp) (by decide))).trans ht) (hT1 q hq) (by decide))).trans ((hset_ne (ne_oo ht (hT p hp) (by decide))).trans ht))) (by decide))).putR (o := some p) hAI hr2
      refine V_aload_n (i := 1) F dJ10_rotateRight_90 rfl rfl ?_
      refine V_aload_n (i := 2) F dJ10_rotateRight_91 rfl rfl ?_
      refine VV.stk (st' := va_rf ((some r).map A) :: .ref (A p) :: []) rfl ?_
      refine V_putf F dJ10_rotateRight_92 fp_J10_124_J41 (hT19 p hp) (nar_rfO _ _) (fit_rfO _ _) (Nat.le_of_ble_eq_true rfl) ?_
      have hT20 := hT19.putP (o := some r) hAI hp
      have hfr := (((((((Fr.rf (M := mT t n A) (h := h)).put (x := .inr (24, (ndc A K V L R P C p).set 2 (va_rf ((R r).map A)))) (hT p hp) rfl rfl (Or.inl (Or.inr ⟨p, hp, rfl⟩))).put (x := .inr (24, (ndc A K V (upo L p (R r)) R P C q).set 4 (va_rf ((some p).map A)))) (hT1 q hq) rfl rfl (Or.inl (Or.inr ⟨q, hq, rfl⟩))).put (x := .inr (24, (ndc A K V (upo L p (R r)) R (upo P q (some p)) C r).set 4 (va_rf ((P p).map A)))) (hT11 r hr2) rfl rfl (Or.inl (Or.inr ⟨r, hr2, rfl⟩))).put (x := .inr (23, [x0, x1, .null, .ref (A r), .int (nI (nz)), .int (nI (mc)), x6, x7, x8])) ((hset_ne (ne_oo ((hset_ne (ne_oo ((hset_ne (ne_oo ht (hT p hp) (by decide))).trans ht) (hT1 q hq) (by decide))).trans ((hset_ne (ne_oo ht (hT p hp) (by decide))).trans ht)) (hT11 r hr2) (by decide))).trans ((hset_ne (ne_oo ((hset_ne (ne_oo ht (hT p hp) (by decide))).trans ht) (hT1 q hq) (by decide))).trans ((hset_ne (ne_oo ht (hT p hp) (by decide))).trans ht))) rfl rfl (Or.inl (Or.inl rfl))).put (x := .inr (24, (ndc A K V (upo L p (R r)) R (upo (upo P q (some p)) r (P p)) C r).set 3 (va_rf ((some p).map A)))) ((hT12.oth (x := .inr (23, [x0, x1, .null, .ref (A r), .int (nI (nz)), .int (nI (mc)), x6, x7, x8])) ((hset_ne (ne_oo ((hset_ne (ne_oo ((hset_ne (ne_oo ht (hT p hp) (by decide))).trans ht) (hT1 q hq) (by decide))).trans ((hset_ne (ne_oo ht (hT p hp) (by decide))).trans ht)) (hT11 r hr2) (by decide))).trans ((hset_ne (ne_oo ((hset_ne (ne_oo ht (hT p hp) (by decide))).trans ht) (hT1 q hq) (by decide))).trans ((hset_ne (ne_oo ht (hT p hp) (by decide))).trans ht))) (by decide)) r hr2) rfl rfl (Or.inl (Or.inr ⟨r, hr2, rfl⟩))).put (x := .inr (24, (ndc A K V (upo L p (R r)) (upo R r (some p)) (upo (upo P q (some p)) r (P p)) C p).set 4 (va_rf ((some r).map A)))) (hT19 p hp) rfl rfl (Or.inl (Or.inr ⟨p, hp, rfl⟩)))
      have hr1 := hw.1 r hr2
      have hTf := hT20.ext (L2 := rrL L R P p r) (R2 := rrR R P p r) (P2 := rrP R P p r) (C2 := C) (fun j => by unfold rrL; grind [upo]) (fun j => by unfold rrR; grind [upo]) (fun j => by unfold rrP; grind [upo]) (fun j => rfl)
      have hro : roR P rt p r = some r := by unfold roR; rw [if_pos qg]
      exact V_vret F dJ10_rotateRight_95 (by first | exact Nat.le_of_ble_eq_true rfl | omega) (by first | exact Nat.le_of_ble_eq_true rfl | omega) ⟨rfl, ⟨x0, x1, x6, x7, x8, by rw [hro]; exact ((hset_ne (ne_oo ((hset_ne (ne_oo (hset_self (e := .inr (23, [x0, x1, .null, .ref (A r), .int (nI (nz)), .int (nI (mc)), x6, x7, x8]))) ((hT12.oth (x := .inr (23, [x0, x1, .null, .ref (A r), .int (nI (nz)), .int (nI (mc)), x6, x7, x8])) ((hset_ne (ne_oo ((hset_ne (ne_oo ((hset_ne (ne_oo ht (hT p hp) (by decide))).trans ht) (hT1 q hq) (by decide))).trans ((hset_ne (ne_oo ht (hT p hp) (by decide))).trans ht)) (hT11 r hr2) (by decide))).trans ((hset_ne (ne_oo ((hset_ne (ne_oo ht (hT p hp) (by decide))).trans ht) (hT1 q hq) (by decide))).trans ((hset_ne (ne_oo ht (hT p hp) (by decide))).trans ht))) (by decide)) r hr2) (by decide))).trans (hset_self (e := .inr (23, [x0, x1, .null, .ref (A r), .int (nI (nz)), .int (nI (mc)), x6, x7, x8])))) (hT19 p hp) (by decide))).trans ((hset_ne (ne_oo (hset_self (e := .inr (23, [x0, x1, .null, .ref (A r), .int (nI (nz)), .int (nI (mc)), x6, x7, x8]))) ((hT12.oth (x := .inr (23, [x0, x1, .null, .ref (A r), .int (nI (nz)), .int (nI (mc)), x6, x7, x8])) ((hset_ne (ne_oo ((hset_ne (ne_oo ((hset_ne (ne_oo ht (hT p hp) (by decide))).trans ht) (hT1 q hq) (by decide))).trans ((hset_ne (ne_oo ht (hT p hp) (by decide))).trans ht)) (hT11 r hr2) (by decide))).trans ((hset_ne (ne_oo ((hset_ne (ne_oo ht (hT p hp) (by decide))).trans ht) (hT1 q hq) (by decide))).trans ((hset_ne (ne_oo ht (hT p hp) (by decide))).trans ht))) (by decide)) r hr2) (by decide))).trans (hset_self (e := .inr (23, [x0, x1, .null, .ref (A r), .int (nI (nz)), .int (nI (mc)), x6, x7, x8]))))), vw_fr hv1 hfr rfl, vw_fr hv7 hfr rfl⟩, hTf, hfr⟩
theorem ct_rotateLeft0 {G : GG} {l : Launch} {h : AH} {t : Nat}  : Ct G l yJ10_rotateLeft cJ10_rotateLeft 3 none 0 (0) (0) [.ref t, .null] h (PV h) := by
  refine Ct.of (by decide) (Nat.le_of_ble_eq_true rfl) (cat1 rfl) (fun X hXl F HN => ?_)
  subst hXl
  refine V_aload_nN (i := 1) F dJ10_rotateLeft_0 rfl rfl ?_
  refine V_ifnullN (tgt := 95) F dJ10_rotateLeft_1 (by decide) ?_
  exact V_vret F dJ10_rotateLeft_95 (by first | exact Nat.le_of_ble_eq_true rfl | omega) (by first | exact Nat.le_of_ble_eq_true rfl | omega) ⟨rfl, rfl⟩
theorem ct_rotateRight0 {G : GG} {l : Launch} {h : AH} {t : Nat}  : Ct G l yJ10_rotateRight cJ10_rotateRight 3 none 0 (0) (0) [.ref t, .null] h (PV h) := by
  refine Ct.of (by decide) (Nat.le_of_ble_eq_true rfl) (cat1 rfl) (fun X hXl F HN => ?_)
  subst hXl
  refine V_aload_nN (i := 1) F dJ10_rotateRight_0 rfl rfl ?_
  refine V_ifnullN (tgt := 95) F dJ10_rotateRight_1 (by decide) ?_
  exact V_vret F dJ10_rotateRight_95 (by first | exact Nat.le_of_ble_eq_true rfl | omega) (by first | exact Nat.le_of_ble_eq_true rfl | omega) ⟨rfl, rfl⟩
