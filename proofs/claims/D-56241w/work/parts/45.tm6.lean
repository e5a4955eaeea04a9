/-- places without e: the new place j is the old place sk e j -/
def sk (e j : Nat) : Nat := if j < e then j else j + 1
def cl (e j : Nat) : Nat := if j < e then j else j - 1
def cb (e k : Nat) : Nat := if k ≤ e then k else k - 1
theorem sk_ne {e j : Nat} : sk e j ≠ e := by unfold sk; split <;> omega
theorem sk_lt {e j n : Nat} (h : j < n - 1) : sk e j < n := by unfold sk; split <;> omega
theorem sk_cl {e i : Nat} (h : i ≠ e) : sk e (cl e i) = i := by unfold sk cl; grind
theorem cl_sk {e i : Nat} : cl e (sk e i) = i := by unfold sk cl; grind
theorem cl_lt {e i n : Nat} (h : i < n) (hi : i ≠ e) (he : e < n) : cl e i < n - 1 := by unfold cl; split <;> omega
theorem WT.leftm {n : Nat} {rt : Option Nat} {L R P : Nat → Option Nat} {lo hi : Nat → Nat} (hw : WT n rt L R P lo hi) {m : Nat} : ∀ (k j : Nat), j < k → j < n → lo j = m → m < n ∧ L m = none ∧ lo m = m := by
  intro k
  induction k with
  | zero => intro j h; omega
  | succ k ih =>
    intro j h1 h2 h3
    cases hL : L j with
    | none => have := hw.2.1 j h2 hL; have h4 : j = m := by omega
              rw [← h4]; exact ⟨h2, hL, by omega⟩
    | some c => have := hw.2.2.1 j c h2 hL; exact ih c (by omega) (by omega) (by omega)
theorem WT.del {n e : Nat} {rt rt1 rep : Option Nat} {L R P L1 R1 P1 : Nat → Option Nat} {lo hi : Nat → Nat} (hw : WT n rt L R P lo hi) (he : e < n)
    (hrep : (L e = none ∧ rep = R e) ∨ (R e = none ∧ rep = L e))
    (hL : ∀ i, i < n → i ≠ e → L1 i = if L i = some e then rep else L i) (hR : ∀ i, i < n → i ≠ e → R1 i = if R i = some e then rep else R i) (hP : ∀ i, i < n → i ≠ e → P1 i = if rep = some i then P e else P i) (hrt : rt1 = if P e = none then rep else rt) :
    WT (n - 1) (rt1.map (cl e)) (fun j => (L1 (sk e j)).map (cl e)) (fun j => (R1 (sk e j)).map (cl e)) (fun j => (P1 (sk e j)).map (cl e)) (fun j => cb e (lo (sk e j))) (fun j => cb e (hi (sk e j))) := by
  obtain ⟨h1, h2, h3, h4, h5, h6, h7, h8, h9⟩ := hw
  have e1 := h1 e he
  -- the replacement's stretch
  have hq : ∀ q, rep = some q → q < n ∧ q ≠ e ∧ P q = some e ∧ ((L e = none ∧ R e = some q ∧ lo e = e ∧ lo q = e + 1 ∧ hi q = hi e ∧ e < q) ∨ (R e = none ∧ L e = some q ∧ hi e = e + 1 ∧ hi q = e ∧ lo q = lo e ∧ q < e)) := by
    intro q hq
    rcases hrep with ⟨a, b⟩ | ⟨a, b⟩
    · have c := h2 e he a
      have d := h5 e q he (b ▸ hq)
      exact ⟨d.2.1, by omega, d.2.2.2.2, Or.inl ⟨a, b ▸ hq, c, d.2.2.1, d.2.2.2.1, d.1⟩⟩
    · have c := h4 e he a
      have d := h3 e q he (b ▸ hq)
      exact ⟨by omega, by omega, d.2.2.2, Or.inr ⟨a, b ▸ hq, c, d.2.2.1, d.2.1, d.1⟩⟩
  have hn0 : rep = none → lo e = e ∧ hi e = e + 1 := by
    intro hq
    rcases hrep with ⟨a, b⟩ | ⟨a, b⟩
    · exact ⟨h2 e he a, h4 e he (b ▸ hq)⟩
    · exact ⟨h2 e he (b ▸ hq), h4 e he a⟩
  have hPe : ∀ g, P e = some g → g < n ∧ g ≠ e ∧ (L g = some e ∨ R g = some e) := by
    intro g hg
    have a := h7 e g he hg
    refine ⟨a.1, ?_, a.2⟩
    rcases a.2 with b | b
    · have := h3 g e a.1 b; omega
    · have := h5 g e a.1 b; omega
  refine ⟨?_, ?_, ?_, ?_, ?_, ?_, ?_, ?_, ?_⟩
  · intro j hj
    have a := h1 (sk e j) (sk_lt hj)
    unfold cb sk at *
    grind
  · intro j hj hn
    have hne := sk_ne (e := e) (j := j)
    have hlt := sk_lt (e := e) hj
    rw [Option.map_eq_none_iff, hL _ hlt hne] at hn
    by_cases c : L (sk e j) = some e
    · rw [if_pos c] at hn
      have a := h3 _ e hlt c
      have b := hn0 hn
      unfold cb sk at *
      grind
    · rw [if_neg c] at hn
      have a := h2 _ hlt hn
      unfold cb sk at *
      grind
  · intro j k hj hk
    have hne := sk_ne (e := e) (j := j)
    have hlt := sk_lt (e := e) hj
    obtain ⟨i, hi1, rfl⟩ := Option.map_eq_some_iff.mp hk
    rw [hL _ hlt hne] at hi1
    by_cases c : L (sk e j) = some e
    · rw [if_pos c] at hi1
      have a := h3 _ e hlt c
      obtain ⟨b1, b2, b3, b4⟩ := hq i hi1
      have hPi := hP i b1 b2
      rw [if_pos hi1] at hPi
      have s1 : sk e (cl e i) = i := sk_cl b2
      have s2 := cl_sk (e := e) (i := j)
      refine ⟨?_, ?_, ?_, ?_⟩
      · unfold cl sk at *; grind
      · simp only [s1]; unfold cb sk at *; grind
      · simp only [s1]; unfold cb sk at *; grind
      · simp only [s1, hPi, a.2.2.2, Option.map_some, s2]
    · rw [if_neg c] at hi1
      have a := h3 _ i hlt hi1
      have b2 : i ≠ e := fun z => c (by rw [hi1, z])
      have hPi := hP i (by omega) b2
      have hri : rep ≠ some i := fun z => by
        have := (hq i z).2.2.1
        rw [a.2.2.2] at this
        exact hne (Option.some.inj this)
      rw [if_neg hri] at hPi
      have s1 : sk e (cl e i) = i := sk_cl b2
      have s2 := cl_sk (e := e) (i := j)
      refine ⟨?_, ?_, ?_, ?_⟩
      · unfold cl sk at *; grind
      · simp only [s1]; unfold cb; grind
      · simp only [s1]; unfold cb sk at *; grind
      · simp only [s1, hPi, a.2.2.2, Option.map_some, s2]
  · intro j hj hn
    have hne := sk_ne (e := e) (j := j)
    have hlt := sk_lt (e := e) hj
    rw [Option.map_eq_none_iff, hR _ hlt hne] at hn
    by_cases c : R (sk e j) = some e
    · rw [if_pos c] at hn
      have a := h5 _ e hlt c
      have b := hn0 hn
      unfold cb sk at *
      grind
    · rw [if_neg c] at hn
      have a := h4 _ hlt hn
      unfold cb sk at *
      grind
  · intro j k hj hk
    have hne := sk_ne (e := e) (j := j)
    have hlt := sk_lt (e := e) hj
    obtain ⟨i, hi1, rfl⟩ := Option.map_eq_some_iff.mp hk
    rw [hR _ hlt hne] at hi1
    by_cases c : R (sk e j) = some e
    · rw [if_pos c] at hi1
      have a := h5 _ e hlt c
      obtain ⟨b1, b2, b3, b4⟩ := hq i hi1
      have hPi := hP i b1 b2
      rw [if_pos hi1] at hPi
      have s1 : sk e (cl e i) = i := sk_cl b2
      have s2 := cl_sk (e := e) (i := j)
      refine ⟨?_, ?_, ?_, ?_, ?_⟩
      · unfold cl sk at *; grind
      · exact cl_lt b1 b2 he
      · simp only [s1]; unfold cb sk at *; grind
      · simp only [s1]; unfold cb sk at *; grind
      · simp only [s1, hPi, a.2.2.2.2, Option.map_some, s2]
    · rw [if_neg c] at hi1
      have a := h5 _ i hlt hi1
      have b2 : i ≠ e := fun z => c (by rw [hi1, z])
      have hPi := hP i a.2.1 b2
      have hri : rep ≠ some i := fun z => by
        have := (hq i z).2.2.1
        rw [a.2.2.2.2] at this
        exact hne (Option.some.inj this)
      rw [if_neg hri] at hPi
      have s1 : sk e (cl e i) = i := sk_cl b2
      have s2 := cl_sk (e := e) (i := j)
      refine ⟨?_, ?_, ?_, ?_, ?_⟩
      · unfold cl sk at *; grind
      · exact cl_lt a.2.1 b2 he
      · simp only [s1]; unfold cb sk at *; grind
      · simp only [s1]; unfold cb; grind
      · simp only [s1, hPi, a.2.2.2.2, Option.map_some, s2]
  · intro j hj hn
    have hne := sk_ne (e := e) (j := j)
    have hlt := sk_lt (e := e) hj
    rw [Option.map_eq_none_iff, hP _ hlt hne] at hn
    by_cases c : rep = some (sk e j)
    · rw [if_pos c] at hn
      rw [hrt, if_pos hn, c]; simp only [Option.map_some, cl_sk]
    · rw [if_neg c] at hn
      have a := h6 _ hlt hn
      have b : P e ≠ none := fun z => by
        have := h6 e he z
        rw [a] at this
        exact hne (Option.some.inj this)
      rw [hrt, if_neg b, a]; simp only [Option.map_some, cl_sk]
  · intro j k hj hk
    have hne := sk_ne (e := e) (j := j)
    have hlt := sk_lt (e := e) hj
    obtain ⟨i, hi1, rfl⟩ := Option.map_eq_some_iff.mp hk
    rw [hP _ hlt hne] at hi1
    by_cases c : rep = some (sk e j)
    · rw [if_pos c] at hi1
      obtain ⟨b1, b2, b3⟩ := hPe i hi1
      have s1 : sk e (cl e i) = i := sk_cl b2
      refine ⟨cl_lt b1 b2 he, ?_⟩
      simp only [s1]
      rcases b3 with b3 | b3
      · left; rw [hL i b1 b2, if_pos b3, c]; simp only [Option.map_some, cl_sk]
      · right; rw [hR i b1 b2, if_pos b3, c]; simp only [Option.map_some, cl_sk]
    · rw [if_neg c] at hi1
      have a := h7 _ i hlt hi1
      have b2 : i ≠ e := fun z => by
        subst z
        rcases hrep with ⟨x, y⟩ | ⟨x, y⟩
        · rcases a.2 with w | w
          · rw [x] at w; cases w
          · exact c (by rw [y]; exact w)
        · rcases a.2 with w | w
          · exact c (by rw [y]; exact w)
          · rw [x] at w; cases w
      have s1 : sk e (cl e i) = i := sk_cl b2
      refine ⟨cl_lt a.1 b2 he, ?_⟩
      simp only [s1]
      rcases a.2 with w | w
      · left; rw [hL i a.1 b2, if_neg (fun z => by rw [w] at z; exact hne (Option.some.inj z)), w]; simp only [Option.map_some, cl_sk]
      · right; rw [hR i a.1 b2, if_neg (fun z => by rw [w] at z; exact hne (Option.some.inj z)), w]; simp only [Option.map_some, cl_sk]
  · intro r hr
    obtain ⟨i, hi1, rfl⟩ := Option.map_eq_some_iff.mp hr
    rw [hrt] at hi1
    by_cases c : P e = none
    · rw [if_pos c] at hi1
      obtain ⟨b1, b2, b3, b4⟩ := hq i hi1
      have a := h8 e (h6 e he c)
      have s1 : sk e (cl e i) = i := sk_cl b2
      refine ⟨cl_lt b1 b2 he, ?_, ?_, ?_⟩
      · simp only [s1]; rw [hP i b1 b2, if_pos hi1, c]; rfl
      · simp only [s1]; unfold cb; grind
      · simp only [s1]; unfold cb; grind
    · rw [if_neg c] at hi1
      have a := h8 i hi1
      have b2 : i ≠ e := fun z => c (by rw [← z]; exact a.2.1)
      have s1 : sk e (cl e i) = i := sk_cl b2
      refine ⟨cl_lt a.1 b2 he, ?_, ?_, ?_⟩
      · simp only [s1]; rw [hP i a.1 b2, if_neg (fun z => by have := (hq i z).2.2.1; rw [a.2.1] at this; cases this), a.2.1]; rfl
      · simp only [s1]; unfold cb; grind
      · simp only [s1]; unfold cb; grind
  · intro hr
    rw [Option.map_eq_none_iff, hrt] at hr
    by_cases c : P e = none
    · rw [if_pos c] at hr
      have a := h8 e (h6 e he c)
      have b := hn0 hr
      omega
    · rw [if_neg c] at hr
      have := h9 hr
      omega

theorem TN.del {h : AH} {n e : Nat} {A K V : Nat → Nat} {L R P : Nat → Option Nat} {C : Nat → Bool} (hT : TN h n A K V L R P C) (hL : ∀ i, i < n → i ≠ e → L i ≠ some e) (hR : ∀ i, i < n → i ≠ e → R i ≠ some e) (hP : ∀ i, i < n → i ≠ e → P i ≠ some e) :
    TN h (n - 1) (fun j => A (sk e j)) (fun j => K (sk e j)) (fun j => V (sk e j)) (fun j => (L (sk e j)).map (cl e)) (fun j => (R (sk e j)).map (cl e)) (fun j => (P (sk e j)).map (cl e)) (fun j => C (sk e j)) := by
  have m : ∀ o : Option Nat, o ≠ some e → (o.map (cl e)).map (fun j => A (sk e j)) = o.map A := by
    intro o ho
    cases o with
    | none => rfl
    | some i => simp only [Option.map_some]; rw [sk_cl (fun z => ho (by rw [z]))]
  intro j hj
  have hlt := sk_lt (e := e) hj
  have hne := sk_ne (e := e) (j := j)
  rw [hT (sk e j) hlt]
  unfold ndc
  rw [m _ (hL _ hlt hne), m _ (hR _ hlt hne), m _ (hP _ hlt hne)]
theorem AI.del {n e : Nat} {A : Nat → Nat} (hA : AI n A) : AI (n - 1) (fun j => A (sk e j)) := fun i j hi hj h => by
  have := hA _ _ (sk_lt hi) (sk_lt hj) h
  rw [← cl_sk (e := e) (i := i), this, cl_sk]
theorem map_cl {e : Nat} {A : Nat → Nat} {o : Option Nat} (ho : o ≠ some e) : (o.map (cl e)).map (fun j => A (sk e j)) = o.map A := by
  cases o with
  | none => rfl
  | some i => simp only [Option.map_some]; rw [sk_cl (fun z => ho (by rw [z]))]
theorem TMp.ext {h : AH} {t mc n : Nat} {A K V K2 V2 : Nat → Nat} (hM : TMp h t mc n A K V) (hK : ∀ i, i < n → K2 i = K i) (hV : ∀ i, i < n → V2 i = V i) : TMp h t mc n A K2 V2 := by
  obtain ⟨hAI, rt, L, R, P, C, lo, hi, hC, hT, hw⟩ := hM
  exact ⟨hAI, rt, L, R, P, C, lo, hi, hC, fun i hi => by rw [hT i hi]; unfold ndc; rw [hK i hi, hV i hi], hw⟩
theorem sk_lt' {e j n : Nat} (h : j < n - 1) (he : e < n) : sk e j < n := sk_lt h
/-- the nodes of the new map are nodes of the old one -/
def NS (n m : Nat) (A B : Nat → Nat) : Prop := ∀ j, j < m → ∃ i, i < n ∧ B j = A i
theorem WT.noTo {n : Nat} {rt : Option Nat} {L R P : Nat → Option Nat} {lo hi : Nat → Nat} (hw : WT n rt L R P lo hi) {i e : Nat} (hi' : i < n) (he : e < n) (hL : L e = none) (hR : R e = none) : P i ≠ some e := fun z => by
  have := (hw.2.2.2.2.2.2.1 i e hi' z).2
  rw [hL, hR] at this
  rcases this with q | q <;> cases q
theorem mvK {K0 : Nat → Nat} {d : Nat} (j : Nat) : upo K0 d (K0 (d + 1)) (sk (d + 1) j) = K0 (sk d j) := by
  by_cases h1 : j < d
  · have e1 : sk (d + 1) j = j := by unfold sk; rw [if_pos (by omega)]
    have e2 : sk d j = j := by unfold sk; rw [if_pos h1]
    rw [e1, e2, upo_n (by omega)]
  · by_cases h2 : j = d
    · have e1 : sk (d + 1) j = d := by unfold sk; rw [if_pos (by omega), h2]
      have e2 : sk d j = d + 1 := by unfold sk; rw [if_neg h1, h2]
      rw [e1, e2, upo_s]
    · have e1 : sk (d + 1) j = j + 1 := by unfold sk; rw [if_neg (by omega)]
      have e2 : sk d j = j + 1 := by unfold sk; rw [if_neg h1]
      rw [e1, e2, upo_n (by omega)]
theorem PIF {P : Nat → Option Nat} {q i e : Nat} {v : Option Nat} (h : P e = v) : upo P q v i = if some q = some i then P e else P i := by
  unfold upo
  by_cases c : i = q
  · rw [if_pos c, if_pos (by rw [c]), h]
  · rw [if_neg c, if_neg (fun z => c (Option.some.inj z).symm)]

section COL
variable {n e g : Nat} {rt rep : Option Nat} {L R P L1 R1 P1 : Nat → Option Nat} {lo hi : Nat → Nat}
theorem WT.one (hw : WT n rt L R P lo hi) (he : e < n) (hL : L e = none) (hR : R e = none) (hP : P e = none) : n = 1 := by
  have h1 := hw.2.2.2.2.2.2.2.1 e (hw.2.2.2.2.2.1 e he hP)
  have h2 := hw.2.1 e he hL
  have h3 := hw.2.2.2.1 e he hR
  omega
theorem WT.unL (hw : WT n rt L R P lo hi) (hP : P e = some g) {i : Nat} (hi' : i < n) (h : L i = some e) : i = g := by
  have := (hw.2.2.1 i e hi' h).2.2.2
  rw [hP] at this; exact (Option.some.inj this).symm
theorem WT.unR (hw : WT n rt L R P lo hi) (hP : P e = some g) {i : Nat} (hi' : i < n) (h : R i = some e) : i = g := by
  have := (hw.2.2.2.2.1 i e hi' h).2.2.2.2
  rw [hP] at this; exact (Option.some.inj this).symm
theorem WT.nLR (hw : WT n rt L R P lo hi) (hg : g < n) (h1 : L g = some e) (h2 : R g = some e) : False := by
  have := hw.2.2.1 g e hg h1
  have := hw.2.2.2.2.1 g e hg h2
  omega
theorem WT.unP (hw : WT n rt L R P lo hi) (he : e < n) (hrep : (L e = none ∧ rep = R e) ∨ (R e = none ∧ rep = L e)) {i : Nat} (hi' : i < n) (h : P i = some e) : rep = some i := by
  have := (hw.2.2.2.2.2.2.1 i e hi' h).2
  rcases hrep with ⟨a, b⟩ | ⟨a, b⟩
  · rcases this with q | q
    · rw [a] at q; cases q
    · rw [b, q]
  · rcases this with q | q
    · rw [b, q]
    · rw [a] at q; cases q
theorem WT.rtn (hw : WT n rt L R P lo hi) (hP : P e = some g) : rt ≠ some e := fun z => by
  have := (hw.2.2.2.2.2.2.2.1 e z).2.1
  rw [hP] at this; cases this
theorem WT.colL (hw : WT n rt L R P lo hi) (he : e < n) (hg : g < n) (hrep : (L e = none ∧ rep = R e) ∨ (R e = none ∧ rep = L e)) (hPe : P e = some g) (hlg : L g = some e)
    (hL : ∀ i, i < n → i ≠ e → L1 i = upo L g rep i) (hR : ∀ i, i < n → i ≠ e → R1 i = R i) (hP : ∀ i, i < n → i ≠ e → P1 i = if rep = some i then P e else P i) :
    WT (n - 1) (rt.map (cl e)) (fun j => (L1 (sk e j)).map (cl e)) (fun j => (R1 (sk e j)).map (cl e)) (fun j => (P1 (sk e j)).map (cl e)) (fun j => cb e (lo (sk e j))) (fun j => cb e (hi (sk e j)))
    ∧ (∀ i, i < n → i ≠ e → L1 i ≠ some e) ∧ (∀ i, i < n → i ≠ e → R1 i ≠ some e) ∧ (∀ i, i < n → i ≠ e → P1 i ≠ some e) := by
  have hrn : rep ≠ some e := fun z => by
    rcases hrep with ⟨a, b⟩ | ⟨a, b⟩
    · have := hw.2.2.2.2.1 e e he (b ▸ z); omega
    · have := hw.2.2.1 e e he (b ▸ z); omega
  refine ⟨hw.del he hrep (fun i h1 h2 => ?_) (fun i h1 h2 => ?_) hP (by rw [hPe]; rfl), fun i h1 h2 z => ?_, fun i h1 h2 z => ?_, fun i h1 h2 z => ?_⟩
  · rw [hL i h1 h2]
    by_cases c : i = g
    · rw [c, upo_s, if_pos hlg]
    · rw [upo_n c, if_neg (fun z => c (hw.unL hPe h1 z))]
  · rw [hR i h1 h2, if_neg (fun z => ?_)]
    have c := hw.unR hPe h1 z
    rw [c] at z
    exact hw.nLR hg hlg z
  · rw [hL i h1 h2] at z
    by_cases c : i = g
    · rw [c, upo_s] at z; exact hrn z
    · rw [upo_n c] at z; exact c (hw.unL hPe h1 z)
  · rw [hR i h1 h2] at z
    have c := hw.unR hPe h1 z
    rw [c] at z
    exact hw.nLR hg hlg z
  · rw [hP i h1 h2] at z
    by_cases c : rep = some i
    · rw [if_pos c] at z; exact hw.Pne he z rfl
    · rw [if_neg c] at z; exact c (hw.unP he hrep h1 z)
theorem WT.colR (hw : WT n rt L R P lo hi) (he : e < n) (hg : g < n) (hrep : (L e = none ∧ rep = R e) ∨ (R e = none ∧ rep = L e)) (hPe : P e = some g) (hrg : R g = some e)
    (hL : ∀ i, i < n → i ≠ e → L1 i = L i) (hR : ∀ i, i < n → i ≠ e → R1 i = upo R g rep i) (hP : ∀ i, i < n → i ≠ e → P1 i = if rep = some i then P e else P i) :
    WT (n - 1) (rt.map (cl e)) (fun j => (L1 (sk e j)).map (cl e)) (fun j => (R1 (sk e j)).map (cl e)) (fun j => (P1 (sk e j)).map (cl e)) (fun j => cb e (lo (sk e j))) (fun j => cb e (hi (sk e j)))
    ∧ (∀ i, i < n → i ≠ e → L1 i ≠ some e) ∧ (∀ i, i < n → i ≠ e → R1 i ≠ some e) ∧ (∀ i, i < n → i ≠ e → P1 i ≠ some e) := by
  have hrn : rep ≠ some e := fun z => by
    rcases hrep with ⟨a, b⟩ | ⟨a, b⟩
    · have := hw.2.2.2.2.1 e e he (b ▸ z); omega
    · have := hw.2.2.1 e e he (b ▸ z); omega
  refine ⟨hw.del he hrep (fun i h1 h2 => ?_) (fun i h1 h2 => ?_) hP (by rw [hPe]; rfl), fun i h1 h2 z => ?_, fun i h1 h2 z => ?_, fun i h1 h2 z => ?_⟩
  · rw [hL i h1 h2, if_neg (fun z => ?_)]
    have c := hw.unL hPe h1 z
    rw [c] at z
    exact hw.nLR hg z hrg
  · rw [hR i h1 h2]
    by_cases c : i = g
    · rw [c, upo_s, if_pos hrg]
    · rw [upo_n c, if_neg (fun z => c (hw.unR hPe h1 z))]
  · rw [hL i h1 h2] at z
    have c := hw.unL hPe h1 z
    rw [c] at z
    exact hw.nLR hg z hrg
  · rw [hR i h1 h2] at z
    by_cases c : i = g
    · rw [c, upo_s] at z; exact hrn z
    · rw [upo_n c] at z; exact c (hw.unR hPe h1 z)
  · rw [hP i h1 h2] at z
    by_cases c : rep = some i
    · rw [if_pos c] at z; exact hw.Pne he z rfl
    · rw [if_neg c] at z; exact c (hw.unP he hrep h1 z)
theorem WT.noC (hw : WT n rt L R P lo hi) (hPe : P e = none) {i : Nat} (h1 : i < n) : L i ≠ some e ∧ R i ≠ some e := by
  constructor
  · intro z
    have := (hw.2.2.1 i e h1 z).2.2.2
    rw [hPe] at this; cases this
  · intro z
    have := (hw.2.2.2.2.1 i e h1 z).2.2.2.2
    rw [hPe] at this; cases this
theorem WT.col0 (hw : WT n rt L R P lo hi) (he : e < n) (hrep : (L e = none ∧ rep = R e) ∨ (R e = none ∧ rep = L e)) (hPe : P e = none)
    (hL : ∀ i, i < n → i ≠ e → L1 i = L i) (hR : ∀ i, i < n → i ≠ e → R1 i = R i) (hP : ∀ i, i < n → i ≠ e → P1 i = if rep = some i then P e else P i) :
    WT (n - 1) (rep.map (cl e)) (fun j => (L1 (sk e j)).map (cl e)) (fun j => (R1 (sk e j)).map (cl e)) (fun j => (P1 (sk e j)).map (cl e)) (fun j => cb e (lo (sk e j))) (fun j => cb e (hi (sk e j)))
    ∧ (∀ i, i < n → i ≠ e → L1 i ≠ some e) ∧ (∀ i, i < n → i ≠ e → R1 i ≠ some e) ∧ (∀ i, i < n → i ≠ e → P1 i ≠ some e) := by
  refine ⟨hw.del he hrep (fun i h1 h2 => ?_) (fun i h1 h2 => ?_) hP (by rw [if_pos hPe]), fun i h1 h2 z => ?_, fun i h1 h2 z => ?_, fun i h1 h2 z => ?_⟩
  · rw [hL i h1 h2, if_neg (hw.noC hPe h1).1]
  · rw [hR i h1 h2, if_neg (hw.noC hPe h1).2]
  · rw [hL i h1 h2] at z; exact (hw.noC hPe h1).1 z
  · rw [hR i h1 h2] at z; exact (hw.noC hPe h1).2 z
  · rw [hP i h1 h2] at z
    by_cases c : rep = some i
    · rw [if_pos c, hPe] at z; cases z
    · rw [if_neg c] at z; exact c (hw.unP he hrep h1 z)
theorem WT.leafAt (hw : WT n rt L R P lo hi) (he : e < n) (h1 : lo e = e) (h2 : hi e = e + 1) : L e = none ∧ R e = none := by
  constructor
  · cases q : L e with
    | none => rfl
    | some j => have a := hw.2.2.1 e j he q; have b := hw.1 j (by omega); omega
  · cases q : R e with
    | none => rfl
    | some j => have a := hw.2.2.2.2.1 e j he q; have b := hw.1 j (by omega); omega
end COL
theorem TC.col {h : AH} {t n mc e : Nat} {rt : Option Nat} {A : Nat → Nat} (hC : TC h t n mc (rt.map A)) (hr : rt ≠ some e) : TC h t n mc ((rt.map (cl e)).map (fun j => A (sk e j))) := by
  rw [map_cl hr]; exact hC
theorem mT.dn {t n e : Nat} {A : Nat → Nat} {b : Nat} (h : mT t (n - 1) (fun j => A (sk e j)) b) : mT t n A b := h.imp id (fun ⟨i, hi, hb⟩ => ⟨_, sk_lt hi, hb⟩)

theorem ct_deleteEntry {G : GG} {l : Launch} {h : AH} {t mc n : Nat} {A K0 V0 : Nat → Nat} {d : Nat} (hM : TMp h t mc n A K0 V0) (hAI : AI n A) (hd : d < n) : Ct G l yJ10_deleteEntry cJ10_deleteEntry 3 none 3 (0) (0) [.ref t, .ref (A d)] h (fun r0 h2 => r0 = none ∧ ∃ A2, TMp h2 t (mc + 1) (n - 1) A2 (fun j => K0 (sk d j)) (fun j => V0 (sk d j)) ∧ NS n (n - 1) A A2 ∧ Fr (mT t n A) h h2) := by
  refine Ct.of (by decide) (Nat.le_of_ble_eq_true rfl) (cat1 rfl) (fun X hXl F HN => ?_)
  subst hXl
  have phU : ∀ (K V : Nat → Nat) (L R P : Nat → Option Nat) (C : Nat → Bool) (rt : Option Nat) (lo hi : Nat → Nat) (e : Nat) (hh : AH), TC hh t (n - 1) (mc + 1) (rt.map A) → TN hh n A K V L R P C → WT n rt L R P lo hi → e < n → (∀ j, j < n - 1 → K (sk e j) = K0 (sk d j)) → (∀ j, j < n - 1 → V (sk e j) = V0 (sk d j)) → Fr (mT t n A) h hh → L e = none → R e = none → 1 < n → VV G X 3 (EQ G X 0 0 (fun r0 h2 => r0 = none ∧ ∃ A2, TMp h2 t (mc + 1) (n - 1) A2 (fun j => K0 (sk d j)) (fun j => V0 (sk d j)) ∧ NS n (n - 1) A A2 ∧ Fr (mT t n A) h h2)) hh 0 0 [some (.ref t), some (.ref (A e)), none] [] 192 := by
    intro K V L R P C rt lo hi e hh hC hT hw he hK hV hF hLe hRe hn1
    obtain ⟨x0, x1, x6, x7, x8, ht, hv1, hv7⟩ := id hC
    cases hPe : P e with
    | none => exact absurd (hw.one he hLe hRe hPe) (by omega)
    | some g =>
      have hg : g < n := hw.bP he hPe
      have hge := hw.Pne he hPe
      by_cases hlg : L g = some e
      · refine V_aload_n (i := 1) F dJ10_deleteEntry_192 rfl rfl ?_
        refine V_getf F dJ10_deleteEntry_193 fc_J10_124_J41 (.inl (hT e he)) rfl ?_
        refine VV.stk (st' := [.ref (A g)]) (by first | (rw [hPe]; rfl) | rw [hPe]) ?_
        refine V_ifnull F dJ10_deleteEntry_196 ?_
        refine V_aload_n (i := 1) F dJ10_deleteEntry_199 rfl rfl ?_
        refine V_aload_n (i := 1) F dJ10_deleteEntry_200 rfl rfl ?_
        refine V_getf F dJ10_deleteEntry_201 fc_J10_124_J41 (.inl (hT e he)) rfl ?_
        refine VV.stk (st' := [.ref (A g), .ref (A e)]) (by first | (rw [hPe]; rfl) | rw [hPe]) ?_
        refine V_getf F dJ10_deleteEntry_204 fc_J10_111_J41 (.inl (hT g hg)) rfl ?_
        refine VV.stk (st' := [.ref (A e), .ref (A e)]) (by first | (rw [hlg]; rfl) | rw [hlg]) ?_
        refine V_acmp_ne (rx := some (A e)) (ry := some (A e)) (tgt := 221) F dJ10_deleteEntry_207 (by decide) (fun c_207 => absurd rfl c_207) (fun c_207 => ?_)
        refine V_aload_n (i := 1) F dJ10_deleteEntry_210 rfl rfl ?_
        refine V_getf F dJ10_deleteEntry_211 fc_J10_124_J41 (.inl (hT e he)) rfl ?_
        refine VV.stk (st' := [.ref (A g)]) (by first | (rw [hPe]; rfl) | rw [hPe]) ?_
        refine V_null F dJ10_deleteEntry_214 ?_
        refine VV.stk (st' := va_rf ((none).map A) :: .ref (A g) :: []) rfl ?_
        refine V_putf F dJ10_deleteEntry_215 fp_J10_111_J41 (hT g hg) (nar_rfO _ _) (fit_rfO _ _) (Nat.le_of_ble_eq_true rfl) ?_
        have hT1 := hT.putL (o := none) hAI hg
        refine V_goto (tgt := 240) F dJ10_deleteEntry_218 (by decide) ?_
        refine V_aload_n (i := 1) F dJ10_deleteEntry_240 rfl rfl ?_
        refine V_null F dJ10_deleteEntry_241 ?_
        refine VV.stk (st' := va_rf ((none).map A) :: .ref (A e) :: []) rfl ?_
        refine V_putf F dJ10_deleteEntry_242 fp_J10_124_J41 (hT1 e he) (nar_rfO _ _) (fit_rfO _ _) (Nat.le_of_ble_eq_true rfl) ?_
        have hT2 := hT1.putP (o := none) hAI he
        obtain ⟨hw2, hd1, hd2, hd3⟩ := hw.colL (rep := none) he hg (Or.inl ⟨hLe, hRe.symm⟩) hPe hlg (L1 := upo L g none) (R1 := R) (P1 := upo P e none) (fun i _ q => rfl) (fun i _ q => rfl) (fun i _ q => (upo_n q).trans (if_neg (fun z => by cases z)).symm)
        have hTd := (hT2).del hd1 hd2 hd3
        have hfr2 := (((Fr.rf (M := fun _ => True) (h := hh)).put (x := .inr (24, (ndc A K V L R P C g).set 2 (va_rf ((none).map A)))) (hT g hg) rfl rfl (Or.inl trivial)).put (x := .inr (24, (ndc A K V (upo L g none) R P C e).set 4 (va_rf ((none).map A)))) (hT1 e he) rfl rfl (Or.inl trivial))
        have hfr := ((hF.put (x := .inr (24, (ndc A K V L R P C g).set 2 (va_rf ((none).map A)))) (hT g hg) rfl rfl (Or.inl (Or.inr ⟨g, hg, rfl⟩))).put (x := .inr (24, (ndc A K V (upo L g none) R P C e).set 4 (va_rf ((none).map A)))) (hT1 e he) rfl rfl (Or.inl (Or.inr ⟨e, he, rfl⟩)))
        have hCd : TC _ t (n - 1) (mc + 1) (((rt : Option Nat).map (cl e)).map (fun j => A (sk e j))) := TC.col ⟨x0, x1, x6, x7, x8, ((hset_ne (ne_oo ((hset_ne (ne_oo ht (hT g hg) (by decide))).trans ht) (hT1 e he) (by decide))).trans ((hset_ne (ne_oo ht (hT g hg) (by decide))).trans ht)), vw_fr hv1 hfr2 rfl, vw_fr hv7 hfr2 rfl⟩ (hw.rtn hPe)
        exact V_vret F dJ10_deleteEntry_245 (by first | exact Nat.le_of_ble_eq_true rfl | omega) (by first | exact Nat.le_of_ble_eq_true rfl | omega) ⟨rfl, _, TMp.ext (K := fun j => K (sk e j)) (V := fun j => V (sk e j)) ⟨hAI.del, _, _, _, _, _, _, _, hCd, hTd, hw2⟩ (fun i hi => (hK i hi).symm) (fun i hi => (hV i hi).symm), fun j hj => ⟨sk e j, sk_lt hj, rfl⟩, hfr⟩
      · have hrg : R g = some e := (hw.2.2.2.2.2.2.1 e g he hPe).2.resolve_left hlg
        cases hy : L g with
        | none =>
          refine V_aload_n (i := 1) F dJ10_deleteEntry_192 rfl rfl ?_
          refine V_getf F dJ10_deleteEntry_193 fc_J10_124_J41 (.inl (hT e he)) rfl ?_
          refine VV.stk (st' := [.ref (A g)]) (by first | (rw [hPe]; rfl) | rw [hPe]) ?_
          refine V_ifnull F dJ10_deleteEntry_196 ?_
          refine V_aload_n (i := 1) F dJ10_deleteEntry_199 rfl rfl ?_
          refine V_aload_n (i := 1) F dJ10_deleteEntry_200 rfl rfl ?_
          refine V_getf F dJ10_deleteEntry_201 fc_J10_124_J41 (.inl (hT e he)) rfl ?_
          refine VV.stk (st' := [.ref (A g), .ref (A e)]) (by first | (rw [hPe]; rfl) | rw [hPe]) ?_
          refine V_getf F dJ10_deleteEntry_204 fc_J10_111_J41 (.inl (hT g hg)) rfl ?_
          refine VV.stk (st' := [.null, .ref (A e)]) (by first | (rw [hy]; rfl) | rw [hy]) ?_
          refine V_acmp_ne (rx := some (A e)) (ry := none) (tgt := 221) F dJ10_deleteEntry_207 (by decide) (fun c_207 => ?_) (fun c_207 => nomatch c_207)
          refine V_aload_n (i := 1) F dJ10_deleteEntry_221 rfl rfl ?_
          refine V_aload_n (i := 1) F dJ10_deleteEntry_222 rfl rfl ?_
          refine V_getf F dJ10_deleteEntry_223 fc_J10_124_J41 (.inl (hT e he)) rfl ?_
          refine VV.stk (st' := [.ref (A g), .ref (A e)]) (by first | (rw [hPe]; rfl) | rw [hPe]) ?_
          refine V_getf F dJ10_deleteEntry_226 fc_J10_114_J41 (.inl (hT g hg)) rfl ?_
          refine VV.stk (st' := [.ref (A e), .ref (A e)]) (by first | (rw [hrg]; rfl) | rw [hrg]) ?_
          refine V_acmp_ne (rx := some (A e)) (ry := some (A e)) (tgt := 240) F dJ10_deleteEntry_229 (by decide) (fun c_229 => absurd rfl c_229) (fun c_229 => ?_)
          refine V_aload_n (i := 1) F dJ10_deleteEntry_232 rfl rfl ?_
          refine V_getf F dJ10_deleteEntry_233 fc_J10_124_J41 (.inl (hT e he)) rfl ?_
          refine VV.stk (st' := [.ref (A g)]) (by first | (rw [hPe]; rfl) | rw [hPe]) ?_
          refine V_null F dJ10_deleteEntry_236 ?_
          refine VV.stk (st' := va_rf ((none).map A) :: .ref (A g) :: []) rfl ?_
          refine V_putf F dJ10_deleteEntry_237 fp_J10_114_J41 (hT g hg) (nar_rfO _ _) (fit_rfO _ _) (Nat.le_of_ble_eq_true rfl) ?_
          have hT3 := hT.putR (o := none) hAI hg
          refine V_aload_n (i := 1) F dJ10_deleteEntry_240 rfl rfl ?_
          refine V_null F dJ10_deleteEntry_241 ?_
          refine VV.stk (st' := va_rf ((none).map A) :: .ref (A e) :: []) rfl ?_
          refine V_putf F dJ10_deleteEntry_242 fp_J10_124_J41 (hT3 e he) (nar_rfO _ _) (fit_rfO _ _) (Nat.le_of_ble_eq_true rfl) ?_
          have hT4 := hT3.putP (o := none) hAI he
          obtain ⟨hw2, hd1, hd2, hd3⟩ := hw.colR (rep := none) he hg (Or.inl ⟨hLe, hRe.symm⟩) hPe hrg (L1 := L) (R1 := upo R g none) (P1 := upo P e none) (fun i _ q => rfl) (fun i _ q => rfl) (fun i _ q => (upo_n q).trans (if_neg (fun z => by cases z)).symm)
          have hTd := (hT4).del hd1 hd2 hd3
          have hfr2 := (((Fr.rf (M := fun _ => True) (h := hh)).put (x := .inr (24, (ndc A K V L R P C g).set 3 (va_rf ((none).map A)))) (hT g hg) rfl rfl (Or.inl trivial)).put (x := .inr (24, (ndc A K V L (upo R g none) P C e).set 4 (va_rf ((none).map A)))) (hT3 e he) rfl rfl (Or.inl trivial))
          have hfr := ((hF.put (x := .inr (24, (ndc A K V L R P C g).set 3 (va_rf ((none).map A)))) (hT g hg) rfl rfl (Or.inl (Or.inr ⟨g, hg, rfl⟩))).put (x := .inr (24, (ndc A K V L (upo R g none) P C e).set 4 (va_rf ((none).map A)))) (hT3 e he) rfl rfl (Or.inl (Or.inr ⟨e, he, rfl⟩)))
          have hCd : TC _ t (n - 1) (mc + 1) (((rt : Option Nat).map (cl e)).map (fun j => A (sk e j))) := TC.col ⟨x0, x1, x6, x7, x8, ((hset_ne (ne_oo ((hset_ne (ne_oo ht (hT g hg) (by decide))).trans ht) (hT3 e he) (by decide))).trans ((hset_ne (ne_oo ht (hT g hg) (by decide))).trans ht)), vw_fr hv1 hfr2 rfl, vw_fr hv7 hfr2 rfl⟩ (hw.rtn hPe)
          exact V_vret F dJ10_deleteEntry_245 (by first | exact Nat.le_of_ble_eq_true rfl | omega) (by first | exact Nat.le_of_ble_eq_true rfl | omega) ⟨rfl, _, TMp.ext (K := fun j => K (sk e j)) (V := fun j => V (sk e j)) ⟨hAI.del, _, _, _, _, _, _, _, hCd, hTd, hw2⟩ (fun i hi => (hK i hi).symm) (fun i hi => (hV i hi).symm), fun j hj => ⟨sk e j, sk_lt hj, rfl⟩, hfr⟩
        | some y =>
          have hyn : y < n := hw.bL hg hy
          have hye : y ≠ e := fun z => hlg (by rw [hy, z])
          refine V_aload_n (i := 1) F dJ10_deleteEntry_192 rfl rfl ?_
          refine V_getf F dJ10_deleteEntry_193 fc_J10_124_J41 (.inl (hT e he)) rfl ?_
          refine VV.stk (st' := [.ref (A g)]) (by first | (rw [hPe]; rfl) | rw [hPe]) ?_
          refine V_ifnull F dJ10_deleteEntry_196 ?_
          refine V_aload_n (i := 1) F dJ10_deleteEntry_199 rfl rfl ?_
          refine V_aload_n (i := 1) F dJ10_deleteEntry_200 rfl rfl ?_
          refine V_getf F dJ10_deleteEntry_201 fc_J10_124_J41 (.inl (hT e he)) rfl ?_
          refine VV.stk (st' := [.ref (A g), .ref (A e)]) (by first | (rw [hPe]; rfl) | rw [hPe]) ?_
          refine V_getf F dJ10_deleteEntry_204 fc_J10_111_J41 (.inl (hT g hg)) rfl ?_
          refine VV.stk (st' := [.ref (A y), .ref (A e)]) (by first | (rw [hy]; rfl) | rw [hy]) ?_
          refine V_acmp_ne (rx := some (A e)) (ry := some (A y)) (tgt := 221) F dJ10_deleteEntry_207 (by decide) (fun c_207 => ?_) (fun c_207 => absurd (hAI _ _ he hyn (Option.some.inj c_207)) (Ne.symm hye))
          refine V_aload_n (i := 1) F dJ10_deleteEntry_221 rfl rfl ?_
          refine V_aload_n (i := 1) F dJ10_deleteEntry_222 rfl rfl ?_
          refine V_getf F dJ10_deleteEntry_223 fc_J10_124_J41 (.inl (hT e he)) rfl ?_
          refine VV.stk (st' := [.ref (A g), .ref (A e)]) (by first | (rw [hPe]; rfl) | rw [hPe]) ?_
          refine V_getf F dJ10_deleteEntry_226 fc_J10_114_J41 (.inl (hT g hg)) rfl ?_
          refine VV.stk (st' := [.ref (A e), .ref (A e)]) (by first | (rw [hrg]; rfl) | rw [hrg]) ?_
          refine V_acmp_ne (rx := some (A e)) (ry := some (A e)) (tgt := 240) F dJ10_deleteEntry_229 (by decide) (fun c_229 => absurd rfl c_229) (fun c_229 => ?_)
          refine V_aload_n (i := 1) F dJ10_deleteEntry_232 rfl rfl ?_
          refine V_getf F dJ10_deleteEntry_233 fc_J10_124_J41 (.inl (hT e he)) rfl ?_
          refine VV.stk (st' := [.ref (A g)]) (by first | (rw [hPe]; rfl) | rw [hPe]) ?_
          refine V_null F dJ10_deleteEntry_236 ?_
          refine VV.stk (st' := va_rf ((none).map A) :: .ref (A g) :: []) rfl ?_
          refine V_putf F dJ10_deleteEntry_237 fp_J10_114_J41 (hT g hg) (nar_rfO _ _) (fit_rfO _ _) (Nat.le_of_ble_eq_true rfl) ?_
          have hT5 := hT.putR (o := none) hAI hg
          refine V_aload_n (i := 1) F dJ10_deleteEntry_240 rfl rfl ?_
          refine V_null F dJ10_deleteEntry_241 ?_
          refine VV.stk (st' := va_rf ((none).map A) :: .ref (A e) :: []) rfl ?_
          refine V_putf F dJ10_deleteEntry_242 fp_J10_124_J41 (hT5 e he) (nar_rfO _ _) (fit_rfO _ _) (Nat.le_of_ble_eq_true rfl) ?_
          have hT6 := hT5.putP (o := none) hAI he
          obtain ⟨hw2, hd1, hd2, hd3⟩ := hw.colR (rep := none) he hg (Or.inl ⟨hLe, hRe.symm⟩) hPe hrg (L1 := L) (R1 := upo R g none) (P1 := upo P e none) (fun i _ q => rfl) (fun i _ q => rfl) (fun i _ q => (upo_n q).trans (if_neg (fun z => by cases z)).symm)
          have hTd := (hT6).del hd1 hd2 hd3
          have hfr2 := (((Fr.rf (M := fun _ => True) (h := hh)).put (x := .inr (24, (ndc A K V L R P C g).set 3 (va_rf ((none).map A)))) (hT g hg) rfl rfl (Or.inl trivial)).put (x := .inr (24, (ndc A K V L (upo R g none) P C e).set 4 (va_rf ((none).map A)))) (hT5 e he) rfl rfl (Or.inl trivial))
          have hfr := ((hF.put (x := .inr (24, (ndc A K V L R P C g).set 3 (va_rf ((none).map A)))) (hT g hg) rfl rfl (Or.inl (Or.inr ⟨g, hg, rfl⟩))).put (x := .inr (24, (ndc A K V L (upo R g none) P C e).set 4 (va_rf ((none).map A)))) (hT5 e he) rfl rfl (Or.inl (Or.inr ⟨e, he, rfl⟩)))
          have hCd : TC _ t (n - 1) (mc + 1) (((rt : Option Nat).map (cl e)).map (fun j => A (sk e j))) := TC.col ⟨x0, x1, x6, x7, x8, ((hset_ne (ne_oo ((hset_ne (ne_oo ht (hT g hg) (by decide))).trans ht) (hT5 e he) (by decide))).trans ((hset_ne (ne_oo ht (hT g hg) (by decide))).trans ht)), vw_fr hv1 hfr2 rfl, vw_fr hv7 hfr2 rfl⟩ (hw.rtn hPe)
          exact V_vret F dJ10_deleteEntry_245 (by first | exact Nat.le_of_ble_eq_true rfl | omega) (by first | exact Nat.le_of_ble_eq_true rfl | omega) ⟨rfl, _, TMp.ext (K := fun j => K (sk e j)) (V := fun j => V (sk e j)) ⟨hAI.del, _, _, _, _, _, _, _, hCd, hTd, hw2⟩ (fun i hi => (hK i hi).symm) (fun i hi => (hV i hi).symm), fun j hj => ⟨sk e j, sk_lt hj, rfl⟩, hfr⟩
  have phD : ∀ (K V : Nat → Nat) (L R P : Nat → Option Nat) (C : Nat → Bool) (rt : Option Nat) (lo hi : Nat → Nat) (e : Nat) (hh : AH), TC hh t (n - 1) (mc + 1) (rt.map A) → TN hh n A K V L R P C → WT n rt L R P lo hi → e < n → (∀ j, j < n - 1 → K (sk e j) = K0 (sk d j)) → (∀ j, j < n - 1 → V (sk e j) = V0 (sk d j)) → Fr (mT t n A) h hh → (L e = none ∨ R e = none) → VV G X 3 (EQ G X 0 0 (fun r0 h2 => r0 = none ∧ ∃ A2, TMp h2 t (mc + 1) (n - 1) A2 (fun j => K0 (sk d j)) (fun j => V0 (sk d j)) ∧ NS n (n - 1) A A2 ∧ Fr (mT t n A) h h2)) hh 0 0 [some (.ref t), some (.ref (A e)), none] [] 57 := by
    intro K V L R P C rt lo hi e hh hC hT hw he hK hV hF hone
    obtain ⟨x0, x1, x6, x7, x8, ht, hv1, hv7⟩ := id hC
    cases hLe : L e with
    | some q =>
      have hRe : R e = none := hone.resolve_left (by rw [hLe]; intro z; cases z)
      have hq : q < n := hw.bL he hLe
      have hqe : q ≠ e := by have := hw.2.2.1 e q he hLe; omega
      cases hPe : P e with
      | none =>
        refine V_aload_n (i := 1) F dJ10_deleteEntry_57 rfl rfl ?_
        refine V_getf F dJ10_deleteEntry_58 fc_J10_111_J41 (.inl (hT e he)) rfl ?_
        refine VV.stk (st' := [.ref (A q)]) (by first | (rw [hLe]; rfl) | rw [hLe]) ?_
        refine V_ifnull F dJ10_deleteEntry_61 ?_
        refine V_aload_n (i := 1) F dJ10_deleteEntry_64 rfl rfl ?_
        refine V_getf F dJ10_deleteEntry_65 fc_J10_111_J41 (.inl (hT e he)) rfl ?_
        refine VV.stk (st' := [.ref (A q)]) (by first | (rw [hLe]; rfl) | rw [hLe]) ?_
        refine V_goto (tgt := 75) F dJ10_deleteEntry_68 (by decide) ?_
        refine V_astore_n (i := 2) F dJ10_deleteEntry_75 rfl (Nat.le_of_ble_eq_true rfl) (Nat.le_of_ble_eq_true rfl) ?_
        refine V_aload_n (i := 2) F dJ10_deleteEntry_76 rfl rfl ?_
        refine V_ifnull F dJ10_deleteEntry_77 ?_
        refine V_aload_n (i := 2) F dJ10_deleteEntry_80 rfl rfl ?_
        refine V_aload_n (i := 1) F dJ10_deleteEntry_81 rfl rfl ?_
        refine V_getf F dJ10_deleteEntry_82 fc_J10_124_J41 (.inl (hT e he)) rfl ?_
        refine VV.stk (st' := [.null, .ref (A q)]) (by first | (rw [hPe]; rfl) | rw [hPe]) ?_
        refine VV.stk (st' := va_rf ((none).map A) :: .ref (A q) :: []) rfl ?_
        refine V_putf F dJ10_deleteEntry_85 fp_J10_124_J41 (hT q hq) (nar_rfO _ _) (fit_rfO _ _) (Nat.le_of_ble_eq_true rfl) ?_
        have hT1 := hT.putP (o := none) hAI hq
        refine V_aload_n (i := 1) F dJ10_deleteEntry_88 rfl rfl ?_
        refine V_getf F dJ10_deleteEntry_89 fc_J10_124_J41 (.inl (hT1 e he)) rfl ?_
        refine VV.stk (st' := [.null]) (by first | (rw [((upo_n (Ne.symm hqe)).trans hPe)]; rfl) | rw [((upo_n (Ne.symm hqe)).trans hPe)]) ?_
        refine V_ifnonnullN F dJ10_deleteEntry_92 ?_
        refine V_aload_n (i := 0) F dJ10_deleteEntry_95 rfl rfl ?_
        refine V_aload_n (i := 2) F dJ10_deleteEntry_96 rfl rfl ?_
        refine V_putf F dJ10_deleteEntry_97 fp_J10_101_J10 ((hset_ne (ne_oo ht (hT q hq) (by decide))).trans ht) rfl rfl (Nat.le_of_ble_eq_true rfl) ?_
        refine VV.heap (h' := (hset (hset hh (A q) (.inr (24, (ndc A K V L R P C q).set 4 (va_rf ((none).map A))))) (t) (.inr (23, [x0, x1, .null, .ref (A q), .int (nI (n - 1)), .int (nI (mc + 1)), x6, x7, x8])))) rfl ?_
        refine V_goto (tgt := 133) F dJ10_deleteEntry_100 (by decide) ?_
        refine V_aload_n (i := 1) F dJ10_deleteEntry_133 rfl rfl ?_
        refine V_aload_n (i := 1) F dJ10_deleteEntry_134 rfl rfl ?_
        refine V_aload_n (i := 1) F dJ10_deleteEntry_135 rfl rfl ?_
        refine V_null F dJ10_deleteEntry_136 ?_
        refine V_dup_x1 F dJ10_deleteEntry_137 rfl rfl ?_
        refine VV.stk (st' := va_rf ((none).map A) :: .ref (A e) :: [.null, .ref (A e), .ref (A e)]) rfl ?_
        refine V_putf F dJ10_deleteEntry_138 fp_J10_124_J41 ((hT1.oth (x := .inr (23, [x0, x1, .null, .ref (A q), .int (nI (n - 1)), .int (nI (mc + 1)), x6, x7, x8])) ((hset_ne (ne_oo ht (hT q hq) (by decide))).trans ht) (by decide)) e he) (nar_rfO _ _) (fit_rfO _ _) (Nat.le_of_ble_eq_true rfl) ?_
        have hT2 := ((hT1.oth (x := .inr (23, [x0, x1, .null, .ref (A q), .int (nI (n - 1)), .int (nI (mc + 1)), x6, x7, x8])) ((hset_ne (ne_oo ht (hT q hq) (by decide))).trans ht) (by decide))).putP (o := none) hAI he
        refine V_dup_x1 F dJ10_deleteEntry_141 rfl rfl ?_
        refine VV.stk (st' := va_rf ((none).map A) :: .ref (A e) :: [.null, .ref (A e)]) rfl ?_
        refine V_putf F dJ10_deleteEntry_142 fp_J10_114_J41 (hT2 e he) (nar_rfO _ _) (fit_rfO _ _) (Nat.le_of_ble_eq_true rfl) ?_
        have hT3 := hT2.putR (o := none) hAI he
        refine VV.stk (st' := va_rf ((none).map A) :: .ref (A e) :: []) rfl ?_
        refine V_putf F dJ10_deleteEntry_145 fp_J10_111_J41 (hT3 e he) (nar_rfO _ _) (fit_rfO _ _) (Nat.le_of_ble_eq_true rfl) ?_
        have hT4 := hT3.putL (o := none) hAI he
        obtain ⟨hw2, hd1, hd2, hd3⟩ := hw.col0 (rep := some q) he (Or.inr ⟨hRe, hLe.symm⟩) hPe (L1 := upo L e none) (R1 := upo R e none) (P1 := upo (upo P q none) e none) (fun i _ q => upo_n q) (fun i _ q => upo_n q) (fun i _ q => (upo_n q).trans (PIF hPe))
        have hTd := (hT4).del hd1 hd2 hd3
        have hfr2 := ((((((Fr.rf (M := fun _ => True) (h := hh)).put (x := .inr (24, (ndc A K V L R P C q).set 4 (va_rf ((none).map A)))) (hT q hq) rfl rfl (Or.inl trivial)).put (x := .inr (23, [x0, x1, .null, .ref (A q), .int (nI (n - 1)), .int (nI (mc + 1)), x6, x7, x8])) ((hset_ne (ne_oo ht (hT q hq) (by decide))).trans ht) rfl rfl (Or.inl trivial)).put (x := .inr (24, (ndc A K V L R (upo P q none) C e).set 4 (va_rf ((none).map A)))) ((hT1.oth (x := .inr (23, [x0, x1, .null, .ref (A q), .int (nI (n - 1)), .int (nI (mc + 1)), x6, x7, x8])) ((hset_ne (ne_oo ht (hT q hq) (by decide))).trans ht) (by decide)) e he) rfl rfl (Or.inl trivial)).put (x := .inr (24, (ndc A K V L R (upo (upo P q none) e none) C e).set 3 (va_rf ((none).map A)))) (hT2 e he) rfl rfl (Or.inl trivial)).put (x := .inr (24, (ndc A K V L (upo R e none) (upo (upo P q none) e none) C e).set 2 (va_rf ((none).map A)))) (hT3 e he) rfl rfl (Or.inl trivial))
        have hfr := (((((hF.put (x := .inr (24, (ndc A K V L R P C q).set 4 (va_rf ((none).map A)))) (hT q hq) rfl rfl (Or.inl (Or.inr ⟨q, hq, rfl⟩))).put (x := .inr (23, [x0, x1, .null, .ref (A q), .int (nI (n - 1)), .int (nI (mc + 1)), x6, x7, x8])) ((hset_ne (ne_oo ht (hT q hq) (by decide))).trans ht) rfl rfl (Or.inl (Or.inl rfl))).put (x := .inr (24, (ndc A K V L R (upo P q none) C e).set 4 (va_rf ((none).map A)))) ((hT1.oth (x := .inr (23, [x0, x1, .null, .ref (A q), .int (nI (n - 1)), .int (nI (mc + 1)), x6, x7, x8])) ((hset_ne (ne_oo ht (hT q hq) (by decide))).trans ht) (by decide)) e he) rfl rfl (Or.inl (Or.inr ⟨e, he, rfl⟩))).put (x := .inr (24, (ndc A K V L R (upo (upo P q none) e none) C e).set 3 (va_rf ((none).map A)))) (hT2 e he) rfl rfl (Or.inl (Or.inr ⟨e, he, rfl⟩))).put (x := .inr (24, (ndc A K V L (upo R e none) (upo (upo P q none) e none) C e).set 2 (va_rf ((none).map A)))) (hT3 e he) rfl rfl (Or.inl (Or.inr ⟨e, he, rfl⟩)))
        have hCd : TC _ t (n - 1) (mc + 1) (((some q : Option Nat).map (cl e)).map (fun j => A (sk e j))) := TC.col ⟨x0, x1, x6, x7, x8, ((hset_ne (ne_oo ((hset_ne (ne_oo ((hset_ne (ne_oo (hset_self (e := .inr (23, [x0, x1, .null, .ref (A q), .int (nI (n - 1)), .int (nI (mc + 1)), x6, x7, x8]))) ((hT1.oth (x := .inr (23, [x0, x1, .null, .ref (A q), .int (nI (n - 1)), .int (nI (mc + 1)), x6, x7, x8])) ((hset_ne (ne_oo ht (hT q hq) (by decide))).trans ht) (by decide)) e he) (by decide))).trans (hset_self (e := .inr (23, [x0, x1, .null, .ref (A q), .int (nI (n - 1)), .int (nI (mc + 1)), x6, x7, x8])))) (hT2 e he) (by decide))).trans ((hset_ne (ne_oo (hset_self (e := .inr (23, [x0, x1, .null, .ref (A q), .int (nI (n - 1)), .int (nI (mc + 1)), x6, x7, x8]))) ((hT1.oth (x := .inr (23, [x0, x1, .null, .ref (A q), .int (nI (n - 1)), .int (nI (mc + 1)), x6, x7, x8])) ((hset_ne (ne_oo ht (hT q hq) (by decide))).trans ht) (by decide)) e he) (by decide))).trans (hset_self (e := .inr (23, [x0, x1, .null, .ref (A q), .int (nI (n - 1)), .int (nI (mc + 1)), x6, x7, x8]))))) (hT3 e he) (by decide))).trans ((hset_ne (ne_oo ((hset_ne (ne_oo (hset_self (e := .inr (23, [x0, x1, .null, .ref (A q), .int (nI (n - 1)), .int (nI (mc + 1)), x6, x7, x8]))) ((hT1.oth (x := .inr (23, [x0, x1, .null, .ref (A q), .int (nI (n - 1)), .int (nI (mc + 1)), x6, x7, x8])) ((hset_ne (ne_oo ht (hT q hq) (by decide))).trans ht) (by decide)) e he) (by decide))).trans (hset_self (e := .inr (23, [x0, x1, .null, .ref (A q), .int (nI (n - 1)), .int (nI (mc + 1)), x6, x7, x8])))) (hT2 e he) (by decide))).trans ((hset_ne (ne_oo (hset_self (e := .inr (23, [x0, x1, .null, .ref (A q), .int (nI (n - 1)), .int (nI (mc + 1)), x6, x7, x8]))) ((hT1.oth (x := .inr (23, [x0, x1, .null, .ref (A q), .int (nI (n - 1)), .int (nI (mc + 1)), x6, x7, x8])) ((hset_ne (ne_oo ht (hT q hq) (by decide))).trans ht) (by decide)) e he) (by decide))).trans (hset_self (e := .inr (23, [x0, x1, .null, .ref (A q), .int (nI (n - 1)), .int (nI (mc + 1)), x6, x7, x8])))))), vw_fr hv1 hfr2 rfl, vw_fr hv7 hfr2 rfl⟩ (fun z => hqe (Option.some.inj z))
        refine V_aload_n (i := 1) F dJ10_deleteEntry_148 rfl rfl ?_
        refine V_getf F dJ10_deleteEntry_149 fc_J10_290_J41 (.inl (hT4 e he)) rfl ?_
        refine V_iconst (v := nI 1) F dJ10_deleteEntry_152 rfl ?_
        refine V_icmp_ne1C (c := C e) (tgt := 245) F dJ10_deleteEntry_153 (by decide) (fun c_153 => ?_) (fun c_153 => ?_)
        · exact V_vret F dJ10_deleteEntry_245 (by first | exact Nat.le_of_ble_eq_true rfl | omega) (by first | exact Nat.le_of_ble_eq_true rfl | omega) ⟨rfl, _, TMp.ext (K := fun j => K (sk e j)) (V := fun j => V (sk e j)) ⟨hAI.del, _, _, _, _, _, _, _, hCd, hTd, hw2⟩ (fun i hi => (hK i hi).symm) (fun i hi => (hV i hi).symm), fun j hj => ⟨sk e j, sk_lt hj, rfl⟩, hfr⟩
        · refine V_aload_n (i := 0) F dJ10_deleteEntry_156 rfl rfl ?_
          refine V_aload_n (i := 2) F dJ10_deleteEntry_157 rfl rfl ?_
          refine VV.stk (st' := [.ref ((fun j => A (sk e j)) (cl e q)), .ref (t)]) (by simp only [sk_cl hqe]) ?_
          refine V_callV (st := []) F dJ10_deleteEntry_158 lk_J10_317 (ct_fixDel hCd hTd hAI.del hw2 (cl_lt hq hqe he) ⟨(hw2.1 _ (cl_lt hq hqe he)).1, (hw2.1 _ (cl_lt hq hqe he)).2.1, rfl, rfl⟩) ⟨23, _, _, _, rfl, (.inl ((hset_ne (ne_oo ((hset_ne (ne_oo ((hset_ne (ne_oo (hset_self (e := .inr (23, [x0, x1, .null, .ref (A q), .int (nI (n - 1)), .int (nI (mc + 1)), x6, x7, x8]))) ((hT1.oth (x := .inr (23, [x0, x1, .null, .ref (A q), .int (nI (n - 1)), .int (nI (mc + 1)), x6, x7, x8])) ((hset_ne (ne_oo ht (hT q hq) (by decide))).trans ht) (by decide)) e he) (by decide))).trans (hset_self (e := .inr (23, [x0, x1, .null, .ref (A q), .int (nI (n - 1)), .int (nI (mc + 1)), x6, x7, x8])))) (hT2 e he) (by decide))).trans ((hset_ne (ne_oo (hset_self (e := .inr (23, [x0, x1, .null, .ref (A q), .int (nI (n - 1)), .int (nI (mc + 1)), x6, x7, x8]))) ((hT1.oth (x := .inr (23, [x0, x1, .null, .ref (A q), .int (nI (n - 1)), .int (nI (mc + 1)), x6, x7, x8])) ((hset_ne (ne_oo ht (hT q hq) (by decide))).trans ht) (by decide)) e he) (by decide))).trans (hset_self (e := .inr (23, [x0, x1, .null, .ref (A q), .int (nI (n - 1)), .int (nI (mc + 1)), x6, x7, x8]))))) (hT3 e he) (by decide))).trans ((hset_ne (ne_oo ((hset_ne (ne_oo (hset_self (e := .inr (23, [x0, x1, .null, .ref (A q), .int (nI (n - 1)), .int (nI (mc + 1)), x6, x7, x8]))) ((hT1.oth (x := .inr (23, [x0, x1, .null, .ref (A q), .int (nI (n - 1)), .int (nI (mc + 1)), x6, x7, x8])) ((hset_ne (ne_oo ht (hT q hq) (by decide))).trans ht) (by decide)) e he) (by decide))).trans (hset_self (e := .inr (23, [x0, x1, .null, .ref (A q), .int (nI (n - 1)), .int (nI (mc + 1)), x6, x7, x8])))) (hT2 e he) (by decide))).trans ((hset_ne (ne_oo (hset_self (e := .inr (23, [x0, x1, .null, .ref (A q), .int (nI (n - 1)), .int (nI (mc + 1)), x6, x7, x8]))) ((hT1.oth (x := .inr (23, [x0, x1, .null, .ref (A q), .int (nI (n - 1)), .int (nI (mc + 1)), x6, x7, x8])) ((hset_ne (ne_oo ht (hT q hq) (by decide))).trans ht) (by decide)) e he) (by decide))).trans (hset_self (e := .inr (23, [x0, x1, .null, .ref (A q), .int (nI (n - 1)), .int (nI (mc + 1)), x6, x7, x8])))))))⟩ rfl rfl (Nat.le_of_ble_eq_true rfl) (Nat.le_of_ble_eq_true rfl) (Nat.le_of_ble_eq_true rfl) (by first | exact Nat.le_of_ble_eq_true rfl | omega) (by first | exact Nat.le_of_ble_eq_true rfl | omega) ?_
          rintro _ h9 ⟨rfl, L9, R9, P9, C9, rt9, lo9, hi9, hC9, hT9, hw9, hF9, -, -⟩
          refine V_goto (tgt := 245) F dJ10_deleteEntry_161 (by decide) ?_
          exact V_vret F dJ10_deleteEntry_245 (by first | exact Nat.le_of_ble_eq_true rfl | omega) (by first | exact Nat.le_of_ble_eq_true rfl | omega) ⟨rfl, _, TMp.ext (K := fun j => K (sk e j)) (V := fun j => V (sk e j)) ⟨hAI.del, _, _, _, _, _, _, _, hC9, hT9, hw9⟩ (fun i hi => (hK i hi).symm) (fun i hi => (hV i hi).symm), fun j hj => ⟨sk e j, sk_lt hj, rfl⟩, hfr.cal hF9 (fun b q => Or.inl q.dn)⟩
      | some g =>
        have hg : g < n := hw.bP he hPe
        have hge := hw.Pne he hPe
        by_cases hlg : L g = some e
        · refine V_aload_n (i := 1) F dJ10_deleteEntry_57 rfl rfl ?_
          refine V_getf F dJ10_deleteEntry_58 fc_J10_111_J41 (.inl (hT e he)) rfl ?_
          refine VV.stk (st' := [.ref (A q)]) (by first | (rw [hLe]; rfl) | rw [hLe]) ?_
          refine V_ifnull F dJ10_deleteEntry_61 ?_
          refine V_aload_n (i := 1) F dJ10_deleteEntry_64 rfl rfl ?_
          refine V_getf F dJ10_deleteEntry_65 fc_J10_111_J41 (.inl (hT e he)) rfl ?_
          refine VV.stk (st' := [.ref (A q)]) (by first | (rw [hLe]; rfl) | rw [hLe]) ?_
          refine V_goto (tgt := 75) F dJ10_deleteEntry_68 (by decide) ?_
          refine V_astore_n (i := 2) F dJ10_deleteEntry_75 rfl (Nat.le_of_ble_eq_true rfl) (Nat.le_of_ble_eq_true rfl) ?_
          refine V_aload_n (i := 2) F dJ10_deleteEntry_76 rfl rfl ?_
          refine V_ifnull F dJ10_deleteEntry_77 ?_
          refine V_aload_n (i := 2) F dJ10_deleteEntry_80 rfl rfl ?_
          refine V_aload_n (i := 1) F dJ10_deleteEntry_81 rfl rfl ?_
          refine V_getf F dJ10_deleteEntry_82 fc_J10_124_J41 (.inl (hT e he)) rfl ?_
          refine VV.stk (st' := [.ref (A g), .ref (A q)]) (by first | (rw [hPe]; rfl) | rw [hPe]) ?_
          refine VV.stk (st' := va_rf ((some g).map A) :: .ref (A q) :: []) rfl ?_
          refine V_putf F dJ10_deleteEntry_85 fp_J10_124_J41 (hT q hq) (nar_rfO _ _) (fit_rfO _ _) (Nat.le_of_ble_eq_true rfl) ?_
          have hT5 := hT.putP (o := some g) hAI hq
          refine V_aload_n (i := 1) F dJ10_deleteEntry_88 rfl rfl ?_
          refine V_getf F dJ10_deleteEntry_89 fc_J10_124_J41 (.inl (hT5 e he)) rfl ?_
          refine VV.stk (st' := [.ref (A g)]) (by first | (rw [((upo_n (Ne.symm hqe)).trans hPe)]; rfl) | rw [((upo_n (Ne.symm hqe)).trans hPe)]) ?_
          refine V_ifnonnull (tgt := 103) F dJ10_deleteEntry_92 (by decide) ?_
          refine V_aload_n (i := 1) F dJ10_deleteEntry_103 rfl rfl ?_
          refine V_aload_n (i := 1) F dJ10_deleteEntry_104 rfl rfl ?_
          refine V_getf F dJ10_deleteEntry_105 fc_J10_124_J41 (.inl (hT5 e he)) rfl ?_
          refine VV.stk (st' := [.ref (A g), .ref (A e)]) (by first | (rw [((upo_n (Ne.symm hqe)).trans hPe)]; rfl) | rw [((upo_n (Ne.symm hqe)).trans hPe)]) ?_
          refine V_getf F dJ10_deleteEntry_108 fc_J10_111_J41 (.inl (hT5 g hg)) rfl ?_
          refine VV.stk (st' := [.ref (A e), .ref (A e)]) (by first | (rw [hlg]; rfl) | rw [hlg]) ?_
          refine V_acmp_ne (rx := some (A e)) (ry := some (A e)) (tgt := 125) F dJ10_deleteEntry_111 (by decide) (fun c_111 => absurd rfl c_111) (fun c_111 => ?_)
          refine V_aload_n (i := 1) F dJ10_deleteEntry_114 rfl rfl ?_
          refine V_getf F dJ10_deleteEntry_115 fc_J10_124_J41 (.inl (hT5 e he)) rfl ?_
          refine VV.stk (st' := [.ref (A g)]) (by first | (rw [((upo_n (Ne.symm hqe)).trans hPe)]; rfl) | rw [((upo_n (Ne.symm hqe)).trans hPe)]) ?_
          refine V_aload_n (i := 2) F dJ10_deleteEntry_118 rfl rfl ?_
          refine VV.stk (st' := va_rf ((some q).map A) :: .ref (A g) :: []) rfl ?_
          refine V_putf F dJ10_deleteEntry_119 fp_J10_111_J41 (hT5 g hg) (nar_rfO _ _) (fit_rfO _ _) (Nat.le_of_ble_eq_true rfl) ?_
          have hT6 := hT5.putL (o := some q) hAI hg
          refine V_goto (tgt := 133) F dJ10_deleteEntry_122 (by decide) ?_
          refine V_aload_n (i := 1) F dJ10_deleteEntry_133 rfl rfl ?_
          refine V_aload_n (i := 1) F dJ10_deleteEntry_134 rfl rfl ?_
          refine V_aload_n (i := 1) F dJ10_deleteEntry_135 rfl rfl ?_
          refine V_null F dJ10_deleteEntry_136 ?_
          refine V_dup_x1 F dJ10_deleteEntry_137 rfl rfl ?_
          refine VV.stk (st' := va_rf ((none).map A) :: .ref (A e) :: [.null, .ref (A e), .ref (A e)]) rfl ?_
          refine V_putf F dJ10_deleteEntry_138 fp_J10_124_J41 (hT6 e he) (nar_rfO _ _) (fit_rfO _ _) (Nat.le_of_ble_eq_true rfl) ?_
          have hT7 := hT6.putP (o := none) hAI he
          refine V_dup_x1 F dJ10_deleteEntry_141 rfl rfl ?_
          refine VV.stk (st' := va_rf ((none).map A) :: .ref (A e) :: [.null, .ref (A e)]) rfl ?_
          refine V_putf F dJ10_deleteEntry_142 fp_J10_114_J41 (hT7 e he) (nar_rfO _ _) (fit_rfO _ _) (Nat.le_of_ble_eq_true rfl) ?_
          have hT8 := hT7.putR (o := none) hAI he
          refine VV.stk (st' := va_rf ((none).map A) :: .ref (A e) :: []) rfl ?_
          refine V_putf F dJ10_deleteEntry_145 fp_J10_111_J41 (hT8 e he) (nar_rfO _ _) (fit_rfO _ _) (Nat.le_of_ble_eq_true rfl) ?_
          have hT9 := hT8.putL (o := none) hAI he
          obtain ⟨hw2, hd1, hd2, hd3⟩ := hw.colL (rep := some q) he hg (Or.inr ⟨hRe, hLe.symm⟩) hPe hlg (L1 := upo (upo L g (some q)) e none) (R1 := upo R e none) (P1 := upo (upo P q (some g)) e none) (fun i _ q => upo_n q) (fun i _ q => upo_n q) (fun i _ q => (upo_n q).trans (PIF hPe))
          have hTd := (hT9).del hd1 hd2 hd3
          have hfr2 := ((((((Fr.rf (M := fun _ => True) (h := hh)).put (x := .inr (24, (ndc A K V L R P C q).set 4 (va_rf ((some g).map A)))) (hT q hq) rfl rfl (Or.inl trivial)).put (x := .inr (24, (ndc A K V L R (upo P q (some g)) C g).set 2 (va_rf ((some q).map A)))) (hT5 g hg) rfl rfl (Or.inl trivial)).put (x := .inr (24, (ndc A K V (upo L g (some q)) R (upo P q (some g)) C e).set 4 (va_rf ((none).map A)))) (hT6 e he) rfl rfl (Or.inl trivial)).put (x := .inr (24, (ndc A K V (upo L g (some q)) R (upo (upo P q (some g)) e none) C e).set 3 (va_rf ((none).map A)))) (hT7 e he) rfl rfl (Or.inl trivial)).put (x := .inr (24, (ndc A K V (upo L g (some q)) (upo R e none) (upo (upo P q (some g)) e none) C e).set 2 (va_rf ((none).map A)))) (hT8 e he) rfl rfl (Or.inl trivial))
          have hfr := (((((hF.put (x := .inr (24, (ndc A K V L R P C q).set 4 (va_rf ((some g).map A)))) (hT q hq) rfl rfl (Or.inl (Or.inr ⟨q, hq, rfl⟩))).put (x := .inr (24, (ndc A K V L R (upo P q (some g)) C g).set 2 (va_rf ((some q).map A)))) (hT5 g hg) rfl rfl (Or.inl (Or.inr ⟨g, hg, rfl⟩))).put (x := .inr (24, (ndc A K V (upo L g (some q)) R (upo P q (some g)) C e).set 4 (va_rf ((none).map A)))) (hT6 e he) rfl rfl (Or.inl (Or.inr ⟨e, he, rfl⟩))).put (x := .inr (24, (ndc A K V (upo L g (some q)) R (upo (upo P q (some g)) e none) C e).set 3 (va_rf ((none).map A)))) (hT7 e he) rfl rfl (Or.inl (Or.inr ⟨e, he, rfl⟩))).put (x := .inr (24, (ndc A K V (upo L g (some q)) (upo R e none) (upo (upo P q (some g)) e none) C e).set 2 (va_rf ((none).map A)))) (hT8 e he) rfl rfl (Or.inl (Or.inr ⟨e, he, rfl⟩)))
          have hCd : TC _ t (n - 1) (mc + 1) (((rt : Option Nat).map (cl e)).map (fun j => A (sk e j))) := TC.col ⟨x0, x1, x6, x7, x8, ((hset_ne (ne_oo ((hset_ne (ne_oo ((hset_ne (ne_oo ((hset_ne (ne_oo ((hset_ne (ne_oo ht (hT q hq) (by decide))).trans ht) (hT5 g hg) (by decide))).trans ((hset_ne (ne_oo ht (hT q hq) (by decide))).trans ht)) (hT6 e he) (by decide))).trans ((hset_ne (ne_oo ((hset_ne (ne_oo ht (hT q hq) (by decide))).trans ht) (hT5 g hg) (by decide))).trans ((hset_ne (ne_oo ht (hT q hq) (by decide))).trans ht))) (hT7 e he) (by decide))).trans ((hset_ne (ne_oo ((hset_ne (ne_oo ((hset_ne (ne_oo ht (hT q hq) (by decide))).trans ht) (hT5 g hg) (by decide))).trans ((hset_ne (ne_oo ht (hT q hq) (by decide))).trans ht)) (hT6 e he) (by decide))).trans ((hset_ne (ne_oo ((hset_ne (ne_oo ht (hT q hq) (by decide))).trans ht) (hT5 g hg) (by decide))).trans ((hset_ne (ne_oo ht (hT q hq) (by decide))).trans ht)))) (hT8 e he) (by decide))).trans ((hset_ne (ne_oo ((hset_ne (ne_oo ((hset_ne (ne_oo ((hset_ne (ne_oo ht (hT q hq) (by decide))).trans ht) (hT5 g hg) (by decide))).trans ((hset_ne (ne_oo ht (hT q hq) (by decide))).trans ht)) (hT6 e he) (by decide))).trans ((hset_ne (ne_oo ((hset_ne (ne_oo ht (hT q hq) (by decide))).trans ht) (hT5 g hg) (by decide))).trans ((hset_ne (ne_oo ht (hT q hq) (by decide))).trans ht))) (hT7 e he) (by decide))).trans ((hset_ne (ne_oo ((hset_ne (ne_oo ((hset_ne (ne_oo ht (hT q hq) (by decide))).trans ht) (hT5 g hg) (by decide))).trans ((hset_ne (ne_oo ht (hT q hq) (by decide))).trans ht)) (hT6 e he) (by decide))).trans ((hset_ne (ne_oo ((hset_ne (ne_oo ht (hT q hq) (by decide))).trans ht) (hT5 g hg) (by decide))).trans ((hset_ne (ne_oo ht (hT q hq) (by decide))).trans ht))))), vw_fr hv1 hfr2 rfl, vw_fr hv7 hfr2 rfl⟩ (hw.rtn hPe)
          refine V_aload_n (i := 1) F dJ10_deleteEntry_148 rfl rfl ?_
          refine V_getf F dJ10_deleteEntry_149 fc_J10_290_J41 (.inl (hT9 e he)) rfl ?_
          refine V_iconst (v := nI 1) F dJ10_deleteEntry_152 rfl ?_
          refine V_icmp_ne1C (c := C e) (tgt := 245) F dJ10_deleteEntry_153 (by decide) (fun c_153 => ?_) (fun c_153 => ?_)
          · exact V_vret F dJ10_deleteEntry_245 (by first | exact Nat.le_of_ble_eq_true rfl | omega) (by first | exact Nat.le_of_ble_eq_true rfl | omega) ⟨rfl, _, TMp.ext (K := fun j => K (sk e j)) (V := fun j => V (sk e j)) ⟨hAI.del, _, _, _, _, _, _, _, hCd, hTd, hw2⟩ (fun i hi => (hK i hi).symm) (fun i hi => (hV i hi).symm), fun j hj => ⟨sk e j, sk_lt hj, rfl⟩, hfr⟩
          · refine V_aload_n (i := 0) F dJ10_deleteEntry_156 rfl rfl ?_
            refine V_aload_n (i := 2) F dJ10_deleteEntry_157 rfl rfl ?_
            refine VV.stk (st' := [.ref ((fun j => A (sk e j)) (cl e q)), .ref (t)]) (by simp only [sk_cl hqe]) ?_
            refine V_callV (st := []) F dJ10_deleteEntry_158 lk_J10_317 (ct_fixDel hCd hTd hAI.del hw2 (cl_lt hq hqe he) ⟨(hw2.1 _ (cl_lt hq hqe he)).1, (hw2.1 _ (cl_lt hq hqe he)).2.1, rfl, rfl⟩) ⟨23, _, _, _, rfl, (.inl ((hset_ne (ne_oo ((hset_ne (ne_oo ((hset_ne (ne_oo ((hset_ne (ne_oo ((hset_ne (ne_oo ht (hT q hq) (by decide))).trans ht) (hT5 g hg) (by decide))).trans ((hset_ne (ne_oo ht (hT q hq) (by decide))).trans ht)) (hT6 e he) (by decide))).trans ((hset_ne (ne_oo ((hset_ne (ne_oo ht (hT q hq) (by decide))).trans ht) (hT5 g hg) (by decide))).trans ((hset_ne (ne_oo ht (hT q hq) (by decide))).trans ht))) (hT7 e he) (by decide))).trans ((hset_ne (ne_oo ((hset_ne (ne_oo ((hset_ne (ne_oo ht (hT q hq) (by decide))).trans ht) (hT5 g hg) (by decide))).trans ((hset_ne (ne_oo ht (hT q hq) (by decide))).trans ht)) (hT6 e he) (by decide))).trans ((hset_ne (ne_oo ((hset_ne (ne_oo ht (hT q hq) (by decide))).trans ht) (hT5 g hg) (by decide))).trans ((hset_ne (ne_oo ht (hT q hq) (by decide))).trans ht)))) (hT8 e he) (by decide))).trans ((hset_ne (ne_oo ((hset_ne (ne_oo ((hset_ne (ne_oo ((hset_ne (ne_oo ht (hT q hq) (by decide))).trans ht) (hT5 g hg) (by decide))).trans ((hset_ne (ne_oo ht (hT q hq) (by decide))).trans ht)) (hT6 e he) (by decide))).trans ((hset_ne (ne_oo ((hset_ne (ne_oo ht (hT q hq) (by decide))).trans ht) (hT5 g hg) (by decide))).trans ((hset_ne (ne_oo ht (hT q hq) (by decide))).trans ht))) (hT7 e he) (by decide))).trans ((hset_ne (ne_oo ((hset_ne (ne_oo ((hset_ne (ne_oo ht (hT q hq) (by decide))).trans ht) (hT5 g hg) (by decide))).trans ((hset_ne (ne_oo ht (hT q hq) (by decide))).trans ht)) (hT6 e he) (by decide))).trans ((hset_ne (ne_oo ((hset_ne (ne_oo ht (hT q hq) (by decide))).trans ht) (hT5 g hg) (by decide))).trans ((hset_ne (ne_oo ht (hT q hq) (by decide))).trans ht))))))⟩ rfl rfl (Nat.le_of_ble_eq_true rfl) (Nat.le_of_ble_eq_true rfl) (Nat.le_of_ble_eq_true rfl) (by first | exact Nat.le_of_ble_eq_true rfl | omega) (by first | exact Nat.le_of_ble_eq_true rfl | omega) ?_
            rintro _ h9 ⟨rfl, L9, R9, P9, C9, rt9, lo9, hi9, hC9, hT9, hw9, hF9, -, -⟩
            refine V_goto (tgt := 245) F dJ10_deleteEntry_161 (by decide) ?_
            exact V_vret F dJ10_deleteEntry_245 (by first | exact Nat.le_of_ble_eq_true rfl | omega) (by first | exact Nat.le_of_ble_eq_true rfl | omega) ⟨rfl, _, TMp.ext (K := fun j => K (sk e j)) (V := fun j => V (sk e j)) ⟨hAI.del, _, _, _, _, _, _, _, hC9, hT9, hw9⟩ (fun i hi => (hK i hi).symm) (fun i hi => (hV i hi).symm), fun j hj => ⟨sk e j, sk_lt hj, rfl⟩, hfr.cal hF9 (fun b q => Or.inl q.dn)⟩
        · have hrg : R g = some e := (hw.2.2.2.2.2.2.1 e g he hPe).2.resolve_left hlg
          cases hy : L g with
          | none =>
            refine V_aload_n (i := 1) F dJ10_deleteEntry_57 rfl rfl ?_
            refine V_getf F dJ10_deleteEntry_58 fc_J10_111_J41 (.inl (hT e he)) rfl ?_
            refine VV.stk (st' := [.ref (A q)]) (by first | (rw [hLe]; rfl) | rw [hLe]) ?_
            refine V_ifnull F dJ10_deleteEntry_61 ?_
            refine V_aload_n (i := 1) F dJ10_deleteEntry_64 rfl rfl ?_
            refine V_getf F dJ10_deleteEntry_65 fc_J10_111_J41 (.inl (hT e he)) rfl ?_
            refine VV.stk (st' := [.ref (A q)]) (by first | (rw [hLe]; rfl) | rw [hLe]) ?_
            refine V_goto (tgt := 75) F dJ10_deleteEntry_68 (by decide) ?_
            refine V_astore_n (i := 2) F dJ10_deleteEntry_75 rfl (Nat.le_of_ble_eq_true rfl) (Nat.le_of_ble_eq_true rfl) ?_
            refine V_aload_n (i := 2) F dJ10_deleteEntry_76 rfl rfl ?_
            refine V_ifnull F dJ10_deleteEntry_77 ?_
            refine V_aload_n (i := 2) F dJ10_deleteEntry_80 rfl rfl ?_
            refine V_aload_n (i := 1) F dJ10_deleteEntry_81 rfl rfl ?_
            refine V_getf F dJ10_deleteEntry_82 fc_J10_124_J41 (.inl (hT e he)) rfl ?_
            refine VV.stk (st' := [.ref (A g), .ref (A q)]) (by first | (rw [hPe]; rfl) | rw [hPe]) ?_
            refine VV.stk (st' := va_rf ((some g).map A) :: .ref (A q) :: []) rfl ?_
            refine V_putf F dJ10_deleteEntry_85 fp_J10_124_J41 (hT q hq) (nar_rfO _ _) (fit_rfO _ _) (Nat.le_of_ble_eq_true rfl) ?_
            have hT10 := hT.putP (o := some g) hAI hq
            refine V_aload_n (i := 1) F dJ10_deleteEntry_88 rfl rfl ?_
            refine V_getf F dJ10_deleteEntry_89 fc_J10_124_J41 (.inl (hT10 e he)) rfl ?_
            refine VV.stk (st' := [.ref (A g)]) (by first | (rw [((upo_n (Ne.symm hqe)).trans hPe)]; rfl) | rw [((upo_n (Ne.symm hqe)).trans hPe)]) ?_
            refine V_ifnonnull (tgt := 103) F dJ10_deleteEntry_92 (by decide) ?_
            refine V_aload_n (i := 1) F dJ10_deleteEntry_103 rfl rfl ?_
            refine V_aload_n (i := 1) F dJ10_deleteEntry_104 rfl rfl ?_
            refine V_getf F dJ10_deleteEntry_105 fc_J10_124_J41 (.inl (hT10 e he)) rfl ?_
            refine VV.stk (st' := [.ref (A g), .ref (A e)]) (by first | (rw [((upo_n (Ne.symm hqe)).trans hPe)]; rfl) | rw [((upo_n (Ne.symm hqe)).trans hPe)]) ?_
            refine V_getf F dJ10_deleteEntry_108 fc_J10_111_J41 (.inl (hT10 g hg)) rfl ?_
            refine VV.stk (st' := [.null, .ref (A e)]) (by first | (rw [hy]; rfl) | rw [hy]) ?_
            refine V_acmp_ne (rx := some (A e)) (ry := none) (tgt := 125) F dJ10_deleteEntry_111 (by decide) (fun c_111 => ?_) (fun c_111 => nomatch c_111)
            refine V_aload_n (i := 1) F dJ10_deleteEntry_125 rfl rfl ?_
            refine V_getf F dJ10_deleteEntry_126 fc_J10_124_J41 (.inl (hT10 e he)) rfl ?_
            refine VV.stk (st' := [.ref (A g)]) (by first | (rw [((upo_n (Ne.symm hqe)).trans hPe)]; rfl) | rw [((upo_n (Ne.symm hqe)).trans hPe)]) ?_
            refine V_aload_n (i := 2) F dJ10_deleteEntry_129 rfl rfl ?_
            refine VV.stk (st' := va_rf ((some q).map A) :: .ref (A g) :: []) rfl ?_
            refine V_putf F dJ10_deleteEntry_130 fp_J10_114_J41 (hT10 g hg) (nar_rfO _ _) (fit_rfO _ _) (Nat.le_of_ble_eq_true rfl) ?_
            have hT11 := hT10.putR (o := some q) hAI hg
            refine V_aload_n (i := 1) F dJ10_deleteEntry_133 rfl rfl ?_
            refine V_aload_n (i := 1) F dJ10_deleteEntry_134 rfl rfl ?_
            refine V_aload_n (i := 1) F dJ10_deleteEntry_135 rfl rfl ?_
            refine V_null F dJ10_deleteEntry_136 ?_
            refine V_dup_x1 F dJ10_deleteEntry_137 rfl rfl ?_
            refine VV.stk (st' := va_rf ((none).map A) :: .ref (A e) :: [.null, .ref (A e), .ref (A e)]) rfl ?_
            refine V_putf F dJ10_deleteEntry_138 fp_J10_124_J41 (hT11 e he) (nar_rfO _ _) (fit_rfO _ _) (Nat.le_of_ble_eq_true rfl) ?_
            have hT12 := hT11.putP (o := none) hAI he
            refine V_dup_x1 F dJ10_deleteEntry_141 rfl rfl ?_
            refine VV.stk (st' := va_rf ((none).map A) :: .ref (A e) :: [.null, .ref (A e)]) rfl ?_
            refine V_putf F dJ10_deleteEntry_142 fp_J10_114_J41 (hT12 e he) (nar_rfO _ _) (fit_rfO _ _) (Nat.le_of_ble_eq_true rfl) ?_
            have hT13 := hT12.putR (o := none) hAI he
            refine VV.stk (st' := va_rf ((none).map A) :: .ref (A e) :: []) rfl ?_
            refine V_putf F dJ10_deleteEntry_145 fp_J10_111_J41 (hT13 e he) (nar_rfO _ _) (fit_rfO _ _) (Nat.le_of_ble_eq_true rfl) ?_
            have hT14 := hT13.putL (o := none) hAI he
            obtain ⟨hw2, hd1, hd2, hd3⟩ := hw.colR (rep := some q) he hg (Or.inr ⟨hRe, hLe.symm⟩) hPe hrg (L1 := upo L e none) (R1 := upo (upo R g (some q)) e none) (P1 := upo (upo P q (some g)) e none) (fun i _ q => upo_n q) (fun i _ q => upo_n q) (fun i _ q => (upo_n q).trans (PIF hPe))
            have hTd := (hT14).del hd1 hd2 hd3
            have hfr2 := ((((((Fr.rf (M := fun _ => True) (h := hh)).put (x := .inr (24, (ndc A K V L R P C q).set 4 (va_rf ((some g).map A)))) (hT q hq) rfl rfl (Or.inl trivial)).put (x := .inr (24, (ndc A K V L R (upo P q (some g)) C g).set 3 (va_rf ((some q).map A)))) (hT10 g hg) rfl rfl (Or.inl trivial)).put (x := .inr (24, (ndc A K V L (upo R g (some q)) (upo P q (some g)) C e).set 4 (va_rf ((none).map A)))) (hT11 e he) rfl rfl (Or.inl trivial)).put (x := .inr (24, (ndc A K V L (upo R g (some q)) (upo (upo P q (some g)) e none) C e).set 3 (va_rf ((none).map A)))) (hT12 e he) rfl rfl (Or.inl trivial)).put (x := .inr (24, (ndc A K V L (upo (upo R g (some q)) e none) (upo (upo P q (some g)) e none) C e).set 2 (va_rf ((none).map A)))) (hT13 e he) rfl rfl (Or.inl trivial))
            have hfr := (((((hF.put (x := .inr (24, (ndc A K V L R P C q).set 4 (va_rf ((some g).map A)))) (hT q hq) rfl rfl (Or.inl (Or.inr ⟨q, hq, rfl⟩))).put (x := .inr (24, (ndc A K V L R (upo P q (some g)) C g).set 3 (va_rf ((some q).map A)))) (hT10 g hg) rfl rfl (Or.inl (Or.inr ⟨g, hg, rfl⟩))).put (x := .inr (24, (ndc A K V L (upo R g (some q)) (upo P q (some g)) C e).set 4 (va_rf ((none).map A)))) (hT11 e he) rfl rfl (Or.inl (Or.inr ⟨e, he, rfl⟩))).put (x := .inr (24, (ndc A K V L (upo R g (some q)) (upo (upo P q (some g)) e none) C e).set 3 (va_rf ((none).map A)))) (hT12 e he) rfl rfl (Or.inl (Or.inr ⟨e, he, rfl⟩))).put (x := .inr (24, (ndc A K V L (upo (upo R g (some q)) e none) (upo (upo P q (some g)) e none) C e).set 2 (va_rf ((none).map A)))) (hT13 e he) rfl rfl (Or.inl (Or.inr ⟨e, he, rfl⟩)))
            have hCd : TC _ t (n - 1) (mc + 1) (((rt : Option Nat).map (cl e)).map (fun j => A (sk e j))) := TC.col ⟨x0, x1, x6, x7, x8, ((hset_ne (ne_oo ((hset_ne (ne_oo ((hset_ne (ne_oo ((hset_ne (ne_oo ((hset_ne (ne_oo ht (hT q hq) (by decide))).trans ht) (hT10 g hg) (by decide))).trans ((hset_ne (ne_oo ht (hT q hq) (by decide))).trans ht)) (hT11 e he) (by decide))).trans ((hset_ne (ne_oo ((hset_ne (ne_oo ht (hT q hq) (by decide))).trans ht) (hT10 g hg) (by decide))).trans ((hset_ne (ne_oo ht (hT q hq) (by decide))).trans ht))) (hT12 e he) (by decide))).trans ((hset_ne (ne_oo ((hset_ne (ne_oo ((hset_ne (ne_oo ht (hT q hq) (by decide))).trans ht) (hT10 g hg) (by decide))).trans ((hset_ne (ne_oo ht (hT q hq) (by decide))).trans ht)) (hT11 e he) (by decide))).trans ((hset_ne (ne_oo ((hset_ne (ne_oo ht (hT q hq) (by decide))).trans ht) (hT10 g hg) (by decide))).trans ((hset_ne (ne_oo ht (hT q hq) (by decide))).trans ht)))) (hT13 e he) (by decide))).trans ((hset_ne (ne_oo ((hset_ne (ne_oo ((hset_ne (ne_oo ((hset_ne (ne_oo ht (hT q hq) (by decide))).trans ht) (hT10 g hg) (by decide))).trans ((hset_ne (ne_oo ht (hT q hq) (by decide))).trans ht)) (hT11 e he) (by decide))).trans ((hset_ne (ne_oo ((hset_ne (ne_oo ht (hT q hq) (by decide))).trans ht) (hT10 g hg) (by decide))).trans ((hset_ne (ne_oo ht (hT q hq) (by decide))).trans ht))) (hT12 e he) (by decide))).trans ((hset_ne (ne_oo ((hset_ne (ne_oo ((hset_ne (ne_oo ht (hT q hq) (by decide))).trans ht) (hT10 g hg) (by decide))).trans ((hset_ne (ne_oo ht (hT q hq) (by decide))).trans ht)) (hT11 e he) (by decide))).trans ((hset_ne (ne_oo ((hset_ne (ne_oo ht (hT q hq) (by decide))).trans ht) (hT10 g hg) (by decide))).trans ((hset_ne (ne_oo ht (hT q hq) (by decide))).trans ht))))), vw_fr hv1 hfr2 rfl, vw_fr hv7 hfr2 rfl⟩ (hw.rtn hPe)
            refine V_aload_n (i := 1) F dJ10_deleteEntry_148 rfl rfl ?_
            refine V_getf F dJ10_deleteEntry_149 fc_J10_290_J41 (.inl (hT14 e he)) rfl ?_
            refine V_iconst (v := nI 1) F dJ10_deleteEntry_152 rfl ?_
            refine V_icmp_ne1C (c := C e) (tgt := 245) F dJ10_deleteEntry_153 (by decide) (fun c_153 => ?_) (fun c_153 => ?_)
            · exact V_vret F dJ10_deleteEntry_245 (by first | exact Nat.le_of_ble_eq_true rfl | omega) (by first | exact Nat.le_of_ble_eq_true rfl | omega) ⟨rfl, _, TMp.ext (K := fun j => K (sk e j)) (V := fun j => V (sk e j)) ⟨hAI.del, _, _, _, _, _, _, _, hCd, hTd, hw2⟩ (fun i hi => (hK i hi).symm) (fun i hi => (hV i hi).symm), fun j hj => ⟨sk e j, sk_lt hj, rfl⟩, hfr⟩
            · refine V_aload_n (i := 0) F dJ10_deleteEntry_156 rfl rfl ?_
              refine V_aload_n (i := 2) F dJ10_deleteEntry_157 rfl rfl ?_
              refine VV.stk (st' := [.ref ((fun j => A (sk e j)) (cl e q)), .ref (t)]) (by simp only [sk_cl hqe]) ?_
              refine V_callV (st := []) F dJ10_deleteEntry_158 lk_J10_317 (ct_fixDel hCd hTd hAI.del hw2 (cl_lt hq hqe he) ⟨(hw2.1 _ (cl_lt hq hqe he)).1, (hw2.1 _ (cl_lt hq hqe he)).2.1, rfl, rfl⟩) ⟨23, _, _, _, rfl, (.inl ((hset_ne (ne_oo ((hset_ne (ne_oo ((hset_ne (ne_oo ((hset_ne (ne_oo ((hset_ne (ne_oo ht (hT q hq) (by decide))).trans ht) (hT10 g hg) (by decide))).trans ((hset_ne (ne_oo ht (hT q hq) (by decide))).trans ht)) (hT11 e he) (by decide))).trans ((hset_ne (ne_oo ((hset_ne (ne_oo ht (hT q hq) (by decide))).trans ht) (hT10 g hg) (by decide))).trans ((hset_ne (ne_oo ht (hT q hq) (by decide))).trans ht))) (hT12 e he) (by decide))).trans ((hset_ne (ne_oo ((hset_ne (ne_oo ((hset_ne (ne_oo ht (hT q hq) (by decide))).trans ht) (hT10 g hg) (by decide))).trans ((hset_ne (ne_oo ht (hT q hq) (by decide))).trans ht)) (hT11 e he) (by decide))).trans ((hset_ne (ne_oo ((hset_ne (ne_oo ht (hT q hq) (by decide))).trans ht) (hT10 g hg) (by decide))).trans ((hset_ne (ne_oo ht (hT q hq) (by decide))).trans ht)))) (hT13 e he) (by decide))).trans ((hset_ne (ne_oo ((hset_ne (ne_oo ((hset_ne (ne_oo ((hset_ne (ne_oo ht (hT q hq) (by decide))).trans ht) (hT10 g hg) (by decide))).trans ((hset_ne (ne_oo ht (hT q hq) (by decide))).trans ht)) (hT11 e he) (by decide))).trans ((hset_ne (ne_oo ((hset_ne (ne_oo ht (hT q hq) (by decide))).trans ht) (hT10 g hg) (by decide))).trans ((hset_ne (ne_oo ht (hT q hq) (by decide))).trans ht))) (hT12 e he) (by decide))).trans ((hset_ne (ne_oo ((hset_ne (ne_oo ((hset_ne (ne_oo ht (hT q hq) (by decide))).trans ht) (hT10 g hg) (by decide))).trans ((hset_ne (ne_oo ht (hT q hq) (by decide))).trans ht)) (hT11 e he) (by decide))).trans ((hset_ne (ne_oo ((hset_ne (ne_oo ht (hT q hq) (by decide))).trans ht) (hT10 g hg) (by decide))).trans ((hset_ne (ne_oo ht (hT q hq) (by decide))).trans ht))))))⟩ rfl rfl (Nat.le_of_ble_eq_true rfl) (Nat.le_of_ble_eq_true rfl) (Nat.le_of_ble_eq_true rfl) (by first | exact Nat.le_of_ble_eq_true rfl | omega) (by first | exact Nat.le_of_ble_eq_true rfl | omega) ?_
              rintro _ h9 ⟨rfl, L9, R9, P9, C9, rt9, lo9, hi9, hC9, hT9, hw9, hF9, -, -⟩
              refine V_goto (tgt := 245) F dJ10_deleteEntry_161 (by decide) ?_
              exact V_vret F dJ10_deleteEntry_245 (by first | exact Nat.le_of_ble_eq_true rfl | omega) (by first | exact Nat.le_of_ble_eq_true rfl | omega) ⟨rfl, _, TMp.ext (K := fun j => K (sk e j)) (V := fun j => V (sk e j)) ⟨hAI.del, _, _, _, _, _, _, _, hC9, hT9, hw9⟩ (fun i hi => (hK i hi).symm) (fun i hi => (hV i hi).symm), fun j hj => ⟨sk e j, sk_lt hj, rfl⟩, hfr.cal hF9 (fun b q => Or.inl q.dn)⟩
          | some y =>
            have hyn : y < n := hw.bL hg hy
            have hye : y ≠ e := fun z => hlg (by rw [hy, z])
            refine V_aload_n (i := 1) F dJ10_deleteEntry_57 rfl rfl ?_
            refine V_getf F dJ10_deleteEntry_58 fc_J10_111_J41 (.inl (hT e he)) rfl ?_
            refine VV.stk (st' := [.ref (A q)]) (by first | (rw [hLe]; rfl) | rw [hLe]) ?_
            refine V_ifnull F dJ10_deleteEntry_61 ?_
            refine V_aload_n (i := 1) F dJ10_deleteEntry_64 rfl rfl ?_
            refine V_getf F dJ10_deleteEntry_65 fc_J10_111_J41 (.inl (hT e he)) rfl ?_
            refine VV.stk (st' := [.ref (A q)]) (by first | (rw [hLe]; rfl) | rw [hLe]) ?_
            refine V_goto (tgt := 75) F dJ10_deleteEntry_68 (by decide) ?_
            refine V_astore_n (i := 2) F dJ10_deleteEntry_75 rfl (Nat.le_of_ble_eq_true rfl) (Nat.le_of_ble_eq_true rfl) ?_
            refine V_aload_n (i := 2) F dJ10_deleteEntry_76 rfl rfl ?_
            refine V_ifnull F dJ10_deleteEntry_77 ?_
            refine V_aload_n (i := 2) F dJ10_deleteEntry_80 rfl rfl ?_
            refine V_aload_n (i := 1) F dJ10_deleteEntry_81 rfl rfl ?_
            refine V_getf F dJ10_deleteEntry_82 fc_J10_124_J41 (.inl (hT e he)) rfl ?_
            refine VV.stk (st' := [.ref (A g), .ref (A q)]) (by first | (rw [hPe]; rfl) | rw [hPe]) ?_
            refine VV.stk (st' := va_rf ((some g).map A) :: .ref (A q) :: []) rfl ?_
            refine V_putf F dJ10_deleteEntry_85 fp_J10_124_J41 (hT q hq) (nar_rfO _ _) (fit_rfO _ _) (Nat.le_of_ble_eq_true rfl) ?_
            have hT15 := hT.putP (o := some g) hAI hq
            refine V_aload_n (i := 1) F dJ10_deleteEntry_88 rfl rfl ?_
            refine V_getf F dJ10_deleteEntry_89 fc_J10_124_J41 (.inl (hT15 e he)) rfl ?_
            refine VV.stk (st' := [.ref (A g)]) (by first | (rw [((upo_n (Ne.symm hqe)).trans hPe)]; rfl) | rw [((upo_n (Ne.symm hqe)).trans hPe)]) ?_
            refine V_ifnonnull (tgt := 103) F dJ10_deleteEntry_92 (by decide) ?_
            refine V_aload_n (i := 1) F dJ10_deleteEntry_103 rfl rfl ?_
            refine V_aload_n (i := 1) F dJ10_deleteEntry_104 rfl rfl ?_
            refine V_getf F dJ10_deleteEntry_105 fc_J10_124_J41 (.inl (hT15 e he)) rfl ?_
            refine VV.stk (st' := [.ref (A g), .ref (A e)]) (by first | (rw [((upo_n (Ne.symm hqe)).trans hPe)]; rfl) | rw [((upo_n (Ne.symm hqe)).trans hPe)]) ?_
            refine V_getf F dJ10_deleteEntry_108 fc_J10_111_J41 (.inl (hT15 g hg)) rfl ?_
            refine VV.stk (st' := [.ref (A y), .ref (A e)]) (by first | (rw [hy]; rfl) | rw [hy]) ?_
            refine V_acmp_ne (rx := some (A e)) (ry := some (A y)) (tgt := 125) F dJ10_deleteEntry_111 (by decide) (fun c_111 => ?_) (fun c_111 => absurd (hAI _ _ he hyn (Option.some.inj c_111)) (Ne.symm hye))
            refine V_aload_n (i := 1) F dJ10_deleteEntry_125 rfl rfl ?_
            refine V_getf F dJ10_deleteEntry_126 fc_J10_124_J41 (.inl (hT15 e he)) rfl ?_
            refine VV.stk (st' := [.ref (A g)]) (by first | (rw [((upo_n (Ne.symm hqe)).trans hPe)]; rfl) | rw [((upo_n (Ne.symm hqe)).trans hPe)]) ?_
            refine V_aload_n (i := 2) F dJ10_deleteEntry_129 rfl rfl ?_
            refine VV.stk (st' := va_rf ((some q).map A) :: .ref (A g) :: []) rfl ?_
            refine V_putf F dJ10_deleteEntry_130 fp_J10_114_J41 (hT15 g hg) (nar_rfO _ _) (fit_rfO _ _) (Nat.le_of_ble_eq_true rfl) ?_
            have hT16 := hT15.putR (o := some q) hAI hg
            refine V_aload_n (i := 1) F dJ10_deleteEntry_133 rfl rfl ?_
            refine V_aload_n (i := 1) F dJ10_deleteEntry_134 rfl rfl ?_
            refine V_aload_n (i := 1) F dJ10_deleteEntry_135 rfl rfl ?_
            refine V_null F dJ10_deleteEntry_136 ?_
            refine V_dup_x1 F dJ10_deleteEntry_137 rfl rfl ?_
            refine VV.stk (st' := va_rf ((none).map A) :: .ref (A e) :: [.null, .ref (A e), .ref (A e)]) rfl ?_
            refine V_putf F dJ10_deleteEntry_138 fp_J10_124_J41 (hT16 e he) (nar_rfO _ _) (fit_rfO _ _) (Nat.le_of_ble_eq_true rfl) ?_
            have hT17 := hT16.putP (o := none) hAI he
            refine V_dup_x1 F dJ10_deleteEntry_141 rfl rfl ?_
            refine VV.stk (st' := va_rf ((none).map A) :: .ref (A e) :: [.null, .ref (A e)]) rfl ?_
            refine V_putf F dJ10_deleteEntry_142 fp_J10_114_J41 (hT17 e he) (nar_rfO _ _) (fit_rfO _ _) (Nat.le_of_ble_eq_true rfl) ?_
            have hT18 := hT17.putR (o := none) hAI he
            refine VV.stk (st' := va_rf ((none).map A) :: .ref (A e) :: []) rfl ?_
            refine V_putf F dJ10_deleteEntry_145 fp_J10_111_J41 (hT18 e he) (nar_rfO _ _) (fit_rfO _ _) (Nat.le_of_ble_eq_true rfl) ?_
            have hT19 := hT18.putL (o := none) hAI he
            obtain ⟨hw2, hd1, hd2, hd3⟩ := hw.colR (rep := some q) he hg (Or.inr ⟨hRe, hLe.symm⟩) hPe hrg (L1 := upo L e none) (R1 := upo (upo R g (some q)) e none) (P1 := upo (upo P q (some g)) e none) (fun i _ q => upo_n q) (fun i _ q => upo_n q) (fun i _ q => (upo_n q).trans (PIF hPe))
            have hTd := (hT19).del hd1 hd2 hd3
            have hfr2 := ((((((Fr.rf (M := fun _ => True) (h := hh)).put (x := .inr (24, (ndc A K V L R P C q).set 4 (va_rf ((some g).map A)))) (hT q hq) rfl rfl (Or.inl trivial)).put (x := .inr (24, (ndc A K V L R (upo P q (some g)) C g).set 3 (va_rf ((some q).map A)))) (hT15 g hg) rfl rfl (Or.inl trivial)).put (x := .inr (24, (ndc A K V L (upo R g (some q)) (upo P q (some g)) C e).set 4 (va_rf ((none).map A)))) (hT16 e he) rfl rfl (Or.inl trivial)).put (x := .inr (24, (ndc A K V L (upo R g (some q)) (upo (upo P q (some g)) e none) C e).set 3 (va_rf ((none).map A)))) (hT17 e he) rfl rfl (Or.inl trivial)).put (x := .inr (24, (ndc A K V L (upo (upo R g (some q)) e none) (upo (upo P q (some g)) e none) C e).set 2 (va_rf ((none).map A)))) (hT18 e he) rfl rfl (Or.inl trivial))
            have hfr := (((((hF.put (x := .inr (24, (ndc A K V L R P C q).set 4 (va_rf ((some g).map A)))) (hT q hq) rfl rfl (Or.inl (Or.inr ⟨q, hq, rfl⟩))).put (x := .inr (24, (ndc A K V L R (upo P q (some g)) C g).set 3 (va_rf ((some q).map A)))) (hT15 g hg) rfl rfl (Or.inl (Or.inr ⟨g, hg, rfl⟩))).put (x := .inr (24, (ndc A K V L (upo R g (some q)) (upo P q (some g)) C e).set 4 (va_rf ((none).map A)))) (hT16 e he) rfl rfl (Or.inl (Or.inr ⟨e, he, rfl⟩))).put (x := .inr (24, (ndc A K V L (upo R g (some q)) (upo (upo P q (some g)) e none) C e).set 3 (va_rf ((none).map A)))) (hT17 e he) rfl rfl (Or.inl (Or.inr ⟨e, he, rfl⟩))).put (x := .inr (24, (ndc A K V L (upo (upo R g (some q)) e none) (upo (upo P q (some g)) e none) C e).set 2 (va_rf ((none).map A)))) (hT18 e he) rfl rfl (Or.inl (Or.inr ⟨e, he, rfl⟩)))
            have hCd : TC _ t (n - 1) (mc + 1) (((rt : Option Nat).map (cl e)).map (fun j => A (sk e j))) := TC.col ⟨x0, x1, x6, x7, x8, ((hset_ne (ne_oo ((hset_ne (ne_oo ((hset_ne (ne_oo ((hset_ne (ne_oo ((hset_ne (ne_oo ht (hT q hq) (by decide))).trans ht) (hT15 g hg) (by decide))).trans ((hset_ne (ne_oo ht (hT q hq) (by decide))).trans ht)) (hT16 e he) (by decide))).trans ((hset_ne (ne_oo ((hset_ne (ne_oo ht (hT q hq) (by decide))).trans ht) (hT15 g hg) (by decide))).trans ((hset_ne (ne_oo ht (hT q hq) (by decide))).trans ht))) (hT17 e he) (by decide))).trans ((hset_ne (ne_oo ((hset_ne (ne_oo ((hset_ne (ne_oo ht (hT q hq) (by decide))).trans ht) (hT15 g hg) (by decide))).trans ((hset_ne (ne_oo ht (hT q hq) (by decide))).trans ht)) (hT16 e he) (by decide))).trans ((hset_ne (ne_oo ((hset_ne (ne_oo ht (hT q hq) (by decide))).trans ht) (hT15 g hg) (by decide))).trans ((hset_ne (ne_oo ht (hT q hq) (by decide))).trans ht)))) (hT18 e he) (by decide))).trans ((hset_ne (ne_oo ((hset_ne (ne_oo ((hset_ne (ne_oo ((hset_ne (ne_oo ht (hT q hq) (by decide))).trans ht) (hT15 g hg) (by decide))).trans ((hset_ne (ne_oo ht (hT q hq) (by decide))).trans ht)) (hT16 e he) (by decide))).trans ((hset_ne (ne_oo ((hset_ne (ne_oo ht (hT q hq) (by decide))).trans ht) (hT15 g hg) (by decide))).trans ((hset_ne (ne_oo ht (hT q hq) (by decide))).trans ht))) (hT17 e he) (by decide))).trans ((hset_ne (ne_oo ((hset_ne (ne_oo ((hset_ne (ne_oo ht (hT q hq) (by decide))).trans ht) (hT15 g hg) (by decide))).trans ((hset_ne (ne_oo ht (hT q hq) (by decide))).trans ht)) (hT16 e he) (by decide))).trans ((hset_ne (ne_oo ((hset_ne (ne_oo ht (hT q hq) (by decide))).trans ht) (hT15 g hg) (by decide))).trans ((hset_ne (ne_oo ht (hT q hq) (by decide))).trans ht))))), vw_fr hv1 hfr2 rfl, vw_fr hv7 hfr2 rfl⟩ (hw.rtn hPe)
            refine V_aload_n (i := 1) F dJ10_deleteEntry_148 rfl rfl ?_
            refine V_getf F dJ10_deleteEntry_149 fc_J10_290_J41 (.inl (hT19 e he)) rfl ?_
            refine V_iconst (v := nI 1) F dJ10_deleteEntry_152 rfl ?_
            refine V_icmp_ne1C (c := C e) (tgt := 245) F dJ10_deleteEntry_153 (by decide) (fun c_153 => ?_) (fun c_153 => ?_)
            · exact V_vret F dJ10_deleteEntry_245 (by first | exact Nat.le_of_ble_eq_true rfl | omega) (by first | exact Nat.le_of_ble_eq_true rfl | omega) ⟨rfl, _, TMp.ext (K := fun j => K (sk e j)) (V := fun j => V (sk e j)) ⟨hAI.del, _, _, _, _, _, _, _, hCd, hTd, hw2⟩ (fun i hi => (hK i hi).symm) (fun i hi => (hV i hi).symm), fun j hj => ⟨sk e j, sk_lt hj, rfl⟩, hfr⟩
            · refine V_aload_n (i := 0) F dJ10_deleteEntry_156 rfl rfl ?_
              refine V_aload_n (i := 2) F dJ10_deleteEntry_157 rfl rfl ?_
              refine VV.stk (st' := [.ref ((fun j => A (sk e j)) (cl e q)), .ref (t)]) (by simp only [sk_cl hqe]) ?_
              refine V_callV (st := []) F dJ10_deleteEntry_158 lk_J10_317 (ct_fixDel hCd hTd hAI.del hw2 (cl_lt hq hqe he) ⟨(hw2.1 _ (cl_lt hq hqe he)).1, (hw2.1 _ (cl_lt hq hqe he)).2.1, rfl, rfl⟩) ⟨23, _, _, _, rfl, (.inl ((hset_ne (ne_oo ((hset_ne (ne_oo ((hset_ne (ne_oo ((hset_ne (ne_oo ((hset_ne (ne_oo ht (hT q hq) (by decide))).trans ht) (hT15 g hg) (by decide))).trans ((hset_ne (ne_oo ht (hT q hq) (by decide))).trans ht)) (hT16 e he) (by decide))).trans ((hset_ne (ne_oo ((hset_ne (ne_oo ht (hT q hq) (by decide))).trans ht) (hT15 g hg) (by decide))).trans ((hset_ne (ne_oo ht (hT q hq) (by decide))).trans ht))) (hT17 e he) (by decide))).trans ((hset_ne (ne_oo ((hset_ne (ne_oo ((hset_ne (ne_oo ht (hT q hq) (by decide))).trans ht) (hT15 g hg) (by decide))).trans ((hset_ne (ne_oo ht (hT q hq) (by decide))).trans ht)) (hT16 e he) (by decide))).trans ((hset_ne (ne_oo ((hset_ne (ne_oo ht (hT q hq) (by decide))).trans ht) (hT15 g hg) (by decide))).trans ((hset_ne (ne_oo ht (hT q hq) (by decide))).trans ht)))) (hT18 e he) (by decide))).trans ((hset_ne (ne_oo ((hset_ne (ne_oo ((hset_ne (ne_oo ((hset_ne (ne_oo ht (hT q hq) (by decide))).trans ht) (hT15 g hg) (by decide))).trans ((hset_ne (ne_oo ht (hT q hq) (by decide))).trans ht)) (hT16 e he) (by decide))).trans ((hset_ne (ne_oo ((hset_ne (ne_oo ht (hT q hq) (by decide))).trans ht) (hT15 g hg) (by decide))).trans ((hset_ne (ne_oo ht (hT q hq) (by decide))).trans ht))) (hT17 e he) (by decide))).trans ((hset_ne (ne_oo ((hset_ne (ne_oo ((hset_ne (ne_oo ht (hT q hq) (by decide))).trans ht) (hT15 g hg) (by decide))).trans ((hset_ne (ne_oo ht (hT q hq) (by decide))).trans ht)) (hT16 e he) (by decide))).trans ((hset_ne (ne_oo ((hset_ne (ne_oo ht (hT q hq) (by decide))).trans ht) (hT15 g hg) (by decide))).trans ((hset_ne (ne_oo ht (hT q hq) (by decide))).trans ht))))))⟩ rfl rfl (Nat.le_of_ble_eq_true rfl) (Nat.le_of_ble_eq_true rfl) (Nat.le_of_ble_eq_true rfl) (by first | exact Nat.le_of_ble_eq_true rfl | omega) (by first | exact Nat.le_of_ble_eq_true rfl | omega) ?_
              rintro _ h9 ⟨rfl, L9, R9, P9, C9, rt9, lo9, hi9, hC9, hT9, hw9, hF9, -, -⟩
              refine V_goto (tgt := 245) F dJ10_deleteEntry_161 (by decide) ?_
              exact V_vret F dJ10_deleteEntry_245 (by first | exact Nat.le_of_ble_eq_true rfl | omega) (by first | exact Nat.le_of_ble_eq_true rfl | omega) ⟨rfl, _, TMp.ext (K := fun j => K (sk e j)) (V := fun j => V (sk e j)) ⟨hAI.del, _, _, _, _, _, _, _, hC9, hT9, hw9⟩ (fun i hi => (hK i hi).symm) (fun i hi => (hV i hi).symm), fun j hj => ⟨sk e j, sk_lt hj, rfl⟩, hfr.cal hF9 (fun b q => Or.inl q.dn)⟩
    | none =>
      cases hRe : R e with
      | some q =>
        have hq : q < n := hw.bR he hRe
        have hqe : q ≠ e := by have := hw.2.2.2.2.1 e q he hRe; omega
        cases hPe : P e with
        | none =>
          refine V_aload_n (i := 1) F dJ10_deleteEntry_57 rfl rfl ?_
          refine V_getf F dJ10_deleteEntry_58 fc_J10_111_J41 (.inl (hT e he)) rfl ?_
          refine VV.stk (st' := [.null]) (by first | (rw [hLe]; rfl) | rw [hLe]) ?_
          refine V_ifnullN (tgt := 71) F dJ10_deleteEntry_61 (by decide) ?_
          refine V_aload_n (i := 1) F dJ10_deleteEntry_71 rfl rfl ?_
          refine V_getf F dJ10_deleteEntry_72 fc_J10_114_J41 (.inl (hT e he)) rfl ?_
          refine VV.stk (st' := [.ref (A q)]) (by first | (rw [hRe]; rfl) | rw [hRe]) ?_
          refine V_astore_n (i := 2) F dJ10_deleteEntry_75 rfl (Nat.le_of_ble_eq_true rfl) (Nat.le_of_ble_eq_true rfl) ?_
          refine V_aload_n (i := 2) F dJ10_deleteEntry_76 rfl rfl ?_
          refine V_ifnull F dJ10_deleteEntry_77 ?_
          refine V_aload_n (i := 2) F dJ10_deleteEntry_80 rfl rfl ?_
          refine V_aload_n (i := 1) F dJ10_deleteEntry_81 rfl rfl ?_
          refine V_getf F dJ10_deleteEntry_82 fc_J10_124_J41 (.inl (hT e he)) rfl ?_
          refine VV.stk (st' := [.null, .ref (A q)]) (by first | (rw [hPe]; rfl) | rw [hPe]) ?_
          refine VV.stk (st' := va_rf ((none).map A) :: .ref (A q) :: []) rfl ?_
          refine V_putf F dJ10_deleteEntry_85 fp_J10_124_J41 (hT q hq) (nar_rfO _ _) (fit_rfO _ _) (Nat.le_of_ble_eq_true rfl) ?_
          have hT1 := hT.putP (o := none) hAI hq
          refine V_aload_n (i := 1) F dJ10_deleteEntry_88 rfl rfl ?_
          refine V_getf F dJ10_deleteEntry_89 fc_J10_124_J41 (.inl (hT1 e he)) rfl ?_
          refine VV.stk (st' := [.null]) (by first | (rw [((upo_n (Ne.symm hqe)).trans hPe)]; rfl) | rw [((upo_n (Ne.symm hqe)).trans hPe)]) ?_
          refine V_ifnonnullN F dJ10_deleteEntry_92 ?_
          refine V_aload_n (i := 0) F dJ10_deleteEntry_95 rfl rfl ?_
          refine V_aload_n (i := 2) F dJ10_deleteEntry_96 rfl rfl ?_
          refine V_putf F dJ10_deleteEntry_97 fp_J10_101_J10 ((hset_ne (ne_oo ht (hT q hq) (by decide))).trans ht) rfl rfl (Nat.le_of_ble_eq_true rfl) ?_
          refine VV.heap (h' := (hset (hset hh (A q) (.inr (24, (ndc A K V L R P C q).set 4 (va_rf ((none).map A))))) (t) (.inr (23, [x0, x1, .null, .ref (A q), .int (nI (n - 1)), .int (nI (mc + 1)), x6, x7, x8])))) rfl ?_
          refine V_goto (tgt := 133) F dJ10_deleteEntry_100 (by decide) ?_
          refine V_aload_n (i := 1) F dJ10_deleteEntry_133 rfl rfl ?_
          refine V_aload_n (i := 1) F dJ10_deleteEntry_134 rfl rfl ?_
          refine V_aload_n (i := 1) F dJ10_deleteEntry_135 rfl rfl ?_
          refine V_null F dJ10_deleteEntry_136 ?_
          refine V_dup_x1 F dJ10_deleteEntry_137 rfl rfl ?_
          refine VV.stk (st' := va_rf ((none).map A) :: .ref (A e) :: [.null, .ref (A e), .ref (A e)]) rfl ?_
          refine V_putf F dJ10_deleteEntry_138 fp_J10_124_J41 ((hT1.oth (x := .inr (23, [x0, x1, .null, .ref (A q), .int (nI (n - 1)), .int (nI (mc + 1)), x6, x7, x8])) ((hset_ne (ne_oo ht (hT q hq) (by decide))).trans ht) (by decide)) e he) (nar_rfO _ _) (fit_rfO _ _) (Nat.le_of_ble_eq_true rfl) ?_
          have hT2 := ((hT1.oth (x := .inr (23, [x0, x1, .null, .ref (A q), .int (nI (n - 1)), .int (nI (mc + 1)), x6, x7, x8])) ((hset_ne (ne_oo ht (hT q hq) (by decide))).trans ht) (by decide))).putP (o := none) hAI he
          refine V_dup_x1 F dJ10_deleteEntry_141 rfl rfl ?_
          refine VV.stk (st' := va_rf ((none).map A) :: .ref (A e) :: [.null, .ref (A e)]) rfl ?_
          refine V_putf F dJ10_deleteEntry_142 fp_J10_114_J41 (hT2 e he) (nar_rfO _ _) (fit_rfO _ _) (Nat.le_of_ble_eq_true rfl) ?_
          have hT3 := hT2.putR (o := none) hAI he
          refine VV.stk (st' := va_rf ((none).map A) :: .ref (A e) :: []) rfl ?_
          refine V_putf F dJ10_deleteEntry_145 fp_J10_111_J41 (hT3 e he) (nar_rfO _ _) (fit_rfO _ _) (Nat.le_of_ble_eq_true rfl) ?_
          have hT4 := hT3.putL (o := none) hAI he
          obtain ⟨hw2, hd1, hd2, hd3⟩ := hw.col0 (rep := some q) he (Or.inl ⟨hLe, hRe.symm⟩) hPe (L1 := upo L e none) (R1 := upo R e none) (P1 := upo (upo P q none) e none) (fun i _ q => upo_n q) (fun i _ q => upo_n q) (fun i _ q => (upo_n q).trans (PIF hPe))
          have hTd := (hT4).del hd1 hd2 hd3
          have hfr2 := ((((((Fr.rf (M := fun _ => True) (h := hh)).put (x := .inr (24, (ndc A K V L R P C q).set 4 (va_rf ((none).map A)))) (hT q hq) rfl rfl (Or.inl trivial)).put (x := .inr (23, [x0, x1, .null, .ref (A q), .int (nI (n - 1)), .int (nI (mc + 1)), x6, x7, x8])) ((hset_ne (ne_oo ht (hT q hq) (by decide))).trans ht) rfl rfl (Or.inl trivial)).put (x := .inr (24, (ndc A K V L R (upo P q none) C e).set 4 (va_rf ((none).map A)))) ((hT1.oth (x := .inr (23, [x0, x1, .null, .ref (A q), .int (nI (n - 1)), .int (nI (mc + 1)), x6, x7, x8])) ((hset_ne (ne_oo ht (hT q hq) (by decide))).trans ht) (by decide)) e he) rfl rfl (Or.inl trivial)).put (x := .inr (24, (ndc A K V L R (upo (upo P q none) e none) C e).set 3 (va_rf ((none).map A)))) (hT2 e he) rfl rfl (Or.inl trivial)).put (x := .inr (24, (ndc A K V L (upo R e none) (upo (upo P q none) e none) C e).set 2 (va_rf ((none).map A)))) (hT3 e he) rfl rfl (Or.inl trivial))
          have hfr := (((((hF.put (x := .inr (24, (ndc A K V L R P C q).set 4 (va_rf ((none).map A)))) (hT q hq) rfl rfl (Or.inl (Or.inr ⟨q, hq, rfl⟩))).put (x := .inr (23, [x0, x1, .null, .ref (A q), .int (nI (n - 1)), .int (nI (mc + 1)), x6, x7, x8])) ((hset_ne (ne_oo ht (hT q hq) (by decide))).trans ht) rfl rfl (Or.inl (Or.inl rfl))).put (x := .inr (24, (ndc A K V L R (upo P q none) C e).set 4 (va_rf ((none).map A)))) ((hT1.oth (x := .inr (23, [x0, x1, .null, .ref (A q), .int (nI (n - 1)), .int (nI (mc + 1)), x6, x7, x8])) ((hset_ne (ne_oo ht (hT q hq) (by decide))).trans ht) (by decide)) e he) rfl rfl (Or.inl (Or.inr ⟨e, he, rfl⟩))).put (x := .inr (24, (ndc A K V L R (upo (upo P q none) e none) C e).set 3 (va_rf ((none).map A)))) (hT2 e he) rfl rfl (Or.inl (Or.inr ⟨e, he, rfl⟩))).put (x := .inr (24, (ndc A K V L (upo R e none) (upo (upo P q none) e none) C e).set 2 (va_rf ((none).map A)))) (hT3 e he) rfl rfl (Or.inl (Or.inr ⟨e, he, rfl⟩)))
          have hCd : TC _ t (n - 1) (mc + 1) (((some q : Option Nat).map (cl e)).map (fun j => A (sk e j))) := TC.col ⟨x0, x1, x6, x7, x8, ((hset_ne (ne_oo ((hset_ne (ne_oo ((hset_ne (ne_oo (hset_self (e := .inr (23, [x0, x1, .null, .ref (A q), .int (nI (n - 1)), .int (nI (mc + 1)), x6, x7, x8]))) ((hT1.oth (x := .inr (23, [x0, x1, .null, .ref (A q), .int (nI (n - 1)), .int (nI (mc + 1)), x6, x7, x8])) ((hset_ne (ne_oo ht (hT q hq) (by decide))).trans ht) (by decide)) e he) (by decide))).trans (hset_self (e := .inr (23, [x0, x1, .null, .ref (A q), .int (nI (n - 1)), .int (nI (mc + 1)), x6, x7, x8])))) (hT2 e he) (by decide))).trans ((hset_ne (ne_oo (hset_self (e := .inr (23, [x0, x1, .null, .ref (A q), .int (nI (n - 1)), .int (nI (mc + 1)), x6, x7, x8]))) ((hT1.oth (x := .inr (23, [x0, x1, .null, .ref (A q), .int (nI (n - 1)), .int (nI (mc + 1)), x6, x7, x8])) ((hset_ne (ne_oo ht (hT q hq) (by decide))).trans ht) (by decide)) e he) (by decide))).trans (hset_self (e := .inr (23, [x0, x1, .null, .ref (A q), .int (nI (n - 1)), .int (nI (mc + 1)), x6, x7, x8]))))) (hT3 e he) (by decide))).trans ((hset_ne (ne_oo ((hset_ne (ne_oo (hset_self (e := .inr (23, [x0, x1, .null, .ref (A q), .int (nI (n - 1)), .int (nI (mc + 1)), x6, x7, x8]))) ((hT1.oth (x := .inr (23, [x0, x1, .null, .ref (A q), .int (nI (n - 1)), .int (nI (mc + 1)), x6, x7, x8])) ((hset_ne (ne_oo ht (hT q hq) (by decide))).trans ht) (by decide)) e he) (by decide))).trans (hset_self (e := .inr (23, [x0, x1, .null, .ref (A q), .int (nI (n - 1)), .int (nI (mc + 1)), x6, x7, x8])))) (hT2 e he) (by decide))).trans ((hset_ne (ne_oo (hset_self (e := .inr (23, [x0, x1, .null, .ref (A q), .int (nI (n - 1)), .int (nI (mc + 1)), x6, x7, x8]))) ((hT1.oth (x := .inr (23, [x0, x1, .null, .ref (A q), .int (nI (n - 1)), .int (nI (mc + 1)), x6, x7, x8])) ((hset_ne (ne_oo ht (hT q hq) (by decide))).trans ht) (by decide)) e he) (by decide))).trans (hset_self (e := .inr (23, [x0, x1, .null, .ref (A q), .int (nI (n - 1)), .int (nI (mc + 1)), x6, x7, x8])))))), vw_fr hv1 hfr2 rfl, vw_fr hv7 hfr2 rfl⟩ (fun z => hqe (Option.some.inj z))
          refine V_aload_n (i := 1) F dJ10_deleteEntry_148 rfl rfl ?_
          refine V_getf F dJ10_deleteEntry_149 fc_J10_290_J41 (.inl (hT4 e he)) rfl ?_
          refine V_iconst (v := nI 1) F dJ10_deleteEntry_152 rfl ?_
          refine V_icmp_ne1C (c := C e) (tgt := 245) F dJ10_deleteEntry_153 (by decide) (fun c_153 => ?_) (fun c_153 => ?_)
          · exact V_vret F dJ10_deleteEntry_245 (by first | exact Nat.le_of_ble_eq_true rfl | omega) (by first | exact Nat.le_of_ble_eq_true rfl | omega) ⟨rfl, _, TMp.ext (K := fun j => K (sk e j)) (V := fun j => V (sk e j)) ⟨hAI.del, _, _, _, _, _, _, _, hCd, hTd, hw2⟩ (fun i hi => (hK i hi).symm) (fun i hi => (hV i hi).symm), fun j hj => ⟨sk e j, sk_lt hj, rfl⟩, hfr⟩
          · refine V_aload_n (i := 0) F dJ10_deleteEntry_156 rfl rfl ?_
            refine V_aload_n (i := 2) F dJ10_deleteEntry_157 rfl rfl ?_
            refine VV.stk (st' := [.ref ((fun j => A (sk e j)) (cl e q)), .ref (t)]) (by simp only [sk_cl hqe]) ?_
            refine V_callV (st := []) F dJ10_deleteEntry_158 lk_J10_317 (ct_fixDel hCd hTd hAI.del hw2 (cl_lt hq hqe he) ⟨(hw2.1 _ (cl_lt hq hqe he)).1, (hw2.1 _ (cl_lt hq hqe he)).2.1, rfl, rfl⟩) ⟨23, _, _, _, rfl, (.inl ((hset_ne (ne_oo ((hset_ne (ne_oo ((hset_ne (ne_oo (hset_self (e := .inr (23, [x0, x1, .null, .ref (A q), .int (nI (n - 1)), .int (nI (mc + 1)), x6, x7, x8]))) ((hT1.oth (x := .inr (23, [x0, x1, .null, .ref (A q), .int (nI (n - 1)), .int (nI (mc + 1)), x6, x7, x8])) ((hset_ne (ne_oo ht (hT q hq) (by decide))).trans ht) (by decide)) e he) (by decide))).trans (hset_self (e := .inr (23, [x0, x1, .null, .ref (A q), .int (nI (n - 1)), .int (nI (mc + 1)), x6, x7, x8])))) (hT2 e he) (by decide))).trans ((hset_ne (ne_oo (hset_self (e := .inr (23, [x0, x1, .null, .ref (A q), .int (nI (n - 1)), .int (nI (mc + 1)), x6, x7, x8]))) ((hT1.oth (x := .inr (23, [x0, x1, .null, .ref (A q), .int (nI (n - 1)), .int (nI (mc + 1)), x6, x7, x8])) ((hset_ne (ne_oo ht (hT q hq) (by decide))).trans ht) (by decide)) e he) (by decide))).trans (hset_self (e := .inr (23, [x0, x1, .null, .ref (A q), .int (nI (n - 1)), .int (nI (mc + 1)), x6, x7, x8]))))) (hT3 e he) (by decide))).trans ((hset_ne (ne_oo ((hset_ne (ne_oo (hset_self (e := .inr (23, [x0, x1, .null, .ref (A q), .int (nI (n - 1)), .int (nI (mc + 1)), x6, x7, x8]))) ((hT1.oth (x := .inr (23, [x0, x1, .null, .ref (A q), .int (nI (n - 1)), .int (nI (mc + 1)), x6, x7, x8])) ((hset_ne (ne_oo ht (hT q hq) (by decide))).trans ht) (by decide)) e he) (by decide))).trans (hset_self (e := .inr (23, [x0, x1, .null, .ref (A q), .int (nI (n - 1)), .int (nI (mc + 1)), x6, x7, x8])))) (hT2 e he) (by decide))).trans ((hset_ne (ne_oo (hset_self (e := .inr (23, [x0, x1, .null, .ref (A q), .int (nI (n - 1)), .int (nI (mc + 1)), x6, x7, x8]))) ((hT1.oth (x := .inr (23, [x0, x1, .null, .ref (A q), .int (nI (n - 1)), .int (nI (mc + 1)), x6, x7, x8])) ((hset_ne (ne_oo ht (hT q hq) (by decide))).trans ht) (by decide)) e he) (by decide))).trans (hset_self (e := .inr (23, [x0, x1, .null, .ref (A q), .int (nI (n - 1)), .int (nI (mc + 1)), x6, x7, x8])))))))⟩ rfl rfl (Nat.le_of_ble_eq_true rfl) (Nat.le_of_ble_eq_true rfl) (Nat.le_of_ble_eq_true rfl) (by first | exact Nat.le_of_ble_eq_true rfl | omega) (by first | exact Nat.le_of_ble_eq_true rfl | omega) ?_
            rintro _ h9 ⟨rfl, L9, R9, P9, C9, rt9, lo9, hi9, hC9, hT9, hw9, hF9, -, -⟩
            refine V_goto (tgt := 245) F dJ10_deleteEntry_161 (by decide) ?_
            exact V_vret F dJ10_deleteEntry_245 (by first | exact Nat.le_of_ble_eq_true rfl | omega) (by first | exact Nat.le_of_ble_eq_true rfl | omega) ⟨rfl, _, TMp.ext (K := fun j => K (sk e j)) (V := fun j => V (sk e j)) ⟨hAI.del, _, _, _, _, _, _, _, hC9, hT9, hw9⟩ (fun i hi => (hK i hi).symm) (fun i hi => (hV i hi).symm), fun j hj => ⟨sk e j, sk_lt hj, rfl⟩, hfr.cal hF9 (fun b q => Or.inl q.dn)⟩
        | some g =>
          have hg : g < n := hw.bP he hPe
          have hge := hw.Pne he hPe
          by_cases hlg : L g = some e
          · refine V_aload_n (i := 1) F dJ10_deleteEntry_57 rfl rfl ?_
            refine V_getf F dJ10_deleteEntry_58 fc_J10_111_J41 (.inl (hT e he)) rfl ?_
            refine VV.stk (st' := [.null]) (by first | (rw [hLe]; rfl) | rw [hLe]) ?_
            refine V_ifnullN (tgt := 71) F dJ10_deleteEntry_61 (by decide) ?_
            refine V_aload_n (i := 1) F dJ10_deleteEntry_71 rfl rfl ?_
            refine V_getf F dJ10_deleteEntry_72 fc_J10_114_J41 (.inl (hT e he)) rfl ?_
            refine VV.stk (st' := [.ref (A q)]) (by first | (rw [hRe]; rfl) | rw [hRe]) ?_
            refine V_astore_n (i := 2) F dJ10_deleteEntry_75 rfl (Nat.le_of_ble_eq_true rfl) (Nat.le_of_ble_eq_true rfl) ?_
            refine V_aload_n (i := 2) F dJ10_deleteEntry_76 rfl rfl ?_
            refine V_ifnull F dJ10_deleteEntry_77 ?_
            refine V_aload_n (i := 2) F dJ10_deleteEntry_80 rfl rfl ?_
            refine V_aload_n (i := 1) F dJ10_deleteEntry_81 rfl rfl ?_
            refine V_getf F dJ10_deleteEntry_82 fc_J10_124_J41 (.inl (hT e he)) rfl ?_
            refine VV.stk (st' := [.ref (A g), .ref (A q)]) (by first | (rw [hPe]; rfl) | rw [hPe]) ?_
            refine VV.stk (st' := va_rf ((some g).map A) :: .ref (A q) :: []) rfl ?_
            refine V_putf F dJ10_deleteEntry_85 fp_J10_124_J41 (hT q hq) (nar_rfO _ _) (fit_rfO _ _) (Nat.le_of_ble_eq_true rfl) ?_
            have hT5 := hT.putP (o := some g) hAI hq
            refine V_aload_n (i := 1) F dJ10_deleteEntry_88 rfl rfl ?_
            refine V_getf F dJ10_deleteEntry_89 fc_J10_124_J41 (.inl (hT5 e he)) rfl ?_
            refine VV.stk (st' := [.ref (A g)]) (by first | (rw [((upo_n (Ne.symm hqe)).trans hPe)]; rfl) | rw [((upo_n (Ne.symm hqe)).trans hPe)]) ?_
            refine V_ifnonnull (tgt := 103) F dJ10_deleteEntry_92 (by decide) ?_
            refine V_aload_n (i := 1) F dJ10_deleteEntry_103 rfl rfl ?_
            refine V_aload_n (i := 1) F dJ10_deleteEntry_104 rfl rfl ?_
            refine V_getf F dJ10_deleteEntry_105 fc_J10_124_J41 (.inl (hT5 e he)) rfl ?_
            refine VV.stk (st' := [.ref (A g), .ref (A e)]) (by first | (rw [((upo_n (Ne.symm hqe)).trans hPe)]; rfl) | rw [((upo_n (Ne.symm hqe)).trans hPe)]) ?_
            refine V_getf F dJ10_deleteEntry_108 fc_J10_111_J41 (.inl (hT5 g hg)) rfl ?_
            refine VV.stk (st' := [.ref (A e), .ref (A e)]) (by first | (rw [hlg]; rfl) | rw [hlg]) ?_
            refine V_acmp_ne (rx := some (A e)) (ry := some (A e)) (tgt := 125) F dJ10_deleteEntry_111 (by decide) (fun c_111 => absurd rfl c_111) (fun c_111 => ?_)
            refine V_aload_n (i := 1) F dJ10_deleteEntry_114 rfl rfl ?_
            refine V_getf F dJ10_deleteEntry_115 fc_J10_124_J41 (.inl (hT5 e he)) rfl ?_
            refine VV.stk (st' := [.ref (A g)]) (by first | (rw [((upo_n (Ne.symm hqe)).trans hPe)]; rfl) | rw [((upo_n (Ne.symm hqe)).trans hPe)]) ?_
            refine V_aload_n (i := 2) F dJ10_deleteEntry_118 rfl rfl ?_
            refine VV.stk (st' := va_rf ((some q).map A) :: .ref (A g) :: []) rfl ?_
            refine V_putf F dJ10_deleteEntry_119 fp_J10_111_J41 (hT5 g hg) (nar_rfO _ _) (fit_rfO _ _) (Nat.le_of_ble_eq_true rfl) ?_
            have hT6 := hT5.putL (o := some q) hAI hg
            refine V_goto (tgt := 133) F dJ10_deleteEntry_122 (by decide) ?_
            refine V_aload_n (i := 1) F dJ10_deleteEntry_133 rfl rfl ?_
            refine V_aload_n (i := 1) F dJ10_deleteEntry_134 rfl rfl ?_
            refine V_aload_n (i := 1) F dJ10_deleteEntry_135 rfl rfl ?_
            refine V_null F dJ10_deleteEntry_136 ?_
            refine V_dup_x1 F dJ10_deleteEntry_137 rfl rfl ?_
            refine VV.stk (st' := va_rf ((none).map A) :: .ref (A e) :: [.null, .ref (A e), .ref (A e)]) rfl ?_
            refine V_putf F dJ10_deleteEntry_138 fp_J10_124_J41 (hT6 e he) (nar_rfO _ _) (fit_rfO _ _) (Nat.le_of_ble_eq_true rfl) ?_
            have hT7 := hT6.putP (o := none) hAI he
            refine V_dup_x1 F dJ10_deleteEntry_141 rfl rfl ?_
            refine VV.stk (st' := va_rf ((none).map A) :: .ref (A e) :: [.null, .ref (A e)]) rfl ?_
            refine V_putf F dJ10_deleteEntry_142 fp_J10_114_J41 (hT7 e he) (nar_rfO _ _) (fit_rfO _ _) (Nat.le_of_ble_eq_true rfl) ?_
            have hT8 := hT7.putR (o := none) hAI he
            refine VV.stk (st' := va_rf ((none).map A) :: .ref (A e) :: []) rfl ?_
            refine V_putf F dJ10_deleteEntry_145 fp_J10_111_J41 (hT8 e he) (nar_rfO _ _) (fit_rfO _ _) (Nat.le_of_ble_eq_true rfl) ?_
            have hT9 := hT8.putL (o := none) hAI he
            obtain ⟨hw2, hd1, hd2, hd3⟩ := hw.colL (rep := some q) he hg (Or.inl ⟨hLe, hRe.symm⟩) hPe hlg (L1 := upo (upo L g (some q)) e none) (R1 := upo R e none) (P1 := upo (upo P q (some g)) e none) (fun i _ q => upo_n q) (fun i _ q => upo_n q) (fun i _ q => (upo_n q).trans (PIF hPe))
            have hTd := (hT9).del hd1 hd2 hd3
            have hfr2 := ((((((Fr.rf (M := fun _ => True) (h := hh)).put (x := .inr (24, (ndc A K V L R P C q).set 4 (va_rf ((some g).map A)))) (hT q hq) rfl rfl (Or.inl trivial)).put (x := .inr (24, (ndc A K V L R (upo P q (some g)) C g).set 2 (va_rf ((some q).map A)))) (hT5 g hg) rfl rfl (Or.inl trivial)).put (x := .inr (24, (ndc A K V (upo L g (some q)) R (upo P q (some g)) C e).set 4 (va_rf ((none).map A)))) (hT6 e he) rfl rfl (Or.inl trivial)).put (x := .inr (24, (ndc A K V (upo L g (some q)) R (upo (upo P q (some g)) e none) C e).set 3 (va_rf ((none).map A)))) (hT7 e he) rfl rfl (Or.inl trivial)).put (x := .inr (24, (ndc A K V (upo L g (some q)) (upo R e none) (upo (upo P q (some g)) e none) C e).set 2 (va_rf ((none).map A)))) (hT8 e he) rfl rfl (Or.inl trivial))
            have hfr := (((((hF.put (x := .inr (24, (ndc A K V L R P C q).set 4 (va_rf ((some g).map A)))) (hT q hq) rfl rfl (Or.inl (Or.inr ⟨q, hq, rfl⟩))).put (x := .inr (24, (ndc A K V L R (upo P q (some g)) C g).set 2 (va_rf ((some q).map A)))) (hT5 g hg) rfl rfl (Or.inl (Or.inr ⟨g, hg, rfl⟩))).put (x := .inr (24, (ndc A K V (upo L g (some q)) R (upo P q (some g)) C e).set 4 (va_rf ((none).map A)))) (hT6 e he) rfl rfl (Or.inl (Or.inr ⟨e, he, rfl⟩))).put (x := .inr (24, (ndc A K V (upo L g (some q)) R (upo (upo P q (some g)) e none) C e).set 3 (va_rf ((none).map A)))) (hT7 e he) rfl rfl (Or.inl (Or.inr ⟨e, he, rfl⟩))).put (x := .inr (24, (ndc A K V (upo L g (some q)) (upo R e none) (upo (upo P q (some g)) e none) C e).set 2 (va_rf ((none).map A)))) (hT8 e he) rfl rfl (Or.inl (Or.inr ⟨e, he, rfl⟩)))
            have hCd : TC _ t (n - 1) (mc + 1) (((rt : Option Nat).map (cl e)).map (fun j => A (sk e j))) := TC.col ⟨x0, x1, x6, x7, x8, ((hset_ne (ne_oo ((hset_ne (ne_oo ((hset_ne (ne_oo ((hset_ne (ne_oo ((hset_ne (ne_oo ht (hT q hq) (by decide))).trans ht) (hT5 g hg) (by decide))).trans ((hset_ne (ne_oo ht (hT q hq) (by decide))).trans ht)) (hT6 e he) (by decide))).trans ((hset_ne (ne_oo ((hset_ne (ne_oo ht (hT q hq) (by decide))).trans ht) (hT5 g hg) (by decide))).trans ((hset_ne (ne_oo ht (hT q hq) (by decide))).trans ht))) (hT7 e he) (by decide))).trans ((hset_ne (ne_oo ((hset_ne (ne_oo ((hset_ne (ne_oo ht (hT q hq) (by decide))).trans ht) (hT5 g hg) (by decide))).trans ((hset_ne (ne_oo ht (hT q hq) (by decide))).trans ht)) (hT6 e he) (by decide))).trans ((hset_ne (ne_oo ((hset_ne (ne_oo ht (hT q hq) (by decide))).trans ht) (hT5 g hg) (by decide))).trans ((hset_ne (ne_oo ht (hT q hq) (by decide))).trans ht)))) (hT8 e he) (by decide))).trans ((hset_ne (ne_oo ((hset_ne (ne_oo ((hset_ne (ne_oo ((hset_ne (ne_oo ht (hT q hq) (by decide))).trans ht) (hT5 g hg) (by decide))).trans ((hset_ne (ne_oo ht (hT q hq) (by decide))).trans ht)) (hT6 e he) (by decide))).trans ((hset_ne (ne_oo ((hset_ne (ne_oo ht (hT q hq) (by decide))).trans ht) (hT5 g hg) (by decide))).trans ((hset_ne (ne_oo ht (hT q hq) (by decide))).trans ht))) (hT7 e he) (by decide))).trans ((hset_ne (ne_oo ((hset_ne (ne_oo ((hset_ne (ne_oo ht (hT q hq) (by decide))).trans ht) (hT5 g hg) (by decide))).trans ((hset_ne (ne_oo ht (hT q hq) (by decide))).trans ht)) (hT6 e he) (by decide))).trans ((hset_ne (ne_oo ((hset_ne (ne_oo ht (hT q hq) (by decide))).trans ht) (hT5 g hg) (by decide))).trans ((hset_ne (ne_oo ht (hT q hq) (by decide))).trans ht))))), vw_fr hv1 hfr2 rfl, vw_fr hv7 hfr2 rfl⟩ (hw.rtn hPe)
            refine V_aload_n (i := 1) F dJ10_deleteEntry_148 rfl rfl ?_
            refine V_getf F dJ10_deleteEntry_149 fc_J10_290_J41 (.inl (hT9 e he)) rfl ?_
            refine V_iconst (v := nI 1) F dJ10_deleteEntry_152 rfl ?_
            refine V_icmp_ne1C (c := C e) (tgt := 245) F dJ10_deleteEntry_153 (by decide) (fun c_153 => ?_) (fun c_153 => ?_)
            · exact V_vret F dJ10_deleteEntry_245 (by first | exact Nat.le_of_ble_eq_true rfl | omega) (by first | exact Nat.le_of_ble_eq_true rfl | omega) ⟨rfl, _, TMp.ext (K := fun j => K (sk e j)) (V := fun j => V (sk e j)) ⟨hAI.del, _, _, _, _, _, _, _, hCd, hTd, hw2⟩ (fun i hi => (hK i hi).symm) (fun i hi => (hV i hi).symm), fun j hj => ⟨sk e j, sk_lt hj, rfl⟩, hfr⟩
            · refine V_aload_n (i := 0) F dJ10_deleteEntry_156 rfl rfl ?_
              refine V_aload_n (i := 2) F dJ10_deleteEntry_157 rfl rfl ?_
              refine VV.stk (st' := [.ref ((fun j => A (sk e j)) (cl e q)), .ref (t)]) (by simp only [sk_cl hqe]) ?_
              refine V_callV (st := []) F dJ10_deleteEntry_158 lk_J10_317 (ct_fixDel hCd hTd hAI.del hw2 (cl_lt hq hqe he) ⟨(hw2.1 _ (cl_lt hq hqe he)).1, (hw2.1 _ (cl_lt hq hqe he)).2.1, rfl, rfl⟩) ⟨23, _, _, _, rfl, (.inl ((hset_ne (ne_oo ((hset_ne (ne_oo ((hset_ne (ne_oo ((hset_ne (ne_oo ((hset_ne (ne_oo ht (hT q hq) (by decide))).trans ht) (hT5 g hg) (by decide))).trans ((hset_ne (ne_oo ht (hT q hq) (by decide))).trans ht)) (hT6 e he) (by decide))).trans ((hset_ne (ne_oo ((hset_ne (ne_oo ht (hT q hq) (by decide))).trans ht) (hT5 g hg) (by decide))).trans ((hset_ne (ne_oo ht (hT q hq) (by decide))).trans ht))) (hT7 e he) (by decide))).trans ((hset_ne (ne_oo ((hset_ne (ne_oo ((hset_ne (ne_oo ht (hT q hq) (by decide))).trans ht) (hT5 g hg) (by decide))).trans ((hset_ne (ne_oo ht (hT q hq) (by decide))).trans ht)) (hT6 e he) (by decide))).trans ((hset_ne (ne_oo ((hset_ne (ne_oo ht (hT q hq) (by decide))).trans ht) (hT5 g hg) (by decide))).trans ((hset_ne (ne_oo ht (hT q hq) (by decide))).trans ht)))) (hT8 e he) (by decide))).trans ((hset_ne (ne_oo ((hset_ne (ne_oo ((hset_ne (ne_oo ((hset_ne (ne_oo ht (hT q hq) (by decide))).trans ht) (hT5 g hg) (by decide))).trans ((hset_ne (ne_oo ht (hT q hq) (by decide))).trans ht)) (hT6 e he) (by decide))).trans ((hset_ne (ne_oo ((hset_ne (ne_oo ht (hT q hq) (by decide))).trans ht) (hT5 g hg) (by decide))).trans ((hset_ne (ne_oo ht (hT q hq) (by decide))).trans ht))) (hT7 e he) (by decide))).trans ((hset_ne (ne_oo ((hset_ne (ne_oo ((hset_ne (ne_oo ht (hT q hq) (by decide))).trans ht) (hT5 g hg) (by decide))).trans ((hset_ne (ne_oo ht (hT q hq) (by decide))).trans ht)) (hT6 e he) (by decide))).trans ((hset_ne (ne_oo ((hset_ne (ne_oo ht (hT q hq) (by decide))).trans ht) (hT5 g hg) (by decide))).trans ((hset_ne (ne_oo ht (hT q hq) (by decide))).trans ht))))))⟩ rfl rfl (Nat.le_of_ble_eq_true rfl) (Nat.le_of_ble_eq_true rfl) (Nat.le_of_ble_eq_true rfl) (by first | exact Nat.le_of_ble_eq_true rfl | omega) (by first | exact Nat.le_of_ble_eq_true rfl | omega) ?_
              rintro _ h9 ⟨rfl, L9, R9, P9, C9, rt9, lo9, hi9, hC9, hT9, hw9, hF9, -, -⟩
              refine V_goto (tgt := 245) F dJ10_deleteEntry_161 (by decide) ?_
              exact V_vret F dJ10_deleteEntry_245 (by first | exact Nat.le_of_ble_eq_true rfl | omega) (by first | exact Nat.le_of_ble_eq_true rfl | omega) ⟨rfl, _, TMp.ext (K := fun j => K (sk e j)) (V := fun j => V (sk e j)) ⟨hAI.del, _, _, _, _, _, _, _, hC9, hT9, hw9⟩ (fun i hi => (hK i hi).symm) (fun i hi => (hV i hi).symm), fun j hj => ⟨sk e j, sk_lt hj, rfl⟩, hfr.cal hF9 (fun b q => Or.inl q.dn)⟩
          · have hrg : R g = some e := (hw.2.2.2.2.2.2.1 e g he hPe).2.resolve_left hlg
            cases hy : L g with
            | none =>
              refine V_aload_n (i := 1) F dJ10_deleteEntry_57 rfl rfl ?_
              refine V_getf F dJ10_deleteEntry_58 fc_J10_111_J41 (.inl (hT e he)) rfl ?_
              refine VV.stk (st' := [.null]) (by first | (rw [hLe]; rfl) | rw [hLe]) ?_
              refine V_ifnullN (tgt := 71) F dJ10_deleteEntry_61 (by decide) ?_
              refine V_aload_n (i := 1) F dJ10_deleteEntry_71 rfl rfl ?_
              refine V_getf F dJ10_deleteEntry_72 fc_J10_114_J41 (.inl (hT e he)) rfl ?_
              refine VV.stk (st' := [.ref (A q)]) (by first | (rw [hRe]; rfl) | rw [hRe]) ?_
              refine V_astore_n (i := 2) F dJ10_deleteEntry_75 rfl (Nat.le_of_ble_eq_true rfl) (Nat.le_of_ble_eq_true rfl) ?_
              refine V_aload_n (i := 2) F dJ10_deleteEntry_76 rfl rfl ?_
              refine V_ifnull F dJ10_deleteEntry_77 ?_
              refine V_aload_n (i := 2) F dJ10_deleteEntry_80 rfl rfl ?_
              refine V_aload_n (i := 1) F dJ10_deleteEntry_81 rfl rfl ?_
              refine V_getf F dJ10_deleteEntry_82 fc_J10_124_J41 (.inl (hT e he)) rfl ?_
              refine VV.stk (st' := [.ref (A g), .ref (A q)]) (by first | (rw [hPe]; rfl) | rw [hPe]) ?_
              refine VV.stk (st' := va_rf ((some g).map A) :: .ref (A q) :: []) rfl ?_
              refine V_putf F dJ10_deleteEntry_85 fp_J10_124_J41 (hT q hq) (nar_rfO _ _) (fit_rfO _ _) (Nat.le_of_ble_eq_true rfl) ?_
              have hT10 := hT.putP (o := some g) hAI hq
              refine V_aload_n (i := 1) F dJ10_deleteEntry_88 rfl rfl ?_
              refine V_getf F dJ10_deleteEntry_89 fc_J10_124_J41 (.inl (hT10 e he)) rfl ?_
              refine VV.stk (st' := [.ref (A g)]) (by first | (rw [((upo_n (Ne.symm hqe)).trans hPe)]; rfl) | rw [((upo_n (Ne.symm hqe)).trans hPe)]) ?_
              refine V_ifnonnull (tgt := 103) F dJ10_deleteEntry_92 (by decide) ?_
              refine V_aload_n (i := 1) F dJ10_deleteEntry_103 rfl rfl ?_
              refine V_aload_n (i := 1) F dJ10_deleteEntry_104 rfl rfl ?_
              refine V_getf F dJ10_deleteEntry_105 fc_J10_124_J41 (.inl (hT10 e he)) rfl ?_
              refine VV.stk (st' := [.ref (A g), .ref (A e)]) (by first | (rw [((upo_n (Ne.symm hqe)).trans hPe)]; rfl) | rw [((upo_n (Ne.symm hqe)).trans hPe)]) ?_
              refine V_getf F dJ10_deleteEntry_108 fc_J10_111_J41 (.inl (hT10 g hg)) rfl ?_
              refine VV.stk (st' := [.null, .ref (A e)]) (by first | (rw [hy]; rfl) | rw [hy]) ?_
              refine V_acmp_ne (rx := some (A e)) (ry := none) (tgt := 125) F dJ10_deleteEntry_111 (by decide) (fun c_111 => ?_) (fun c_111 => nomatch c_111)
              refine V_aload_n (i := 1) F dJ10_deleteEntry_125 rfl rfl ?_
              refine V_getf F dJ10_deleteEntry_126 fc_J10_124_J41 (.inl (hT10 e he)) rfl ?_
              refine VV.stk (st' := [.ref (A g)]) (by first | (rw [((upo_n (Ne.symm hqe)).trans hPe)]; rfl) | rw [((upo_n (Ne.symm hqe)).trans hPe)]) ?_
              refine V_aload_n (i := 2) F dJ10_deleteEntry_129 rfl rfl ?_
              refine VV.stk (st' := va_rf ((some q).map A) :: .ref (A g) :: []) rfl ?_
              refine V_putf F dJ10_deleteEntry_130 fp_J10_114_J41 (hT10 g hg) (nar_rfO _ _) (fit_rfO _ _) (Nat.le_of_ble_eq_true rfl) ?_
              have hT11 := hT10.putR (o := some q) hAI hg
              refine V_aload_n (i := 1) F dJ10_deleteEntry_133 rfl rfl ?_
              refine V_aload_n (i := 1) F dJ10_deleteEntry_134 rfl rfl ?_
              refine V_aload_n (i := 1) F dJ10_deleteEntry_135 rfl rfl ?_
              refine V_null F dJ10_deleteEntry_136 ?_
              refine V_dup_x1 F dJ10_deleteEntry_137 rfl rfl ?_
              refine VV.stk (st' := va_rf ((none).map A) :: .ref (A e) :: [.null, .ref (A e), .ref (A e)]) rfl ?_
              refine V_putf F dJ10_deleteEntry_138 fp_J10_124_J41 (hT11 e he) (nar_rfO _ _) (fit_rfO _ _) (Nat.le_of_ble_eq_true rfl) ?_
              have hT12 := hT11.putP (o := none) hAI he
              refine V_dup_x1 F dJ10_deleteEntry_141 rfl rfl ?_
              refine VV.stk (st' := va_rf ((none).map A) :: .ref (A e) :: [.null, .ref (A e)]) rfl ?_
              refine V_putf F dJ10_deleteEntry_142 fp_J10_114_J41 (hT12 e he) (nar_rfO _ _) (fit_rfO _ _) (Nat.le_of_ble_eq_true rfl) ?_
              have hT13 := hT12.putR (o := none) hAI he
              refine VV.stk (st' := va_rf ((none).map A) :: .ref (A e) :: []) rfl ?_
              refine V_putf F dJ10_deleteEntry_145 fp_J10_111_J41 (hT13 e he) (nar_rfO _ _) (fit_rfO _ _) (Nat.le_of_ble_eq_true rfl) ?_
              have hT14 := hT13.putL (o := none) hAI he
              obtain ⟨hw2, hd1, hd2, hd3⟩ := hw.colR (rep := some q) he hg (Or.inl ⟨hLe, hRe.symm⟩) hPe hrg (L1 := upo L e none) (R1 := upo (upo R g (some q)) e none) (P1 := upo (upo P q (some g)) e none) (fun i _ q => upo_n q) (fun i _ q => upo_n q) (fun i _ q => (upo_n q).trans (PIF hPe))
              have hTd := (hT14).del hd1 hd2 hd3
              have hfr2 := ((((((Fr.rf (M := fun _ => True) (h := hh)).put (x := .inr (24, (ndc A K V L R P C q).set 4 (va_rf ((some g).map A)))) (hT q hq) rfl rfl (Or.inl trivial)).put (x := .inr (24, (ndc A K V L R (upo P q (some g)) C g).set 3 (va_rf ((some q).map A)))) (hT10 g hg) rfl rfl (Or.inl trivial)).put (x := .inr (24, (ndc A K V L (upo R g (some q)) (upo P q (some g)) C e).set 4 (va_rf ((none).map A)))) (hT11 e he) rfl rfl (Or.inl trivial)).put (x := .inr (24, (ndc A K V L (upo R g (some q)) (upo (upo P q (some g)) e none) C e).set 3 (va_rf ((none).map A)))) (hT12 e he) rfl rfl (Or.inl trivial)).put (x := .inr (24, (ndc A K V L (upo (upo R g (some q)) e none) (upo (upo P q (some g)) e none) C e).set 2 (va_rf ((none).map A)))) (hT13 e he) rfl rfl (Or.inl trivial))
              have hfr := (((((hF.put (x := .inr (24, (ndc A K V L R P C q).set 4 (va_rf ((some g).map A)))) (hT q hq) rfl rfl (Or.inl (Or.inr ⟨q, hq, rfl⟩))).put (x := .inr (24, (ndc A K V L R (upo P q (some g)) C g).set 3 (va_rf ((some q).map A)))) (hT10 g hg) rfl rfl (Or.inl (Or.inr ⟨g, hg, rfl⟩))).put (x := .inr (24, (ndc A K V L (upo R g (some q)) (upo P q (some g)) C e).set 4 (va_rf ((none).map A)))) (hT11 e he) rfl rfl (Or.inl (Or.inr ⟨e, he, rfl⟩))).put (x := .inr (24, (ndc A K V L (upo R g (some q)) (upo (upo P q (some g)) e none) C e).set 3 (va_rf ((none).map A)))) (hT12 e he) rfl rfl (Or.inl (Or.inr ⟨e, he, rfl⟩))).put (x := .inr (24, (ndc A K V L (upo (upo R g (some q)) e none) (upo (upo P q (some g)) e none) C e).set 2 (va_rf ((none).map A)))) (hT13 e he) rfl rfl (Or.inl (Or.inr ⟨e, he, rfl⟩)))
              have hCd : TC _ t (n - 1) (mc + 1) (((rt : Option Nat).map (cl e)).map (fun j => A (sk e j))) := TC.col ⟨x0, x1, x6, x7, x8, ((hset_ne (ne_oo ((hset_ne (ne_oo ((hset_ne (ne_oo ((hset_ne (ne_oo ((hset_ne (ne_oo ht (hT q hq) (by decide))).trans ht) (hT10 g hg) (by decide))).trans ((hset_ne (ne_oo ht (hT q hq) (by decide))).trans ht)) (hT11 e he) (by decide))).trans ((hset_ne (ne_oo ((hset_ne (ne_oo ht (hT q hq) (by decide))).trans ht) (hT10 g hg) (by decide))).trans ((hset_ne (ne_oo ht (hT q hq) (by decide))).trans ht))) (hT12 e he) (by decide))).trans ((hset_ne (ne_oo ((hset_ne (ne_oo ((hset_ne (ne_oo ht (hT q hq) (by decide))).trans ht) (hT10 g hg) (by decide))).trans ((hset_ne (ne_oo ht (hT q hq) (by decide))).trans ht)) (hT11 e he) (by decide))).trans ((hset_ne (ne_oo ((hset_ne (ne_oo ht (hT q hq) (by decide))).trans ht) (hT10 g hg) (by decide))).trans ((hset_ne (ne_oo ht (hT q hq) (by decide))).trans ht)))) (hT13 e he) (by decide))).trans ((hset_ne (ne_oo ((hset_ne (ne_oo ((hset_ne (ne_oo ((hset_ne (ne_oo ht (hT q hq) (by decide))).trans ht) (hT10 g hg) (by decide))).trans ((hset_ne (ne_oo ht (hT q hq) (by decide))).trans ht)) (hT11 e he) (by decide))).trans ((hset_ne (ne_oo ((hset_ne (ne_oo ht (hT q hq) (by decide))).trans ht) (hT10 g hg) (by decide))).trans ((hset_ne (ne_oo ht (hT q hq) (by decide))).trans ht))) (hT12 e he) (by decide))).trans ((hset_ne (ne_oo ((hset_ne (ne_oo ((hset_ne (ne_oo ht (hT q hq) (by decide))).trans ht) (hT10 g hg) (by decide))).trans ((hset_ne (ne_oo ht (hT q hq) (by decide))).trans ht)) (hT11 e he) (by decide))).trans ((hset_ne (ne_oo ((hset_ne (ne_oo ht (hT q hq) (by decide))).trans ht) (hT10 g hg) (by decide))).trans ((hset_ne (ne_oo ht (hT q hq) (by decide))).trans ht))))), vw_fr hv1 hfr2 rfl, vw_fr hv7 hfr2 rfl⟩ (hw.rtn hPe)
              refine V_aload_n (i := 1) F dJ10_deleteEntry_148 rfl rfl ?_
              refine V_getf F dJ10_deleteEntry_149 fc_J10_290_J41 (.inl (hT14 e he)) rfl ?_
              refine V_iconst (v := nI 1) F dJ10_deleteEntry_152 rfl ?_
              refine V_icmp_ne1C (c := C e) (tgt := 245) F dJ10_deleteEntry_153 (by decide) (fun c_153 => ?_) (fun c_153 => ?_)
              · exact V_vret F dJ10_deleteEntry_245 (by first | exact Nat.le_of_ble_eq_true rfl | omega) (by first | exact Nat.le_of_ble_eq_true rfl | omega) ⟨rfl, _, TMp.ext (K := fun j => K (sk e j)) (V := fun j => V (sk e j)) ⟨hAI.del, _, _, _, _, _, _, _, hCd, hTd, hw2⟩ (fun i hi => (hK i hi).symm) (fun i hi => (hV i hi).symm), fun j hj => ⟨sk e j, sk_lt hj, rfl⟩, hfr⟩
              · refine V_aload_n (i := 0) F dJ10_deleteEntry_156 rfl rfl ?_
                refine V_aload_n (i := 2) F dJ10_deleteEntry_157 rfl rfl ?_
                refine VV.stk (st' := [.ref ((fun j => A (sk e j)) (cl e q)), .ref (t)]) (by simp only [sk_cl hqe]) ?_
                refine V_callV (st := []) F dJ10_deleteEntry_158 lk_J10_317 (ct_fixDel hCd hTd hAI.del hw2 (cl_lt hq hqe he) ⟨(hw2.1 _ (cl_lt hq hqe he)).1, (hw2.1 _ (cl_lt hq hqe he)).2.1, rfl, rfl⟩) ⟨23, _, _, _, rfl, (.inl ((hset_ne (ne_oo ((hset_ne (ne_oo ((hset_ne (ne_oo ((hset_ne (ne_oo ((hset_ne (ne_oo ht (hT q hq) (by decide))).trans ht) (hT10 g hg) (by decide))).trans ((hset_ne (ne_oo ht (hT q hq) (by decide))).trans ht)) (hT11 e he) (by decide))).trans ((hset_ne (ne_oo ((hset_ne (ne_oo ht (hT q hq) (by decide))).trans ht) (hT10 g hg) (by decide))).trans ((hset_ne (ne_oo ht (hT q hq) (by decide))).trans ht))) (hT12 e he) (by decide))).trans ((hset_ne (ne_oo ((hset_ne (ne_oo ((hset_ne (ne_oo ht (hT q hq) (by decide))).trans ht) (hT10 g hg) (by decide))).trans ((hset_ne (ne_oo ht (hT q hq) (by decide))).trans ht)) (hT11 e he) (by decide))).trans ((hset_ne (ne_oo ((hset_ne (ne_oo ht (hT q hq) (by decide))).trans ht) (hT10 g hg) (by decide))).trans ((hset_ne (ne_oo ht (hT q hq) (by decide))).trans ht)))) (hT13 e he) (by decide))).trans ((hset_ne (ne_oo ((hset_ne (ne_oo ((hset_ne (ne_oo ((hset_ne (ne_oo ht (hT q hq) (by decide))).trans ht) (hT10 g hg) (by decide))).trans ((hset_ne (ne_oo ht (hT q hq) (by decide))).trans ht)) (hT11 e he) (by decide))).trans ((hset_ne (ne_oo ((hset_ne (ne_oo ht (hT q hq) (by decide))).trans ht) (hT10 g hg) (by decide))).trans ((hset_ne (ne_oo ht (hT q hq) (by decide))).trans ht))) (hT12 e he) (by decide))).trans ((hset_ne (ne_oo ((hset_ne (ne_oo ((hset_ne (ne_oo ht (hT q hq) (by decide))).trans ht) (hT10 g hg) (by decide))).trans ((hset_ne (ne_oo ht (hT q hq) (by decide))).trans ht)) (hT11 e he) (by decide))).trans ((hset_ne (ne_oo ((hset_ne (ne_oo ht (hT q hq) (by decide))).trans ht) (hT10 g hg) (by decide))).trans ((hset_ne (ne_oo ht (hT q hq) (by decide))).trans ht))))))⟩ rfl rfl (Nat.le_of_ble_eq_true rfl) (Nat.le_of_ble_eq_true rfl) (Nat.le_of_ble_eq_true rfl) (by first | exact Nat.le_of_ble_eq_true rfl | omega) (by first | exact Nat.le_of_ble_eq_true rfl | omega) ?_
                rintro _ h9 ⟨rfl, L9, R9, P9, C9, rt9, lo9, hi9, hC9, hT9, hw9, hF9, -, -⟩
                refine V_goto (tgt := 245) F dJ10_deleteEntry_161 (by decide) ?_
                exact V_vret F dJ10_deleteEntry_245 (by first | exact Nat.le_of_ble_eq_true rfl | omega) (by first | exact Nat.le_of_ble_eq_true rfl | omega) ⟨rfl, _, TMp.ext (K := fun j => K (sk e j)) (V := fun j => V (sk e j)) ⟨hAI.del, _, _, _, _, _, _, _, hC9, hT9, hw9⟩ (fun i hi => (hK i hi).symm) (fun i hi => (hV i hi).symm), fun j hj => ⟨sk e j, sk_lt hj, rfl⟩, hfr.cal hF9 (fun b q => Or.inl q.dn)⟩
            | some y =>
              have hyn : y < n := hw.bL hg hy
              have hye : y ≠ e := fun z => hlg (by rw [hy, z])
              refine V_aload_n (i := 1) F dJ10_deleteEntry_57 rfl rfl ?_
              refine V_getf F dJ10_deleteEntry_58 fc_J10_111_J41 (.inl (hT e he)) rfl ?_
              refine VV.stk (st' := [.null]) (by first | (rw [hLe]; rfl) | rw [hLe]) ?_
              refine V_ifnullN (tgt := 71) F dJ10_deleteEntry_61 (by decide) ?_
              refine V_aload_n (i := 1) F dJ10_deleteEntry_71 rfl rfl ?_
              refine V_getf F dJ10_deleteEntry_72 fc_J10_114_J41 (.inl (hT e he)) rfl ?_
              refine VV.stk (st' := [.ref (A q)]) (by first | (rw [hRe]; rfl) | rw [hRe]) ?_
              refine V_astore_n (i := 2) F dJ10_deleteEntry_75 rfl (Nat.le_of_ble_eq_true rfl) (Nat.le_of_ble_eq_true rfl) ?_
              refine V_aload_n (i := 2) F dJ10_deleteEntry_76 rfl rfl ?_
              refine V_ifnull F dJ10_deleteEntry_77 ?_
              refine V_aload_n (i := 2) F dJ10_deleteEntry_80 rfl rfl ?_
              refine V_aload_n (i := 1) F dJ10_deleteEntry_81 rfl rfl ?_
              refine V_getf F dJ10_deleteEntry_82 fc_J10_124_J41 (.inl (hT e he)) rfl ?_
              refine VV.stk (st' := [.ref (A g), .ref (A q)]) (by first | (rw [hPe]; rfl) | rw [hPe]) ?_
              refine VV.stk (st' := va_rf ((some g).map A) :: .ref (A q) :: []) rfl ?_
              refine V_putf F dJ10_deleteEntry_85 fp_J10_124_J41 (hT q hq) (nar_rfO _ _) (fit_rfO _ _) (Nat.le_of_ble_eq_true rfl) ?_
              have hT15 := hT.putP (o := some g) hAI hq
              refine V_aload_n (i := 1) F dJ10_deleteEntry_88 rfl rfl ?_
              refine V_getf F dJ10_deleteEntry_89 fc_J10_124_J41 (.inl (hT15 e he)) rfl ?_
              refine VV.stk (st' := [.ref (A g)]) (by first | (rw [((upo_n (Ne.symm hqe)).trans hPe)]; rfl) | rw [((upo_n (Ne.symm hqe)).trans hPe)]) ?_
              refine V_ifnonnull (tgt := 103) F dJ10_deleteEntry_92 (by decide) ?_
              refine V_aload_n (i := 1) F dJ10_deleteEntry_103 rfl rfl ?_
              refine V_aload_n (i := 1) F dJ10_deleteEntry_104 rfl rfl ?_
              refine V_getf F dJ10_deleteEntry_105 fc_J10_124_J41 (.inl (hT15 e he)) rfl ?_
              refine VV.stk (st' := [.ref (A g), .ref (A e)]) (by first | (rw [((upo_n (Ne.symm hqe)).trans hPe)]; rfl) | rw [((upo_n (Ne.symm hqe)).trans hPe)]) ?_
              refine V_getf F dJ10_deleteEntry_108 fc_J10_111_J41 (.inl (hT15 g hg)) rfl ?_
              refine VV.stk (st' := [.ref (A y), .ref (A e)]) (by first | (rw [hy]; rfl) | rw [hy]) ?_
              refine V_acmp_ne (rx := some (A e)) (ry := some (A y)) (tgt := 125) F dJ10_deleteEntry_111 (by decide) (fun c_111 => ?_) (fun c_111 => absurd (hAI _ _ he hyn (Option.some.inj c_111)) (Ne.symm hye))
              refine V_aload_n (i := 1) F dJ10_deleteEntry_125 rfl rfl ?_
              refine V_getf F dJ10_deleteEntry_126 fc_J10_124_J41 (.inl (hT15 e he)) rfl ?_
              refine VV.stk (st' := [.ref (A g)]) (by first | (rw [((upo_n (Ne.symm hqe)).trans hPe)]; rfl) | rw [((upo_n (Ne.symm hqe)).trans hPe)]) ?_
              refine V_aload_n (i := 2) F dJ10_deleteEntry_129 rfl rfl ?_
              refine VV.stk (st' := va_rf ((some q).map A) :: .ref (A g) :: []) rfl ?_
              refine V_putf F dJ10_deleteEntry_130 fp_J10_114_J41 (hT15 g hg) (nar_rfO _ _) (fit_rfO _ _) (Nat.le_of_ble_eq_true rfl) ?_
              have hT16 := hT15.putR (o := some q) hAI hg
              refine V_aload_n (i := 1) F dJ10_deleteEntry_133 rfl rfl ?_
              refine V_aload_n (i := 1) F dJ10_deleteEntry_134 rfl rfl ?_
              refine V_aload_n (i := 1) F dJ10_deleteEntry_135 rfl rfl ?_
              refine V_null F dJ10_deleteEntry_136 ?_
              refine V_dup_x1 F dJ10_deleteEntry_137 rfl rfl ?_
              refine VV.stk (st' := va_rf ((none).map A) :: .ref (A e) :: [.null, .ref (A e), .ref (A e)]) rfl ?_
              refine V_putf F dJ10_deleteEntry_138 fp_J10_124_J41 (hT16 e he) (nar_rfO _ _) (fit_rfO _ _) (Nat.le_of_ble_eq_true rfl) ?_
              have hT17 := hT16.putP (o := none) hAI he
              refine V_dup_x1 F dJ10_deleteEntry_141 rfl rfl ?_
              refine VV.stk (st' := va_rf ((none).map A) :: .ref (A e) :: [.null, .ref (A e)]) rfl ?_
              refine V_putf F dJ10_deleteEntry_142 fp_J10_114_J41 (hT17 e he) (nar_rfO _ _) (fit_rfO _ _) (Nat.le_of_ble_eq_true rfl) ?_
              have hT18 := hT17.putR (o := none) hAI he
              refine VV.stk (st' := va_rf ((none).map A) :: .ref (A e) :: []) rfl ?_
              refine V_putf F dJ10_deleteEntry_145 fp_J10_111_J41 (hT18 e he) (nar_rfO _ _) (fit_rfO _ _) (Nat.le_of_ble_eq_true rfl) ?_
              have hT19 := hT18.putL (o := none) hAI he
              obtain ⟨hw2, hd1, hd2, hd3⟩ := hw.colR (rep := some q) he hg (Or.inl ⟨hLe, hRe.symm⟩) hPe hrg (L1 := upo L e none) (R1 := upo (upo R g (some q)) e none) (P1 := upo (upo P q (some g)) e none) (fun i _ q => upo_n q) (fun i _ q => upo_n q) (fun i _ q => (upo_n q).trans (PIF hPe))
              have hTd := (hT19).del hd1 hd2 hd3
              have hfr2 := ((((((Fr.rf (M := fun _ => True) (h := hh)).put (x := .inr (24, (ndc A K V L R P C q).set 4 (va_rf ((some g).map A)))) (hT q hq) rfl rfl (Or.inl trivial)).put (x := .inr (24, (ndc A K V L R (upo P q (some g)) C g).set 3 (va_rf ((some q).map A)))) (hT15 g hg) rfl rfl (Or.inl trivial)).put (x := .inr (24, (ndc A K V L (upo R g (some q)) (upo P q (some g)) C e).set 4 (va_rf ((none).map A)))) (hT16 e he) rfl rfl (Or.inl trivial)).put (x := .inr (24, (ndc A K V L (upo R g (some q)) (upo (upo P q (some g)) e none) C e).set 3 (va_rf ((none).map A)))) (hT17 e he) rfl rfl (Or.inl trivial)).put (x := .inr (24, (ndc A K V L (upo (upo R g (some q)) e none) (upo (upo P q (some g)) e none) C e).set 2 (va_rf ((none).map A)))) (hT18 e he) rfl rfl (Or.inl trivial))
              have hfr := (((((hF.put (x := .inr (24, (ndc A K V L R P C q).set 4 (va_rf ((some g).map A)))) (hT q hq) rfl rfl (Or.inl (Or.inr ⟨q, hq, rfl⟩))).put (x := .inr (24, (ndc A K V L R (upo P q (some g)) C g).set 3 (va_rf ((some q).map A)))) (hT15 g hg) rfl rfl (Or.inl (Or.inr ⟨g, hg, rfl⟩))).put (x := .inr (24, (ndc A K V L (upo R g (some q)) (upo P q (some g)) C e).set 4 (va_rf ((none).map A)))) (hT16 e he) rfl rfl (Or.inl (Or.inr ⟨e, he, rfl⟩))).put (x := .inr (24, (ndc A K V L (upo R g (some q)) (upo (upo P q (some g)) e none) C e).set 3 (va_rf ((none).map A)))) (hT17 e he) rfl rfl (Or.inl (Or.inr ⟨e, he, rfl⟩))).put (x := .inr (24, (ndc A K V L (upo (upo R g (some q)) e none) (upo (upo P q (some g)) e none) C e).set 2 (va_rf ((none).map A)))) (hT18 e he) rfl rfl (Or.inl (Or.inr ⟨e, he, rfl⟩)))
              have hCd : TC _ t (n - 1) (mc + 1) (((rt : Option Nat).map (cl e)).map (fun j => A (sk e j))) := TC.col ⟨x0, x1, x6, x7, x8, ((hset_ne (ne_oo ((hset_ne (ne_oo ((hset_ne (ne_oo ((hset_ne (ne_oo ((hset_ne (ne_oo ht (hT q hq) (by decide))).trans ht) (hT15 g hg) (by decide))).trans ((hset_ne (ne_oo ht (hT q hq) (by decide))).trans ht)) (hT16 e he) (by decide))).trans ((hset_ne (ne_oo ((hset_ne (ne_oo ht (hT q hq) (by decide))).trans ht) (hT15 g hg) (by decide))).trans ((hset_ne (ne_oo ht (hT q hq) (by decide))).trans ht))) (hT17 e he) (by decide))).trans ((hset_ne (ne_oo ((hset_ne (ne_oo ((hset_ne (ne_oo ht (hT q hq) (by decide))).trans ht) (hT15 g hg) (by decide))).trans ((hset_ne (ne_oo ht (hT q hq) (by decide))).trans ht)) (hT16 e he) (by decide))).trans ((hset_ne (ne_oo ((hset_ne (ne_oo ht (hT q hq) (by decide))).trans ht) (hT15 g hg) (by decide))).trans ((hset_ne (ne_oo ht (hT q hq) (by decide))).trans ht)))) (hT18 e he) (by decide))).trans ((hset_ne (ne_oo ((hset_ne (ne_oo ((hset_ne (ne_oo ((hset_ne (ne_oo ht (hT q hq) (by decide))).trans ht) (hT15 g hg) (by decide))).trans ((hset_ne (ne_oo ht (hT q hq) (by decide))).trans ht)) (hT16 e he) (by decide))).trans ((hset_ne (ne_oo ((hset_ne (ne_oo ht (hT q hq) (by decide))).trans ht) (hT15 g hg) (by decide))).trans ((hset_ne (ne_oo ht (hT q hq) (by decide))).trans ht))) (hT17 e he) (by decide))).trans ((hset_ne (ne_oo ((hset_ne (ne_oo ((hset_ne (ne_oo ht (hT q hq) (by decide))).trans ht) (hT15 g hg) (by decide))).trans ((hset_ne (ne_oo ht (hT q hq) (by decide))).trans ht)) (hT16 e he) (by decide))).trans ((hset_ne (ne_oo ((hset_ne (ne_oo ht (hT q hq) (by decide))).trans ht) (hT15 g hg) (by decide))).trans ((hset_ne (ne_oo ht (hT q hq) (by decide))).trans ht))))), vw_fr hv1 hfr2 rfl, vw_fr hv7 hfr2 rfl⟩ (hw.rtn hPe)
              refine V_aload_n (i := 1) F dJ10_deleteEntry_148 rfl rfl ?_
              refine V_getf F dJ10_deleteEntry_149 fc_J10_290_J41 (.inl (hT19 e he)) rfl ?_
              refine V_iconst (v := nI 1) F dJ10_deleteEntry_152 rfl ?_
              refine V_icmp_ne1C (c := C e) (tgt := 245) F dJ10_deleteEntry_153 (by decide) (fun c_153 => ?_) (fun c_153 => ?_)
              · exact V_vret F dJ10_deleteEntry_245 (by first | exact Nat.le_of_ble_eq_true rfl | omega) (by first | exact Nat.le_of_ble_eq_true rfl | omega) ⟨rfl, _, TMp.ext (K := fun j => K (sk e j)) (V := fun j => V (sk e j)) ⟨hAI.del, _, _, _, _, _, _, _, hCd, hTd, hw2⟩ (fun i hi => (hK i hi).symm) (fun i hi => (hV i hi).symm), fun j hj => ⟨sk e j, sk_lt hj, rfl⟩, hfr⟩
              · refine V_aload_n (i := 0) F dJ10_deleteEntry_156 rfl rfl ?_
                refine V_aload_n (i := 2) F dJ10_deleteEntry_157 rfl rfl ?_
                refine VV.stk (st' := [.ref ((fun j => A (sk e j)) (cl e q)), .ref (t)]) (by simp only [sk_cl hqe]) ?_
                refine V_callV (st := []) F dJ10_deleteEntry_158 lk_J10_317 (ct_fixDel hCd hTd hAI.del hw2 (cl_lt hq hqe he) ⟨(hw2.1 _ (cl_lt hq hqe he)).1, (hw2.1 _ (cl_lt hq hqe he)).2.1, rfl, rfl⟩) ⟨23, _, _, _, rfl, (.inl ((hset_ne (ne_oo ((hset_ne (ne_oo ((hset_ne (ne_oo ((hset_ne (ne_oo ((hset_ne (ne_oo ht (hT q hq) (by decide))).trans ht) (hT15 g hg) (by decide))).trans ((hset_ne (ne_oo ht (hT q hq) (by decide))).trans ht)) (hT16 e he) (by decide))).trans ((hset_ne (ne_oo ((hset_ne (ne_oo ht (hT q hq) (by decide))).trans ht) (hT15 g hg) (by decide))).trans ((hset_ne (ne_oo ht (hT q hq) (by decide))).trans ht))) (hT17 e he) (by decide))).trans ((hset_ne (ne_oo ((hset_ne (ne_oo ((hset_ne (ne_oo ht (hT q hq) (by decide))).trans ht) (hT15 g hg) (by decide))).trans ((hset_ne (ne_oo ht (hT q hq) (by decide))).trans ht)) (hT16 e he) (by decide))).trans ((hset_ne (ne_oo ((hset_ne (ne_oo ht (hT q hq) (by decide))).trans ht) (hT15 g hg) (by decide))).trans ((hset_ne (ne_oo ht (hT q hq) (by decide))).trans ht)))) (hT18 e he) (by decide))).trans ((hset_ne (ne_oo ((hset_ne (ne_oo ((hset_ne (ne_oo ((hset_ne (ne_oo ht (hT q hq) (by decide))).trans ht) (hT15 g hg) (by decide))).trans ((hset_ne (ne_oo ht (hT q hq) (by decide))).trans ht)) (hT16 e he) (by decide))).trans ((hset_ne (ne_oo ((hset_ne (ne_oo ht (hT q hq) (by decide))).trans ht) (hT15 g hg) (by decide))).trans ((hset_ne (ne_oo ht (hT q hq) (by decide))).trans ht))) (hT17 e he) (by decide))).trans ((hset_ne (ne_oo ((hset_ne (ne_oo ((hset_ne (ne_oo ht (hT q hq) (by decide))).trans ht) (hT15 g hg) (by decide))).trans ((hset_ne (ne_oo ht (hT q hq) (by decide))).trans ht)) (hT16 e he) (by decide))).trans ((hset_ne (ne_oo ((hset_ne (ne_oo ht (hT q hq) (by decide))).trans ht) (hT15 g hg) (by decide))).trans ((hset_ne (ne_oo ht (hT q hq) (by decide))).trans ht))))))⟩ rfl rfl (Nat.le_of_ble_eq_true rfl) (Nat.le_of_ble_eq_true rfl) (Nat.le_of_ble_eq_true rfl) (by first | exact Nat.le_of_ble_eq_true rfl | omega) (by first | exact Nat.le_of_ble_eq_true rfl | omega) ?_
                rintro _ h9 ⟨rfl, L9, R9, P9, C9, rt9, lo9, hi9, hC9, hT9, hw9, hF9, -, -⟩
                refine V_goto (tgt := 245) F dJ10_deleteEntry_161 (by decide) ?_
                exact V_vret F dJ10_deleteEntry_245 (by first | exact Nat.le_of_ble_eq_true rfl | omega) (by first | exact Nat.le_of_ble_eq_true rfl | omega) ⟨rfl, _, TMp.ext (K := fun j => K (sk e j)) (V := fun j => V (sk e j)) ⟨hAI.del, _, _, _, _, _, _, _, hC9, hT9, hw9⟩ (fun i hi => (hK i hi).symm) (fun i hi => (hV i hi).symm), fun j hj => ⟨sk e j, sk_lt hj, rfl⟩, hfr.cal hF9 (fun b q => Or.inl q.dn)⟩
      | none =>
        cases hPe : P e with
        | none =>
          have hn1 : n = 1 := hw.one he hLe hRe hPe
          refine V_aload_n (i := 1) F dJ10_deleteEntry_57 rfl rfl ?_
          refine V_getf F dJ10_deleteEntry_58 fc_J10_111_J41 (.inl (hT e he)) rfl ?_
          refine VV.stk (st' := [.null]) (by first | (rw [hLe]; rfl) | rw [hLe]) ?_
          refine V_ifnullN (tgt := 71) F dJ10_deleteEntry_61 (by decide) ?_
          refine V_aload_n (i := 1) F dJ10_deleteEntry_71 rfl rfl ?_
          refine V_getf F dJ10_deleteEntry_72 fc_J10_114_J41 (.inl (hT e he)) rfl ?_
          refine VV.stk (st' := [.null]) (by first | (rw [hRe]; rfl) | rw [hRe]) ?_
          refine V_astore_nN (i := 2) F dJ10_deleteEntry_75 rfl (Nat.le_of_ble_eq_true rfl) (Nat.le_of_ble_eq_true rfl) ?_
          refine V_aload_nN (i := 2) F dJ10_deleteEntry_76 rfl rfl ?_
          refine V_ifnullN (tgt := 164) F dJ10_deleteEntry_77 (by decide) ?_
          refine V_aload_n (i := 1) F dJ10_deleteEntry_164 rfl rfl ?_
          refine V_getf F dJ10_deleteEntry_165 fc_J10_124_J41 (.inl (hT e he)) rfl ?_
          refine VV.stk (st' := [.null]) (by first | (rw [hPe]; rfl) | rw [hPe]) ?_
          refine V_ifnonnullN F dJ10_deleteEntry_168 ?_
          refine V_aload_n (i := 0) F dJ10_deleteEntry_171 rfl rfl ?_
          refine V_null F dJ10_deleteEntry_172 ?_
          refine V_putf F dJ10_deleteEntry_173 fp_J10_101_J10 ht rfl rfl (Nat.le_of_ble_eq_true rfl) ?_
          refine VV.heap (h' := (hset hh (t) (.inr (23, [x0, x1, .null, .null, .int (nI (n - 1)), .int (nI (mc + 1)), x6, x7, x8])))) rfl ?_
          refine V_goto (tgt := 245) F dJ10_deleteEntry_176 (by decide) ?_
          have hfr2 := ((Fr.rf (M := fun _ => True) (h := hh)).put (x := .inr (23, [x0, x1, .null, .null, .int (nI (n - 1)), .int (nI (mc + 1)), x6, x7, x8])) ht rfl rfl (Or.inl trivial))
          have hfr := (hF.put (x := .inr (23, [x0, x1, .null, .null, .int (nI (n - 1)), .int (nI (mc + 1)), x6, x7, x8])) ht rfl rfl (Or.inl (Or.inl rfl)))
          have hCd : TC _ t (n - 1) (mc + 1) ((none : Option Nat).map (fun j => A (sk e j))) := ⟨x0, x1, x6, x7, x8, (hset_self (e := .inr (23, [x0, x1, .null, .null, .int (nI (n - 1)), .int (nI (mc + 1)), x6, x7, x8]))), vw_fr hv1 hfr2 rfl, vw_fr hv7 hfr2 rfl⟩
          exact V_vret F dJ10_deleteEntry_245 (by first | exact Nat.le_of_ble_eq_true rfl | omega) (by first | exact Nat.le_of_ble_eq_true rfl | omega) ⟨rfl, fun j => A (sk e j), ⟨hAI.del, none, fun _ => none, fun _ => none, fun _ => none, fun _ => true, fun _ => 0, fun _ => 0, hCd, fun i hi => absurd hi (by omega), by rw [show n - 1 = 0 by omega]; exact WT.nil⟩, fun j hj => ⟨sk e j, sk_lt hj, rfl⟩, hfr⟩
        | some g =>
          have hg : g < n := hw.bP he hPe
          have hge := hw.Pne he hPe
          have hn1 : 1 < n := by omega
          refine V_aload_n (i := 1) F dJ10_deleteEntry_57 rfl rfl ?_
          refine V_getf F dJ10_deleteEntry_58 fc_J10_111_J41 (.inl (hT e he)) rfl ?_
          refine VV.stk (st' := [.null]) (by first | (rw [hLe]; rfl) | rw [hLe]) ?_
          refine V_ifnullN (tgt := 71) F dJ10_deleteEntry_61 (by decide) ?_
          refine V_aload_n (i := 1) F dJ10_deleteEntry_71 rfl rfl ?_
          refine V_getf F dJ10_deleteEntry_72 fc_J10_114_J41 (.inl (hT e he)) rfl ?_
          refine VV.stk (st' := [.null]) (by first | (rw [hRe]; rfl) | rw [hRe]) ?_
          refine V_astore_nN (i := 2) F dJ10_deleteEntry_75 rfl (Nat.le_of_ble_eq_true rfl) (Nat.le_of_ble_eq_true rfl) ?_
          refine V_aload_nN (i := 2) F dJ10_deleteEntry_76 rfl rfl ?_
          refine V_ifnullN (tgt := 164) F dJ10_deleteEntry_77 (by decide) ?_
          refine V_aload_n (i := 1) F dJ10_deleteEntry_164 rfl rfl ?_
          refine V_getf F dJ10_deleteEntry_165 fc_J10_124_J41 (.inl (hT e he)) rfl ?_
          refine VV.stk (st' := [.ref (A g)]) (by first | (rw [hPe]; rfl) | rw [hPe]) ?_
          refine V_ifnonnull (tgt := 179) F dJ10_deleteEntry_168 (by decide) ?_
          refine V_aload_n (i := 1) F dJ10_deleteEntry_179 rfl rfl ?_
          refine V_getf F dJ10_deleteEntry_180 fc_J10_290_J41 (.inl (hT e he)) rfl ?_
          refine V_iconst (v := nI 1) F dJ10_deleteEntry_183 rfl ?_
          refine V_icmp_ne1C (c := C e) (tgt := 192) F dJ10_deleteEntry_184 (by decide) (fun c_184 => ?_) (fun c_184 => ?_)
          · refine VV.weak (L' := [some (.ref (t)), some (.ref (A e)), none]) (LW.c1 (LW.c1 (LW.c0 LW.nil))) ?_
            exact phU K V L R P C rt lo hi e hh hC hT hw he hK hV hF hLe hRe hn1
          · refine V_aload_n (i := 0) F dJ10_deleteEntry_187 rfl rfl ?_
            refine V_aload_n (i := 1) F dJ10_deleteEntry_188 rfl rfl ?_
            refine V_callV (st := []) F dJ10_deleteEntry_189 lk_J10_317 (ct_fixDel hC hT hAI hw he ⟨(hw.1 e he).1, (hw.1 e he).2.1, hw.2.1 e he hLe, hw.2.2.2.1 e he hRe⟩) ⟨23, _, _, _, rfl, (.inl ht)⟩ rfl rfl (Nat.le_of_ble_eq_true rfl) (Nat.le_of_ble_eq_true rfl) (Nat.le_of_ble_eq_true rfl) (by first | exact Nat.le_of_ble_eq_true rfl | omega) (by first | exact Nat.le_of_ble_eq_true rfl | omega) ?_
            rintro _ h9 ⟨rfl, L9, R9, P9, C9, rt9, lo9, hi9, hC9, hT9, hw9, hF9, hlo9, hhi9⟩
            refine VV.weak (L' := [some (.ref (t)), some (.ref (A e)), none]) (LW.c1 (LW.c1 (LW.c0 LW.nil))) ?_
            exact phU K V L9 R9 P9 C9 rt9 lo9 hi9 e h9 hC9 hT9 hw9 he hK hV (hF.cal hF9 (fun b q => Or.inl q)) (hw9.leafAt he hlo9 hhi9).1 (hw9.leafAt he hlo9 hhi9).2 hn1
  have hM0 := hM
  obtain ⟨-, rt, L, R, P, C, lo, hi, hC, hT, hw⟩ := hM
  obtain ⟨x0, x1, x6, x7, x8, ht, hv1, hv7⟩ := id hC
  refine V_aload_n (i := 0) F dJ10_deleteEntry_0 rfl rfl ?_
  refine V_dup F dJ10_deleteEntry_1 rfl ?_
  refine V_getf F dJ10_deleteEntry_2 fc_J10_13_J10 (.inl ht) rfl ?_
  refine V_iconst (v := nI 1) F dJ10_deleteEntry_5 rfl ?_
  refine V_iaddN F dJ10_deleteEntry_6 ?_
  refine V_putf F dJ10_deleteEntry_7 fp_J10_13_J10 ht rfl rfl (Nat.le_of_ble_eq_true rfl) ?_
  refine VV.heap (h' := (hset h (t) (.inr (23, [x0, x1, .null, va_rf ((rt).map A), .int (nI (n)), .int (nI (mc + 1)), x6, x7, x8])))) rfl ?_
  refine V_aload_n (i := 0) F dJ10_deleteEntry_10 rfl rfl ?_
  refine V_dup F dJ10_deleteEntry_11 rfl ?_
  refine V_getf F dJ10_deleteEntry_12 fc_J10_7_J10 (.inl (hset_self (e := .inr (23, [x0, x1, .null, va_rf ((rt).map A), .int (nI (n)), .int (nI (mc + 1)), x6, x7, x8])))) rfl ?_
  refine V_iconst (v := nI 1) F dJ10_deleteEntry_15 rfl ?_
  refine V_isubN F dJ10_deleteEntry_16 (by omega) ?_
  refine V_putf F dJ10_deleteEntry_17 fp_J10_7_J10 (hset_self (e := .inr (23, [x0, x1, .null, va_rf ((rt).map A), .int (nI (n)), .int (nI (mc + 1)), x6, x7, x8]))) rfl rfl (Nat.le_of_ble_eq_true rfl) ?_
  refine VV.heap (h' := (hset (hset h (t) (.inr (23, [x0, x1, .null, va_rf ((rt).map A), .int (nI (n)), .int (nI (mc + 1)), x6, x7, x8]))) (t) (.inr (23, [x0, x1, .null, va_rf ((rt).map A), .int (nI (n - 1)), .int (nI (mc + 1)), x6, x7, x8])))) rfl ?_
  refine V_aload_n (i := 1) F dJ10_deleteEntry_20 rfl rfl ?_
  refine V_getf F dJ10_deleteEntry_21 fc_J10_111_J41 (.inl (((hT.oth (x := .inr (23, [x0, x1, .null, va_rf ((rt).map A), .int (nI (n)), .int (nI (mc + 1)), x6, x7, x8])) ht (by decide)).oth (x := .inr (23, [x0, x1, .null, va_rf ((rt).map A), .int (nI (n - 1)), .int (nI (mc + 1)), x6, x7, x8])) (hset_self (e := .inr (23, [x0, x1, .null, va_rf ((rt).map A), .int (nI (n)), .int (nI (mc + 1)), x6, x7, x8]))) (by decide)) d hd)) rfl ?_
  refine V_ifnullM (tgt := 57) F dJ10_deleteEntry_24 (by decide) (fun qq1 => ?_) (fun q1 qq1 => ?_)
  · have qL := qq1
    refine VV.weak (L' := [some (.ref (t)), some (.ref (A d)), none]) (LW.c1 (LW.c1 (LW.c0 LW.nil))) ?_
    have hfr2 := (((Fr.rf (M := fun _ => True) (h := h)).put (x := .inr (23, [x0, x1, .null, va_rf ((rt).map A), .int (nI (n)), .int (nI (mc + 1)), x6, x7, x8])) ht rfl rfl (Or.inl trivial)).put (x := .inr (23, [x0, x1, .null, va_rf ((rt).map A), .int (nI (n - 1)), .int (nI (mc + 1)), x6, x7, x8])) (hset_self (e := .inr (23, [x0, x1, .null, va_rf ((rt).map A), .int (nI (n)), .int (nI (mc + 1)), x6, x7, x8]))) rfl rfl (Or.inl trivial))
    exact phD (K0) (V0) L R P C rt lo hi d _ ⟨x0, x1, x6, x7, x8, (hset_self (e := .inr (23, [x0, x1, .null, va_rf ((rt).map A), .int (nI (n - 1)), .int (nI (mc + 1)), x6, x7, x8]))), vw_fr hv1 hfr2 rfl, vw_fr hv7 hfr2 rfl⟩ (((hT.oth (x := .inr (23, [x0, x1, .null, va_rf ((rt).map A), .int (nI (n)), .int (nI (mc + 1)), x6, x7, x8])) ht (by decide)).oth (x := .inr (23, [x0, x1, .null, va_rf ((rt).map A), .int (nI (n - 1)), .int (nI (mc + 1)), x6, x7, x8])) (hset_self (e := .inr (23, [x0, x1, .null, va_rf ((rt).map A), .int (nI (n)), .int (nI (mc + 1)), x6, x7, x8]))) (by decide))) hw hd (fun j hj => rfl) (fun j hj => rfl) (((Fr.rf (M := mT t n A) (h := h)).put (x := .inr (23, [x0, x1, .null, va_rf ((rt).map A), .int (nI (n)), .int (nI (mc + 1)), x6, x7, x8])) ht rfl rfl (Or.inl (Or.inl rfl))).put (x := .inr (23, [x0, x1, .null, va_rf ((rt).map A), .int (nI (n - 1)), .int (nI (mc + 1)), x6, x7, x8])) (hset_self (e := .inr (23, [x0, x1, .null, va_rf ((rt).map A), .int (nI (n)), .int (nI (mc + 1)), x6, x7, x8]))) rfl rfl (Or.inl (Or.inl rfl))) (Or.inl qL)
  · have hq1 : q1 < n := hw.bL hd qq1
    refine V_aload_n (i := 1) F dJ10_deleteEntry_27 rfl rfl ?_
    refine V_getf F dJ10_deleteEntry_28 fc_J10_114_J41 (.inl (((hT.oth (x := .inr (23, [x0, x1, .null, va_rf ((rt).map A), .int (nI (n)), .int (nI (mc + 1)), x6, x7, x8])) ht (by decide)).oth (x := .inr (23, [x0, x1, .null, va_rf ((rt).map A), .int (nI (n - 1)), .int (nI (mc + 1)), x6, x7, x8])) (hset_self (e := .inr (23, [x0, x1, .null, va_rf ((rt).map A), .int (nI (n)), .int (nI (mc + 1)), x6, x7, x8]))) (by decide)) d hd)) rfl ?_
    refine V_ifnullM (tgt := 57) F dJ10_deleteEntry_31 (by decide) (fun qq2 => ?_) (fun q2 qq2 => ?_)
    · have qR := qq2
      refine VV.weak (L' := [some (.ref (t)), some (.ref (A d)), none]) (LW.c1 (LW.c1 (LW.c0 LW.nil))) ?_
      have hfr2 := (((Fr.rf (M := fun _ => True) (h := h)).put (x := .inr (23, [x0, x1, .null, va_rf ((rt).map A), .int (nI (n)), .int (nI (mc + 1)), x6, x7, x8])) ht rfl rfl (Or.inl trivial)).put (x := .inr (23, [x0, x1, .null, va_rf ((rt).map A), .int (nI (n - 1)), .int (nI (mc + 1)), x6, x7, x8])) (hset_self (e := .inr (23, [x0, x1, .null, va_rf ((rt).map A), .int (nI (n)), .int (nI (mc + 1)), x6, x7, x8]))) rfl rfl (Or.inl trivial))
      exact phD (K0) (V0) L R P C rt lo hi d _ ⟨x0, x1, x6, x7, x8, (hset_self (e := .inr (23, [x0, x1, .null, va_rf ((rt).map A), .int (nI (n - 1)), .int (nI (mc + 1)), x6, x7, x8]))), vw_fr hv1 hfr2 rfl, vw_fr hv7 hfr2 rfl⟩ (((hT.oth (x := .inr (23, [x0, x1, .null, va_rf ((rt).map A), .int (nI (n)), .int (nI (mc + 1)), x6, x7, x8])) ht (by decide)).oth (x := .inr (23, [x0, x1, .null, va_rf ((rt).map A), .int (nI (n - 1)), .int (nI (mc + 1)), x6, x7, x8])) (hset_self (e := .inr (23, [x0, x1, .null, va_rf ((rt).map A), .int (nI (n)), .int (nI (mc + 1)), x6, x7, x8]))) (by decide))) hw hd (fun j hj => rfl) (fun j hj => rfl) (((Fr.rf (M := mT t n A) (h := h)).put (x := .inr (23, [x0, x1, .null, va_rf ((rt).map A), .int (nI (n)), .int (nI (mc + 1)), x6, x7, x8])) ht rfl rfl (Or.inl (Or.inl rfl))).put (x := .inr (23, [x0, x1, .null, va_rf ((rt).map A), .int (nI (n - 1)), .int (nI (mc + 1)), x6, x7, x8])) (hset_self (e := .inr (23, [x0, x1, .null, va_rf ((rt).map A), .int (nI (n)), .int (nI (mc + 1)), x6, x7, x8]))) rfl rfl (Or.inl (Or.inl rfl))) (Or.inr qR)
    · have hq2 : q2 < n := hw.bR hd qq2
      have z1 := hw.2.2.2.2.1 d q2 hd qq2
      have z2 := hw.1 q2 z1.2.1
      have hd1 : d + 1 < n := by omega
      have hL1 : L (d + 1) = none := (hw.leftm (m := d + 1) (q2 + 1) q2 (by omega) z1.2.1 z1.2.2.1).2.1
      refine V_aload_n (i := 1) F dJ10_deleteEntry_34 rfl rfl ?_
      refine V_callS (st := []) F dJ10_deleteEntry_35 lk_J10_68 (ct_successor ⟨x0, x1, x6, x7, x8, (hset_self (e := .inr (23, [x0, x1, .null, va_rf ((rt).map A), .int (nI (n - 1)), .int (nI (mc + 1)), x6, x7, x8]))), vw_fr hv1 (((Fr.rf (M := fun _ => True) (h := h)).put (x := .inr (23, [x0, x1, .null, va_rf ((rt).map A), .int (nI (n)), .int (nI (mc + 1)), x6, x7, x8])) ht rfl rfl (Or.inl trivial)).put (x := .inr (23, [x0, x1, .null, va_rf ((rt).map A), .int (nI (n - 1)), .int (nI (mc + 1)), x6, x7, x8])) (hset_self (e := .inr (23, [x0, x1, .null, va_rf ((rt).map A), .int (nI (n)), .int (nI (mc + 1)), x6, x7, x8]))) rfl rfl (Or.inl trivial)) rfl, vw_fr hv7 (((Fr.rf (M := fun _ => True) (h := h)).put (x := .inr (23, [x0, x1, .null, va_rf ((rt).map A), .int (nI (n)), .int (nI (mc + 1)), x6, x7, x8])) ht rfl rfl (Or.inl trivial)).put (x := .inr (23, [x0, x1, .null, va_rf ((rt).map A), .int (nI (n - 1)), .int (nI (mc + 1)), x6, x7, x8])) (hset_self (e := .inr (23, [x0, x1, .null, va_rf ((rt).map A), .int (nI (n)), .int (nI (mc + 1)), x6, x7, x8]))) rfl rfl (Or.inl trivial)) rfl⟩ (((hT.oth (x := .inr (23, [x0, x1, .null, va_rf ((rt).map A), .int (nI (n)), .int (nI (mc + 1)), x6, x7, x8])) ht (by decide)).oth (x := .inr (23, [x0, x1, .null, va_rf ((rt).map A), .int (nI (n - 1)), .int (nI (mc + 1)), x6, x7, x8])) (hset_self (e := .inr (23, [x0, x1, .null, va_rf ((rt).map A), .int (nI (n)), .int (nI (mc + 1)), x6, x7, x8]))) (by decide))) hAI hw hd) rfl rfl (Nat.le_of_ble_eq_true rfl) (Nat.le_of_ble_eq_true rfl) (Nat.le_of_ble_eq_true rfl) (by first | exact Nat.le_of_ble_eq_true rfl | omega) (by first | exact Nat.le_of_ble_eq_true rfl | omega) ?_
      refine PRk ?_
      refine VV.stk (st' := [.ref (A (d + 1))]) (by unfold nx; rw [if_pos hd1]; rfl) ?_
      refine V_astore_n (i := 2) F dJ10_deleteEntry_38 rfl (Nat.le_of_ble_eq_true rfl) (Nat.le_of_ble_eq_true rfl) ?_
      refine V_aload_n (i := 1) F dJ10_deleteEntry_39 rfl rfl ?_
      refine V_aload_n (i := 2) F dJ10_deleteEntry_40 rfl rfl ?_
      refine V_getf F dJ10_deleteEntry_41 fc_J10_105_J41 (.inl (((hT.oth (x := .inr (23, [x0, x1, .null, va_rf ((rt).map A), .int (nI (n)), .int (nI (mc + 1)), x6, x7, x8])) ht (by decide)).oth (x := .inr (23, [x0, x1, .null, va_rf ((rt).map A), .int (nI (n - 1)), .int (nI (mc + 1)), x6, x7, x8])) (hset_self (e := .inr (23, [x0, x1, .null, va_rf ((rt).map A), .int (nI (n)), .int (nI (mc + 1)), x6, x7, x8]))) (by decide)) (d + 1) hd1)) rfl ?_
      refine V_putf F dJ10_deleteEntry_44 fp_J10_105_J41 (((hT.oth (x := .inr (23, [x0, x1, .null, va_rf ((rt).map A), .int (nI (n)), .int (nI (mc + 1)), x6, x7, x8])) ht (by decide)).oth (x := .inr (23, [x0, x1, .null, va_rf ((rt).map A), .int (nI (n - 1)), .int (nI (mc + 1)), x6, x7, x8])) (hset_self (e := .inr (23, [x0, x1, .null, va_rf ((rt).map A), .int (nI (n)), .int (nI (mc + 1)), x6, x7, x8]))) (by decide)) d hd) rfl rfl (Nat.le_of_ble_eq_true rfl) ?_
      have hT1 := (((hT.oth (x := .inr (23, [x0, x1, .null, va_rf ((rt).map A), .int (nI (n)), .int (nI (mc + 1)), x6, x7, x8])) ht (by decide)).oth (x := .inr (23, [x0, x1, .null, va_rf ((rt).map A), .int (nI (n - 1)), .int (nI (mc + 1)), x6, x7, x8])) (hset_self (e := .inr (23, [x0, x1, .null, va_rf ((rt).map A), .int (nI (n)), .int (nI (mc + 1)), x6, x7, x8]))) (by decide))).putK (o := K0 (d + 1)) hAI hd
      refine V_aload_n (i := 1) F dJ10_deleteEntry_47 rfl rfl ?_
      refine V_aload_n (i := 2) F dJ10_deleteEntry_48 rfl rfl ?_
      refine V_getf F dJ10_deleteEntry_49 fc_J10_58_J41 (.inl (hT1 (d + 1) hd1)) rfl ?_
      refine V_putf F dJ10_deleteEntry_52 fp_J10_58_J41 (hT1 d hd) rfl rfl (Nat.le_of_ble_eq_true rfl) ?_
      have hT2 := hT1.putV (o := V0 (d + 1)) hAI hd
      refine V_aload_n (i := 2) F dJ10_deleteEntry_55 rfl rfl ?_
      refine V_astore_n (i := 1) F dJ10_deleteEntry_56 rfl (Nat.le_of_ble_eq_true rfl) (Nat.le_of_ble_eq_true rfl) ?_
      refine VV.weak (L' := [some (.ref (t)), some (.ref (A (d + 1))), none]) (LW.c1 (LW.c1 (LW.c0 LW.nil))) ?_
      have hfr2 := (((((Fr.rf (M := fun _ => True) (h := h)).put (x := .inr (23, [x0, x1, .null, va_rf ((rt).map A), .int (nI (n)), .int (nI (mc + 1)), x6, x7, x8])) ht rfl rfl (Or.inl trivial)).put (x := .inr (23, [x0, x1, .null, va_rf ((rt).map A), .int (nI (n - 1)), .int (nI (mc + 1)), x6, x7, x8])) (hset_self (e := .inr (23, [x0, x1, .null, va_rf ((rt).map A), .int (nI (n)), .int (nI (mc + 1)), x6, x7, x8]))) rfl rfl (Or.inl trivial)).put (x := .inr (24, (ndc A K0 V0 L R P C d).set 0 (.ref (K0 (d + 1))))) (((hT.oth (x := .inr (23, [x0, x1, .null, va_rf ((rt).map A), .int (nI (n)), .int (nI (mc + 1)), x6, x7, x8])) ht (by decide)).oth (x := .inr (23, [x0, x1, .null, va_rf ((rt).map A), .int (nI (n - 1)), .int (nI (mc + 1)), x6, x7, x8])) (hset_self (e := .inr (23, [x0, x1, .null, va_rf ((rt).map A), .int (nI (n)), .int (nI (mc + 1)), x6, x7, x8]))) (by decide)) d hd) rfl rfl (Or.inl trivial)).put (x := .inr (24, (ndc A (upo K0 d (K0 (d + 1))) V0 L R P C d).set 1 (.ref (V0 (d + 1))))) (hT1 d hd) rfl rfl (Or.inl trivial))
      exact phD (upo K0 d (K0 (d + 1))) (upo V0 d (V0 (d + 1))) L R P C rt lo hi (d + 1) _ ⟨x0, x1, x6, x7, x8, ((hset_ne (ne_oo ((hset_ne (ne_oo (hset_self (e := .inr (23, [x0, x1, .null, va_rf ((rt).map A), .int (nI (n - 1)), .int (nI (mc + 1)), x6, x7, x8]))) (((hT.oth (x := .inr (23, [x0, x1, .null, va_rf ((rt).map A), .int (nI (n)), .int (nI (mc + 1)), x6, x7, x8])) ht (by decide)).oth (x := .inr (23, [x0, x1, .null, va_rf ((rt).map A), .int (nI (n - 1)), .int (nI (mc + 1)), x6, x7, x8])) (hset_self (e := .inr (23, [x0, x1, .null, va_rf ((rt).map A), .int (nI (n)), .int (nI (mc + 1)), x6, x7, x8]))) (by decide)) d hd) (by decide))).trans (hset_self (e := .inr (23, [x0, x1, .null, va_rf ((rt).map A), .int (nI (n - 1)), .int (nI (mc + 1)), x6, x7, x8])))) (hT1 d hd) (by decide))).trans ((hset_ne (ne_oo (hset_self (e := .inr (23, [x0, x1, .null, va_rf ((rt).map A), .int (nI (n - 1)), .int (nI (mc + 1)), x6, x7, x8]))) (((hT.oth (x := .inr (23, [x0, x1, .null, va_rf ((rt).map A), .int (nI (n)), .int (nI (mc + 1)), x6, x7, x8])) ht (by decide)).oth (x := .inr (23, [x0, x1, .null, va_rf ((rt).map A), .int (nI (n - 1)), .int (nI (mc + 1)), x6, x7, x8])) (hset_self (e := .inr (23, [x0, x1, .null, va_rf ((rt).map A), .int (nI (n)), .int (nI (mc + 1)), x6, x7, x8]))) (by decide)) d hd) (by decide))).trans (hset_self (e := .inr (23, [x0, x1, .null, va_rf ((rt).map A), .int (nI (n - 1)), .int (nI (mc + 1)), x6, x7, x8]))))), vw_fr hv1 hfr2 rfl, vw_fr hv7 hfr2 rfl⟩ hT2 hw hd1 (fun j hj => mvK j) (fun j hj => mvK j) (((((Fr.rf (M := mT t n A) (h := h)).put (x := .inr (23, [x0, x1, .null, va_rf ((rt).map A), .int (nI (n)), .int (nI (mc + 1)), x6, x7, x8])) ht rfl rfl (Or.inl (Or.inl rfl))).put (x := .inr (23, [x0, x1, .null, va_rf ((rt).map A), .int (nI (n - 1)), .int (nI (mc + 1)), x6, x7, x8])) (hset_self (e := .inr (23, [x0, x1, .null, va_rf ((rt).map A), .int (nI (n)), .int (nI (mc + 1)), x6, x7, x8]))) rfl rfl (Or.inl (Or.inl rfl))).put (x := .inr (24, (ndc A K0 V0 L R P C d).set 0 (.ref (K0 (d + 1))))) (((hT.oth (x := .inr (23, [x0, x1, .null, va_rf ((rt).map A), .int (nI (n)), .int (nI (mc + 1)), x6, x7, x8])) ht (by decide)).oth (x := .inr (23, [x0, x1, .null, va_rf ((rt).map A), .int (nI (n - 1)), .int (nI (mc + 1)), x6, x7, x8])) (hset_self (e := .inr (23, [x0, x1, .null, va_rf ((rt).map A), .int (nI (n)), .int (nI (mc + 1)), x6, x7, x8]))) (by decide)) d hd) rfl rfl (Or.inl (Or.inr ⟨d, hd, rfl⟩))).put (x := .inr (24, (ndc A (upo K0 d (K0 (d + 1))) V0 L R P C d).set 1 (.ref (V0 (d + 1))))) (hT1 d hd) rfl rfl (Or.inl (Or.inr ⟨d, hd, rfl⟩))) (Or.inl hL1)
