/-- a function on places with a new place pos -/
def insF {α : Type} (f : Nat → α) (pos : Nat) (v : α) : Nat → α := fun j => if j = pos then v else f (cl pos j)
theorem insF_p {α : Type} {f : Nat → α} {pos : Nat} {v : α} : insF f pos v pos = v := if_pos rfl
theorem insF_s {α : Type} {f : Nat → α} {pos i : Nat} {v : α} : insF f pos v (sk pos i) = f i := by
  unfold insF; rw [if_neg sk_ne, cl_sk]
theorem sk_lt1 {e i n : Nat} (h : i < n) : sk e i < n + 1 := by unfold sk; split <;> omega
theorem sk_inj {e i j : Nat} (h : sk e i = sk e j) : i = j := by rw [← cl_sk (e := e) (i := i), h, cl_sk]
theorem sk_cases {e j n : Nat} (h : j < n + 1) (he : e < n + 1) : j = e ∨ ∃ i, i < n ∧ j = sk e i := by
  by_cases c : j = e
  · exact Or.inl c
  · refine Or.inr ⟨cl e j, ?_, (sk_cl c).symm⟩
    unfold cl; split <;> omega
section INS
variable {n g pos T : Nat} {rt : Option Nat} {L R P L1 R1 P1 : Nat → Option Nat} {lo hi : Nat → Nat}
theorem WT.ins (hw : WT n rt L R P lo hi) (hg : g < n) (hside : (L g = none ∧ pos = g ∧ T = pos + 1) ∨ (R g = none ∧ pos = g + 1 ∧ T = pos))
    (hLp : L1 pos = none) (hRp : R1 pos = none) (hPp : P1 pos = some (sk pos g))
    (hL : ∀ i, i < n → L1 (sk pos i) = if i = g ∧ pos = g then some pos else (L i).map (sk pos))
    (hR : ∀ i, i < n → R1 (sk pos i) = if i = g ∧ pos = g + 1 then some pos else (R i).map (sk pos))
    (hP : ∀ i, i < n → P1 (sk pos i) = (P i).map (sk pos)) :
    WT (n + 1) (rt.map (sk pos)) L1 R1 P1 (insF (fun i => sk T (lo i)) pos pos) (insF (fun i => sk T (hi i)) pos (pos + 1)) := by
  obtain ⟨h1, h2, h3, h4, h5, h6, h7, h8, h9⟩ := hw
  have hp : pos < n + 1 := by rcases hside with ⟨a, b, c⟩ | ⟨a, b, c⟩ <;> omega
  have g1 := h1 g hg
  refine ⟨?_, ?_, ?_, ?_, ?_, ?_, ?_, ?_, ?_⟩
  · intro j hj
    rcases sk_cases hj hp with rfl | ⟨i, hi', rfl⟩
    · rw [insF_p, insF_p]; omega
    · rw [insF_s, insF_s]
      have a := h1 i hi'
      rcases hside with ⟨_, b, c⟩ | ⟨_, b, c⟩ <;> (unfold sk; grind)
  · intro j hj hn
    rcases sk_cases hj hp with rfl | ⟨i, hi', rfl⟩
    · rw [insF_p]
    · rw [insF_s]
      rw [hL i hi'] at hn
      split at hn
      · cases hn
      · next c =>
        have a := h2 i hi' (Option.map_eq_none_iff.mp hn)
        rcases hside with ⟨_, b, d⟩ | ⟨_, b, d⟩ <;> (unfold sk; grind)
  · intro j k hj hk
    rcases sk_cases hj hp with rfl | ⟨i, hi', rfl⟩
    · rw [hLp] at hk; cases hk
    · rw [hL i hi'] at hk
      split at hk
      · next c =>
        obtain ⟨rfl, c⟩ := c
        have hk := Option.some.inj hk
        subst hk
        rw [insF_p, insF_p, insF_s, hPp]
        rcases hside with ⟨x, b, d⟩ | ⟨_, b, d⟩
        · have := h2 i hi' x
          unfold sk; grind
        · omega
      · next c =>
        obtain ⟨m, hm, rfl⟩ := Option.map_eq_some_iff.mp hk
        have a := h3 i m hi' hm
        have b := h1 m (by omega)
        have e := h1 i hi'
        rw [insF_s, insF_s, insF_s, hP m (by omega), a.2.2.2]
        refine ⟨?_, ?_, ?_, rfl⟩
        · unfold sk; grind
        · rw [a.2.1]
        · rcases hside with ⟨x, y, d⟩ | ⟨_, y, d⟩
          · have : i ≠ g := fun z => by rw [z, x] at hm; cases hm
            unfold sk; grind
          · unfold sk; grind
  · intro j hj hn
    rcases sk_cases hj hp with rfl | ⟨i, hi', rfl⟩
    · rw [insF_p]
    · rw [insF_s]
      rw [hR i hi'] at hn
      split at hn
      · cases hn
      · next c =>
        have a := h4 i hi' (Option.map_eq_none_iff.mp hn)
        rcases hside with ⟨_, b, d⟩ | ⟨_, b, d⟩ <;> (unfold sk; grind)
  · intro j k hj hk
    rcases sk_cases hj hp with rfl | ⟨i, hi', rfl⟩
    · rw [hRp] at hk; cases hk
    · rw [hR i hi'] at hk
      split at hk
      · next c =>
        obtain ⟨rfl, c⟩ := c
        have hk := Option.some.inj hk
        subst hk
        rw [insF_p, insF_p, insF_s, hPp]
        rcases hside with ⟨x, b, d⟩ | ⟨x, b, d⟩
        · omega
        · have := h4 i hi' x
          unfold sk; grind
      · next c =>
        obtain ⟨m, hm, rfl⟩ := Option.map_eq_some_iff.mp hk
        have a := h5 i m hi' hm
        have b := h1 m a.2.1
        have e := h1 i hi'
        rw [insF_s, insF_s, insF_s, hP m a.2.1, a.2.2.2.2]
        refine ⟨?_, sk_lt1 a.2.1, ?_, ?_, rfl⟩
        · unfold sk; grind
        · rcases hside with ⟨x, y, d⟩ | ⟨x, y, d⟩
          · unfold sk; grind
          · have : i ≠ g := fun z => by rw [z, x] at hm; cases hm
            unfold sk; grind
        · rw [a.2.2.2.1]
  · intro j hj hn
    rcases sk_cases hj hp with rfl | ⟨i, hi', rfl⟩
    · rw [hPp] at hn; cases hn
    · rw [hP i hi'] at hn
      rw [h6 i hi' (Option.map_eq_none_iff.mp hn)]; rfl
  · intro j k hj hk
    rcases sk_cases hj hp with rfl | ⟨i, hi', rfl⟩
    · rw [hPp] at hk
      have hk := Option.some.inj hk
      subst hk
      refine ⟨sk_lt1 hg, ?_⟩
      rcases hside with ⟨x, b, d⟩ | ⟨x, b, d⟩
      · left; rw [hL g hg, if_pos ⟨rfl, b⟩]
      · right; rw [hR g hg, if_pos ⟨rfl, b⟩]
    · rw [hP i hi'] at hk
      obtain ⟨m, hm, rfl⟩ := Option.map_eq_some_iff.mp hk
      have a := h7 i m hi' hm
      refine ⟨sk_lt1 a.1, ?_⟩
      rcases a.2 with q | q
      · left
        rw [hL m a.1, if_neg, q]; rfl
        rintro ⟨rfl, z⟩
        rcases hside with ⟨x, b, d⟩ | ⟨x, b, d⟩
        · rw [x] at q; cases q
        · omega
      · right
        rw [hR m a.1, if_neg, q]; rfl
        rintro ⟨rfl, z⟩
        rcases hside with ⟨x, b, d⟩ | ⟨x, b, d⟩
        · omega
        · rw [x] at q; cases q
  · intro r hr
    obtain ⟨i, hi1, rfl⟩ := Option.map_eq_some_iff.mp hr
    have a := h8 i hi1
    rw [insF_s, insF_s, hP i a.1, a.2.1]
    refine ⟨sk_lt1 a.1, rfl, ?_, ?_⟩
    · rw [a.2.2.1]; unfold sk; grind
    · rw [a.2.2.2]; unfold sk; grind
  · intro hr
    have := h9 (Option.map_eq_none_iff.mp hr)
    omega
end INS
theorem TN.ins {h : AH} {n pos o k v x : Nat} {A K V : Nat → Nat} {L R P : Nat → Option Nat} {C : Nat → Bool} (hT : TN h n A K V L R P C) (hp : pos < n + 1) (ho : h o = some (.inr (24, [.ref k, .ref v, .null, .null, .ref (A x), .int (nI 1)]))) :
    TN h (n + 1) (insF A pos o) (insF K pos k) (insF V pos v) (insF (fun i => (L i).map (sk pos)) pos none) (insF (fun i => (R i).map (sk pos)) pos none) (insF (fun i => (P i).map (sk pos)) pos (some (sk pos x))) (insF C pos true) := by
  have m : ∀ q : Option Nat, (q.map (sk pos)).map (insF A pos o) = q.map A := by
    intro q
    cases q with
    | none => rfl
    | some i => simp only [Option.map_some]; rw [insF_s]
  intro j hj
  rcases sk_cases hj hp with rfl | ⟨i, hi', rfl⟩
  · unfold ndc
    rw [insF_p, insF_p, insF_p, insF_p, insF_p, insF_p, insF_p, ho]
    simp only [Option.map_none, Option.map_some]
    rw [insF_s]; rfl
  · unfold ndc
    rw [insF_s, insF_s, insF_s, insF_s, insF_s, insF_s, insF_s, m, m, m]
    exact hT i hi'
theorem AI.ins {n pos o : Nat} {A : Nat → Nat} (hA : AI n A) (hp : pos < n + 1) (ho : ∀ i, i < n → A i ≠ o) : AI (n + 1) (insF A pos o) := fun i j hi hj h => by
  rcases sk_cases hi hp with rfl | ⟨a, ha, rfl⟩ <;> rcases sk_cases hj hp with rfl | ⟨b, hb, rfl⟩
  · rfl
  · rw [insF_p, insF_s] at h; exact absurd h.symm (ho b hb)
  · rw [insF_p, insF_s] at h; exact absurd h (ho a ha)
  · rw [insF_s, insF_s] at h; rw [hA a b ha hb h]
theorem TC.ins {h : AH} {t n mc pos o : Nat} {rt : Option Nat} {A : Nat → Nat} (hC : TC h t n mc (rt.map A)) : TC h t n mc ((rt.map (sk pos)).map (insF A pos o)) := by
  cases rt with
  | none => exact hC
  | some i => simp only [Option.map_some] at hC ⊢; rw [insF_s]; exact hC

theorem TC.fr {M : Nat → Prop} {h h2 : AH} {t mc n : Nat} {ro : Option Nat} (hC : TC h t n mc ro) (hx : Fr M h h2) (ht : ¬ M t) : TC h2 t n mc ro := by
  obtain ⟨x0, x1, x6, x7, x8, hc, v1, v7⟩ := hC
  obtain ⟨f', g1, g2, g3, g4, g5⟩ := hx.tm hc ht
  match f', g2, g1, g3, g4, g5 with
  | [y0, y1, y2, y3, y4, y5, y6, y7, y8], _, g1, g3, g4, g5 =>
    have e2 := Option.some.inj (g3 2 (by decide) (by decide))
    have e3 := Option.some.inj (g3 3 (by decide) (by decide))
    have e4 := Option.some.inj (g3 4 (by decide) (by decide))
    have e5 := Option.some.inj (g3 5 (by decide) (by decide))
    subst e2 e3 e4 e5
    refine ⟨y0, y1, y6, y7, y8, g1, ?_, ?_⟩
    · rcases g4 with q | ⟨v, q1, q2⟩
      · have q := Option.some.inj q
        subst q
        exact vw_fr v1 hx rfl
      · exact Or.inr ⟨v, Option.some.inj q1, q2⟩
    · rcases g5 with q | ⟨v, q1, q2⟩
      · have q := Option.some.inj q
        subst q
        exact vw_fr v7 hx rfl
      · exact Or.inr ⟨v, Option.some.inj q1, q2⟩
theorem TN.insX {h : AH} {n pos o k v x : Nat} {A K V : Nat → Nat} {L R P : Nat → Option Nat} {C : Nat → Bool} (hT : TN h n A K V L R P C) (hA : AI n A) (hp : pos < n + 1) (hno : ∀ i, i < n → A i ≠ o) (ho : h o = some (.inr (24, [.ref k, .ref v, .null, .null, .ref (A x), .int (nI 1)]))) :
    ∃ A9 K9 V9 L9 R9 P9 C9, TN h (n + 1) A9 K9 V9 L9 R9 P9 C9 ∧ AI (n + 1) A9 ∧ (A9 = insF A pos o ∧ K9 = insF K pos k ∧ V9 = insF V pos v) ∧ (A9 pos = o ∧ ∀ i, A9 (sk pos i) = A i) ∧ (L9 pos = none ∧ R9 pos = none ∧ P9 pos = some (sk pos x)) ∧ (∀ i, L9 (sk pos i) = (L i).map (sk pos)) ∧ (∀ i, R9 (sk pos i) = (R i).map (sk pos)) ∧ (∀ i, P9 (sk pos i) = (P i).map (sk pos)) :=
  ⟨_, _, _, _, _, _, _, hT.ins hp ho, hA.ins hp hno, ⟨rfl, rfl, rfl⟩, ⟨insF_p, fun _ => insF_s⟩, ⟨insF_p, insF_p, insF_p⟩, fun _ => insF_s, fun _ => insF_s, fun _ => insF_s⟩
theorem ins1 {L9 L : Nat → Option Nat} {pos g : Nat} {c : Prop} [Decidable c] (h : ∀ i, L9 (sk pos i) = (L i).map (sk pos)) (hc : c) (i : Nat) : upo L9 (sk pos g) (some pos) (sk pos i) = if i = g ∧ c then some pos else (L i).map (sk pos) := by
  by_cases q : i = g
  · rw [q, upo_s, if_pos ⟨rfl, hc⟩]
  · rw [upo_n (fun z => q (sk_inj z)), if_neg (fun z => q z.1), h]
theorem ins0 {L9 L : Nat → Option Nat} {pos g : Nat} {c : Prop} [Decidable c] (h : ∀ i, L9 (sk pos i) = (L i).map (sk pos)) (hc : ¬ c) (i : Nat) : L9 (sk pos i) = if i = g ∧ c then some pos else (L i).map (sk pos) := by
  rw [if_neg (fun z => hc z.2), h]
theorem mT.ins {t n pos o : Nat} {A : Nat → Nat} {b : Nat} (hp : pos < n + 1) (h : mT t (n + 1) (insF A pos o) b) : mT t n A b ∨ b = o := by
  rcases h with h | ⟨i, hi, hb⟩
  · exact Or.inl (Or.inl h)
  · rcases sk_cases hi hp with rfl | ⟨j, hj, rfl⟩
    · rw [insF_p] at hb; exact Or.inr hb
    · rw [insF_s] at hb; exact Or.inl (Or.inr ⟨j, hj, hb⟩)
/-- the nodes of the new map are nodes of the old one, or were free -/
def NF (h : AH) (n m : Nat) (A B : Nat → Nat) : Prop := ∀ j, j < m → (∃ i, i < n ∧ B j = A i) ∨ h (B j) = none
theorem NF.ins {h : AH} {n pos o : Nat} {A : Nat → Nat} (hp : pos < n + 1) (ho : h o = none) : NF h n (n + 1) A (insF A pos o) := fun j hj => by
  rcases sk_cases hj hp with rfl | ⟨i, hi, rfl⟩
  · rw [insF_p]; exact Or.inr ho
  · rw [insF_s]; exact Or.inl ⟨i, hi, rfl⟩
/-- comparing a key with itself answers -/
def CKK (G : GG) (l : Launch) (h : AH) (k : Nat) (C : String) (y : MethodName) (cc : ByteArray) (mL dC : Nat) : Prop := LkF RJ10 107 C ⟨"java/lang/Comparable", "compareTo", "(Ljava/lang/Object;)I"⟩ y cc mL (some .int) 1 ∧ isC G h k C ∧ Cond.castable C "java/lang/Comparable" ∈ lw_tbl ∧ mL ≤ 45 ∧ dC ≤ 4 ∧ ∃ c : Int32, Ct G l y cc mL (some .int) dC 0 0 [.ref k, .ref k] h (PR (.int c) h)

theorem ct_TM_remove {G : GG} {l : Launch} {h : AH} {t mc n : Nat} {A K V : Nat → Nat} {k pos mL dC : Nat} {fd : Bool} {D : String} {y : MethodName} {cc : ByteArray}  (hM : TMp h t mc n A K V) (hcm : CMP G l h k n pos fd K D y cc mL dC) (hfd0 : fd = true) : Ct G l yJ10_remove cJ10_remove 4 (some (.object "java/lang/Object")) 7 (0) (0) [.ref t, .ref k] h (fun r h2 => r = some (.ref (V pos)) ∧ ∃ A2, TMp h2 t (mc + 1) (n - 1) A2 (fun j => K (sk pos j)) (fun j => V (sk pos j)) ∧ NS n (n - 1) A A2 ∧ Fr (mT t n A) h h2) := by
  refine Ct.of (by decide) (Nat.le_of_ble_eq_true rfl) (cat1 rfl) (fun X hXl F HN => ?_)
  subst hXl
  subst hfd0
  have hpos : pos < n := hcm.2.2.2.2.2.2.1 rfl
  have hM0 := hM
  obtain ⟨hAI, rt, L, R, P, C, lo, hi, hC, hT, hw⟩ := hM0
  obtain ⟨x0, x1, x6, x7, x8, ht, hv1, hv7⟩ := id hC
  refine V_aload_n (i := 0) F dJ10_remove_0 rfl rfl ?_
  refine V_aload_n (i := 1) F dJ10_remove_1 rfl rfl ?_
  refine V_callV (st := []) F dJ10_remove_2 lk_J10_50 (ct_getEntry hM hcm) ⟨23, _, _, _, rfl, (.inl ht)⟩ rfl rfl (Nat.le_of_ble_eq_true rfl) (Nat.le_of_ble_eq_true rfl) (Nat.le_of_ble_eq_true rfl) (by first | exact Nat.le_of_ble_eq_true rfl | omega) (by first | exact Nat.le_of_ble_eq_true rfl | omega) ?_
  refine PRk ?_
  refine VV.stk (st' := [.ref (A pos)]) (by rw [if_pos rfl]; rfl) ?_
  refine V_astore_n (i := 2) F dJ10_remove_5 rfl (Nat.le_of_ble_eq_true rfl) (Nat.le_of_ble_eq_true rfl) ?_
  refine V_aload_n (i := 2) F dJ10_remove_6 rfl rfl ?_
  refine V_ifnonnull (tgt := 12) F dJ10_remove_7 (by decide) ?_
  refine V_aload_n (i := 2) F dJ10_remove_12 rfl rfl ?_
  refine V_getf F dJ10_remove_13 fc_J10_58_J41 (.inl (hT pos hpos)) rfl ?_
  refine V_astore_n (i := 3) F dJ10_remove_16 rfl (Nat.le_of_ble_eq_true rfl) (Nat.le_of_ble_eq_true rfl) ?_
  refine V_aload_n (i := 0) F dJ10_remove_17 rfl rfl ?_
  refine V_aload_n (i := 2) F dJ10_remove_18 rfl rfl ?_
  refine V_callV (st := []) F dJ10_remove_19 lk_J10_174 (ct_deleteEntry hM hAI hpos) ⟨23, _, _, _, rfl, (.inl ht)⟩ rfl rfl (Nat.le_of_ble_eq_true rfl) (Nat.le_of_ble_eq_true rfl) (Nat.le_of_ble_eq_true rfl) (by first | exact Nat.le_of_ble_eq_true rfl | omega) (by first | exact Nat.le_of_ble_eq_true rfl | omega) ?_
  rintro _ h2 ⟨rfl, A2, hM2, hN2, hF2⟩
  refine V_aload_n (i := 3) F dJ10_remove_22 rfl rfl ?_
  exact V_aret F dJ10_remove_23 (Or.inl ⟨_, rfl⟩) (Or.inr ⟨_, rfl⟩) (by first | exact Nat.le_of_ble_eq_true rfl | omega) (by first | exact Nat.le_of_ble_eq_true rfl | omega) ⟨rfl, A2, hM2, hN2, hF2⟩
theorem ct_TM_removeN {G : GG} {l : Launch} {h : AH} {t mc n : Nat} {A K V : Nat → Nat} {k pos mL dC : Nat} {fd : Bool} {D : String} {y : MethodName} {cc : ByteArray}  (hM : TMp h t mc n A K V) (hcm : CMP G l h k n pos fd K D y cc mL dC) (hfd0 : fd = false) : Ct G l yJ10_remove cJ10_remove 4 (some (.object "java/lang/Object")) 7 (0) (0) [.ref t, .ref k] h (PR .null h) := by
  refine Ct.of (by decide) (Nat.le_of_ble_eq_true rfl) (cat1 rfl) (fun X hXl F HN => ?_)
  subst hXl
  subst hfd0
  have hM0 := hM
  obtain ⟨hAI, rt, L, R, P, C, lo, hi, hC, hT, hw⟩ := hM0
  obtain ⟨x0, x1, x6, x7, x8, ht, hv1, hv7⟩ := id hC
  refine V_aload_n (i := 0) F dJ10_remove_0 rfl rfl ?_
  refine V_aload_n (i := 1) F dJ10_remove_1 rfl rfl ?_
  refine V_callV (st := []) F dJ10_remove_2 lk_J10_50 (ct_getEntry hM hcm) ⟨23, _, _, _, rfl, (.inl ht)⟩ rfl rfl (Nat.le_of_ble_eq_true rfl) (Nat.le_of_ble_eq_true rfl) (Nat.le_of_ble_eq_true rfl) (by first | exact Nat.le_of_ble_eq_true rfl | omega) (by first | exact Nat.le_of_ble_eq_true rfl | omega) ?_
  refine PRk ?_
  refine VV.stk (st' := [.null]) (by rw [if_neg (fun z => by cases z)]; rfl) ?_
  refine V_astore_nN (i := 2) F dJ10_remove_5 rfl (Nat.le_of_ble_eq_true rfl) (Nat.le_of_ble_eq_true rfl) ?_
  refine V_aload_nN (i := 2) F dJ10_remove_6 rfl rfl ?_
  refine V_ifnonnullN F dJ10_remove_7 ?_
  refine V_null F dJ10_remove_10 ?_
  exact V_aret F dJ10_remove_11 (Or.inl ⟨_, rfl⟩) (Or.inl rfl) (by first | exact Nat.le_of_ble_eq_true rfl | omega) (by first | exact Nat.le_of_ble_eq_true rfl | omega) ⟨rfl, rfl⟩
theorem ct_Entry_init {G : GG} {l : Launch} {h : AH} {o k v p : Nat} (ho : h o = some (.inr (24, [.null, .null, .null, .null, .null, .int 0]))) : Ct G l yJ41_init cJ41_init 4 none 1 (0) (0) [.ref o, .ref k, .ref v, .ref p] h (fun r h2 => r = none ∧ h2 o = some (.inr (24, [.ref k, .ref v, .null, .null, .ref p, .int (nI 1)])) ∧ Fr (m1 o) h h2) := by
  refine Ct.of (by decide) (Nat.le_of_ble_eq_true rfl) (cat1 rfl) (fun X hXl F HN => ?_)
  subst hXl
  refine V_aload_n (i := 0) F dJ41_init_0 rfl rfl ?_
  refine V_objInit F dJ41_init_1 q2125 q180 q181 (Nat.le_of_ble_eq_true rfl) (Nat.le_of_ble_eq_true rfl) ?_
  refine V_aload_n (i := 0) F dJ41_init_4 rfl rfl ?_
  refine V_iconst (v := nI 1) F dJ41_init_5 rfl ?_
  refine V_putf F dJ41_init_6 fp_J41_9_J41 ho rfl rfl (Nat.le_of_ble_eq_true rfl) ?_
  refine VV.heap (h' := (hset h (o) (.inr (24, [.null, .null, .null, .null, .null, .int (nI (1))])))) rfl ?_
  refine V_aload_n (i := 0) F dJ41_init_9 rfl rfl ?_
  refine V_aload_n (i := 1) F dJ41_init_10 rfl rfl ?_
  refine V_putf F dJ41_init_11 fp_J41_15_J41 (hset_self (e := .inr (24, [.null, .null, .null, .null, .null, .int (nI (1))]))) rfl rfl (Nat.le_of_ble_eq_true rfl) ?_
  refine VV.heap (h' := (hset (hset h (o) (.inr (24, [.null, .null, .null, .null, .null, .int (nI (1))]))) (o) (.inr (24, [.ref (k), .null, .null, .null, .null, .int (nI (1))])))) rfl ?_
  refine V_aload_n (i := 0) F dJ41_init_14 rfl rfl ?_
  refine V_aload_n (i := 2) F dJ41_init_15 rfl rfl ?_
  refine V_putf F dJ41_init_16 fp_J41_19_J41 (hset_self (e := .inr (24, [.ref (k), .null, .null, .null, .null, .int (nI (1))]))) rfl rfl (Nat.le_of_ble_eq_true rfl) ?_
  refine VV.heap (h' := (hset (hset (hset h (o) (.inr (24, [.null, .null, .null, .null, .null, .int (nI (1))]))) (o) (.inr (24, [.ref (k), .null, .null, .null, .null, .int (nI (1))]))) (o) (.inr (24, [.ref (k), .ref (v), .null, .null, .null, .int (nI (1))])))) rfl ?_
  refine V_aload_n (i := 0) F dJ41_init_19 rfl rfl ?_
  refine V_aload_n (i := 3) F dJ41_init_20 rfl rfl ?_
  refine V_putf F dJ41_init_21 fp_J41_22_J41 (hset_self (e := .inr (24, [.ref (k), .ref (v), .null, .null, .null, .int (nI (1))]))) rfl rfl (Nat.le_of_ble_eq_true rfl) ?_
  refine VV.heap (h' := (hset (hset (hset (hset h (o) (.inr (24, [.null, .null, .null, .null, .null, .int (nI (1))]))) (o) (.inr (24, [.ref (k), .null, .null, .null, .null, .int (nI (1))]))) (o) (.inr (24, [.ref (k), .ref (v), .null, .null, .null, .int (nI (1))]))) (o) (.inr (24, [.ref (k), .ref (v), .null, .null, .ref (p), .int (nI (1))])))) rfl ?_
  exact V_vret F dJ41_init_24 (by first | exact Nat.le_of_ble_eq_true rfl | omega) (by first | exact Nat.le_of_ble_eq_true rfl | omega) ⟨rfl, (hset_self (e := .inr (24, [.ref (k), .ref (v), .null, .null, .ref (p), .int (nI (1))]))), (((((Fr.rf (M := m1 o) (h := h)).put (x := .inr (24, [.null, .null, .null, .null, .null, .int (nI (1))])) ho rfl rfl (Or.inl rfl)).put (x := .inr (24, [.ref (k), .null, .null, .null, .null, .int (nI (1))])) (hset_self (e := .inr (24, [.null, .null, .null, .null, .null, .int (nI (1))]))) rfl rfl (Or.inl rfl)).put (x := .inr (24, [.ref (k), .ref (v), .null, .null, .null, .int (nI (1))])) (hset_self (e := .inr (24, [.ref (k), .null, .null, .null, .null, .int (nI (1))]))) rfl rfl (Or.inl rfl)).put (x := .inr (24, [.ref (k), .ref (v), .null, .null, .ref (p), .int (nI (1))])) (hset_self (e := .inr (24, [.ref (k), .ref (v), .null, .null, .null, .int (nI (1))]))) rfl rfl (Or.inl rfl))⟩
theorem ct_Entry_init0 {G : GG} {l : Launch} {h : AH} {o k v : Nat} (ho : h o = some (.inr (24, [.null, .null, .null, .null, .null, .int 0]))) : Ct G l yJ41_init cJ41_init 4 none 1 (0) (0) [.ref o, .ref k, .ref v, .null] h (fun r h2 => r = none ∧ h2 o = some (.inr (24, [.ref k, .ref v, .null, .null, .null, .int (nI 1)])) ∧ Fr (m1 o) h h2) := by
  refine Ct.of (by decide) (Nat.le_of_ble_eq_true rfl) (cat1 rfl) (fun X hXl F HN => ?_)
  subst hXl
  refine V_aload_n (i := 0) F dJ41_init_0 rfl rfl ?_
  refine V_objInit F dJ41_init_1 q2125 q180 q181 (Nat.le_of_ble_eq_true rfl) (Nat.le_of_ble_eq_true rfl) ?_
  refine V_aload_n (i := 0) F dJ41_init_4 rfl rfl ?_
  refine V_iconst (v := nI 1) F dJ41_init_5 rfl ?_
  refine V_putf F dJ41_init_6 fp_J41_9_J41 ho rfl rfl (Nat.le_of_ble_eq_true rfl) ?_
  refine VV.heap (h' := (hset h (o) (.inr (24, [.null, .null, .null, .null, .null, .int (nI (1))])))) rfl ?_
  refine V_aload_n (i := 0) F dJ41_init_9 rfl rfl ?_
  refine V_aload_n (i := 1) F dJ41_init_10 rfl rfl ?_
  refine V_putf F dJ41_init_11 fp_J41_15_J41 (hset_self (e := .inr (24, [.null, .null, .null, .null, .null, .int (nI (1))]))) rfl rfl (Nat.le_of_ble_eq_true rfl) ?_
  refine VV.heap (h' := (hset (hset h (o) (.inr (24, [.null, .null, .null, .null, .null, .int (nI (1))]))) (o) (.inr (24, [.ref (k), .null, .null, .null, .null, .int (nI (1))])))) rfl ?_
  refine V_aload_n (i := 0) F dJ41_init_14 rfl rfl ?_
  refine V_aload_n (i := 2) F dJ41_init_15 rfl rfl ?_
  refine V_putf F dJ41_init_16 fp_J41_19_J41 (hset_self (e := .inr (24, [.ref (k), .null, .null, .null, .null, .int (nI (1))]))) rfl rfl (Nat.le_of_ble_eq_true rfl) ?_
  refine VV.heap (h' := (hset (hset (hset h (o) (.inr (24, [.null, .null, .null, .null, .null, .int (nI (1))]))) (o) (.inr (24, [.ref (k), .null, .null, .null, .null, .int (nI (1))]))) (o) (.inr (24, [.ref (k), .ref (v), .null, .null, .null, .int (nI (1))])))) rfl ?_
  refine V_aload_n (i := 0) F dJ41_init_19 rfl rfl ?_
  refine V_aload_nN (i := 3) F dJ41_init_20 rfl rfl ?_
  refine V_putf F dJ41_init_21 fp_J41_22_J41 (hset_self (e := .inr (24, [.ref (k), .ref (v), .null, .null, .null, .int (nI (1))]))) rfl rfl (Nat.le_of_ble_eq_true rfl) ?_
  refine VV.heap (h' := (hset (hset (hset (hset h (o) (.inr (24, [.null, .null, .null, .null, .null, .int (nI (1))]))) (o) (.inr (24, [.ref (k), .null, .null, .null, .null, .int (nI (1))]))) (o) (.inr (24, [.ref (k), .ref (v), .null, .null, .null, .int (nI (1))]))) (o) (.inr (24, [.ref (k), .ref (v), .null, .null, .null, .int (nI (1))])))) rfl ?_
  exact V_vret F dJ41_init_24 (by first | exact Nat.le_of_ble_eq_true rfl | omega) (by first | exact Nat.le_of_ble_eq_true rfl | omega) ⟨rfl, (hset_self (e := .inr (24, [.ref (k), .ref (v), .null, .null, .null, .int (nI (1))]))), (((((Fr.rf (M := m1 o) (h := h)).put (x := .inr (24, [.null, .null, .null, .null, .null, .int (nI (1))])) ho rfl rfl (Or.inl rfl)).put (x := .inr (24, [.ref (k), .null, .null, .null, .null, .int (nI (1))])) (hset_self (e := .inr (24, [.null, .null, .null, .null, .null, .int (nI (1))]))) rfl rfl (Or.inl rfl)).put (x := .inr (24, [.ref (k), .ref (v), .null, .null, .null, .int (nI (1))])) (hset_self (e := .inr (24, [.ref (k), .null, .null, .null, .null, .int (nI (1))]))) rfl rfl (Or.inl rfl)).put (x := .inr (24, [.ref (k), .ref (v), .null, .null, .null, .int (nI (1))])) (hset_self (e := .inr (24, [.ref (k), .ref (v), .null, .null, .null, .int (nI (1))]))) rfl rfl (Or.inl rfl))⟩
theorem ct_addEntryL {G : GG} {l : Launch} {h : AH} {t mc n : Nat} {A K V : Nat → Nat} {L R P : Nat → Option Nat} {C : Nat → Bool} {rt : Option Nat} {lo hi : Nat → Nat} {k v g pos : Nat} (hC : TC h t n mc (rt.map A)) (hT : TN h n A K V L R P C) (hAI : AI n A) (hw : WT n rt L R P lo hi) (hg : g < n) (hlg : L g = none) (hpg : pos = g) : Ct G l yJ10_addEntry cJ10_addEntry 6 none 3 (1) (6) [.ref t, .ref k, .ref v, .ref (A g), .int (nI 1)] h (fun r h2 => r = none ∧ ∃ A2, TMp h2 t (mc + 1) (n + 1) A2 (insF K pos k) (insF V pos v) ∧ NF h n (n + 1) A A2 ∧ Fr (mT t n A) h h2) := by
  refine Ct.of (by decide) (Nat.le_of_ble_eq_true rfl) (cat1 rfl) (fun X hXl F HN => ?_)
  subst hXl
  have hpos : pos < n + 1 := by omega
  obtain ⟨x0, x1, x6, x7, x8, ht, hv1, hv7⟩ := id hC
  refine V_new F dJ10_addEntry_0 nw_J10_59 (by first | exact Nat.le_of_ble_eq_true rfl | omega) (by first | exact Nat.le_of_ble_eq_true rfl | omega) ?_
  intro o1 hfo1 hbo1
  refine V_dup F dJ10_addEntry_3 rfl ?_
  refine V_aload_n (i := 1) F dJ10_addEntry_4 rfl rfl ?_
  refine V_aload_n (i := 2) F dJ10_addEntry_5 rfl rfl ?_
  refine V_aload_n (i := 3) F dJ10_addEntry_6 rfl rfl ?_
  refine V_callI (st := [.ref (o1)]) F dJ10_addEntry_7 lk_J10_167 (ct_Entry_init (k := k) (v := v) (p := A g) (hset_self (e := .inr (24, [.null, .null, .null, .null, .null, .int 0])))) rfl rfl (Nat.le_of_ble_eq_true rfl) (Nat.le_of_ble_eq_true rfl) (Nat.le_of_ble_eq_true rfl) (by first | exact Nat.le_of_ble_eq_true rfl | omega) (by first | exact Nat.le_of_ble_eq_true rfl | omega) ?_
  rintro _ h2 ⟨rfl, ho2, hx2⟩
  have hCb := TC.fr (ro := rt.map A) (n := n) (mc := mc) (t := t) ⟨x0, x1, x6, x7, x8, ((hset_ne (ne_nw ht hfo1)).trans ht), vw_fr hv1 ((Fr.rf (M := fun _ => True) (h := h)).nw (x := .inr (24, [.null, .null, .null, .null, .null, .int 0])) hfo1) rfl, vw_fr hv7 ((Fr.rf (M := fun _ => True) (h := h)).nw (x := .inr (24, [.null, .null, .null, .null, .null, .int 0])) hfo1) rfl⟩ hx2 (ne_nw ht hfo1)
  obtain ⟨z0, z1, z6, z7, z8, htb, hvc, hvd⟩ := id hCb
  have f2 : Fr (mT t n A) h h2 := ((Fr.rf (M := mT t n A) (h := h)).nw (x := .inr (24, [.null, .null, .null, .null, .null, .int 0])) hfo1).cal hx2 (Yo.m1 ((Fr.rf (M := mT t n A) (h := h)).yo hfo1))
  have g3 := ((Fr.rf (M := fun _ => True) (h := h)).nw (x := .inr (24, [.null, .null, .null, .null, .null, .int 0])) hfo1).cal hx2 (fun _ _ => Or.inl trivial)
  have hT4 := ((hT.nw (x := .inr (24, [.null, .null, .null, .null, .null, .int 0])) hfo1)).fr hx2 (fun i hi => (ne_nw (hT i hi) hfo1))
  obtain ⟨A9, K9, V9, L9, R9, P9, C9, hT9, hAI9, ⟨eA, eK, eV⟩, ⟨hAp, hAs⟩, ⟨hLp, hRp, hPp⟩, hLs, hRs, hPs⟩ := TN.insX (pos := pos) (k := k) (v := v) hT4 hAI hpos (fun i hi => ne_nw (hT i hi) hfo1) ho2
  refine VV.stk (st' := [.ref (A9 pos)]) (by rw [hAp] <;> rfl) ?_
  refine VV.loc (L' := [some (.ref (t)), some (.ref (k)), some (.ref (v)), some (.ref (A9 (sk pos g))), some (.int (nI (1))), none]) (by rw [hAs] <;> rfl) ?_
  have hAIo := hAI
  have hskg : sk pos g < n + 1 := sk_lt1 hg
  have hyo : Yo (mT t n A) h o1 := ((Fr.rf (M := mT t n A) (h := h)).yo hfo1)
  have hAI := hAI9
  refine V_astore (i := 5) F dJ10_addEntry_10 (Nat.le_of_ble_eq_true rfl) (Nat.le_of_ble_eq_true rfl) ?_
  refine V_iload (i := 4) F dJ10_addEntry_12 rfl ?_
  refine V_if_eqN (tgt := 26) F dJ10_addEntry_14 (by decide) (by omega) (fun c_14 => absurd c_14 (by decide)) (fun c_14 => ?_)
  refine V_aload_n (i := 3) F dJ10_addEntry_17 rfl rfl ?_
  refine V_aload (i := 5) F dJ10_addEntry_18 rfl ?_
  refine VV.stk (st' := va_rf ((some pos).map A9) :: .ref (A9 (sk pos g)) :: []) rfl ?_
  refine V_putf F dJ10_addEntry_20 fp_J10_111_J41 (hT9 (sk pos g) hskg) (nar_rfO _ _) (fit_rfO _ _) (Nat.le_of_ble_eq_true rfl) ?_
  have hT5 := hT9.putL (o := some pos) hAI hskg
  refine V_goto (tgt := 32) F dJ10_addEntry_23 (by decide) ?_
  have hw9 := hw.ins hg (Or.inl ⟨hlg, hpg, rfl⟩) (L1 := upo L9 (sk pos g) (some pos)) (R1 := R9) (P1 := P9) ((upo_n (Ne.symm sk_ne)).trans hLp) hRp hPp (fun i _ => ins1 hLs hpg i) (fun i _ => ins0 hRs (by omega) i) (fun i _ => hPs i)
  have hC9 := TC.ins (pos := pos) (o := o1) (A := A) ⟨z0, z1, z6, z7, z8, ((hset_ne (ne_oo htb (hT9 (sk pos g) hskg) (by decide))).trans htb), vw_fr hvc ((Fr.rf (M := fun _ => True) (h := h2)).put (x := .inr (24, (ndc A9 K9 V9 L9 R9 P9 C9 (sk pos g)).set 2 (va_rf ((some pos).map A9)))) (hT9 (sk pos g) hskg) rfl rfl (Or.inl trivial)) rfl, vw_fr hvd ((Fr.rf (M := fun _ => True) (h := h2)).put (x := .inr (24, (ndc A9 K9 V9 L9 R9 P9 C9 (sk pos g)).set 2 (va_rf ((some pos).map A9)))) (hT9 (sk pos g) hskg) rfl rfl (Or.inl trivial)) rfl⟩
  rw [← eA] at hC9
  have hfr9 := (f2.put (x := .inr (24, (ndc A9 K9 V9 L9 R9 P9 C9 (sk pos g)).set 2 (va_rf ((some pos).map A9)))) (hT9 (sk pos g) hskg) rfl rfl (Or.inl (Or.inr ⟨g, hg, hAs g⟩)))
  refine V_aload_n (i := 0) F dJ10_addEntry_32 rfl rfl ?_
  refine V_aload (i := 5) F dJ10_addEntry_33 rfl ?_
  refine V_callV (st := []) F dJ10_addEntry_35 lk_J10_170 (ct_fixIns hC9 hT5 hAI9 hw9 hpos) ⟨23, _, _, _, rfl, (.inl ((hset_ne (ne_oo htb (hT9 (sk pos g) hskg) (by decide))).trans htb))⟩ rfl rfl (Nat.le_of_ble_eq_true rfl) (Nat.le_of_ble_eq_true rfl) (Nat.le_of_ble_eq_true rfl) (by first | exact Nat.le_of_ble_eq_true rfl | omega) (by first | exact Nat.le_of_ble_eq_true rfl | omega) ?_
  rintro _ h9 ⟨rfl, La, Ra, Pa, Ca, rta, loa, hia, hCa, hTa, hwa, hFa⟩
  obtain ⟨y0, y1, y6, y7, y8, hta, hva, hvb⟩ := id hCa
  have hfra : Fr (mT t n A) h h9 := hfr9.cal hFa (fun b q => (mT.ins hpos (eA ▸ q)).elim Or.inl (fun z => z ▸ hyo))
  refine V_aload_n (i := 0) F dJ10_addEntry_38 rfl rfl ?_
  refine V_dup F dJ10_addEntry_39 rfl ?_
  refine V_getf F dJ10_addEntry_40 fc_J10_7_J10 (.inl hta) rfl ?_
  refine V_iconst (v := nI 1) F dJ10_addEntry_43 rfl ?_
  refine V_iaddN F dJ10_addEntry_44 ?_
  refine V_putf F dJ10_addEntry_45 fp_J10_7_J10 hta rfl rfl (Nat.le_of_ble_eq_true rfl) ?_
  refine VV.heap (h' := (hset h9 (t) (.inr (23, [y0, y1, .null, va_rf ((rta).map A9), .int (nI (n + 1)), .int (nI (mc)), y6, y7, y8])))) rfl ?_
  refine V_aload_n (i := 0) F dJ10_addEntry_48 rfl rfl ?_
  refine V_dup F dJ10_addEntry_49 rfl ?_
  refine V_getf F dJ10_addEntry_50 fc_J10_13_J10 (.inl (hset_self (e := .inr (23, [y0, y1, .null, va_rf ((rta).map A9), .int (nI (n + 1)), .int (nI (mc)), y6, y7, y8])))) rfl ?_
  refine V_iconst (v := nI 1) F dJ10_addEntry_53 rfl ?_
  refine V_iaddN F dJ10_addEntry_54 ?_
  refine V_putf F dJ10_addEntry_55 fp_J10_13_J10 (hset_self (e := .inr (23, [y0, y1, .null, va_rf ((rta).map A9), .int (nI (n + 1)), .int (nI (mc)), y6, y7, y8]))) rfl rfl (Nat.le_of_ble_eq_true rfl) ?_
  refine VV.heap (h' := (hset (hset h9 (t) (.inr (23, [y0, y1, .null, va_rf ((rta).map A9), .int (nI (n + 1)), .int (nI (mc)), y6, y7, y8]))) (t) (.inr (23, [y0, y1, .null, va_rf ((rta).map A9), .int (nI (n + 1)), .int (nI (mc + 1)), y6, y7, y8])))) rfl ?_
  have hfz := ((hfra.put (x := .inr (23, [y0, y1, .null, va_rf ((rta).map A9), .int (nI (n + 1)), .int (nI (mc)), y6, y7, y8])) hta rfl rfl (Or.inl (Or.inl rfl))).put (x := .inr (23, [y0, y1, .null, va_rf ((rta).map A9), .int (nI (n + 1)), .int (nI (mc + 1)), y6, y7, y8])) (hset_self (e := .inr (23, [y0, y1, .null, va_rf ((rta).map A9), .int (nI (n + 1)), .int (nI (mc)), y6, y7, y8]))) rfl rfl (Or.inl (Or.inl rfl)))
  have hfy := (((Fr.rf (M := fun _ => True) (h := h9)).put (x := .inr (23, [y0, y1, .null, va_rf ((rta).map A9), .int (nI (n + 1)), .int (nI (mc)), y6, y7, y8])) hta rfl rfl (Or.inl trivial)).put (x := .inr (23, [y0, y1, .null, va_rf ((rta).map A9), .int (nI (n + 1)), .int (nI (mc + 1)), y6, y7, y8])) (hset_self (e := .inr (23, [y0, y1, .null, va_rf ((rta).map A9), .int (nI (n + 1)), .int (nI (mc)), y6, y7, y8]))) rfl rfl (Or.inl trivial))
  have hTz := ((hTa.oth (x := .inr (23, [y0, y1, .null, va_rf ((rta).map A9), .int (nI (n + 1)), .int (nI (mc)), y6, y7, y8])) hta (by decide)).oth (x := .inr (23, [y0, y1, .null, va_rf ((rta).map A9), .int (nI (n + 1)), .int (nI (mc + 1)), y6, y7, y8])) (hset_self (e := .inr (23, [y0, y1, .null, va_rf ((rta).map A9), .int (nI (n + 1)), .int (nI (mc)), y6, y7, y8]))) (by decide))
  have htz : (hset (hset h9 (t) (.inr (23, [y0, y1, .null, va_rf ((rta).map A9), .int (nI (n + 1)), .int (nI (mc)), y6, y7, y8]))) (t) (.inr (23, [y0, y1, .null, va_rf ((rta).map A9), .int (nI (n + 1)), .int (nI (mc + 1)), y6, y7, y8]))) t = some (.inr (23, [y0, y1, .null, va_rf ((rta).map A9), .int (nI (n + 1)), .int (nI (mc + 1)), y6, y7, y8])) := (hset_self (e := .inr (23, [y0, y1, .null, va_rf ((rta).map A9), .int (nI (n + 1)), .int (nI (mc + 1)), y6, y7, y8])))
  subst eA eK eV
  exact V_vret F dJ10_addEntry_58 (by first | exact Nat.le_of_ble_eq_true rfl | omega) (by first | exact Nat.le_of_ble_eq_true rfl | omega) ⟨rfl, _, ⟨hAI9, rta, La, Ra, Pa, Ca, loa, hia, ⟨y0, y1, y6, y7, y8, htz, vw_fr hva hfy rfl, vw_fr hvb hfy rfl⟩, hTz, hwa⟩, NF.ins hpos hfo1, hfz⟩
theorem ct_addEntryR {G : GG} {l : Launch} {h : AH} {t mc n : Nat} {A K V : Nat → Nat} {L R P : Nat → Option Nat} {C : Nat → Bool} {rt : Option Nat} {lo hi : Nat → Nat} {k v g pos : Nat} (hC : TC h t n mc (rt.map A)) (hT : TN h n A K V L R P C) (hAI : AI n A) (hw : WT n rt L R P lo hi) (hg : g < n) (hlg : R g = none) (hpg : pos = g + 1) : Ct G l yJ10_addEntry cJ10_addEntry 6 none 3 (1) (6) [.ref t, .ref k, .ref v, .ref (A g), .int (nI 0)] h (fun r h2 => r = none ∧ ∃ A2, TMp h2 t (mc + 1) (n + 1) A2 (insF K pos k) (insF V pos v) ∧ NF h n (n + 1) A A2 ∧ Fr (mT t n A) h h2) := by
  refine Ct.of (by decide) (Nat.le_of_ble_eq_true rfl) (cat1 rfl) (fun X hXl F HN => ?_)
  subst hXl
  have hpos : pos < n + 1 := by omega
  obtain ⟨x0, x1, x6, x7, x8, ht, hv1, hv7⟩ := id hC
  refine V_new F dJ10_addEntry_0 nw_J10_59 (by first | exact Nat.le_of_ble_eq_true rfl | omega) (by first | exact Nat.le_of_ble_eq_true rfl | omega) ?_
  intro o1 hfo1 hbo1
  refine V_dup F dJ10_addEntry_3 rfl ?_
  refine V_aload_n (i := 1) F dJ10_addEntry_4 rfl rfl ?_
  refine V_aload_n (i := 2) F dJ10_addEntry_5 rfl rfl ?_
  refine V_aload_n (i := 3) F dJ10_addEntry_6 rfl rfl ?_
  refine V_callI (st := [.ref (o1)]) F dJ10_addEntry_7 lk_J10_167 (ct_Entry_init (k := k) (v := v) (p := A g) (hset_self (e := .inr (24, [.null, .null, .null, .null, .null, .int 0])))) rfl rfl (Nat.le_of_ble_eq_true rfl) (Nat.le_of_ble_eq_true rfl) (Nat.le_of_ble_eq_true rfl) (by first | exact Nat.le_of_ble_eq_true rfl | omega) (by first | exact Nat.le_of_ble_eq_true rfl | omega) ?_
  rintro _ h2 ⟨rfl, ho2, hx2⟩
  have hCb := TC.fr (ro := rt.map A) (n := n) (mc := mc) (t := t) ⟨x0, x1, x6, x7, x8, ((hset_ne (ne_nw ht hfo1)).trans ht), vw_fr hv1 ((Fr.rf (M := fun _ => True) (h := h)).nw (x := .inr (24, [.null, .null, .null, .null, .null, .int 0])) hfo1) rfl, vw_fr hv7 ((Fr.rf (M := fun _ => True) (h := h)).nw (x := .inr (24, [.null, .null, .null, .null, .null, .int 0])) hfo1) rfl⟩ hx2 (ne_nw ht hfo1)
  obtain ⟨z0, z1, z6, z7, z8, htb, hvc, hvd⟩ := id hCb
  have f2 : Fr (mT t n A) h h2 := ((Fr.rf (M := mT t n A) (h := h)).nw (x := .inr (24, [.null, .null, .null, .null, .null, .int 0])) hfo1).cal hx2 (Yo.m1 ((Fr.rf (M := mT t n A) (h := h)).yo hfo1))
  have g3 := ((Fr.rf (M := fun _ => True) (h := h)).nw (x := .inr (24, [.null, .null, .null, .null, .null, .int 0])) hfo1).cal hx2 (fun _ _ => Or.inl trivial)
  have hT4 := ((hT.nw (x := .inr (24, [.null, .null, .null, .null, .null, .int 0])) hfo1)).fr hx2 (fun i hi => (ne_nw (hT i hi) hfo1))
  obtain ⟨A9, K9, V9, L9, R9, P9, C9, hT9, hAI9, ⟨eA, eK, eV⟩, ⟨hAp, hAs⟩, ⟨hLp, hRp, hPp⟩, hLs, hRs, hPs⟩ := TN.insX (pos := pos) (k := k) (v := v) hT4 hAI hpos (fun i hi => ne_nw (hT i hi) hfo1) ho2
  refine VV.stk (st' := [.ref (A9 pos)]) (by rw [hAp] <;> rfl) ?_
  refine VV.loc (L' := [some (.ref (t)), some (.ref (k)), some (.ref (v)), some (.ref (A9 (sk pos g))), some (.int (nI (0))), none]) (by rw [hAs] <;> rfl) ?_
  have hAIo := hAI
  have hskg : sk pos g < n + 1 := sk_lt1 hg
  have hyo : Yo (mT t n A) h o1 := ((Fr.rf (M := mT t n A) (h := h)).yo hfo1)
  have hAI := hAI9
  refine V_astore (i := 5) F dJ10_addEntry_10 (Nat.le_of_ble_eq_true rfl) (Nat.le_of_ble_eq_true rfl) ?_
  refine V_iload (i := 4) F dJ10_addEntry_12 rfl ?_
  refine V_if_eqN (tgt := 26) F dJ10_addEntry_14 (by decide) (by omega) (fun c_14 => ?_) (fun c_14 => absurd c_14 (by decide))
  refine V_aload_n (i := 3) F dJ10_addEntry_26 rfl rfl ?_
  refine V_aload (i := 5) F dJ10_addEntry_27 rfl ?_
  refine VV.stk (st' := va_rf ((some pos).map A9) :: .ref (A9 (sk pos g)) :: []) rfl ?_
  refine V_putf F dJ10_addEntry_29 fp_J10_114_J41 (hT9 (sk pos g) hskg) (nar_rfO _ _) (fit_rfO _ _) (Nat.le_of_ble_eq_true rfl) ?_
  have hT5 := hT9.putR (o := some pos) hAI hskg
  have hw9 := hw.ins hg (Or.inr ⟨hlg, hpg, rfl⟩) (L1 := L9) (R1 := upo R9 (sk pos g) (some pos)) (P1 := P9) hLp ((upo_n (Ne.symm sk_ne)).trans hRp) hPp (fun i _ => ins0 hLs (by omega) i) (fun i _ => ins1 hRs hpg i) (fun i _ => hPs i)
  have hC9 := TC.ins (pos := pos) (o := o1) (A := A) ⟨z0, z1, z6, z7, z8, ((hset_ne (ne_oo htb (hT9 (sk pos g) hskg) (by decide))).trans htb), vw_fr hvc ((Fr.rf (M := fun _ => True) (h := h2)).put (x := .inr (24, (ndc A9 K9 V9 L9 R9 P9 C9 (sk pos g)).set 3 (va_rf ((some pos).map A9)))) (hT9 (sk pos g) hskg) rfl rfl (Or.inl trivial)) rfl, vw_fr hvd ((Fr.rf (M := fun _ => True) (h := h2)).put (x := .inr (24, (ndc A9 K9 V9 L9 R9 P9 C9 (sk pos g)).set 3 (va_rf ((some pos).map A9)))) (hT9 (sk pos g) hskg) rfl rfl (Or.inl trivial)) rfl⟩
  rw [← eA] at hC9
  have hfr9 := (f2.put (x := .inr (24, (ndc A9 K9 V9 L9 R9 P9 C9 (sk pos g)).set 3 (va_rf ((some pos).map A9)))) (hT9 (sk pos g) hskg) rfl rfl (Or.inl (Or.inr ⟨g, hg, hAs g⟩)))
  refine V_aload_n (i := 0) F dJ10_addEntry_32 rfl rfl ?_
  refine V_aload (i := 5) F dJ10_addEntry_33 rfl ?_
  refine V_callV (st := []) F dJ10_addEntry_35 lk_J10_170 (ct_fixIns hC9 hT5 hAI9 hw9 hpos) ⟨23, _, _, _, rfl, (.inl ((hset_ne (ne_oo htb (hT9 (sk pos g) hskg) (by decide))).trans htb))⟩ rfl rfl (Nat.le_of_ble_eq_true rfl) (Nat.le_of_ble_eq_true rfl) (Nat.le_of_ble_eq_true rfl) (by first | exact Nat.le_of_ble_eq_true rfl | omega) (by first | exact Nat.le_of_ble_eq_true rfl | omega) ?_
  rintro _ h9 ⟨rfl, La, Ra, Pa, Ca, rta, loa, hia, hCa, hTa, hwa, hFa⟩
  obtain ⟨y0, y1, y6, y7, y8, hta, hva, hvb⟩ := id hCa
  have hfra : Fr (mT t n A) h h9 := hfr9.cal hFa (fun b q => (mT.ins hpos (eA ▸ q)).elim Or.inl (fun z => z ▸ hyo))
  refine V_aload_n (i := 0) F dJ10_addEntry_38 rfl rfl ?_
  refine V_dup F dJ10_addEntry_39 rfl ?_
  refine V_getf F dJ10_addEntry_40 fc_J10_7_J10 (.inl hta) rfl ?_
  refine V_iconst (v := nI 1) F dJ10_addEntry_43 rfl ?_
  refine V_iaddN F dJ10_addEntry_44 ?_
  refine V_putf F dJ10_addEntry_45 fp_J10_7_J10 hta rfl rfl (Nat.le_of_ble_eq_true rfl) ?_
  refine VV.heap (h' := (hset h9 (t) (.inr (23, [y0, y1, .null, va_rf ((rta).map A9), .int (nI (n + 1)), .int (nI (mc)), y6, y7, y8])))) rfl ?_
  refine V_aload_n (i := 0) F dJ10_addEntry_48 rfl rfl ?_
  refine V_dup F dJ10_addEntry_49 rfl ?_
  refine V_getf F dJ10_addEntry_50 fc_J10_13_J10 (.inl (hset_self (e := .inr (23, [y0, y1, .null, va_rf ((rta).map A9), .int (nI (n + 1)), .int (nI (mc)), y6, y7, y8])))) rfl ?_
  refine V_iconst (v := nI 1) F dJ10_addEntry_53 rfl ?_
  refine V_iaddN F dJ10_addEntry_54 ?_
  refine V_putf F dJ10_addEntry_55 fp_J10_13_J10 (hset_self (e := .inr (23, [y0, y1, .null, va_rf ((rta).map A9), .int (nI (n + 1)), .int (nI (mc)), y6, y7, y8]))) rfl rfl (Nat.le_of_ble_eq_true rfl) ?_
  refine VV.heap (h' := (hset (hset h9 (t) (.inr (23, [y0, y1, .null, va_rf ((rta).map A9), .int (nI (n + 1)), .int (nI (mc)), y6, y7, y8]))) (t) (.inr (23, [y0, y1, .null, va_rf ((rta).map A9), .int (nI (n + 1)), .int (nI (mc + 1)), y6, y7, y8])))) rfl ?_
  have hfz := ((hfra.put (x := .inr (23, [y0, y1, .null, va_rf ((rta).map A9), .int (nI (n + 1)), .int (nI (mc)), y6, y7, y8])) hta rfl rfl (Or.inl (Or.inl rfl))).put (x := .inr (23, [y0, y1, .null, va_rf ((rta).map A9), .int (nI (n + 1)), .int (nI (mc + 1)), y6, y7, y8])) (hset_self (e := .inr (23, [y0, y1, .null, va_rf ((rta).map A9), .int (nI (n + 1)), .int (nI (mc)), y6, y7, y8]))) rfl rfl (Or.inl (Or.inl rfl)))
  have hfy := (((Fr.rf (M := fun _ => True) (h := h9)).put (x := .inr (23, [y0, y1, .null, va_rf ((rta).map A9), .int (nI (n + 1)), .int (nI (mc)), y6, y7, y8])) hta rfl rfl (Or.inl trivial)).put (x := .inr (23, [y0, y1, .null, va_rf ((rta).map A9), .int (nI (n + 1)), .int (nI (mc + 1)), y6, y7, y8])) (hset_self (e := .inr (23, [y0, y1, .null, va_rf ((rta).map A9), .int (nI (n + 1)), .int (nI (mc)), y6, y7, y8]))) rfl rfl (Or.inl trivial))
  have hTz := ((hTa.oth (x := .inr (23, [y0, y1, .null, va_rf ((rta).map A9), .int (nI (n + 1)), .int (nI (mc)), y6, y7, y8])) hta (by decide)).oth (x := .inr (23, [y0, y1, .null, va_rf ((rta).map A9), .int (nI (n + 1)), .int (nI (mc + 1)), y6, y7, y8])) (hset_self (e := .inr (23, [y0, y1, .null, va_rf ((rta).map A9), .int (nI (n + 1)), .int (nI (mc)), y6, y7, y8]))) (by decide))
  have htz : (hset (hset h9 (t) (.inr (23, [y0, y1, .null, va_rf ((rta).map A9), .int (nI (n + 1)), .int (nI (mc)), y6, y7, y8]))) (t) (.inr (23, [y0, y1, .null, va_rf ((rta).map A9), .int (nI (n + 1)), .int (nI (mc + 1)), y6, y7, y8]))) t = some (.inr (23, [y0, y1, .null, va_rf ((rta).map A9), .int (nI (n + 1)), .int (nI (mc + 1)), y6, y7, y8])) := (hset_self (e := .inr (23, [y0, y1, .null, va_rf ((rta).map A9), .int (nI (n + 1)), .int (nI (mc + 1)), y6, y7, y8])))
  subst eA eK eV
  exact V_vret F dJ10_addEntry_58 (by first | exact Nat.le_of_ble_eq_true rfl | omega) (by first | exact Nat.le_of_ble_eq_true rfl | omega) ⟨rfl, _, ⟨hAI9, rta, La, Ra, Pa, Ca, loa, hia, ⟨y0, y1, y6, y7, y8, htz, vw_fr hva hfy rfl, vw_fr hvb hfy rfl⟩, hTz, hwa⟩, NF.ins hpos hfo1, hfz⟩
