/-- the place i, if there is one -/
def nx (n i : Nat) : Option Nat := if i < n then some i else none
/-- an iterator over a map (ci = 28: its values, ci = 29: its keys), i entries told -/
def VIT (ci : Nat) (h : AH) (it t mc n i : Nat) (A : Nat → Nat) : Prop := ∃ lr : Value, h it = some (.inr (ci, [va_rf ((nx n i).map A), lr, .int (nI mc), .ref t]))
theorem VIT.fr {ci : Nat} {M : Nat → Prop} {h h2 : AH} {it t mc n i : Nat} {A : Nat → Nat} (hI : VIT ci h it t mc n i A) (hx : Fr M h h2) (h1 : ¬ M it) (hc : ci = 28 ∨ ci = 29) : VIT ci h2 it t mc n i A := hI.imp (fun lr q => hx.get q h1 (by rcases hc with rfl | rfl <;> rfl))
theorem TMp.fr {M : Nat → Prop} {h h2 : AH} {t mc n : Nat} {A K V : Nat → Nat} (hM : TMp h t mc n A K V) (hx : Fr M h h2) (ht : ¬ M t) (hA : ∀ i, i < n → ¬ M (A i)) : TMp h2 t mc n A K V := by
  obtain ⟨hAI, rt, L, R, P, C, lo, hi, ⟨x0, x1, x6, x7, x8, hc, v1, v7⟩, hT, hw⟩ := hM
  refine ⟨hAI, rt, L, R, P, C, lo, hi, ?_, hT.fr hx hA, hw⟩
  obtain ⟨f', g1, g2, g3, g4, g5⟩ := hx.tm hc ht
  match f', g2, g1, g3, g4, g5 with
  | [y0, y1, y2, y3, y4, y5, y6, y7, y8], _, g1, g3, g4, g5 =>
    have e2 := Option.some.inj (g3 2 (by decide) (by decide))
    have e3 := Option.some.inj (g3 3 (by decide) (by decide))
    have e4 := Option.some.inj (g3 4 (by decide) (by decide))
    have e5 := Option.some.inj (g3 5 (by decide) (by decide))
    subst e2 e3 e4 e5
    refine ⟨y0, y1, y6, y7, y8, g1, ?_, ?_⟩
    · rcases g4 with q | ⟨v, q1, q2⟩
      · have q := Option.some.inj q
        subst q
        exact vw_fr v1 hx rfl
      · exact Or.inr ⟨v, Option.some.inj q1, q2⟩
    · rcases g5 with q | ⟨v, q1, q2⟩
      · have q := Option.some.inj q
        subst q
        exact vw_fr v7 hx rfl
      · exact Or.inr ⟨v, Option.some.inj q1, q2⟩

theorem ct_TM_get {G : GG} {l : Launch} {h : AH} {t mc n : Nat} {A K V : Nat → Nat} {k pos mL dC : Nat} {fd : Bool} {D : String} {y : MethodName} {cc : ByteArray}  (hM : TMp h t mc n A K V) (hcm : CMP G l h k n pos fd K D y cc mL dC) (hfd0 : fd = true) : Ct G l yJ10_get cJ10_get 3 (some (.object "java/lang/Object")) 7 (0) (0) [.ref t, .ref k] h (PR (.ref (V pos)) h) := by
  refine Ct.of (by decide) (Nat.le_of_ble_eq_true rfl) (cat1 rfl) (fun X hXl F HN => ?_)
  subst hXl
  subst hfd0
  have hpos : pos < n := hcm.2.2.2.2.2.2.1 rfl
  have hM0 := hM
  obtain ⟨hAI, rt, L, R, P, C, lo, hi, hC, hT, hw⟩ := hM0
  obtain ⟨x0, x1, x6, x7, x8, ht, hv1, hv7⟩ := id hC
  refine V_aload_n (i := 0) F dJ10_get_0 rfl rfl ?_
  refine V_aload_n (i := 1) F dJ10_get_1 rfl rfl ?_
  refine V_callV (st := []) F dJ10_get_2 lk_J10_50 (ct_getEntry hM hcm) ⟨23, _, _, _, rfl, (.inl ht)⟩ rfl rfl (Nat.le_of_ble_eq_true rfl) (Nat.le_of_ble_eq_true rfl) (Nat.le_of_ble_eq_true rfl) (by first | exact Nat.le_of_ble_eq_true rfl | omega) (by first | exact Nat.le_of_ble_eq_true rfl | omega) ?_
  refine PRk ?_
  refine VV.stk (st' := [.ref (A pos)]) (by rw [if_pos rfl]; rfl) ?_
  refine V_astore_n (i := 2) F dJ10_get_5 rfl (Nat.le_of_ble_eq_true rfl) (Nat.le_of_ble_eq_true rfl) ?_
  refine V_aload_n (i := 2) F dJ10_get_6 rfl rfl ?_
  refine V_ifnonnull (tgt := 14) F dJ10_get_7 (by decide) ?_
  refine V_aload_n (i := 2) F dJ10_get_14 rfl rfl ?_
  refine V_getf F dJ10_get_15 fc_J10_58_J41 (.inl (hT pos hpos)) rfl ?_
  exact V_aret F dJ10_get_18 (Or.inl ⟨_, rfl⟩) (Or.inr ⟨_, rfl⟩) (by first | exact Nat.le_of_ble_eq_true rfl | omega) (by first | exact Nat.le_of_ble_eq_true rfl | omega) ⟨rfl, rfl⟩
theorem ct_TM_has {G : GG} {l : Launch} {h : AH} {t mc n : Nat} {A K V : Nat → Nat} {k pos mL dC : Nat} {fd : Bool} {D : String} {y : MethodName} {cc : ByteArray}  (hM : TMp h t mc n A K V) (hcm : CMP G l h k n pos fd K D y cc mL dC) : Ct G l yJ10_containsKey cJ10_containsKey 2 (some .boolean) 7 (0) (0) [.ref t, .ref k] h (PR (.int (cB fd)) h) := by
  refine Ct.of (by decide) (Nat.le_of_ble_eq_true rfl) (cat1 rfl) (fun X hXl F HN => ?_)
  subst hXl
  cases fd with
  | false =>
    have hM0 := hM
    obtain ⟨hAI, rt, L, R, P, C, lo, hi, hC, hT, hw⟩ := hM0
    obtain ⟨x0, x1, x6, x7, x8, ht, hv1, hv7⟩ := id hC
    refine V_aload_n (i := 0) F dJ10_containsKey_0 rfl rfl ?_
    refine V_aload_n (i := 1) F dJ10_containsKey_1 rfl rfl ?_
    refine V_callV (st := []) F dJ10_containsKey_2 lk_J10_50 (ct_getEntry hM hcm) ⟨23, _, _, _, rfl, (.inl ht)⟩ rfl rfl (Nat.le_of_ble_eq_true rfl) (Nat.le_of_ble_eq_true rfl) (Nat.le_of_ble_eq_true rfl) (by first | exact Nat.le_of_ble_eq_true rfl | omega) (by first | exact Nat.le_of_ble_eq_true rfl | omega) ?_
    refine PRk ?_
    refine VV.stk (st' := [.null]) (by rw [if_neg (fun z => by cases z)]; rfl) ?_
    refine V_ifnullN (tgt := 12) F dJ10_containsKey_5 (by decide) ?_
    refine V_iconst (v := nI 0) F dJ10_containsKey_12 rfl ?_
    exact V_iret F dJ10_containsKey_13 rfl (by first | exact Nat.le_of_ble_eq_true rfl | omega) (by first | exact Nat.le_of_ble_eq_true rfl | omega) ⟨rfl, rfl⟩
  | true =>
    have hpos : pos < n := hcm.2.2.2.2.2.2.1 rfl
    have hM0 := hM
    obtain ⟨hAI, rt, L, R, P, C, lo, hi, hC, hT, hw⟩ := hM0
    obtain ⟨x0, x1, x6, x7, x8, ht, hv1, hv7⟩ := id hC
    refine V_aload_n (i := 0) F dJ10_containsKey_0 rfl rfl ?_
    refine V_aload_n (i := 1) F dJ10_containsKey_1 rfl rfl ?_
    refine V_callV (st := []) F dJ10_containsKey_2 lk_J10_50 (ct_getEntry hM hcm) ⟨23, _, _, _, rfl, (.inl ht)⟩ rfl rfl (Nat.le_of_ble_eq_true rfl) (Nat.le_of_ble_eq_true rfl) (Nat.le_of_ble_eq_true rfl) (by first | exact Nat.le_of_ble_eq_true rfl | omega) (by first | exact Nat.le_of_ble_eq_true rfl | omega) ?_
    refine PRk ?_
    refine VV.stk (st' := [.ref (A pos)]) (by rw [if_pos rfl]; rfl) ?_
    refine V_ifnull F dJ10_containsKey_5 ?_
    refine V_iconst (v := nI 1) F dJ10_containsKey_8 rfl ?_
    refine V_goto (tgt := 13) F dJ10_containsKey_9 (by decide) ?_
    exact V_iret F dJ10_containsKey_13 rfl (by first | exact Nat.le_of_ble_eq_true rfl | omega) (by first | exact Nat.le_of_ble_eq_true rfl | omega) ⟨rfl, rfl⟩
theorem ct_firstEntry {G : GG} {l : Launch} {h : AH} {t mc n : Nat} {A K V : Nat → Nat}  (hM : TMp h t mc n A K V) : Ct G l yJ10_getFirstEntry cJ10_getFirstEntry 2 (some (.object "java/util/TreeMap$Entry")) 0 (0) (0) [.ref t] h (PR (va_rf ((nx n 0).map A)) h) := by
  refine Ct.of (by decide) (Nat.le_of_ble_eq_true rfl) (cat1 rfl) (fun X hXl F HN => ?_)
  subst hXl
  obtain ⟨hAI, rt, L, R, P, C, lo, hi, hC, hT, hw⟩ := hM
  obtain ⟨x0, x1, x6, x7, x8, ht, hv1, hv7⟩ := id hC
  have loop : ∀ (nn j : Nat), j < nn → j < n → lo j = 0 → VV G X 2 (EQ G X 0 0 (PR (va_rf ((nx n 0).map A)) h)) h 0 0 [none, some (.ref (A j))] [] 9 := by
    intro nn
    induction nn with
    | zero => intro j hm hj hl; exact absurd hm (by omega)
    | succ nn ih =>
      intro j hm hj hl
      cases hch : L j with
      | none =>
        have hjt : j = 0 := by have := hw.2.1 j hj hch; omega
        refine V_aload_n (i := 1) F dJ10_getFirstEntry_9 rfl rfl ?_
        refine V_getf F dJ10_getFirstEntry_10 fc_J10_111_J41 (.inl (hT j hj)) rfl ?_
        refine VV.stk (st' := [.null]) (by first | (rw [hch]; rfl) | rw [hch]) ?_
        refine V_ifnullN (tgt := 24) F dJ10_getFirstEntry_13 (by decide) ?_
        refine V_aload_n (i := 1) F dJ10_getFirstEntry_24 rfl rfl ?_
        exact V_aret F dJ10_getFirstEntry_25 (Or.inl ⟨_, rfl⟩) (Or.inr ⟨_, rfl⟩) (by first | exact Nat.le_of_ble_eq_true rfl | omega) (by first | exact Nat.le_of_ble_eq_true rfl | omega) ⟨by rw [hjt]; unfold nx; rw [if_pos (by omega)]; rfl, rfl⟩
      | some c =>
        have hcn : c < n := hw.bL hj hch
        refine V_aload_n (i := 1) F dJ10_getFirstEntry_9 rfl rfl ?_
        refine V_getf F dJ10_getFirstEntry_10 fc_J10_111_J41 (.inl (hT j hj)) rfl ?_
        refine VV.stk (st' := [.ref (A c)]) (by first | (rw [hch]; rfl) | rw [hch]) ?_
        refine V_ifnull F dJ10_getFirstEntry_13 ?_
        refine V_aload_n (i := 1) F dJ10_getFirstEntry_16 rfl rfl ?_
        refine V_getf F dJ10_getFirstEntry_17 fc_J10_111_J41 (.inl (hT j hj)) rfl ?_
        refine VV.stk (st' := [.ref (A c)]) (by first | (rw [hch]; rfl) | rw [hch]) ?_
        refine V_astore_n (i := 1) F dJ10_getFirstEntry_20 rfl (Nat.le_of_ble_eq_true rfl) (Nat.le_of_ble_eq_true rfl) ?_
        refine V_goto (tgt := 9) F dJ10_getFirstEntry_21 (by decide) ?_
        exact ih c (by have := hw.2.2.1 j c hj hch; omega) hcn (by have := hw.2.2.1 j c hj hch; omega)
  cases hrt : rt with
  | none =>
    refine V_aload_n (i := 0) F dJ10_getFirstEntry_0 rfl rfl ?_
    refine V_getf F dJ10_getFirstEntry_1 fc_J10_101_J10 (.inl ht) (by rw [hrt]; rfl) ?_
    refine V_astore_nN (i := 1) F dJ10_getFirstEntry_4 rfl (Nat.le_of_ble_eq_true rfl) (Nat.le_of_ble_eq_true rfl) ?_
    refine V_aload_nN (i := 1) F dJ10_getFirstEntry_5 rfl rfl ?_
    refine V_ifnullN (tgt := 24) F dJ10_getFirstEntry_6 (by decide) ?_
    refine V_aload_nN (i := 1) F dJ10_getFirstEntry_24 rfl rfl ?_
    exact V_aret F dJ10_getFirstEntry_25 (Or.inl ⟨_, rfl⟩) (Or.inl rfl) (by first | exact Nat.le_of_ble_eq_true rfl | omega) (by first | exact Nat.le_of_ble_eq_true rfl | omega) ⟨by unfold nx; rw [if_neg (by have := hw.2.2.2.2.2.2.2.2 hrt; omega)]; rfl, rfl⟩
  | some r =>
    have hr1 := hw.2.2.2.2.2.2.2.1 r hrt
    refine V_aload_n (i := 0) F dJ10_getFirstEntry_0 rfl rfl ?_
    refine V_getf F dJ10_getFirstEntry_1 fc_J10_101_J10 (.inl ht) (by rw [hrt]; rfl) ?_
    refine V_astore_n (i := 1) F dJ10_getFirstEntry_4 rfl (Nat.le_of_ble_eq_true rfl) (Nat.le_of_ble_eq_true rfl) ?_
    refine V_aload_n (i := 1) F dJ10_getFirstEntry_5 rfl rfl ?_
    refine V_ifnull F dJ10_getFirstEntry_6 ?_
    refine VV.weak (L' := [none, some (.ref (A r))]) (LW.c0 (LW.c1 LW.nil)) ?_
    exact loop (r + 1) r (Nat.lt_succ_self r) hr1.1 hr1.2.2.1
theorem ct_J10_key {G : GG} {l : Launch} {h : AH} {n i : Nat} {A K V : Nat → Nat} {L R P : Nat → Option Nat} {C : Nat → Bool} (hT : TN h n A K V L R P C) (hi1 : i < n) : Ct G l yJ10_key cJ10_key 1 (some (.object "java/lang/Object")) 0 (0) (0) [.ref (A i)] h (PR (.ref (K i)) h) := by
  refine Ct.of (by decide) (Nat.le_of_ble_eq_true rfl) (cat1 rfl) (fun X hXl F HN => ?_)
  subst hXl
  refine V_aload_n (i := 0) F dJ10_key_0 rfl rfl ?_
  refine V_ifnonnull (tgt := 12) F dJ10_key_1 (by decide) ?_
  refine V_aload_n (i := 0) F dJ10_key_12 rfl rfl ?_
  refine V_getf F dJ10_key_13 fc_J10_105_J41 (.inl (hT i hi1)) rfl ?_
  exact V_aret F dJ10_key_16 (Or.inl ⟨_, rfl⟩) (Or.inr ⟨_, rfl⟩) (by first | exact Nat.le_of_ble_eq_true rfl | omega) (by first | exact Nat.le_of_ble_eq_true rfl | omega) ⟨rfl, rfl⟩
theorem ct_TM_firstKey {G : GG} {l : Launch} {h : AH} {t mc n : Nat} {A K V : Nat → Nat}  (hM : TMp h t mc n A K V) (hn0 : 0 < n) : Ct G l yJ10_firstKey cJ10_firstKey 1 (some (.object "java/lang/Object")) 1 (0) (0) [.ref t] h (PR (.ref (K 0)) h) := by
  refine Ct.of (by decide) (Nat.le_of_ble_eq_true rfl) (cat1 rfl) (fun X hXl F HN => ?_)
  subst hXl
  have hM0 := hM
  obtain ⟨hAI, rt, L, R, P, C, lo, hi, hC, hT, hw⟩ := hM0
  obtain ⟨x0, x1, x6, x7, x8, ht, hv1, hv7⟩ := id hC
  refine V_aload_n (i := 0) F dJ10_firstKey_0 rfl rfl ?_
  refine V_callV (st := []) F dJ10_firstKey_1 lk_J10_54 (ct_firstEntry hM) ⟨23, _, _, _, rfl, (.inl ht)⟩ rfl rfl (Nat.le_of_ble_eq_true rfl) (Nat.le_of_ble_eq_true rfl) (Nat.le_of_ble_eq_true rfl) (by first | exact Nat.le_of_ble_eq_true rfl | omega) (by first | exact Nat.le_of_ble_eq_true rfl | omega) ?_
  refine PRk ?_
  refine VV.stk (st' := [.ref (A 0)]) (by unfold nx; rw [if_pos hn0]; rfl) ?_
  refine V_callS (st := []) F dJ10_firstKey_4 lk_J10_72 (ct_J10_key hT hn0) rfl rfl (Nat.le_of_ble_eq_true rfl) (Nat.le_of_ble_eq_true rfl) (Nat.le_of_ble_eq_true rfl) (by first | exact Nat.le_of_ble_eq_true rfl | omega) (by first | exact Nat.le_of_ble_eq_true rfl | omega) ?_
  refine PRk ?_
  exact V_aret F dJ10_firstKey_7 (Or.inl ⟨_, rfl⟩) (Or.inr ⟨_, rfl⟩) (by first | exact Nat.le_of_ble_eq_true rfl | omega) (by first | exact Nat.le_of_ble_eq_true rfl | omega) ⟨rfl, rfl⟩
theorem ct_successor {G : GG} {l : Launch} {h : AH} {t n mc nz : Nat} {A K V : Nat → Nat} {L R P : Nat → Option Nat} {C : Nat → Bool} {rt : Option Nat} {lo hi : Nat → Nat} {i : Nat} (hC : TC h t nz mc (rt.map A)) (hT : TN h n A K V L R P C) (hAI : AI n A) (hw : WT n rt L R P lo hi) (hi1 : i < n) : Ct G l yJ10_successor cJ10_successor 3 (some (.object "java/util/TreeMap$Entry")) 0 (0) (0) [.ref (A i)] h (PR (va_rf ((nx n (i + 1)).map A)) h) := by
  refine Ct.of (by decide) (Nat.le_of_ble_eq_true rfl) (cat1 rfl) (fun X hXl F HN => ?_)
  subst hXl
  obtain ⟨x0, x1, x6, x7, x8, ht, hv1, hv7⟩ := id hC
  have loopL : ∀ (nn j : Nat), j < nn → j < n → lo j = i + 1 → VV G X 3 (EQ G X 0 0 (PR (va_rf ((nx n (i + 1)).map A)) h)) h 0 0 [none, some (.ref (A j)), none] [] 18 := by
    intro nn
    induction nn with
    | zero => intro j hm hj hl; exact absurd hm (by omega)
    | succ nn ih =>
      intro j hm hj hl
      cases hch : L j with
      | none =>
        have hjt : j = i + 1 := by have := hw.2.1 j hj hch; omega
        refine V_aload_n (i := 1) F dJ10_successor_18 rfl rfl ?_
        refine V_getf F dJ10_successor_19 fc_J10_111_J41 (.inl (hT j hj)) rfl ?_
        refine VV.stk (st' := [.null]) (by first | (rw [hch]; rfl) | rw [hch]) ?_
        refine V_ifnullN (tgt := 33) F dJ10_successor_22 (by decide) ?_
        refine V_aload_n (i := 1) F dJ10_successor_33 rfl rfl ?_
        exact V_aret F dJ10_successor_34 (Or.inl ⟨_, rfl⟩) (Or.inr ⟨_, rfl⟩) (by first | exact Nat.le_of_ble_eq_true rfl | omega) (by first | exact Nat.le_of_ble_eq_true rfl | omega) ⟨by rw [hjt]; unfold nx; rw [if_pos (by omega)]; rfl, rfl⟩
      | some c =>
        have hcn : c < n := hw.bL hj hch
        refine V_aload_n (i := 1) F dJ10_successor_18 rfl rfl ?_
        refine V_getf F dJ10_successor_19 fc_J10_111_J41 (.inl (hT j hj)) rfl ?_
        refine VV.stk (st' := [.ref (A c)]) (by first | (rw [hch]; rfl) | rw [hch]) ?_
        refine V_ifnull F dJ10_successor_22 ?_
        refine V_aload_n (i := 1) F dJ10_successor_25 rfl rfl ?_
        refine V_getf F dJ10_successor_26 fc_J10_111_J41 (.inl (hT j hj)) rfl ?_
        refine VV.stk (st' := [.ref (A c)]) (by first | (rw [hch]; rfl) | rw [hch]) ?_
        refine V_astore_n (i := 1) F dJ10_successor_29 rfl (Nat.le_of_ble_eq_true rfl) (Nat.le_of_ble_eq_true rfl) ?_
        refine V_goto (tgt := 18) F dJ10_successor_30 (by decide) ?_
        exact ih c (by have := hw.2.2.1 j c hj hch; omega) hcn (by have := hw.2.2.1 j c hj hch; omega)
  have loopP : ∀ (nn c : Nat), n - (hi c - lo c) < nn → c < n → hi c = i + 1 → VV G X 3 (EQ G X 0 0 (PR (va_rf ((nx n (i + 1)).map A)) h)) h 0 0 [none, some (va_rf ((P c).map A)), some (.ref (A c))] [] 42 := by
    intro nn
    induction nn with
    | zero => intro j hm hj hl; exact absurd hm (by omega)
    | succ nn ih =>
      intro c hm hc hh
      cases hp : P c with
      | none =>
        refine VV.loc (L' := [none, some (.null), some (.ref (A c))]) rfl ?_
        refine V_aload_nN (i := 1) F dJ10_successor_42 rfl rfl ?_
        refine V_ifnullN (tgt := 64) F dJ10_successor_43 (by decide) ?_
        refine V_aload_nN (i := 1) F dJ10_successor_64 rfl rfl ?_
        exact V_aret F dJ10_successor_65 (Or.inl ⟨_, rfl⟩) (Or.inl rfl) (by first | exact Nat.le_of_ble_eq_true rfl | omega) (by first | exact Nat.le_of_ble_eq_true rfl | omega) ⟨by unfold nx; rw [if_neg (by have h1 := hw.2.2.2.2.2.1 c hc hp; have h2 := hw.2.2.2.2.2.2.2.1 c h1; omega)]; rfl, rfl⟩
      | some p =>
        have hpn : p < n := hw.bP hc hp
        have hpi := hw.Pin hc hp
        have hc1 := hw.1 c hc
        have hp1 := hw.1 p hpn
        refine VV.loc (L' := [none, some (.ref (A p)), some (.ref (A c))]) rfl ?_
        by_cases hrp : R p = some c
        · refine V_aload_n (i := 1) F dJ10_successor_42 rfl rfl ?_
          refine V_ifnull F dJ10_successor_43 ?_
          refine V_aload_n (i := 2) F dJ10_successor_46 rfl rfl ?_
          refine V_aload_n (i := 1) F dJ10_successor_47 rfl rfl ?_
          refine V_getf F dJ10_successor_48 fc_J10_114_J41 (.inl (hT p hpn)) rfl ?_
          refine VV.stk (st' := [.ref (A c), .ref (A c)]) (by first | (rw [hrp]; rfl) | rw [hrp]) ?_
          refine V_acmp_ne (rx := some (A c)) (ry := some (A c)) (tgt := 64) F dJ10_successor_51 (by decide) (fun c_51 => absurd rfl c_51) (fun c_51 => ?_)
          refine V_aload_n (i := 1) F dJ10_successor_54 rfl rfl ?_
          refine V_astore_n (i := 2) F dJ10_successor_55 rfl (Nat.le_of_ble_eq_true rfl) (Nat.le_of_ble_eq_true rfl) ?_
          refine V_aload_n (i := 1) F dJ10_successor_56 rfl rfl ?_
          refine V_getf F dJ10_successor_57 fc_J10_124_J41 (.inl (hT p hpn)) rfl ?_
          refine V_astore_nQ (i := 1) F dJ10_successor_60 rfl (Nat.le_of_ble_eq_true rfl) (Nat.le_of_ble_eq_true rfl) ?_
          refine V_goto (tgt := 42) F dJ10_successor_61 (by decide) ?_
          refine VV.loc (L' := [none, some (va_rf ((P p).map A)), some (.ref (A p))]) rfl ?_
          exact ih p (by have := hw.2.2.2.2.1 p c hpn hrp; omega) hpn (by have := hw.2.2.2.2.1 p c hpn hrp; omega)
        · refine V_aload_n (i := 1) F dJ10_successor_42 rfl rfl ?_
          refine V_ifnull F dJ10_successor_43 ?_
          refine V_aload_n (i := 2) F dJ10_successor_46 rfl rfl ?_
          refine V_aload_n (i := 1) F dJ10_successor_47 rfl rfl ?_
          refine V_getf F dJ10_successor_48 fc_J10_114_J41 (.inl (hT p hpn)) rfl ?_
          refine V_acmp_ne (rx := some (A c)) (ry := (R p).map A) (tgt := 64) F dJ10_successor_51 (by decide) (fun c_51 => ?_) (fun c_51 => (hrp (map_eq hAI (fun j hj => hw.bR hpn hj) hc c_51.symm)).elim)
          refine V_aload_n (i := 1) F dJ10_successor_64 rfl rfl ?_
          exact V_aret F dJ10_successor_65 (Or.inl ⟨_, rfl⟩) (Or.inr ⟨_, rfl⟩) (by first | exact Nat.le_of_ble_eq_true rfl | omega) (by first | exact Nat.le_of_ble_eq_true rfl | omega) ⟨by have h1 := (hw.2.2.2.2.2.2.1 c p hc hp).2.resolve_right hrp; have h2 := hw.2.2.1 p c hpn h1; unfold nx; have h3 : i + 1 = p := (by omega); rw [if_pos (by omega), h3]; rfl, rfl⟩
  cases hri : R i with
  | none =>
    refine V_aload_n (i := 0) F dJ10_successor_0 rfl rfl ?_
    refine V_ifnonnull (tgt := 6) F dJ10_successor_1 (by decide) ?_
    refine V_aload_n (i := 0) F dJ10_successor_6 rfl rfl ?_
    refine V_getf F dJ10_successor_7 fc_J10_114_J41 (.inl (hT i hi1)) rfl ?_
    refine VV.stk (st' := [.null]) (by first | (rw [hri]; rfl) | rw [hri]) ?_
    refine V_ifnullN (tgt := 35) F dJ10_successor_10 (by decide) ?_
    refine V_aload_n (i := 0) F dJ10_successor_35 rfl rfl ?_
    refine V_getf F dJ10_successor_36 fc_J10_124_J41 (.inl (hT i hi1)) rfl ?_
    refine V_astore_nQ (i := 1) F dJ10_successor_39 rfl (Nat.le_of_ble_eq_true rfl) (Nat.le_of_ble_eq_true rfl) ?_
    refine V_aload_n (i := 0) F dJ10_successor_40 rfl rfl ?_
    refine V_astore_n (i := 2) F dJ10_successor_41 rfl (Nat.le_of_ble_eq_true rfl) (Nat.le_of_ble_eq_true rfl) ?_
    refine VV.weak (L' := [none, some (va_rf ((P i).map A)), some (.ref (A i))]) (LW.c0 (LW.c1 (LW.c1 LW.nil))) ?_
    exact loopP _ i (Nat.lt_succ_self _) hi1 (hw.2.2.2.1 i hi1 hri)
  | some r =>
    have hrn : r < n := hw.bR hi1 hri
    refine V_aload_n (i := 0) F dJ10_successor_0 rfl rfl ?_
    refine V_ifnonnull (tgt := 6) F dJ10_successor_1 (by decide) ?_
    refine V_aload_n (i := 0) F dJ10_successor_6 rfl rfl ?_
    refine V_getf F dJ10_successor_7 fc_J10_114_J41 (.inl (hT i hi1)) rfl ?_
    refine VV.stk (st' := [.ref (A r)]) (by first | (rw [hri]; rfl) | rw [hri]) ?_
    refine V_ifnull F dJ10_successor_10 ?_
    refine V_aload_n (i := 0) F dJ10_successor_13 rfl rfl ?_
    refine V_getf F dJ10_successor_14 fc_J10_114_J41 (.inl (hT i hi1)) rfl ?_
    refine VV.stk (st' := [.ref (A r)]) (by first | (rw [hri]; rfl) | rw [hri]) ?_
    refine V_astore_n (i := 1) F dJ10_successor_17 rfl (Nat.le_of_ble_eq_true rfl) (Nat.le_of_ble_eq_true rfl) ?_
    refine VV.weak (L' := [none, some (.ref (A r)), none]) (LW.c0 (LW.c1 (LW.c0 LW.nil))) ?_
    exact loopL (r + 1) r (Nat.lt_succ_self r) hrn (hw.2.2.2.2.1 i r hi1 hri).2.2.1
