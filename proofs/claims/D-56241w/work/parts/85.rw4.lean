theorem lkCS : LkF RJ10 107 "SleeperRailway$Suitcase" ⟨"java/lang/Comparable", "compareTo", "(Ljava/lang/Object;)I"⟩ yX10_compareTo cX10_compareTo 2 (some .int) 1 := ⟨lw_F q2117 q1554 q1556 q156 q1558, ⟨q1536, List.mem_append_left _ q1535, q1557, q1555, q1553⟩, (by decide +kernel), (by decide +kernel)⟩
/-- one suitcase comes before another -/
abbrev suLt (g : Nat → Nat) (p q : Nat) : Prop := g (232 + 4 * p + 3) < g (232 + 4 * q + 3) ∨ g (232 + 4 * p + 3) = g (232 + 4 * q + 3) ∧ g (232 + 4 * p + 0) < g (232 + 4 * q + 0)
/-- the suitcases in the order in which they are ready -/
def SUS (g : Nat → Nat) (S : List Nat) : Prop := S.Perm (List.range (g 2)) ∧ S.Pairwise (suLt g)
theorem mono_pos {n : Nat} {P : Nat → Prop} (hm : ∀ i j, i < j → j < n → P j → P i) : ∃ pos, pos ≤ n ∧ (∀ i, i < pos → P i) ∧ ∀ i, pos ≤ i → i < n → ¬ P i := by
  induction n with
  | zero => exact ⟨0, Nat.le_refl _, fun i h => absurd h (Nat.not_lt_zero i), fun i _ h => absurd h (Nat.not_lt_zero i)⟩
  | succ n ih =>
    by_cases hv : P n
    · refine ⟨n + 1, Nat.le_refl _, fun i hi => ?_, fun i hi hi2 => absurd hi2 (by omega)⟩
      by_cases e : i = n
      · rw [e]; exact hv
      · exact hm i n (by omega) (Nat.lt_succ_self n) hv
    · obtain ⟨pos, h1, h2, h3⟩ := ih (fun i j hij hj => hm i j hij (by omega))
      refine ⟨pos, by omega, h2, fun i hi hi2 => ?_⟩
      by_cases e : i = n
      · rw [e]; exact hv
      · exact h3 i hi (by omega)
theorem suc_cmp {g : Nat → Nat} {i j : Nat} (hG : GB g) : (((if g (232 + 4 * i + 3) = g (232 + 4 * j + 3) then nI (g (232 + 4 * i + 0)) - nI (g (232 + 4 * j + 0)) else nI (g (232 + 4 * i + 3)) - nI (g (232 + 4 * j + 3))) : Int32) < 0 ↔ suLt g i j) ∧ (((if g (232 + 4 * i + 3) = g (232 + 4 * j + 3) then nI (g (232 + 4 * i + 0)) - nI (g (232 + 4 * j + 0)) else nI (g (232 + 4 * i + 3)) - nI (g (232 + 4 * j + 3))) : Int32) = 0 ↔ g (232 + 4 * i + 3) = g (232 + 4 * j + 3) ∧ g (232 + 4 * i + 0) = g (232 + 4 * j + 0)) := by
  have b1 := hG (232 + 4 * i + 0); have b2 := hG (232 + 4 * j + 0); have b3 := hG (232 + 4 * i + 3); have b4 := hG (232 + 4 * j + 3)
  have e0 : (0 : Int32).toInt = 0 := rfl
  unfold suLt
  by_cases e : g (232 + 4 * i + 3) = g (232 + 4 * j + 3)
  · rw [if_pos e, Int32.lt_iff_toInt_lt, ← Int32.toInt_inj, nI_subT (by omega) (by omega), e0]
    omega
  · rw [if_neg e, Int32.lt_iff_toInt_lt, ← Int32.toInt_inj, nI_subT (by omega) (by omega), e0]
    omega
theorem cmp_su {G : GG} {l : Launch} {h : AH} {g : Nat → Nat} {S : List Nat} {K : Nat → Nat} {x k : Nat} (hG : GB g) (hx : h x = some (SuE g k)) (hK : ∀ i, i < S.length → h (K i) = some (SuE g (S.getD i 0))) (hS : S.Pairwise (suLt g)) (hn : ∀ i, i < S.length → g (232 + 4 * S.getD i 0 + 0) ≠ g (232 + 4 * k + 0)) : ∃ pos, pos ≤ S.length ∧ CMP G l h x S.length pos false K "SleeperRailway$Suitcase" yX10_compareTo cX10_compareTo 2 1 ∧ (0 < pos → suLt g (S.getD (pos - 1) 0) k) ∧ (pos < S.length → suLt g k (S.getD pos 0)) := by
  have hmono : ∀ i j, i < j → j < S.length → suLt g (S.getD j 0) k → suLt g (S.getD i 0) k := by
    intro i j hij hj hk
    have h1 : suLt g (S.getD i 0) (S.getD j 0) := by
      have z := List.pairwise_iff_getElem.mp hS i j (by omega) hj hij
      rw [List.getD_eq_getElem?_getD, List.getD_eq_getElem?_getD, List.getElem?_eq_getElem (by omega), List.getElem?_eq_getElem hj, Option.getD_some, Option.getD_some]; exact z
    unfold suLt at *; omega
  obtain ⟨pos, h1, h2, h3⟩ := mono_pos hmono
  have ht : ∀ i, i < S.length → ¬ suLt g (S.getD i 0) k → suLt g k (S.getD i 0) := by
    intro i hi hk; have := hn i hi; unfold suLt at *; omega
  refine ⟨pos, h1, ⟨lkCS, ⟨8, _, _, _, rfl, .inl hx⟩, q1553, by decide, by decide, h1, (fun z => by cases z), fun i hi => ⟨_, ct_Suitcase_cmp hx (hK i hi) (by have := hG (232 + 4 * k + 3); omega) (by have := hG (232 + 4 * S.getD i 0 + 3); omega), ?_, ?_⟩⟩, fun z => h2 _ (by omega), fun z => ht _ z (h3 _ (Nat.le_refl _) z)⟩
  · rw [(suc_cmp hG).1]
    refine ⟨fun q => ⟨?_, fun z => by cases z.1⟩, fun q => ht i hi (h3 i q.1 hi)⟩
    rcases Nat.lt_or_ge i pos with z | z
    · have := h2 i z; unfold suLt at *; omega
    · exact z
  · rw [(suc_cmp hG).2]
    exact ⟨fun q => absurd q.2.symm (hn i hi), fun q => by cases q.1⟩
theorem ckk_su {G : GG} {l : Launch} {h : AH} {g : Nat → Nat} {x k : Nat} (hG : GB g) (hx : h x = some (SuE g k)) : CKK G l h x "SleeperRailway$Suitcase" yX10_compareTo cX10_compareTo 2 1 :=
  ⟨lkCS, ⟨8, _, _, _, rfl, .inl hx⟩, q1553, by decide, by decide, _, ct_Suitcase_cmp hx hx (by have := hG (232 + 4 * k + 3); omega) (by have := hG (232 + 4 * k + 3); omega)⟩
theorem TMp.cell {h : AH} {t mc n : Nat} {A K V : Nat → Nat} (hM : TMp h t mc n A K V) : ∃ f, h t = some (.inr (23, f)) := by
  obtain ⟨-, rt, L, R, P, C, lo, hi, ⟨x0, x1, x6, x7, x8, ht, -⟩, -⟩ := hM
  exact ⟨_, ht⟩
theorem ct_KS_iterator {G : GG} {l : Launch} {h : AH} {t mc n : Nat} {A K V : Nat → Nat} {v : Nat}  (hM : TMp h t mc n A K V) (hv : h v = some (.inr (30, [.ref t]))) : Ct G l yJ35_iterator cJ35_iterator 1 (some (.object "java/util/Iterator")) 4 (1) (4) [.ref v] h (fun r h2 => ∃ q, r = some (.ref q) ∧ h q = none ∧ bz G ≤ q ∧ VIT 29 h2 q t mc n 0 A ∧ Fr nM h h2) := by
  refine Ct.of (by decide) (Nat.le_of_ble_eq_true rfl) (cat1 rfl) (fun X hXl F HN => ?_)
  subst hXl
  obtain ⟨f, ht⟩ := hM.cell
  refine V_aload_n (i := 0) F dJ35_iterator_0 rfl rfl ?_
  refine V_getf F dJ35_iterator_1 fc_J35_7_J35 (.inl hv) rfl ?_
  refine V_instS F dJ35_iterator_4 q1938 ⟨23, _, _, _, rfl, (.inl ht)⟩ ?_
  refine VV.stk (st' := [.int (nI (1))]) rfl ?_
  refine V_if_eqN (tgt := 21) F dJ35_iterator_7 (by decide) (by omega) (fun c_7 => absurd c_7 (by decide)) (fun c_7 => ?_)
  refine V_aload_n (i := 0) F dJ35_iterator_10 rfl rfl ?_
  refine V_getf F dJ35_iterator_11 fc_J35_7_J35 (.inl hv) rfl ?_
  refine V_ckS F dJ35_iterator_14 q1938 ⟨23, _, _, _, rfl, (.inl ht)⟩ ?_
  refine V_callV (st := []) (nn := 0) F dJ35_iterator_17 lk_J35_15 (ct_keyIterator hM) ⟨23, _, _, _, rfl, (.inl ht)⟩ rfl rfl (Nat.le_of_ble_eq_true rfl) (Nat.le_of_ble_eq_true rfl) (Nat.le_of_ble_eq_true rfl) (by first | exact Nat.le_of_ble_eq_true rfl | omega) (by first | exact Nat.le_of_ble_eq_true rfl | omega) ?_
  rintro _ h2 ⟨q, rfl, z1, z2, z3, z4⟩
  exact V_aret F dJ35_iterator_20 (Or.inl ⟨_, rfl⟩) (Or.inr ⟨_, rfl⟩) (by first | exact Nat.le_of_ble_eq_true rfl | omega) (by first | exact Nat.le_of_ble_eq_true rfl | omega) ⟨q, rfl, z1, z2, z3, z4⟩
theorem ct_TS_iterator {G : GG} {l : Launch} {h : AH} {t mc n : Nat} {A K : Nat → Nat} {s : Nat}  (hS : TSp G h s t mc n A K) : Ct G l yJ47_iterator cJ47_iterator 1 (some (.object "java/util/Iterator")) 5 (2) (5) [.ref s] h (fun r h2 => ∃ q, r = some (.ref q) ∧ h q = none ∧ bz G ≤ q ∧ VIT 29 h2 q t mc n 0 A ∧ Fr nM h h2) := by
  refine Ct.of (by decide) (Nat.le_of_ble_eq_true rfl) (cat1 rfl) (fun X hXl F HN => ?_)
  subst hXl
  obtain ⟨f, ht⟩ := hS.2.cell
  refine V_aload_n (i := 0) F dJ47_iterator_0 rfl rfl ?_
  refine V_getf F dJ47_iterator_1 fc_J47_7_J47 (.inl hS.1) rfl ?_
  refine V_callF (st := []) (nn := 0) F dJ47_iterator_4 ⟨lw_F q1998 q2001 q2003 q114 q2005, ⟨q2000, List.mem_append_left _ q1999, q2004, q2002, q1771⟩, (by decide +kernel), (by decide +kernel)⟩ (ct_TM_keys hS.2) ⟨23, _, _, _, rfl, (.inl ht)⟩ rfl rfl (Nat.le_of_ble_eq_true rfl) (Nat.le_of_ble_eq_true rfl) (Nat.le_of_ble_eq_true rfl) (by first | exact Nat.le_of_ble_eq_true rfl | omega) (by first | exact Nat.le_of_ble_eq_true rfl | omega) ?_
  rintro _ h2 ⟨v, rfl, hv, hM2, hx2⟩
  refine V_callF (st := []) (nn := 0) F dJ47_iterator_9 ⟨lw_F q2020 q2024 q1935 q143 q1937, ⟨q2022, List.mem_append_left _ q2021, q1936, q1934, q2023⟩, (by decide +kernel), (by decide +kernel)⟩ (ct_KS_iterator hM2 hv) ⟨30, _, _, _, rfl, (.inl hv)⟩ rfl rfl (Nat.le_of_ble_eq_true rfl) (Nat.le_of_ble_eq_true rfl) (Nat.le_of_ble_eq_true rfl) (by first | exact Nat.le_of_ble_eq_true rfl | omega) (by first | exact Nat.le_of_ble_eq_true rfl | omega) ?_
  rintro _ h3 ⟨q, rfl, z1, z2, z3, z4⟩
  exact V_aret F dJ47_iterator_14 (Or.inl ⟨_, rfl⟩) (Or.inr ⟨_, rfl⟩) (by first | exact Nat.le_of_ble_eq_true rfl | omega) (by first | exact Nat.le_of_ble_eq_true rfl | omega) ⟨q, rfl, hx2.none z1, z2, z3, hx2.cal0 z4⟩
theorem TMp.notI {h : AH} {t mc n a c : Nat} {A K V : Nat → Nat} {f : List Value} (hM : TMp h t mc n A K V) (ha : h a = some (.inr (c, f))) (i : Nat) (hi : i < n) (z : A i = a) (hc : c ≠ 24 := by decide) : False := by
  obtain ⟨-, rt, L, R, P, C, lo, hi', ⟨x0, x1, x6, x7, x8, ht, -⟩, hT, -⟩ := hM
  exact ne_oo (hT i hi) ha (Ne.symm hc) z
theorem ct_RW_suitcaseAt {G : GG} {l : Launch} {h : AH} {r ti tia : Nat} {tf : Nat → Nat} {tt tl ta : Nat} {x : Nat → Nat} {A : Nat → Nat → Nat} {sm smc : Nat} {sA sK sV : Nat → Nat} {bm bmc : Nat} {bA bK bV : Nat → Nat} {g : Nat → Nat} {p : Int32}  (hW : RW G h r ((ti, tia, tf), (tt, tl, ta, x, A), (sm, smc, sA, sK, sV), (bm, bmc, bA, bK, bV)) g) (hI : GW g) (hid : ∀ i j, i < j → j < g 2 → g (232 + 4 * i + 0) < g (232 + 4 * j + 0)) : Ct G l yX2_suitcaseAt cX2_suitcaseAt 6 (some .int) 10 (60) (300) [.ref r, .int p] h (fun r h2 => (∃ S, SUS g S ∧ ((∃ k, k < g 2 ∧ nI k = p ∧ r = some (.int (nI (g (232 + 4 * S.getD k 0 + 0))))) ∨ ((∀ k, k < g 2 → nI k ≠ p) ∧ r = some (.int (-1))))) ∧ Fr nM h h2) := by
  refine Ct.of (by decide) (Nat.le_of_ble_eq_true rfl) (cat1 rfl) (fun X hXl F HN => ?_)
  subst hXl
  obtain ⟨hr, hWt, hWr, hWs, hWb⟩ : h r = some (.inr (2, [.ref ti, .ref tt, .ref sm, .ref bm, .int (nI (g 4)), .int (nI (g 5)), .int (nI (g 6)), .int (nI (g 7))])) ∧ RWt G h (ti, tia, tf) g ∧ RWr G h (tt, tl, ta, x, A) g ∧ RWs G h (sm, smc, sA, sK, sV) g ∧ RWb G h (bm, bmc, bA, bK, bV) g := id hW
  have h8 := hI.2.2.2.1
  have hbmc := hWs.2.1
  have hg4 := hI.b 4
  refine V_new F dX2_suitcaseAt_0 nw_X2_265 (by first | exact Nat.le_of_ble_eq_true rfl | omega) (by first | exact Nat.le_of_ble_eq_true rfl | omega) ?_
  intro st hfst hbst
  refine V_dup F dX2_suitcaseAt_3 rfl ?_
  refine V_callI (st := [.ref (st)]) (nn := 0) F dX2_suitcaseAt_4 lk_X2_267 (ct_TS_init (fun _ => 0) (hset_self (e := .inr (32, [.null])))) rfl rfl (Nat.le_of_ble_eq_true rfl) (Nat.le_of_ble_eq_true rfl) (Nat.le_of_ble_eq_true rfl) (by first | exact Nat.le_of_ble_eq_true rfl | omega) (by first | exact Nat.le_of_ble_eq_true rfl | omega) ?_
  rintro _ h1 ⟨rfl, t, ht0, A0, hS0, hx1⟩
  have hfr0 := ((Fr.rf (M := nM) (h := h)).nw (x := .inr (32, [.null])) hfst)
  have htz := hfr0.none ht0
  have hst0 := hfst
  have hF1 : Fr nM h h1 := hfr0.cal hx1 (Yo.m1 (Or.inr hfst))
  refine V_astore_n (i := 2) F dX2_suitcaseAt_7 rfl (Nat.le_of_ble_eq_true rfl) (Nat.le_of_ble_eq_true rfl) ?_
  refine V_aload_n (i := 0) F dX2_suitcaseAt_8 rfl rfl ?_
  refine V_getf F dX2_suitcaseAt_9 fc_X2_28_X2 (.inl (hF1.get hr id rfl)) rfl ?_
  refine V_callV (st := []) (nn := 0) F dX2_suitcaseAt_12 lk_X2_56 (ct_TM_values (hWs.1.fr0 hF1)) (hWs.1.fr0 hF1).isC rfl rfl (Nat.le_of_ble_eq_true rfl) (Nat.le_of_ble_eq_true rfl) (Nat.le_of_ble_eq_true rfl) (by first | exact Nat.le_of_ble_eq_true rfl | omega) (by first | exact Nat.le_of_ble_eq_true rfl | omega) ?_
  rintro _ hY1 ⟨v, rfl, hv, hM2, hx2⟩
  have p3 := hx2.get (hF1.get hr id rfl) id rfl
  have f4 : Fr nM h hY1 := hF1.cal0 hx2
  refine V_callF (st := []) (nn := 0) F dX2_suitcaseAt_15 ⟨lw_F q1894 q1974 q1976 q132 q1978, ⟨q1896, List.mem_append_left _ q1895, q1977, q1975, q1973⟩, (by decide +kernel), (by decide +kernel)⟩ (ct_Values_iterator hM2 hv) ⟨25, _, _, _, rfl, (.inl hv)⟩ rfl rfl (Nat.le_of_ble_eq_true rfl) (Nat.le_of_ble_eq_true rfl) (Nat.le_of_ble_eq_true rfl) (by first | exact Nat.le_of_ble_eq_true rfl | omega) (by first | exact Nat.le_of_ble_eq_true rfl | omega) ?_
  rintro _ hY5 ⟨it, rfl, hit1, hbit, hIt, hx6⟩
  have hit0 := f4.none hit1
  have p7 := hx6.get p3 id rfl
  have p8 := hx6.get hv id rfl
  have f9 : Fr nM h hY5 := f4.cal0 hx6
  refine V_astore_n (i := 3) F dX2_suitcaseAt_20 rfl (Nat.le_of_ble_eq_true rfl) (Nat.le_of_ble_eq_true rfl) ?_
  have loop_21 : ∀ (nn : Nat) (i mc : Nat) (S : List Nat) (Ak K : Nat → Nat) (hh : AH), g 2 - i < nn → i ≤ g 2 → mc ≤ i → VIT 28 hh it sm smc (g 2) i sA → TSp G hh st t mc i Ak K → (∀ j, j < i → h (Ak j) = none) → Fr nM h hh → S.length = i → S.Perm (List.range i) → S.Pairwise (suLt g) → (∀ j, j < S.length → K j = sV (S.getD j 0)) → VV G X 6 ((EQ G X (60) (300) (fun r h2 => (∃ S, SUS g S ∧ ((∃ k, k < g 2 ∧ nI k = p ∧ r = some (.int (nI (g (232 + 4 * S.getD k 0 + 0))))) ∨ ((∀ k, k < g 2 → nI k ≠ p) ∧ r = some (.int (-1))))) ∧ Fr nM h h2))) hh (10 + 2 * i) (40 + 8 * i) [some (.ref (r)), some (.int (p)), some (.ref (st)), some (.ref (it)), none, none] [] 21 := by
    intro nn
    induction nn with
    | zero => intro i mc S Ak K hh hm hi9 hmcb hI3 hT hA0 hF hSl hPm hSo hKS; exact absurd hm (by omega)
    | succ nn ih_21 =>
      intro i mc S Ak K hh hm hi9 hmcb hI3 hT hA0 hF hSl hPm hSo hKS
      have hSi : ∀ j, j < S.length → S.getD j 0 < i := fun j hj => List.mem_range.mp (hPm.subset (getD_mem (d := 0) hj))
      have hSr : ∀ j, j < S.length → S.getD j 0 < g 2 := fun j hj => by have := hSi j hj; omega
      refine V_aload_n (i := 3) F dX2_suitcaseAt_21 rfl rfl ?_
      refine V_callF (st := []) (nn := 0) F dX2_suitcaseAt_22 ⟨lw_F q2028 q863 q859 q139 q861, ⟨q460, List.mem_append_left _ q459, q860, q864, q862⟩, (by decide +kernel), (by decide +kernel)⟩ (ct_VI_hasNext (K := sK) (V := sV) hI3) hI3.isC28 rfl rfl (Nat.le_of_ble_eq_true rfl) (Nat.le_of_ble_eq_true rfl) (Nat.le_of_ble_eq_true rfl) (by first | exact Nat.le_of_ble_eq_true rfl | omega) (by first | exact Nat.le_of_ble_eq_true rfl | omega) ?_
      refine PRk ?_
      refine V_if_eqB (tgt := 51) F dX2_suitcaseAt_27 (by decide) (fun c_27 => ?_) (fun c_27 => ?_)
      · refine V_iconst (v := nI 0) F dX2_suitcaseAt_51 rfl ?_
        refine V_istore_n (i := 3) F dX2_suitcaseAt_52 rfl (Nat.le_of_ble_eq_true rfl) (Nat.le_of_ble_eq_true rfl) ?_
        refine V_aload_n (i := 2) F dX2_suitcaseAt_53 rfl rfl ?_
        have hie : i = g 2 := by omega
        subst hie
        refine V_callV (st := []) (nn := 0) F dX2_suitcaseAt_54 lk_X2_269 (ct_TS_iterator hT) hT.isC rfl rfl (Nat.le_of_ble_eq_true rfl) (Nat.le_of_ble_eq_true rfl) (Nat.le_of_ble_eq_true rfl) (by first | exact Nat.le_of_ble_eq_true rfl | omega) (by first | exact Nat.le_of_ble_eq_true rfl | omega) ?_
        rintro _ h6 ⟨it2, rfl, hjt1, hbjt, hJt, hx6⟩
        have hjt0 := hF.none hjt1
        have hF6 := hF.cal0 hx6
        have hT6 := hT.2.fr0 hx6
        refine V_astore (i := 4) F dX2_suitcaseAt_57 (Nat.le_of_ble_eq_true rfl) (Nat.le_of_ble_eq_true rfl) ?_
        have loop_59 : ∀ (nn : Nat) (k : Nat) (h7 : AH), g 2 - k < nn → k ≤ g 2 → VIT 29 h7 it2 t mc (g 2) k Ak → TMp h7 t mc (g 2) Ak K (fun _ => ad G 2) → Fr nM h h7 → (∀ j, j < k → nI j ≠ p) → VV G X 6 ((EQ G X (60) (300) (fun r h2 => (∃ S, SUS g S ∧ ((∃ k, k < g 2 ∧ nI k = p ∧ r = some (.int (nI (g (232 + 4 * S.getD k 0 + 0))))) ∨ ((∀ k, k < g 2 → nI k ≠ p) ∧ r = some (.int (-1))))) ∧ Fr nM h h2))) h7 (40) (200) [none, some (.int (p)), none, some (.int (nI (k))), some (.ref (it2)), none] [] 59 := by
          intro nn
          induction nn with
          | zero => intro k h7 hm3 hk9 hJ7 hT7 hF7 hno; exact absurd hm3 (by omega)
          | succ nn ih_59 =>
            intro k h7 hm3 hk9 hJ7 hT7 hF7 hno
            refine V_aload (i := 4) F dX2_suitcaseAt_59 rfl ?_
            refine V_callF (st := []) (nn := 0) F dX2_suitcaseAt_61 ⟨lw_F q2028 q857 q859 q139 q861, ⟨q460, List.mem_append_left _ q459, q860, q858, q856⟩, (by decide +kernel), (by decide +kernel)⟩ (ct_KI_hasNext (K := K) (V := sV) hJ7) hJ7.isC29 rfl rfl (Nat.le_of_ble_eq_true rfl) (Nat.le_of_ble_eq_true rfl) (Nat.le_of_ble_eq_true rfl) (by first | exact Nat.le_of_ble_eq_true rfl | omega) (by first | exact Nat.le_of_ble_eq_true rfl | omega) ?_
            refine PRk ?_
            refine V_if_eqB (tgt := 98) F dX2_suitcaseAt_66 (by decide) (fun c_66 => ?_) (fun c_66 => ?_)
            · refine V_iconst (v := -1) F dX2_suitcaseAt_98 rfl ?_
              exact V_iret F dX2_suitcaseAt_99 rfl (by first | exact Nat.le_of_ble_eq_true rfl | omega) (by first | exact Nat.le_of_ble_eq_true rfl | omega) ⟨⟨S, ⟨hPm, hSo⟩, Or.inr ⟨fun j hj => hno j (by omega), rfl⟩⟩, hF7⟩
            · have hk : k < g 2 := c_66
              refine V_aload (i := 4) F dX2_suitcaseAt_69 rfl ?_
              refine V_callF (st := []) (nn := 0) F dX2_suitcaseAt_71 ⟨lw_F q2030 q1120 q1122 q140 q1124, ⟨q868, List.mem_append_left _ q867, q1123, q1121, q856⟩, (by decide +kernel), (by decide +kernel)⟩ (ct_KI_next hT7 hJ7 (by omega) hk) hJ7.isC29 rfl rfl (Nat.le_of_ble_eq_true rfl) (Nat.le_of_ble_eq_true rfl) (Nat.le_of_ble_eq_true rfl) (by first | exact Nat.le_of_ble_eq_true rfl | omega) (by first | exact Nat.le_of_ble_eq_true rfl | omega) ?_
              rintro _ h8 ⟨rfl, hJ8, hx8⟩
              have hF8 : Fr nM h h8 := hF7.cal hx8 (Yo.m1 (Or.inr hjt0))
              obtain ⟨lr, hcj⟩ := id hJ7
              have hT8 := hT7.fr hx8 (fun z => by obtain ⟨f, hf⟩ := hT7.cell; exact ne_oo hf hcj (by decide) z) (fun i2 hi2 z => hT7.notI hcj i2 hi2 z)
              have hsk := ((hWs.fr0 hF8).2.2 _ (hSr k (by omega))).2
              rw [hKS k (by omega)]
              refine V_ckS F dX2_suitcaseAt_76 q2336 ⟨8, _, _, _, rfl, (.inl hsk)⟩ ?_
              refine V_astore (i := 5) F dX2_suitcaseAt_79 (Nat.le_of_ble_eq_true rfl) (Nat.le_of_ble_eq_true rfl) ?_
              refine V_iload_n (i := 3) F dX2_suitcaseAt_81 rfl rfl ?_
              refine V_iload_n (i := 1) F dX2_suitcaseAt_82 rfl rfl ?_
              refine V_icmp_ne (tgt := 92) F dX2_suitcaseAt_83 (by decide) (fun c_83 => ?_) (fun c_83 => ?_)
              · refine V_iinc (i := 3) (v := nI (k + 1)) F dX2_suitcaseAt_92 rfl (nI_add (k) 1) (Nat.le_of_ble_eq_true rfl) ?_
                refine V_goto (tgt := 59) F dX2_suitcaseAt_95 (by decide) ?_
                refine VV.weak (L' := [none, some (.int (p)), none, some (.int (nI (k + 1))), some (.ref (it2)), none]) (LW.c0 (LW.c1 (LW.c0 (LW.c1 (LW.c1 (LW.c0 LW.nil)))))) ?_
                exact ih_59 (k + 1) _ (by omega) (by omega) hJ8 hT8 hF8 (fun j hj => (Nat.lt_succ_iff_lt_or_eq.mp hj).elim (hno j) (fun e => e ▸ c_83))
              · refine V_aload (i := 5) F dX2_suitcaseAt_86 rfl ?_
                refine V_callV (st := []) (nn := 0) F dX2_suitcaseAt_88 lk_X2_78 (ct_Su_id hsk) ⟨8, _, _, _, rfl, (.inl hsk)⟩ rfl rfl (Nat.le_of_ble_eq_true rfl) (Nat.le_of_ble_eq_true rfl) (Nat.le_of_ble_eq_true rfl) (by first | exact Nat.le_of_ble_eq_true rfl | omega) (by first | exact Nat.le_of_ble_eq_true rfl | omega) ?_
                refine PRk ?_
                exact V_iret F dX2_suitcaseAt_91 rfl (by first | exact Nat.le_of_ble_eq_true rfl | omega) (by first | exact Nat.le_of_ble_eq_true rfl | omega) ⟨⟨S, ⟨hPm, hSo⟩, Or.inl ⟨k, hk, c_83, rfl⟩⟩, hF8⟩
        refine VV.weak (L' := [none, some (.int (p)), none, some (.int (nI (0))), some (.ref (it2)), none]) (LW.c0 (LW.c1 (LW.c0 (LW.c1 (LW.c1 (LW.c0 LW.nil)))))) ?_
        exact VV.wide (by omega) (by omega) (loop_59 (g 2 + 1) 0 _ (by omega) (Nat.zero_le _) hJt hT6 hF6 (fun j hj => absurd hj (Nat.not_lt_zero j)))
      · have hi : i < g 2 := c_27
        refine V_aload_n (i := 3) F dX2_suitcaseAt_30 rfl rfl ?_
        refine V_callF (st := []) (nn := 0) F dX2_suitcaseAt_31 ⟨lw_F q2030 q1136 q1138 q141 q1140, ⟨q868, List.mem_append_left _ q867, q1139, q1137, q862⟩, (by decide +kernel), (by decide +kernel)⟩ (ct_VI_next (hWs.1.fr0 hF) hI3 (by omega) hi) hI3.isC28 rfl rfl (Nat.le_of_ble_eq_true rfl) (Nat.le_of_ble_eq_true rfl) (Nat.le_of_ble_eq_true rfl) (by first | exact Nat.le_of_ble_eq_true rfl | omega) (by first | exact Nat.le_of_ble_eq_true rfl | omega) ?_
        rintro _ h3 ⟨rfl, hI4, hx3⟩
        have hF3 : Fr nM h h3 := hF.cal hx3 (Yo.m1 (Or.inr hit0))
        obtain ⟨lr, hci⟩ := id hI3
        have hT3 : TSp G h3 st t mc i Ak K := ⟨hx3.get hT.1 (fun z => ne_oo hT.1 hci (by decide) z) rfl, hT.2.fr hx3 (fun z => by obtain ⟨f, hf⟩ := hT.2.cell; exact ne_oo hf hci (by decide) z) (fun i2 hi2 z => hT.2.notI hci i2 hi2 z)⟩
        have hsk := ((hWs.fr0 hF3).2.2 i hi).2
        obtain ⟨pos, hp1, hcm, hp2, hp3⟩ := cmp_su (G := G) (l := xl X) hI.b hsk (K := K) (S := S) (fun j hj => by rw [hKS j hj]; exact ((hWs.fr0 hF3).2.2 _ (hSr j hj)).2) hSo (fun j hj => Nat.ne_of_lt (hid _ _ (by have := hSi j hj; omega) hi))
        refine V_ckS F dX2_suitcaseAt_36 q2336 ⟨8, _, _, _, rfl, (.inl hsk)⟩ ?_
        refine V_astore (i := 4) F dX2_suitcaseAt_39 (Nat.le_of_ble_eq_true rfl) (Nat.le_of_ble_eq_true rfl) ?_
        refine V_aload_n (i := 2) F dX2_suitcaseAt_41 rfl rfl ?_
        refine V_aload (i := 4) F dX2_suitcaseAt_42 rfl ?_
        refine V_callV (st := []) (nn := 1) F dX2_suitcaseAt_44 lk_X2_268 (ct_TS_add hT3 (fd := false) (pos := pos) (hSl ▸ hcm) rfl (ckk_su hI.b hsk)) hT3.isC rfl rfl (Nat.le_of_ble_eq_true rfl) (Nat.le_of_ble_eq_true rfl) (Nat.le_of_ble_eq_true rfl) (by first | exact Nat.le_of_ble_eq_true rfl | omega) (by first | exact Nat.le_of_ble_eq_true rfl | omega) ?_
        rintro _ h4 ⟨rfl, A2, hT4, hNF, hx4⟩
        have hF4 : Fr nM h h4 := hF3.cal hx4 (fun b z => z.elim (fun z => Or.inr (z ▸ htz)) (fun z => by obtain ⟨i2, hi2, z⟩ := z; exact Or.inr (z ▸ hA0 i2 hi2)))
        have hA4 : ∀ i2, i2 < i + 1 → h (A2 i2) = none := fun i2 hi2 => (hNF i2 hi2).elim (fun z => by obtain ⟨i3, hi3, z⟩ := z; rw [z]; exact hA0 i3 hi3) (fun z => hF3.none z)
        have ho4 := offK.mT (k := 28) hT3.2 (by decide) (by decide)
        have hI5 := hI4.fr hx4 (hI4.elim (fun _ q => ho4.o q)) (Or.inl rfl)
        refine V_pop F dX2_suitcaseAt_47 rfl ?_
        refine V_goto (tgt := 21) F dX2_suitcaseAt_48 (by decide) ?_
        refine VV.weak (L' := [some (.ref (r)), some (.int (p)), some (.ref (st)), some (.ref (it)), none, none]) (LW.c1 (LW.c1 (LW.c1 (LW.c1 (LW.c0 (LW.c0 LW.nil)))))) ?_
        refine VV.wide (by omega) (by omega) (ih_21 (i + 1) (mc + 1) (S.take pos ++ i :: S.drop pos) A2 _ _ (by omega) (by omega) (by omega) hI5 hT4 hA4 hF4 (by rw [ins_len hp1, hSl]) ?_ ?_ ?_)
        · rw [List.range_succ]; exact ins_perm.trans ((List.Perm.cons _ hPm).trans (List.perm_append_comm (l₁ := [i])))
        · exact ins_sorted (d := 0) hp1 hSo (fun _ _ _ z1 z2 => by unfold suLt at *; omega) hp2 hp3
        · intro j hj
          rw [ins_len hp1] at hj
          rcases Nat.lt_trichotomy j pos with q | q | q
          · rw [ins_l hp1 q, insF_l q]; exact hKS j (by omega)
          · subst q; rw [ins_e hp1, insF_e]
          · rw [ins_g hp1 q, insF_g q]; exact hKS (j - 1) (by omega)
  refine VV.weak (L' := [some (.ref (r)), some (.int (p)), some (.ref (st)), some (.ref (it)), none, none]) (LW.c1 (LW.c1 (LW.c1 (LW.c1 (LW.c0 (LW.c0 LW.nil)))))) ?_
  have hF9 := f9
  exact VV.wide (by omega) (by omega) (loop_21 (g 2 + 1) 0 0 [] A0 _ _ (by omega) (Nat.zero_le _) (Nat.zero_le _) hIt ⟨hx6.get (hx2.get hS0.1 id rfl) id rfl, (hS0.2.fr0 hx2).fr0 hx6⟩ (fun j hj => absurd hj (Nat.not_lt_zero j)) hF9 rfl (List.Perm.refl _) List.Pairwise.nil (fun j hj => absurd hj (Nat.not_lt_zero j)))
