set_option maxRecDepth 100000
/-! ===== texts of the class ===== -/
theorem txc_0 : txl "" = [] := by decide +kernel
theorem txc_45 : txl "-" = [45] := by decide +kernel
theorem txc_43 : txl "+" = [43] := by decide +kernel
theorem txc_64 : txl "@" = [64] := by decide +kernel
theorem txc_62 : txl ">" = [62] := by decide +kernel
theorem txc_116 : txl "t" = [116] := by decide +kernel
theorem txc_58 : txl ":" = [58] := by decide +kernel
theorem txc_32 : txl " " = [32] := by decide +kernel
/-- a train's stops as the class writes them -/
def rsT (g : Nat → Nat) (t : Nat) : Nat → List Nat
  | 0 => []
  | 1 => dgL (plG g t 0)
  | j + 2 => rsT g t (j + 1) ++ ([45] ++ dgL (ldG g t j) ++ [45]) ++ dgL (plG g t (j + 1))
theorem dgl1 {x : Nat} (h : x < 10) : (dgL x).length = 1 := by rw [dgL_1 (by omega)]; rfl
theorem rsT_len {g : Nat → Nat} {t : Nat} (hp : ∀ k, k < g (16 + 36 * t + 3) → plG g t k < 10) (hl : ∀ k, k < g (16 + 36 * t + 3) - 1 → ldG g t k < 10) : ∀ j, j ≤ g (16 + 36 * t + 3) → (rsT g t j).length ≤ 4 * j
  | 0, _ => Nat.zero_le _
  | 1, h => by show (dgL (plG g t 0)).length ≤ 4; rw [dgl1 (hp 0 (by omega))]; decide
  | j + 2, h => by
    have h1 := rsT_len hp hl (j + 1) (by omega)
    have h2 := dgl1 (hl j (by omega))
    have h3 := dgl1 (hp (j + 1) (by omega))
    unfold rsT
    simp only [List.length_append, List.length_cons, List.length_nil]
    omega
theorem rsT_rtL {g : Nat → Nat} {t : Nat} : ∀ j, dgL t ++ [58] ++ rsT g t (j + 1) = rtL g t j
  | 0 => by
    show dgL t ++ [58] ++ dgL (plG g t 0) = dgL t ++ (58 :: dgL (plG g t 0))
    rw [List.append_assoc]; rfl
  | j + 1 => by
    unfold rtL
    rw [← rsT_rtL j]
    show dgL t ++ [58] ++ (rsT g t (j + 1) ++ ([45] ++ dgL (ldG g t j) ++ [45]) ++ dgL (plG g t (j + 1))) = _
    simp only [List.append_assoc, List.cons_append, List.nil_append]
/-- the train's text -/
def trT (g : Nat → Nat) (t : Nat) : List Nat := rsT g t (g (16 + 36 * t + 3)) ++ (if g (16 + 36 * t + 2) = 0 then [] else [43] ++ dgL (g (16 + 36 * t + 2)))
theorem trT_rtT {g : Nat → Nat} {t : Nat} (h : 1 ≤ g (16 + 36 * t + 3)) : dgL t ++ [58] ++ trT g t = rtT g t := by
  obtain ⟨s, hs⟩ : ∃ s, g (16 + 36 * t + 3) = s + 1 := ⟨g (16 + 36 * t + 3) - 1, by omega⟩
  unfold trT rtT
  rw [hs, Nat.add_sub_cancel, ← rsT_rtL s]
  by_cases h2 : g (16 + 36 * t + 2) = 0
  · rw [if_pos h2, if_neg (by omega), List.append_nil]
  · rw [if_neg h2, if_pos (by omega)]
    simp only [List.append_assoc, List.cons_append, List.nil_append]

theorem ct_X10_toString {G : GG} {l : Launch} {h : AH} {su a b c d : Nat}  (hsu : h su = some (.inr (8, [.int (nI a), .int (nI b), .int (nI c), .int (nI d)]))) (ha : a < 10000) (hb : b < 10000) (hc : c < 10000) (hd : d < 10000) : Ct G l yX10_toString cX10_toString 1 (some (.object "java/lang/String")) 6 (12) (2000) [.ref su] h (fun r h2 => ∃ o, r = some (.ref o) ∧ h o = none ∧ STR G h2 o (dgL a ++ (64 :: dgL b) ++ (62 :: dgL c) ++ (116 :: dgL d)) ∧ (∃ v, h v = none ∧ ∃ hs hz cy, h2 o = some (.inr (22, [.ref v, .int (nI 0), .int hs, .int hz])) ∧ h2 v = some (byA G (dgL a ++ (64 :: dgL b) ++ (62 :: dgL c) ++ (116 :: dgL d)).length cy) ∧ by8 cy ∧ begW cy (dgL a ++ (64 :: dgL b) ++ (62 :: dgL c) ++ (116 :: dgL d))) ∧ Fr nM h h2) := by
  refine Ct.of (by decide) (Nat.le_of_ble_eq_true rfl) (cat1 rfl) (fun X hXl F HN => ?_)
  subst hXl
  have l1 := (dgL_asc ha).2.2
  have l2 := (dgL_asc hb).2.2
  have l3 := (dgL_asc hc).2.2
  have l4 := (dgL_asc hd).2.2
  refine V_new F dX10_toString_0 nw_X10_22 (by omega) (by omega) ?_
  intro s1 hfs1 hbs1
  refine V_dup F dX10_toString_3 rfl ?_
  refine V_callI (st := [.ref (s1)]) (nn := 0) F dX10_toString_4 lk_X10_24 (ct_J5_init (hset_self (e := .inr (21, [.null, .int 0, .int 0, .int 0])))) rfl rfl (Nat.le_of_ble_eq_true rfl) (Nat.le_of_ble_eq_true rfl) (Nat.le_of_ble_eq_true rfl) (by omega) (by omega) ?_
  rintro _ hh1 ⟨rfl, b1, hb1, hS1, hx1⟩
  have hF1 : Fr nM h hh1 := ((Fr.rf (M := nM) (h := h)).nw (x := .inr (21, [.null, .int 0, .int 0, .int 0])) hfs1).cal hx1 (Yo.m1 (Or.inr hfs1))
  have hB1 : h b1 = none := ((Fr.rf (M := nM) (h := h)).nw (x := .inr (21, [.null, .int 0, .int 0, .int 0])) hfs1).none hb1
  refine V_aload_n (i := 0) F dX10_toString_7 rfl rfl ?_
  refine V_getf F dX10_toString_8 fc_X10_7_X10 (.inl (hF1.get hsu id rfl)) rfl ?_
  refine V_callV (st := []) (nn := 1) F dX10_toString_11 lk_X10_25 (ct_J5_appendI hS1 (by omega) (by simp only [List.length_append, List.length_nil, List.length_cons, txc_0, txc_45, txc_43, txc_64, txc_62, txc_116, txc_58, txc_32]; omega)) hS1.isC rfl rfl (Nat.le_of_ble_eq_true rfl) (Nat.le_of_ble_eq_true rfl) (Nat.le_of_ble_eq_true rfl) (by omega) (by omega) ?_
  rintro _ hh2 ⟨rfl, b2, N2, hS2, hbb2, hx2⟩
  have hF2 : Fr nM h hh2 := hF1.cal hx2 (Yo.m2 (Or.inr hfs1) (Or.inr hB1))
  have hB2 : h b2 = none := hbb2.elim (fun z => z.1 ▸ hB1) hF1.none
  refine V_ldcS F dX10_toString_14 q3303 ?_
  intro w3 hGw3
  refine V_callV (st := []) (nn := 1) F dX10_toString_16 lk_X10_31 (ct_J5_append hS2 (hGw3.str (asc_of (by decide +kernel)) (by decide +kernel)) (by simp only [List.length_append, List.length_nil, List.length_cons, txc_0, txc_45, txc_43, txc_64, txc_62, txc_116, txc_58, txc_32]; omega)) hS2.isC rfl rfl (Nat.le_of_ble_eq_true rfl) (Nat.le_of_ble_eq_true rfl) (Nat.le_of_ble_eq_true rfl) (by omega) (by omega) ?_
  rintro _ hh4 ⟨rfl, b4, N4, hS4, hbb4, hx4⟩
  have hF4 : Fr nM h hh4 := hF2.cal hx4 (Yo.m2 (Or.inr hfs1) (Or.inr hB2))
  have hB4 : h b4 = none := hbb4.elim (fun z => z.1 ▸ hB2) hF2.none
  refine V_aload_n (i := 0) F dX10_toString_19 rfl rfl ?_
  refine V_getf F dX10_toString_20 fc_X10_13_X10 (.inl (hF4.get hsu id rfl)) rfl ?_
  refine V_callV (st := []) (nn := 1) F dX10_toString_23 lk_X10_25 (ct_J5_appendI hS4 (by omega) (by simp only [List.length_append, List.length_nil, List.length_cons, txc_0, txc_45, txc_43, txc_64, txc_62, txc_116, txc_58, txc_32]; omega)) hS4.isC rfl rfl (Nat.le_of_ble_eq_true rfl) (Nat.le_of_ble_eq_true rfl) (Nat.le_of_ble_eq_true rfl) (by omega) (by omega) ?_
  rintro _ hh5 ⟨rfl, b5, N5, hS5, hbb5, hx5⟩
  have hF5 : Fr nM h hh5 := hF4.cal hx5 (Yo.m2 (Or.inr hfs1) (Or.inr hB4))
  have hB5 : h b5 = none := hbb5.elim (fun z => z.1 ▸ hB4) hF4.none
  refine V_ldcS F dX10_toString_26 q3305 ?_
  intro w6 hGw6
  refine V_callV (st := []) (nn := 1) F dX10_toString_28 lk_X10_31 (ct_J5_append hS5 (hGw6.str (asc_of (by decide +kernel)) (by decide +kernel)) (by simp only [List.length_append, List.length_nil, List.length_cons, txc_0, txc_45, txc_43, txc_64, txc_62, txc_116, txc_58, txc_32]; omega)) hS5.isC rfl rfl (Nat.le_of_ble_eq_true rfl) (Nat.le_of_ble_eq_true rfl) (Nat.le_of_ble_eq_true rfl) (by omega) (by omega) ?_
  rintro _ hh7 ⟨rfl, b7, N7, hS7, hbb7, hx7⟩
  have hF7 : Fr nM h hh7 := hF5.cal hx7 (Yo.m2 (Or.inr hfs1) (Or.inr hB5))
  have hB7 : h b7 = none := hbb7.elim (fun z => z.1 ▸ hB5) hF5.none
  refine V_aload_n (i := 0) F dX10_toString_31 rfl rfl ?_
  refine V_getf F dX10_toString_32 fc_X10_16_X10 (.inl (hF7.get hsu id rfl)) rfl ?_
  refine V_callV (st := []) (nn := 1) F dX10_toString_35 lk_X10_25 (ct_J5_appendI hS7 (by omega) (by simp only [List.length_append, List.length_nil, List.length_cons, txc_0, txc_45, txc_43, txc_64, txc_62, txc_116, txc_58, txc_32]; omega)) hS7.isC rfl rfl (Nat.le_of_ble_eq_true rfl) (Nat.le_of_ble_eq_true rfl) (Nat.le_of_ble_eq_true rfl) (by omega) (by omega) ?_
  rintro _ hh8 ⟨rfl, b8, N8, hS8, hbb8, hx8⟩
  have hF8 : Fr nM h hh8 := hF7.cal hx8 (Yo.m2 (Or.inr hfs1) (Or.inr hB7))
  have hB8 : h b8 = none := hbb8.elim (fun z => z.1 ▸ hB7) hF7.none
  refine V_ldcS F dX10_toString_38 q3306 ?_
  intro w9 hGw9
  refine V_callV (st := []) (nn := 1) F dX10_toString_40 lk_X10_31 (ct_J5_append hS8 (hGw9.str (asc_of (by decide +kernel)) (by decide +kernel)) (by simp only [List.length_append, List.length_nil, List.length_cons, txc_0, txc_45, txc_43, txc_64, txc_62, txc_116, txc_58, txc_32]; omega)) hS8.isC rfl rfl (Nat.le_of_ble_eq_true rfl) (Nat.le_of_ble_eq_true rfl) (Nat.le_of_ble_eq_true rfl) (by omega) (by omega) ?_
  rintro _ hh10 ⟨rfl, b10, N10, hS10, hbb10, hx10⟩
  have hF10 : Fr nM h hh10 := hF8.cal hx10 (Yo.m2 (Or.inr hfs1) (Or.inr hB8))
  have hB10 : h b10 = none := hbb10.elim (fun z => z.1 ▸ hB8) hF8.none
  refine V_aload_n (i := 0) F dX10_toString_43 rfl rfl ?_
  refine V_getf F dX10_toString_44 fc_X10_19_X10 (.inl (hF10.get hsu id rfl)) rfl ?_
  refine V_callV (st := []) (nn := 1) F dX10_toString_47 lk_X10_25 (ct_J5_appendI hS10 (by omega) (by simp only [List.length_append, List.length_nil, List.length_cons, txc_0, txc_45, txc_43, txc_64, txc_62, txc_116, txc_58, txc_32]; omega)) hS10.isC rfl rfl (Nat.le_of_ble_eq_true rfl) (Nat.le_of_ble_eq_true rfl) (Nat.le_of_ble_eq_true rfl) (by omega) (by omega) ?_
  rintro _ hh11 ⟨rfl, b11, N11, hS11, hbb11, hx11⟩
  have hF11 : Fr nM h hh11 := hF10.cal hx11 (Yo.m2 (Or.inr hfs1) (Or.inr hB10))
  have hB11 : h b11 = none := hbb11.elim (fun z => z.1 ▸ hB10) hF10.none
  refine V_callV (st := []) (nn := 0) F dX10_toString_50 lk_X10_38 (ct_J5_toString hS11 (by simp only [List.length_append, List.length_nil, List.length_cons, txc_0, txc_45, txc_43, txc_64, txc_62, txc_116, txc_58, txc_32]; omega)) hS11.isC rfl rfl (Nat.le_of_ble_eq_true rfl) (Nat.le_of_ble_eq_true rfl) (Nat.le_of_ble_eq_true rfl) (by omega) (by omega) ?_
  rintro _ hh12 ⟨o12, rfl, ho12, hT12, hv12, hx12⟩
  have hF12 : Fr nM h hh12 := hF11.cal0 hx12
  have et : (((((((([] : List Nat) ++ dgL a) ++ txl "@") ++ dgL b) ++ txl ">") ++ dgL c) ++ txl "t") ++ dgL d) = (dgL a ++ (64 :: dgL b) ++ (62 :: dgL c) ++ (116 :: dgL d)) := by simp only [txc_64, txc_62, txc_116, List.append_assoc, List.cons_append, List.nil_append]
  rw [et] at hT12 hv12
  obtain ⟨vv, hv0, hv1⟩ := hv12
  exact V_aret F dX10_toString_53 (Or.inl ⟨_, rfl⟩) (Or.inr ⟨_, rfl⟩) (by first | exact Nat.le_of_ble_eq_true rfl | omega) (by first | exact Nat.le_of_ble_eq_true rfl | omega) ⟨o12, rfl, hF11.none ho12, hT12, ⟨vv, hF11.none hv0, hv1⟩, hF12⟩
theorem ct_X5_toString {G : GG} {l : Launch} {h : AH} {x t : Nat} {A : Nat → Nat} {g : Nat → Nat}  (hT : TRs G h x A g t) (hs8 : g (16 + 36 * t + 3) ≤ 8) (hp : ∀ k, k < g (16 + 36 * t + 3) → plG g t k < 10) (hl : ∀ k, k < g (16 + 36 * t + 3) - 1 → ldG g t k < 10) (hd : g (16 + 36 * t + 2) < 10000) : Ct G l yX5_toString cX5_toString 3 (some (.object "java/lang/String")) 6 (200) (14000) [.ref x] h (fun r h2 => ∃ o, r = some (.ref o) ∧ h o = none ∧ STR G h2 o (trT g t) ∧ (∃ v, h v = none ∧ ∃ hs hz cy, h2 o = some (.inr (22, [.ref v, .int (nI 0), .int hs, .int hz])) ∧ h2 v = some (byA G (trT g t).length cy) ∧ by8 cy ∧ begW cy (trT g t)) ∧ Fr nM h h2) := by
  refine Ct.of (by decide) (Nat.le_of_ble_eq_true rfl) (cat1 rfl) (fun X hXl F HN => ?_)
  subst hXl
  refine V_new F dX5_toString_0 nw_X5_53 (by omega) (by omega) ?_
  intro s1 hfs1 hbs1
  have p1 : h x = some (.inr (4, [.int (nI (g (16 + 36 * t + 0))), .ref ((A 0)), .ref ((A 1)), .ref ((A 2)), .ref ((A 3)), .ref ((A 4)), .int (nI (g (16 + 36 * t + 3))), .int (nI (g (16 + 36 * t + 2)))])) := hT.1
  refine V_dup F dX5_toString_3 rfl ?_
  refine V_callI (st := [.ref (s1)]) (nn := 0) F dX5_toString_4 lk_X5_55 (ct_J5_init (hset_self (e := .inr (21, [.null, .int 0, .int 0, .int 0])))) rfl rfl (Nat.le_of_ble_eq_true rfl) (Nat.le_of_ble_eq_true rfl) (Nat.le_of_ble_eq_true rfl) (by omega) (by omega) ?_
  rintro _ hh2 ⟨rfl, b2, hb2, hS2, hx2⟩
  have hF2 : Fr nM h hh2 := ((Fr.rf (M := nM) (h := h)).nw (x := .inr (21, [.null, .int 0, .int 0, .int 0])) hfs1).cal hx2 (Yo.m1 (Or.inr hfs1))
  have hB2 : h b2 = none := ((Fr.rf (M := nM) (h := h)).nw (x := .inr (21, [.null, .int 0, .int 0, .int 0])) hfs1).none hb2
  refine V_astore_n (i := 1) F dX5_toString_7 rfl (Nat.le_of_ble_eq_true rfl) (Nat.le_of_ble_eq_true rfl) ?_
  refine V_iconst (v := nI 0) F dX5_toString_8 rfl ?_
  refine V_istore_n (i := 2) F dX5_toString_9 rfl (Nat.le_of_ble_eq_true rfl) (Nat.le_of_ble_eq_true rfl) ?_
  have loop_10 : ∀ (nn : Nat) (k : Nat) (hh : AH) (bb NN : Nat), g (16 + 36 * t + 3) + 1 - k < nn → k ≤ g (16 + 36 * t + 3) → SBs G hh s1 bb NN (rsT g t k) → Fr nM h hh → h bb = none → VV G X 3 ((EQ G X (200) (14000) (fun r h2 => ∃ o, r = some (.ref o) ∧ h o = none ∧ STR G h2 o (trT g t) ∧ (∃ v, h v = none ∧ ∃ hs hz cy, h2 o = some (.inr (22, [.ref v, .int (nI 0), .int hs, .int hz])) ∧ h2 v = some (byA G (trT g t).length cy) ∧ by8 cy ∧ begW cy (trT g t)) ∧ Fr nM h h2))) hh (5 + 12 * k) (300 + 1500 * k) [some (.ref (x)), some (.ref (s1)), some (.int (nI (k)))] [] 10 := by
    intro nn
    induction nn with
    | zero => intro k hh bb NN hm hk hSj hFj hbj; exact absurd hm (by omega)
    | succ nn ih_10 =>
      intro k hh bb NN hm hk hSj hFj hbj
      have hLk := rsT_len hp hl k hk
      refine V_iload_n (i := 2) F dX5_toString_10 rfl rfl ?_
      refine V_aload_n (i := 0) F dX5_toString_11 rfl rfl ?_
      refine V_getf F dX5_toString_12 fc_X5_17_X5 (.inl (hT.fr0 hFj).1) rfl ?_
      refine V_icmp_geN (tgt := 77) F dX5_toString_15 (by decide) (by omega) (by omega) (fun c_15 => ?_) (fun c_15 => ?_)
      · have hks : k = g (16 + 36 * t + 3) := by omega
        have hdl := (dgL_asc hd).2.2
        refine V_aload_n (i := 1) F dX5_toString_77 rfl rfl ?_
        refine V_aload_n (i := 0) F dX5_toString_78 rfl rfl ?_
        refine V_getf F dX5_toString_79 fc_X5_42_X5 (.inl (hT.fr0 hFj).1) rfl ?_
        refine V_if_neN (tgt := 90) F dX5_toString_82 (by decide) (by omega) (fun c_82 => ?_) (fun c_82 => ?_)
        · refine V_new F dX5_toString_90 nw_X5_53 (by omega) (by omega) ?_
          intro s3 hfs3 hbs3
          have p1 : hh x = some (.inr (4, [.int (nI (g (16 + 36 * t + 0))), .ref ((A 0)), .ref ((A 1)), .ref ((A 2)), .ref ((A 3)), .ref ((A 4)), .int (nI (g (16 + 36 * t + 3))), .int (nI (g (16 + 36 * t + 2)))])) := (hT.fr0 hFj).1
          refine V_dup F dX5_toString_93 rfl ?_
          refine V_callI (st := [.ref (s3), .ref (s1)]) (nn := 0) F dX5_toString_94 lk_X5_55 (ct_J5_init (hset_self (e := .inr (21, [.null, .int 0, .int 0, .int 0])))) rfl rfl (Nat.le_of_ble_eq_true rfl) (Nat.le_of_ble_eq_true rfl) (Nat.le_of_ble_eq_true rfl) (by omega) (by omega) ?_
          rintro _ hh2 ⟨rfl, b2, hb2, hS2, hx2⟩
          have hF2 : Fr nM hh hh2 := ((Fr.rf (M := nM) (h := hh)).nw (x := .inr (21, [.null, .int 0, .int 0, .int 0])) hfs3).cal hx2 (Yo.m1 (Or.inr hfs3))
          have hB2 : hh b2 = none := ((Fr.rf (M := nM) (h := hh)).nw (x := .inr (21, [.null, .int 0, .int 0, .int 0])) hfs3).none hb2
          refine V_ldcS F dX5_toString_97 q3282 ?_
          intro w3 hGw3
          refine V_callV (st := [.ref (s1)]) (nn := 1) F dX5_toString_99 lk_X5_60 (ct_J5_append hS2 (hGw3.str (asc_of (by decide +kernel)) (by decide +kernel)) (by simp only [List.length_append, List.length_nil, List.length_cons, txc_0, txc_45, txc_43, txc_64, txc_62, txc_116, txc_58, txc_32]; omega)) hS2.isC rfl rfl (Nat.le_of_ble_eq_true rfl) (Nat.le_of_ble_eq_true rfl) (Nat.le_of_ble_eq_true rfl) (by omega) (by omega) ?_
          rintro _ hh4 ⟨rfl, b4, N4, hS4, hbb4, hx4⟩
          have hF4 : Fr nM hh hh4 := hF2.cal hx4 (Yo.m2 (Or.inr hfs3) (Or.inr hB2))
          have hB4 : hh b4 = none := hbb4.elim (fun z => z.1 ▸ hB2) hF2.none
          refine V_aload_n (i := 0) F dX5_toString_102 rfl rfl ?_
          refine V_getf F dX5_toString_103 fc_X5_42_X5 (.inl (hT.fr0 (hFj.cal0 hF4)).1) rfl ?_
          refine V_callV (st := [.ref (s1)]) (nn := 1) F dX5_toString_106 lk_X5_64 (ct_J5_appendI hS4 (by omega) (by simp only [List.length_append, List.length_nil, List.length_cons, txc_0, txc_45, txc_43, txc_64, txc_62, txc_116, txc_58, txc_32]; omega)) hS4.isC rfl rfl (Nat.le_of_ble_eq_true rfl) (Nat.le_of_ble_eq_true rfl) (Nat.le_of_ble_eq_true rfl) (by omega) (by omega) ?_
          rintro _ hh5 ⟨rfl, b5, N5, hS5, hbb5, hx5⟩
          have hF5 : Fr nM hh hh5 := hF4.cal hx5 (Yo.m2 (Or.inr hfs3) (Or.inr hB4))
          have hB5 : hh b5 = none := hbb5.elim (fun z => z.1 ▸ hB4) hF4.none
          refine V_callV (st := [.ref (s1)]) (nn := 0) F dX5_toString_109 lk_X5_67 (ct_J5_toString hS5 (by simp only [List.length_append, List.length_nil, List.length_cons, txc_0, txc_45, txc_43, txc_64, txc_62, txc_116, txc_58, txc_32]; omega)) hS5.isC rfl rfl (Nat.le_of_ble_eq_true rfl) (Nat.le_of_ble_eq_true rfl) (Nat.le_of_ble_eq_true rfl) (by omega) (by omega) ?_
          rintro _ hh6 ⟨o6, rfl, ho6, hT6, hv6, hx6⟩
          have hF6 : Fr nM hh hh6 := hF5.cal0 hx6
          have hU6 : Fr nM h hh6 := hFj.cal0 hF6
          have hSu6 := hSj.fr0 hF6
          refine V_callV (st := []) (nn := 1) F dX5_toString_112 lk_X5_60 (ct_J5_append hSu6 hT6 (by simp only [List.length_append, List.length_nil, List.length_cons, txc_0, txc_45, txc_43, txc_64, txc_62, txc_116, txc_58, txc_32]; omega)) hSu6.isC rfl rfl (Nat.le_of_ble_eq_true rfl) (Nat.le_of_ble_eq_true rfl) (Nat.le_of_ble_eq_true rfl) (by omega) (by omega) ?_
          rintro _ hh7 ⟨rfl, b7, N7, hS7, hbb7, hx7⟩
          have hF7 : Fr nM h hh7 := hU6.cal hx7 (Yo.m2 (Or.inr hfs1) (Or.inr hbj))
          have hB7 : h b7 = none := hbb7.elim (fun z => z.1 ▸ hbj) hU6.none
          refine V_callV (st := []) (nn := 0) F dX5_toString_115 lk_X5_67 (ct_J5_toString hS7 (by simp only [List.length_append, List.length_nil, List.length_cons, txc_0, txc_45, txc_43, txc_64, txc_62, txc_116, txc_58, txc_32]; omega)) hS7.isC rfl rfl (Nat.le_of_ble_eq_true rfl) (Nat.le_of_ble_eq_true rfl) (Nat.le_of_ble_eq_true rfl) (by omega) (by omega) ?_
          rintro _ hh8 ⟨o8, rfl, ho8, hT8, hv8, hx8⟩
          have hF8 : Fr nM h hh8 := hF7.cal0 hx8
          have et : ((rsT g t k) ++ ((([] : List Nat) ++ txl "+") ++ dgL (g (16 + 36 * t + 2)))) = (trT g t) := by unfold trT; rw [hks, if_neg (by omega)]; simp only [txc_0, txc_43, List.append_nil, List.append_assoc, List.cons_append, List.nil_append]
          rw [et] at hT8 hv8
          obtain ⟨vv, hv0, hv1⟩ := hv8
          exact V_aret F dX5_toString_118 (Or.inl ⟨_, rfl⟩) (Or.inr ⟨_, rfl⟩) (by first | exact Nat.le_of_ble_eq_true rfl | omega) (by first | exact Nat.le_of_ble_eq_true rfl | omega) ⟨o8, rfl, hF7.none ho8, hT8, ⟨vv, hF7.none hv0, hv1⟩, hF8⟩
        · refine V_ldcS F dX5_toString_85 q3277 ?_
          intro w9 hGw9
          refine V_goto (tgt := 112) F dX5_toString_87 (by decide) ?_
          refine V_callV (st := []) (nn := 1) F dX5_toString_112 lk_X5_60 (ct_J5_append hSj (hGw9.str (asc_of (by decide +kernel)) (by decide +kernel)) (by simp only [List.length_append, List.length_nil, List.length_cons, txc_0, txc_45, txc_43, txc_64, txc_62, txc_116, txc_58, txc_32]; omega)) hSj.isC rfl rfl (Nat.le_of_ble_eq_true rfl) (Nat.le_of_ble_eq_true rfl) (Nat.le_of_ble_eq_true rfl) (by omega) (by omega) ?_
          rintro _ hh10 ⟨rfl, b10, N10, hS10, hbb10, hx10⟩
          have hF10 : Fr nM h hh10 := hFj.cal hx10 (Yo.m2 (Or.inr hfs1) (Or.inr hbj))
          have hB10 : h b10 = none := hbb10.elim (fun z => z.1 ▸ hbj) hFj.none
          refine V_callV (st := []) (nn := 0) F dX5_toString_115 lk_X5_67 (ct_J5_toString hS10 (by simp only [List.length_append, List.length_nil, List.length_cons, txc_0, txc_45, txc_43, txc_64, txc_62, txc_116, txc_58, txc_32]; omega)) hS10.isC rfl rfl (Nat.le_of_ble_eq_true rfl) (Nat.le_of_ble_eq_true rfl) (Nat.le_of_ble_eq_true rfl) (by omega) (by omega) ?_
          rintro _ hh11 ⟨o11, rfl, ho11, hT11, hv11, hx11⟩
          have hF11 : Fr nM h hh11 := hF10.cal0 hx11
          have et : ((rsT g t k) ++ txl "") = (trT g t) := by unfold trT; rw [hks, if_pos (by omega)]; simp only [txc_0, txc_43, List.append_nil, List.append_assoc, List.cons_append, List.nil_append]
          rw [et] at hT11 hv11
          obtain ⟨vv, hv0, hv1⟩ := hv11
          exact V_aret F dX5_toString_118 (Or.inl ⟨_, rfl⟩) (Or.inr ⟨_, rfl⟩) (by first | exact Nat.le_of_ble_eq_true rfl | omega) (by first | exact Nat.le_of_ble_eq_true rfl | omega) ⟨o11, rfl, hF10.none ho11, hT11, ⟨vv, hF10.none hv0, hv1⟩, hF11⟩
      · refine V_aload_n (i := 1) F dX5_toString_18 rfl rfl ?_
        refine V_iload_n (i := 2) F dX5_toString_19 rfl rfl ?_
        refine V_if_neN (tgt := 28) F dX5_toString_20 (by decide) (by omega) (fun c_20 => ?_) (fun c_20 => ?_)
        · obtain ⟨j, rfl⟩ : ∃ i, k = i + 1 := ⟨k - 1, by omega⟩
          have hld := hl (j) (by omega)
          have hld1 := dgl1 hld
          have hpk := hp (j + 1) (by omega)
          have hpk1 := dgl1 hpk
          refine V_new F dX5_toString_28 nw_X5_53 (by omega) (by omega) ?_
          intro s2 hfs2 hbs2
          have p12 : hh x = some (.inr (4, [.int (nI (g (16 + 36 * t + 0))), .ref ((A 0)), .ref ((A 1)), .ref ((A 2)), .ref ((A 3)), .ref ((A 4)), .int (nI (g (16 + 36 * t + 3))), .int (nI (g (16 + 36 * t + 2)))])) := (hT.fr0 hFj).1
          refine V_dup F dX5_toString_31 rfl ?_
          refine V_callI (st := [.ref (s2), .ref (s1)]) (nn := 0) F dX5_toString_32 lk_X5_55 (ct_J5_init (hset_self (e := .inr (21, [.null, .int 0, .int 0, .int 0])))) rfl rfl (Nat.le_of_ble_eq_true rfl) (Nat.le_of_ble_eq_true rfl) (Nat.le_of_ble_eq_true rfl) (by omega) (by omega) ?_
          rintro _ hh13 ⟨rfl, b13, hb13, hS13, hx13⟩
          have hF13 : Fr nM hh hh13 := ((Fr.rf (M := nM) (h := hh)).nw (x := .inr (21, [.null, .int 0, .int 0, .int 0])) hfs2).cal hx13 (Yo.m1 (Or.inr hfs2))
          have hB13 : hh b13 = none := ((Fr.rf (M := nM) (h := hh)).nw (x := .inr (21, [.null, .int 0, .int 0, .int 0])) hfs2).none hb13
          refine V_ldcS F dX5_toString_35 q3278 ?_
          intro w14 hGw14
          refine V_callV (st := [.ref (s1)]) (nn := 1) F dX5_toString_37 lk_X5_60 (ct_J5_append hS13 (hGw14.str (asc_of (by decide +kernel)) (by decide +kernel)) (by simp only [List.length_append, List.length_nil, List.length_cons, txc_0, txc_45, txc_43, txc_64, txc_62, txc_116, txc_58, txc_32]; omega)) hS13.isC rfl rfl (Nat.le_of_ble_eq_true rfl) (Nat.le_of_ble_eq_true rfl) (Nat.le_of_ble_eq_true rfl) (by omega) (by omega) ?_
          rintro _ hh15 ⟨rfl, b15, N15, hS15, hbb15, hx15⟩
          have hF15 : Fr nM hh hh15 := hF13.cal hx15 (Yo.m2 (Or.inr hfs2) (Or.inr hB13))
          have hB15 : hh b15 = none := hbb15.elim (fun z => z.1 ▸ hB13) hF13.none
          refine V_aload_n (i := 0) F dX5_toString_40 rfl rfl ?_
          refine V_iload_n (i := 2) F dX5_toString_41 rfl rfl ?_
          refine V_iconst (v := nI 1) F dX5_toString_42 rfl ?_
          refine V_isubN F dX5_toString_43 (by omega) ?_
          refine V_callV (st := [.ref (s2), .ref (s1)]) (nn := 1) F dX5_toString_44 lk_X5_49 (ct_TR_load (k := j) (hT.fr0 (hFj.cal0 hF15)) (by omega)) ⟨4, _, _, _, rfl, .inl (hT.fr0 (hFj.cal0 hF15)).1⟩ rfl rfl (Nat.le_of_ble_eq_true rfl) (Nat.le_of_ble_eq_true rfl) (Nat.le_of_ble_eq_true rfl) (by omega) (by omega) ?_
          refine PRk ?_
          refine V_callV (st := [.ref (s1)]) (nn := 1) F dX5_toString_47 lk_X5_64 (ct_J5_appendI hS15 (by omega) (by simp only [List.length_append, List.length_nil, List.length_cons, txc_0, txc_45, txc_43, txc_64, txc_62, txc_116, txc_58, txc_32]; omega)) hS15.isC rfl rfl (Nat.le_of_ble_eq_true rfl) (Nat.le_of_ble_eq_true rfl) (Nat.le_of_ble_eq_true rfl) (by omega) (by omega) ?_
          rintro _ hh16 ⟨rfl, b16, N16, hS16, hbb16, hx16⟩
          have hF16 : Fr nM hh hh16 := hF15.cal hx16 (Yo.m2 (Or.inr hfs2) (Or.inr hB15))
          have hB16 : hh b16 = none := hbb16.elim (fun z => z.1 ▸ hB15) hF15.none
          refine V_ldcS F dX5_toString_50 q3278 ?_
          intro w17 hGw17
          refine V_callV (st := [.ref (s1)]) (nn := 1) F dX5_toString_52 lk_X5_60 (ct_J5_append hS16 (hGw17.str (asc_of (by decide +kernel)) (by decide +kernel)) (by simp only [List.length_append, List.length_nil, List.length_cons, txc_0, txc_45, txc_43, txc_64, txc_62, txc_116, txc_58, txc_32]; omega)) hS16.isC rfl rfl (Nat.le_of_ble_eq_true rfl) (Nat.le_of_ble_eq_true rfl) (Nat.le_of_ble_eq_true rfl) (by omega) (by omega) ?_
          rintro _ hh18 ⟨rfl, b18, N18, hS18, hbb18, hx18⟩
          have hF18 : Fr nM hh hh18 := hF16.cal hx18 (Yo.m2 (Or.inr hfs2) (Or.inr hB16))
          have hB18 : hh b18 = none := hbb18.elim (fun z => z.1 ▸ hB16) hF16.none
          refine V_callV (st := [.ref (s1)]) (nn := 0) F dX5_toString_55 lk_X5_67 (ct_J5_toString hS18 (by simp only [List.length_append, List.length_nil, List.length_cons, txc_0, txc_45, txc_43, txc_64, txc_62, txc_116, txc_58, txc_32]; omega)) hS18.isC rfl rfl (Nat.le_of_ble_eq_true rfl) (Nat.le_of_ble_eq_true rfl) (Nat.le_of_ble_eq_true rfl) (by omega) (by omega) ?_
          rintro _ hh19 ⟨o19, rfl, ho19, hT19, hv19, hx19⟩
          have hF19 : Fr nM hh hh19 := hF18.cal0 hx19
          have hU19 : Fr nM h hh19 := hFj.cal0 hF19
          have hSu19 := hSj.fr0 hF19
          refine V_callV (st := []) (nn := 1) F dX5_toString_58 lk_X5_60 (ct_J5_append hSu19 hT19 (by simp only [List.length_append, List.length_nil, List.length_cons, txc_0, txc_45, txc_43, txc_64, txc_62, txc_116, txc_58, txc_32]; omega)) hSu19.isC rfl rfl (Nat.le_of_ble_eq_true rfl) (Nat.le_of_ble_eq_true rfl) (Nat.le_of_ble_eq_true rfl) (by omega) (by omega) ?_
          rintro _ hh20 ⟨rfl, b20, N20, hS20, hbb20, hx20⟩
          have hF20 : Fr nM h hh20 := hU19.cal hx20 (Yo.m2 (Or.inr hfs1) (Or.inr hbj))
          have hB20 : h b20 = none := hbb20.elim (fun z => z.1 ▸ hbj) hU19.none
          refine V_aload_n (i := 0) F dX5_toString_61 rfl rfl ?_
          obtain ⟨-, f, hA21, e21, -⟩ := id (hT.fr0 hF20)
          refine V_getf F dX5_toString_62 fc_X5_11_X5 (.inl (hT.fr0 hF20).1) rfl ?_
          refine V_iload_n (i := 2) F dX5_toString_65 rfl rfl ?_
          refine V_ialdG F dX5_toString_66 (.inl (hA21 0 (by decide))) (by omega) (by decide) (e21 _ (by omega)) ?_
          refine V_callV (st := []) (nn := 1) F dX5_toString_67 lk_X5_64 (ct_J5_appendI hS20 (by omega) (by simp only [List.length_append, List.length_nil, List.length_cons, txc_0, txc_45, txc_43, txc_64, txc_62, txc_116, txc_58, txc_32]; omega)) hS20.isC rfl rfl (Nat.le_of_ble_eq_true rfl) (Nat.le_of_ble_eq_true rfl) (Nat.le_of_ble_eq_true rfl) (by omega) (by omega) ?_
          rintro _ hh22 ⟨rfl, b22, N22, hS22, hbb22, hx22⟩
          have hF22 : Fr nM h hh22 := hF20.cal hx22 (Yo.m2 (Or.inr hfs1) (Or.inr hB20))
          have hB22 : h b22 = none := hbb22.elim (fun z => z.1 ▸ hB20) hF20.none
          refine V_pop F dX5_toString_70 rfl ?_
          refine V_iinc (i := 2) (v := nI (j + 1 + 1)) F dX5_toString_71 rfl (nI_add (j + 1) 1) (Nat.le_of_ble_eq_true rfl) ?_
          refine V_goto (tgt := 10) F dX5_toString_74 (by decide) ?_
          have et : (((rsT g t (j + 1)) ++ (((([] : List Nat) ++ txl "-") ++ dgL (ldG g t j)) ++ txl "-")) ++ dgL (plG g t (j + 1))) = rsT g t (j + 1 + 1) := by show _ = rsT g t (j + 1) ++ ([45] ++ dgL (ldG g t j) ++ [45]) ++ dgL (plG g t (j + 1)); simp only [txc_45, List.append_assoc, List.cons_append, List.nil_append]
          rw [et] at hS22
          refine VV.wide (by omega) (by omega) (ih_10 (j + 1 + 1) _ _ _ (by omega) (by omega) hS22 hF22 hB22)
        · have hk0 : k = 0 := by omega
          subst hk0
          have hpk := hp 0 (by omega)
          have hpk1 := dgl1 hpk
          refine V_ldcS F dX5_toString_23 q3277 ?_
          intro w23 hGw23
          refine V_goto (tgt := 58) F dX5_toString_25 (by decide) ?_
          refine V_callV (st := []) (nn := 1) F dX5_toString_58 lk_X5_60 (ct_J5_append hSj (hGw23.str (asc_of (by decide +kernel)) (by decide +kernel)) (by simp only [List.length_append, List.length_nil, List.length_cons, txc_0, txc_45, txc_43, txc_64, txc_62, txc_116, txc_58, txc_32]; omega)) hSj.isC rfl rfl (Nat.le_of_ble_eq_true rfl) (Nat.le_of_ble_eq_true rfl) (Nat.le_of_ble_eq_true rfl) (by omega) (by omega) ?_
          rintro _ hh24 ⟨rfl, b24, N24, hS24, hbb24, hx24⟩
          have hF24 : Fr nM h hh24 := hFj.cal hx24 (Yo.m2 (Or.inr hfs1) (Or.inr hbj))
          have hB24 : h b24 = none := hbb24.elim (fun z => z.1 ▸ hbj) hFj.none
          refine V_aload_n (i := 0) F dX5_toString_61 rfl rfl ?_
          obtain ⟨-, f, hA25, e25, -⟩ := id (hT.fr0 hF24)
          refine V_getf F dX5_toString_62 fc_X5_11_X5 (.inl (hT.fr0 hF24).1) rfl ?_
          refine V_iload_n (i := 2) F dX5_toString_65 rfl rfl ?_
          refine V_ialdG F dX5_toString_66 (.inl (hA25 0 (by decide))) (by omega) (by decide) (e25 _ (by omega)) ?_
          refine V_callV (st := []) (nn := 1) F dX5_toString_67 lk_X5_64 (ct_J5_appendI hS24 (by omega) (by simp only [List.length_append, List.length_nil, List.length_cons, txc_0, txc_45, txc_43, txc_64, txc_62, txc_116, txc_58, txc_32]; omega)) hS24.isC rfl rfl (Nat.le_of_ble_eq_true rfl) (Nat.le_of_ble_eq_true rfl) (Nat.le_of_ble_eq_true rfl) (by omega) (by omega) ?_
          rintro _ hh26 ⟨rfl, b26, N26, hS26, hbb26, hx26⟩
          have hF26 : Fr nM h hh26 := hF24.cal hx26 (Yo.m2 (Or.inr hfs1) (Or.inr hB24))
          have hB26 : h b26 = none := hbb26.elim (fun z => z.1 ▸ hB24) hF24.none
          refine V_pop F dX5_toString_70 rfl ?_
          refine V_iinc (i := 2) (v := nI (0 + 1)) F dX5_toString_71 rfl (nI_add (0) 1) (Nat.le_of_ble_eq_true rfl) ?_
          refine V_goto (tgt := 10) F dX5_toString_74 (by decide) ?_
          have et : (((rsT g t 0) ++ txl "") ++ dgL (plG g t 0)) = rsT g t (0 + 1) := by show _ = dgL (plG g t 0); simp only [txc_0, rsT, List.append_nil, List.nil_append]
          rw [et] at hS26
          refine VV.wide (by omega) (by omega) (ih_10 (0 + 1) _ _ _ (by omega) (by omega) hS26 hF26 hB26)
  refine VV.weak (L' := [some (.ref (x)), some (.ref (s1)), some (.int (nI (0)))]) (LW.c1 (LW.c1 (LW.c1 LW.nil))) ?_
  exact VV.wide (by omega) (by omega) (loop_10 (g (16 + 36 * t + 3) + 2) 0 _ _ _ (by omega) (Nat.zero_le _) hS2 hF2 hB2)
