theorem asc_of {l : List Nat} (h : (l.all fun c => decide (c < 128)) = true) : asc l := fun c hc => of_decide_eq_true (List.all_eq_true.mp h c hc)
theorem tx_index : txl "index" = [105, 110, 100, 101, 120] := by decide +kernel
theorem hx_index : strH (txl "index") = 100346066 := by decide +kernel
theorem tx_argument : txl "argument" = [97, 114, 103, 117, 109, 101, 110, 116] := by decide +kernel
theorem hx_argument : strH (txl "argument") = -1589682499 := by decide +kernel
theorem tx_state : txl "state" = [115, 116, 97, 116, 101] := by decide +kernel
theorem hx_state : strH (txl "state") = 109757585 := by decide +kernel
theorem tx_element : txl "element" = [101, 108, 101, 109, 101, 110, 116] := by decide +kernel
theorem hx_element : strH (txl "element") = -1662836996 := by decide +kernel
theorem tx_rule : txl "rule" = [114, 117, 108, 101] := by decide +kernel
theorem hx_rule : strH (txl "rule") = 3512060 := by decide +kernel
theorem ct_J6_hashG {G : GG} {l : Launch} {h : AH} {a : Nat} {tx : String}  (hG : Gstr G tx a) (hn : strH (txl tx) ≠ 0) : Ct G l yJ6_hashCode cJ6_hashCode 2 (some .int) 0 (0) (0) [.ref a] h (PR (.int (strH (txl tx))) h) := by
  refine Ct.of (by decide) (Nat.le_of_ble_eq_true rfl) (cat1 rfl) (fun X hXl F HN => ?_)
  subst hXl
  obtain ⟨v, hz, q1, q2, -⟩ := id hG
  have q1 : rd G h a (.inr (22, [.ref v, .int (nI 0), .int (strH (txl tx)), .int hz])) := Or.inr q1
  have q2 : rd G h v (byA G (txl tx).length (fun j => (txl tx).getD j 0)) := Or.inr q2
  refine V_aload_n (i := 0) F dJ6_hashCode_0 rfl rfl ?_
  refine V_getf F dJ6_hashCode_1 fc_J6_19_J6 q1 rfl ?_
  refine V_istore_n (i := 1) F dJ6_hashCode_4 rfl (Nat.le_of_ble_eq_true rfl) (Nat.le_of_ble_eq_true rfl) ?_
  refine V_iload_n (i := 1) F dJ6_hashCode_5 rfl rfl ?_
  refine V_if_ne (tgt := 58) F dJ6_hashCode_6 (by decide) (fun c_6 => ?_) (fun c_6 => absurd c_6 hn)
  refine V_iload_n (i := 1) F dJ6_hashCode_58 rfl rfl ?_
  exact V_iret F dJ6_hashCode_59 rfl (by first | exact Nat.le_of_ble_eq_true rfl | omega) (by first | exact Nat.le_of_ble_eq_true rfl | omega) ⟨rfl, rfl⟩
theorem ct_X9_pub_index {G : GG} {l : Launch} {h : AH} {q0 a : Nat}  (hl0 : l.stackTraces = false) (hq : h q0 = some (.inr (7, [.ref a]))) (hG : Gstr G "index" a) : Ct G l yX9_asPublicException cX9_asPublicException 3 (some (.object "java/lang/RuntimeException")) 6 (1) (6) [.ref q0] h (fun r h2 => ∃ q, r = some (.ref q) ∧ h q = none ∧ h2 q = some (.inr (34, [])) ∧ Fr nM h h2) := by
  refine Ct.of (by decide) (Nat.le_of_ble_eq_true rfl) (cat1 rfl) (fun X hXl F HN => ?_)
  subst hXl
  refine V_aload_n (i := 0) F dX9_asPublicException_0 rfl rfl ?_
  refine V_getf F dX9_asPublicException_1 fc_X9_7_X9 (.inl hq) rfl ?_
  refine V_astore_n (i := 1) F dX9_asPublicException_4 rfl (Nat.le_of_ble_eq_true rfl) (Nat.le_of_ble_eq_true rfl) ?_
  refine V_iconst (v := -1) F dX9_asPublicException_5 rfl ?_
  refine V_istore_n (i := 2) F dX9_asPublicException_6 rfl (Nat.le_of_ble_eq_true rfl) (Nat.le_of_ble_eq_true rfl) ?_
  refine V_aload_n (i := 1) F dX9_asPublicException_7 rfl rfl ?_
  refine V_callV (st := []) (nn := 0) F dX9_asPublicException_8 lk_X9_13 (ct_J6_hashG hG (by rw [hx_index]; decide)) (hG.str (asc_of (by decide +kernel)) (by decide +kernel)).isC rfl rfl (Nat.le_of_ble_eq_true rfl) (Nat.le_of_ble_eq_true rfl) (Nat.le_of_ble_eq_true rfl) (by omega) (by omega) ?_
  refine PRk ?_
  refine V_lookup (tgt := 52) F dX9_asPublicException_11 (by decide) (off := 41) (by rw [hx_index]; decide +kernel) (by decide) ?_
  refine V_aload_n (i := 1) F dX9_asPublicException_52 rfl rfl ?_
  refine V_ldcS F dX9_asPublicException_53 q2675 ?_
  intro w1 hGw1
  refine V_callV (st := []) (nn := 1) F dX9_asPublicException_55 lk_X9_21 (ct_J6_equals (hG.str (asc_of (by decide +kernel)) (by decide +kernel)) (hGw1.str (asc_of (by decide +kernel)) (by decide +kernel))) (hG.str (h := h) (asc_of (by decide +kernel)) (by decide +kernel)).isC rfl rfl (Nat.le_of_ble_eq_true rfl) (Nat.le_of_ble_eq_true rfl) (Nat.le_of_ble_eq_true rfl) (by omega) (by omega) ?_
  refine PRk ?_
  refine V_if_eqN (tgt := 105) F dX9_asPublicException_58 (by decide) (by omega) (fun c_58 => absurd c_58 (by decide)) (fun c_58 => ?_)
  refine V_iconst (v := nI 0) F dX9_asPublicException_61 rfl ?_
  refine V_istore_n (i := 2) F dX9_asPublicException_62 rfl (Nat.le_of_ble_eq_true rfl) (Nat.le_of_ble_eq_true rfl) ?_
  refine V_goto (tgt := 105) F dX9_asPublicException_63 (by decide) ?_
  refine V_iload_n (i := 2) F dX9_asPublicException_105 rfl rfl ?_
  refine V_tableIn (tgt := 136) (off := 30) F dX9_asPublicException_106 (by decide) (by decide) (by decide +kernel) (by decide) ?_
  refine V_make0 F hl0 e0_J16 (by decide +kernel) q121 (ci := 34) rfl dX9_asPublicException_136 dX9_asPublicException_139 dX9_asPublicException_140 q2680 q2681 (Nat.le_of_ble_eq_true rfl) (Nat.le_of_ble_eq_true rfl) (by omega) (by omega) ?_
  intro q hfq hbq
  have qq : (hset h q (.inr (34, []))) q = some (.inr (34, [])) := (hset_self (e := .inr (34, [])))
  have qf := ((Fr.rf (M := nM) (h := h)).nw (x := .inr (34, [])) hfq)
  exact V_aret F dX9_asPublicException_143 (Or.inl ⟨_, rfl⟩) (Or.inr ⟨_, rfl⟩) (by first | exact Nat.le_of_ble_eq_true rfl | omega) (by first | exact Nat.le_of_ble_eq_true rfl | omega) ⟨q, rfl, hfq, qq, qf⟩
theorem ct_X9_pub_argument {G : GG} {l : Launch} {h : AH} {q0 a : Nat}  (hl0 : l.stackTraces = false) (hq : h q0 = some (.inr (7, [.ref a]))) (hG : Gstr G "argument" a) : Ct G l yX9_asPublicException cX9_asPublicException 3 (some (.object "java/lang/RuntimeException")) 6 (1) (6) [.ref q0] h (fun r h2 => ∃ q, r = some (.ref q) ∧ h q = none ∧ h2 q = some (.inr (35, [])) ∧ Fr nM h h2) := by
  refine Ct.of (by decide) (Nat.le_of_ble_eq_true rfl) (cat1 rfl) (fun X hXl F HN => ?_)
  subst hXl
  refine V_aload_n (i := 0) F dX9_asPublicException_0 rfl rfl ?_
  refine V_getf F dX9_asPublicException_1 fc_X9_7_X9 (.inl hq) rfl ?_
  refine V_astore_n (i := 1) F dX9_asPublicException_4 rfl (Nat.le_of_ble_eq_true rfl) (Nat.le_of_ble_eq_true rfl) ?_
  refine V_iconst (v := -1) F dX9_asPublicException_5 rfl ?_
  refine V_istore_n (i := 2) F dX9_asPublicException_6 rfl (Nat.le_of_ble_eq_true rfl) (Nat.le_of_ble_eq_true rfl) ?_
  refine V_aload_n (i := 1) F dX9_asPublicException_7 rfl rfl ?_
  refine V_callV (st := []) (nn := 0) F dX9_asPublicException_8 lk_X9_13 (ct_J6_hashG hG (by rw [hx_argument]; decide)) (hG.str (asc_of (by decide +kernel)) (by decide +kernel)).isC rfl rfl (Nat.le_of_ble_eq_true rfl) (Nat.le_of_ble_eq_true rfl) (Nat.le_of_ble_eq_true rfl) (by omega) (by omega) ?_
  refine PRk ?_
  refine V_lookup (tgt := 66) F dX9_asPublicException_11 (by decide) (off := 55) (by rw [hx_argument]; decide +kernel) (by decide) ?_
  refine V_aload_n (i := 1) F dX9_asPublicException_66 rfl rfl ?_
  refine V_ldcS F dX9_asPublicException_67 q2677 ?_
  intro w1 hGw1
  refine V_callV (st := []) (nn := 1) F dX9_asPublicException_69 lk_X9_21 (ct_J6_equals (hG.str (asc_of (by decide +kernel)) (by decide +kernel)) (hGw1.str (asc_of (by decide +kernel)) (by decide +kernel))) (hG.str (h := h) (asc_of (by decide +kernel)) (by decide +kernel)).isC rfl rfl (Nat.le_of_ble_eq_true rfl) (Nat.le_of_ble_eq_true rfl) (Nat.le_of_ble_eq_true rfl) (by omega) (by omega) ?_
  refine PRk ?_
  refine V_if_eqN (tgt := 105) F dX9_asPublicException_72 (by decide) (by omega) (fun c_72 => absurd c_72 (by decide)) (fun c_72 => ?_)
  refine V_iconst (v := nI 1) F dX9_asPublicException_75 rfl ?_
  refine V_istore_n (i := 2) F dX9_asPublicException_76 rfl (Nat.le_of_ble_eq_true rfl) (Nat.le_of_ble_eq_true rfl) ?_
  refine V_goto (tgt := 105) F dX9_asPublicException_77 (by decide) ?_
  refine V_iload_n (i := 2) F dX9_asPublicException_105 rfl rfl ?_
  refine V_tableIn (tgt := 144) (off := 38) F dX9_asPublicException_106 (by decide) (by decide) (by decide +kernel) (by decide) ?_
  refine V_make0 F hl0 e0_J23 (by decide +kernel) q129 (ci := 35) rfl dX9_asPublicException_144 dX9_asPublicException_147 dX9_asPublicException_148 q2685 q2686 (Nat.le_of_ble_eq_true rfl) (Nat.le_of_ble_eq_true rfl) (by omega) (by omega) ?_
  intro q hfq hbq
  have qq : (hset h q (.inr (35, []))) q = some (.inr (35, [])) := (hset_self (e := .inr (35, [])))
  have qf := ((Fr.rf (M := nM) (h := h)).nw (x := .inr (35, [])) hfq)
  exact V_aret F dX9_asPublicException_151 (Or.inl ⟨_, rfl⟩) (Or.inr ⟨_, rfl⟩) (by first | exact Nat.le_of_ble_eq_true rfl | omega) (by first | exact Nat.le_of_ble_eq_true rfl | omega) ⟨q, rfl, hfq, qq, qf⟩
theorem ct_X9_pub_state {G : GG} {l : Launch} {h : AH} {q0 a : Nat}  (hl0 : l.stackTraces = false) (hq : h q0 = some (.inr (7, [.ref a]))) (hG : Gstr G "state" a) : Ct G l yX9_asPublicException cX9_asPublicException 3 (some (.object "java/lang/RuntimeException")) 6 (1) (6) [.ref q0] h (fun r h2 => ∃ q, r = some (.ref q) ∧ h q = none ∧ h2 q = some (.inr (36, [])) ∧ Fr nM h h2) := by
  refine Ct.of (by decide) (Nat.le_of_ble_eq_true rfl) (cat1 rfl) (fun X hXl F HN => ?_)
  subst hXl
  refine V_aload_n (i := 0) F dX9_asPublicException_0 rfl rfl ?_
  refine V_getf F dX9_asPublicException_1 fc_X9_7_X9 (.inl hq) rfl ?_
  refine V_astore_n (i := 1) F dX9_asPublicException_4 rfl (Nat.le_of_ble_eq_true rfl) (Nat.le_of_ble_eq_true rfl) ?_
  refine V_iconst (v := -1) F dX9_asPublicException_5 rfl ?_
  refine V_istore_n (i := 2) F dX9_asPublicException_6 rfl (Nat.le_of_ble_eq_true rfl) (Nat.le_of_ble_eq_true rfl) ?_
  refine V_aload_n (i := 1) F dX9_asPublicException_7 rfl rfl ?_
  refine V_callV (st := []) (nn := 0) F dX9_asPublicException_8 lk_X9_13 (ct_J6_hashG hG (by rw [hx_state]; decide)) (hG.str (asc_of (by decide +kernel)) (by decide +kernel)).isC rfl rfl (Nat.le_of_ble_eq_true rfl) (Nat.le_of_ble_eq_true rfl) (Nat.le_of_ble_eq_true rfl) (by omega) (by omega) ?_
  refine PRk ?_
  refine V_lookup (tgt := 80) F dX9_asPublicException_11 (by decide) (off := 69) (by rw [hx_state]; decide +kernel) (by decide) ?_
  refine V_aload_n (i := 1) F dX9_asPublicException_80 rfl rfl ?_
  refine V_ldcS F dX9_asPublicException_81 q2678 ?_
  intro w1 hGw1
  refine V_callV (st := []) (nn := 1) F dX9_asPublicException_83 lk_X9_21 (ct_J6_equals (hG.str (asc_of (by decide +kernel)) (by decide +kernel)) (hGw1.str (asc_of (by decide +kernel)) (by decide +kernel))) (hG.str (h := h) (asc_of (by decide +kernel)) (by decide +kernel)).isC rfl rfl (Nat.le_of_ble_eq_true rfl) (Nat.le_of_ble_eq_true rfl) (Nat.le_of_ble_eq_true rfl) (by omega) (by omega) ?_
  refine PRk ?_
  refine V_if_eqN (tgt := 105) F dX9_asPublicException_86 (by decide) (by omega) (fun c_86 => absurd c_86 (by decide)) (fun c_86 => ?_)
  refine V_iconst (v := nI 2) F dX9_asPublicException_89 rfl ?_
  refine V_istore_n (i := 2) F dX9_asPublicException_90 rfl (Nat.le_of_ble_eq_true rfl) (Nat.le_of_ble_eq_true rfl) ?_
  refine V_goto (tgt := 105) F dX9_asPublicException_91 (by decide) ?_
  refine V_iload_n (i := 2) F dX9_asPublicException_105 rfl rfl ?_
  refine V_tableIn (tgt := 152) (off := 46) F dX9_asPublicException_106 (by decide) (by decide) (by decide +kernel) (by decide) ?_
  refine V_make0 F hl0 e0_J42 (by decide +kernel) q161 (ci := 36) rfl dX9_asPublicException_152 dX9_asPublicException_155 dX9_asPublicException_156 q2687 q2688 (Nat.le_of_ble_eq_true rfl) (Nat.le_of_ble_eq_true rfl) (by omega) (by omega) ?_
  intro q hfq hbq
  have qq : (hset h q (.inr (36, []))) q = some (.inr (36, [])) := (hset_self (e := .inr (36, [])))
  have qf := ((Fr.rf (M := nM) (h := h)).nw (x := .inr (36, [])) hfq)
  exact V_aret F dX9_asPublicException_159 (Or.inl ⟨_, rfl⟩) (Or.inr ⟨_, rfl⟩) (by first | exact Nat.le_of_ble_eq_true rfl | omega) (by first | exact Nat.le_of_ble_eq_true rfl | omega) ⟨q, rfl, hfq, qq, qf⟩
theorem ct_X9_pub_element {G : GG} {l : Launch} {h : AH} {q0 a : Nat}  (hl0 : l.stackTraces = false) (hq : h q0 = some (.inr (7, [.ref a]))) (hG : Gstr G "element" a) : Ct G l yX9_asPublicException cX9_asPublicException 3 (some (.object "java/lang/RuntimeException")) 6 (1) (6) [.ref q0] h (fun r h2 => ∃ q, r = some (.ref q) ∧ h q = none ∧ h2 q = some (.inr (38, [])) ∧ Fr nM h h2) := by
  refine Ct.of (by decide) (Nat.le_of_ble_eq_true rfl) (cat1 rfl) (fun X hXl F HN => ?_)
  subst hXl
  refine V_aload_n (i := 0) F dX9_asPublicException_0 rfl rfl ?_
  refine V_getf F dX9_asPublicException_1 fc_X9_7_X9 (.inl hq) rfl ?_
  refine V_astore_n (i := 1) F dX9_asPublicException_4 rfl (Nat.le_of_ble_eq_true rfl) (Nat.le_of_ble_eq_true rfl) ?_
  refine V_iconst (v := -1) F dX9_asPublicException_5 rfl ?_
  refine V_istore_n (i := 2) F dX9_asPublicException_6 rfl (Nat.le_of_ble_eq_true rfl) (Nat.le_of_ble_eq_true rfl) ?_
  refine V_aload_n (i := 1) F dX9_asPublicException_7 rfl rfl ?_
  refine V_callV (st := []) (nn := 0) F dX9_asPublicException_8 lk_X9_13 (ct_J6_hashG hG (by rw [hx_element]; decide)) (hG.str (asc_of (by decide +kernel)) (by decide +kernel)).isC rfl rfl (Nat.le_of_ble_eq_true rfl) (Nat.le_of_ble_eq_true rfl) (Nat.le_of_ble_eq_true rfl) (by omega) (by omega) ?_
  refine PRk ?_
  refine V_lookup (tgt := 94) F dX9_asPublicException_11 (by decide) (off := 83) (by rw [hx_element]; decide +kernel) (by decide) ?_
  refine V_aload_n (i := 1) F dX9_asPublicException_94 rfl rfl ?_
  refine V_ldcS F dX9_asPublicException_95 q2679 ?_
  intro w1 hGw1
  refine V_callV (st := []) (nn := 1) F dX9_asPublicException_97 lk_X9_21 (ct_J6_equals (hG.str (asc_of (by decide +kernel)) (by decide +kernel)) (hGw1.str (asc_of (by decide +kernel)) (by decide +kernel))) (hG.str (h := h) (asc_of (by decide +kernel)) (by decide +kernel)).isC rfl rfl (Nat.le_of_ble_eq_true rfl) (Nat.le_of_ble_eq_true rfl) (Nat.le_of_ble_eq_true rfl) (by omega) (by omega) ?_
  refine PRk ?_
  refine V_if_eqN (tgt := 105) F dX9_asPublicException_100 (by decide) (by omega) (fun c_100 => absurd c_100 (by decide)) (fun c_100 => ?_)
  refine V_iconst (v := nI 3) F dX9_asPublicException_103 rfl ?_
  refine V_istore_n (i := 2) F dX9_asPublicException_104 rfl (Nat.le_of_ble_eq_true rfl) (Nat.le_of_ble_eq_true rfl) ?_
  refine V_iload_n (i := 2) F dX9_asPublicException_105 rfl rfl ?_
  refine V_tableIn (tgt := 160) (off := 54) F dX9_asPublicException_106 (by decide) (by decide) (by decide +kernel) (by decide) ?_
  refine V_make0 F hl0 e0_J36 (by decide +kernel) q144 (ci := 38) rfl dX9_asPublicException_160 dX9_asPublicException_163 dX9_asPublicException_164 q2689 q2690 (Nat.le_of_ble_eq_true rfl) (Nat.le_of_ble_eq_true rfl) (by omega) (by omega) ?_
  intro q hfq hbq
  have qq : (hset h q (.inr (38, []))) q = some (.inr (38, [])) := (hset_self (e := .inr (38, [])))
  have qf := ((Fr.rf (M := nM) (h := h)).nw (x := .inr (38, [])) hfq)
  exact V_aret F dX9_asPublicException_167 (Or.inl ⟨_, rfl⟩) (Or.inr ⟨_, rfl⟩) (by first | exact Nat.le_of_ble_eq_true rfl | omega) (by first | exact Nat.le_of_ble_eq_true rfl | omega) ⟨q, rfl, hfq, qq, qf⟩
theorem ct_X9_pub_rule {G : GG} {l : Launch} {h : AH} {q0 a : Nat}  (hl0 : l.stackTraces = false) (hq : h q0 = some (.inr (7, [.ref a]))) (hG : Gstr G "rule" a) : Ct G l yX9_asPublicException cX9_asPublicException 3 (some (.object "java/lang/RuntimeException")) 6 (1) (6) [.ref q0] h (fun r h2 => ∃ q, r = some (.ref q) ∧ h q = none ∧ h2 q = some (.inr (37, [])) ∧ Fr nM h h2) := by
  refine Ct.of (by decide) (Nat.le_of_ble_eq_true rfl) (cat1 rfl) (fun X hXl F HN => ?_)
  subst hXl
  refine V_aload_n (i := 0) F dX9_asPublicException_0 rfl rfl ?_
  refine V_getf F dX9_asPublicException_1 fc_X9_7_X9 (.inl hq) rfl ?_
  refine V_astore_n (i := 1) F dX9_asPublicException_4 rfl (Nat.le_of_ble_eq_true rfl) (Nat.le_of_ble_eq_true rfl) ?_
  refine V_iconst (v := -1) F dX9_asPublicException_5 rfl ?_
  refine V_istore_n (i := 2) F dX9_asPublicException_6 rfl (Nat.le_of_ble_eq_true rfl) (Nat.le_of_ble_eq_true rfl) ?_
  refine V_aload_n (i := 1) F dX9_asPublicException_7 rfl rfl ?_
  refine V_callV (st := []) (nn := 0) F dX9_asPublicException_8 lk_X9_13 (ct_J6_hashG hG (by rw [hx_rule]; decide)) (hG.str (asc_of (by decide +kernel)) (by decide +kernel)).isC rfl rfl (Nat.le_of_ble_eq_true rfl) (Nat.le_of_ble_eq_true rfl) (Nat.le_of_ble_eq_true rfl) (by omega) (by omega) ?_
  refine PRk ?_
  refine V_lookup (tgt := 105) F dX9_asPublicException_11 (by decide) (off := 94) (by rw [hx_rule]; decide +kernel) (by decide) ?_
  refine V_iload_n (i := 2) F dX9_asPublicException_105 rfl rfl ?_
  refine V_tableOut (tgt := 168) F dX9_asPublicException_106 (by decide) (by decide) ?_
  refine V_make0 F hl0 e0_J43 (by decide +kernel) q162 (ci := 37) rfl dX9_asPublicException_168 dX9_asPublicException_171 dX9_asPublicException_172 q2691 q2700 (Nat.le_of_ble_eq_true rfl) (Nat.le_of_ble_eq_true rfl) (by omega) (by omega) ?_
  intro q hfq hbq
  have qq : (hset h q (.inr (37, []))) q = some (.inr (37, [])) := (hset_self (e := .inr (37, [])))
  have qf := ((Fr.rf (M := nM) (h := h)).nw (x := .inr (37, [])) hfq)
  exact V_aret F dX9_asPublicException_175 (Or.inl ⟨_, rfl⟩) (Or.inr ⟨_, rfl⟩) (by first | exact Nat.le_of_ble_eq_true rfl | omega) (by first | exact Nat.le_of_ble_eq_true rfl | omega) ⟨q, rfl, hfq, qq, qf⟩
theorem ct_X18_pub {G : GG} {l : Launch} {h : AH} {q0 : Nat}  (hl0 : l.stackTraces = false) : Ct G l yX18_asPublicException cX18_asPublicException 1 (some (.object "java/lang/RuntimeException")) 6 (1) (6) [.ref q0] h (fun r h2 => ∃ q, r = some (.ref q) ∧ h q = none ∧ h2 q = some (.inr (35, [])) ∧ Fr nM h h2) := by
  refine Ct.of (by decide) (Nat.le_of_ble_eq_true rfl) (cat1 rfl) (fun X hXl F HN => ?_)
  subst hXl
  refine V_make0 F hl0 e0_J23 (by decide +kernel) q129 (ci := 35) rfl dX18_asPublicException_0 dX18_asPublicException_3 dX18_asPublicException_4 q2709 q2710 (Nat.le_of_ble_eq_true rfl) (Nat.le_of_ble_eq_true rfl) (by omega) (by omega) ?_
  intro q hfq hbq
  have qq : (hset h q (.inr (35, []))) q = some (.inr (35, [])) := (hset_self (e := .inr (35, [])))
  have qf := ((Fr.rf (M := nM) (h := h)).nw (x := .inr (35, [])) hfq)
  exact V_aret F dX18_asPublicException_7 (Or.inl ⟨_, rfl⟩) (Or.inr ⟨_, rfl⟩) (by first | exact Nat.le_of_ble_eq_true rfl | omega) (by first | exact Nat.le_of_ble_eq_true rfl | omega) ⟨q, rfl, hfq, qq, qf⟩
theorem ct_X19_pub {G : GG} {l : Launch} {h : AH} {q0 : Nat}  (hl0 : l.stackTraces = false) : Ct G l yX19_asPublicException cX19_asPublicException 1 (some (.object "java/lang/RuntimeException")) 6 (1) (6) [.ref q0] h (fun r h2 => ∃ q, r = some (.ref q) ∧ h q = none ∧ h2 q = some (.inr (36, [])) ∧ Fr nM h h2) := by
  refine Ct.of (by decide) (Nat.le_of_ble_eq_true rfl) (cat1 rfl) (fun X hXl F HN => ?_)
  subst hXl
  refine V_make0 F hl0 e0_J42 (by decide +kernel) q161 (ci := 36) rfl dX19_asPublicException_0 dX19_asPublicException_3 dX19_asPublicException_4 q2656 q2665 (Nat.le_of_ble_eq_true rfl) (Nat.le_of_ble_eq_true rfl) (by omega) (by omega) ?_
  intro q hfq hbq
  have qq : (hset h q (.inr (36, []))) q = some (.inr (36, [])) := (hset_self (e := .inr (36, [])))
  have qf := ((Fr.rf (M := nM) (h := h)).nw (x := .inr (36, [])) hfq)
  exact V_aret F dX19_asPublicException_7 (Or.inl ⟨_, rfl⟩) (Or.inr ⟨_, rfl⟩) (by first | exact Nat.le_of_ble_eq_true rfl | omega) (by first | exact Nat.le_of_ble_eq_true rfl | omega) ⟨q, rfl, hfq, qq, qf⟩
theorem ct_X18_position {G : GG} {l : Launch} {h : AH} {q0 : Nat} {v : Int32}  (hq : h q0 = some (.inr (15, [.int v]))) : Ct G l yX18_position cX18_position 1 (some .int) 0 (0) (0) [.ref q0] h (PR (.int v) h) := by
  refine Ct.of (by decide) (Nat.le_of_ble_eq_true rfl) (cat1 rfl) (fun X hXl F HN => ?_)
  subst hXl
  refine V_aload_n (i := 0) F dX18_position_0 rfl rfl ?_
  refine V_getf F dX18_position_1 fc_X18_7_X18 (.inl hq) rfl ?_
  exact V_iret F dX18_position_4 rfl (by first | exact Nat.le_of_ble_eq_true rfl | omega) (by first | exact Nat.le_of_ble_eq_true rfl | omega) ⟨rfl, rfl⟩
theorem ct_X19_index {G : GG} {l : Launch} {h : AH} {q0 : Nat} {v : Int32}  (hq : h q0 = some (.inr (16, [.int v]))) : Ct G l yX19_index cX19_index 1 (some .int) 0 (0) (0) [.ref q0] h (PR (.int v) h) := by
  refine Ct.of (by decide) (Nat.le_of_ble_eq_true rfl) (cat1 rfl) (fun X hXl F HN => ?_)
  subst hXl
  refine V_aload_n (i := 0) F dX19_index_0 rfl rfl ?_
  refine V_getf F dX19_index_1 fc_X19_7_X19 (.inl hq) rfl ?_
  exact V_iret F dX19_index_4 rfl (by first | exact Nat.le_of_ble_eq_true rfl | omega) (by first | exact Nat.le_of_ble_eq_true rfl | omega) ⟨rfl, rfl⟩
