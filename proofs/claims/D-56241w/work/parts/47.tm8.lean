theorem WT.sing : WT 1 (some 0) (fun _ => none) (fun _ => none) (fun _ => none) (fun _ => 0) (fun _ => 1) := by
  refine ⟨fun i h => ⟨Nat.zero_le _, h, Nat.le_refl _⟩, fun i h _ => (by show 0 = i; omega), (fun i j h q => by cases q), fun i h _ => (by show 1 = i + 1; omega), (fun i j h q => by cases q), fun i h _ => by rw [show i = 0 by omega], (fun i j h q => by cases q), fun r q => by cases q; exact ⟨by omega, rfl, rfl, rfl⟩, (fun q => by cases q)⟩

theorem ct_TM_compare {G : GG} {l : Launch} {h : AH} {t mc n : Nat} {A K V : Nat → Nat} {k mL dC : Nat} {D : String} {y : MethodName} {cc : ByteArray} {c : Int32} (hM : TMp h t mc n A K V) (lk : LkF RJ10 107 D ⟨"java/lang/Comparable", "compareTo", "(Ljava/lang/Object;)I"⟩ y cc mL (some .int) 1) (hkc : isC G h k D) (hca : Cond.castable D "java/lang/Comparable" ∈ lw_tbl) (hmL : mL ≤ 45) (hdC : dC ≤ 4) (hcc : Ct G l y cc mL (some .int) dC 0 0 [.ref k, .ref k] h (PR (.int c) h)) : Ct G l yJ10_compare cJ10_compare 3 (some .int) 5 (0) (0) [.ref t, .ref k, .ref k] h (PR (.int c) h) := by
  refine Ct.of (by decide) (Nat.le_of_ble_eq_true rfl) (cat1 rfl) (fun X hXl F HN => ?_)
  subst hXl
  obtain ⟨hAI, rt, L, R, P, C, lo, hi, hC, hT, hw⟩ := hM
  obtain ⟨x0, x1, x6, x7, x8, ht, hv1, hv7⟩ := id hC
  refine V_aload_n (i := 0) F dJ10_compare_0 rfl rfl ?_
  refine V_getf F dJ10_compare_1 fc_J10_16_J10 (.inl ht) rfl ?_
  refine V_ifnonnullN F dJ10_compare_4 ?_
  refine V_aload_n (i := 1) F dJ10_compare_7 rfl rfl ?_
  refine V_ck F dJ10_compare_8 q2115 hkc hca ?_
  refine V_aload_n (i := 2) F dJ10_compare_11 rfl rfl ?_
  refine V_callF (st := []) F dJ10_compare_12 lk hcc hkc rfl rfl (Nat.le_of_ble_eq_true rfl) (by omega) hmL (by first | exact Nat.le_of_ble_eq_true rfl | omega) (by first | exact Nat.le_of_ble_eq_true rfl | omega) (PRk ?_)
  refine V_goto (tgt := 31) F dJ10_compare_17 (by decide) ?_
  exact V_iret F dJ10_compare_31 rfl (by first | exact Nat.le_of_ble_eq_true rfl | omega) (by first | exact Nat.le_of_ble_eq_true rfl | omega) ⟨rfl, rfl⟩
theorem ct_addEntry0 {G : GG} {l : Launch} {h : AH} {t mc : Nat} {A K V : Nat → Nat} {k mL dC : Nat} {D : String} {y : MethodName} {cc : ByteArray} {v : Nat} (hM : TMp h t mc 0 A K V) (hkk : CKK G l h k D y cc mL dC) : Ct G l yJ10_addEntryToEmptyMap cJ10_addEntryToEmptyMap 3 none 6 (1) (6) [.ref t, .ref k, .ref v] h (fun r h2 => r = none ∧ ∃ A2, TMp h2 t (mc + 1) (0 + 1) A2 (insF K 0 k) (insF V 0 v) ∧ NF h 0 (0 + 1) A A2 ∧ Fr (mT t 0 A) h h2) := by
  refine Ct.of (by decide) (Nat.le_of_ble_eq_true rfl) (cat1 rfl) (fun X hXl F HN => ?_)
  subst hXl
  obtain ⟨lk, hkc, hca, hmL, hdC, c, hcc⟩ := hkk
  have hM0 := hM
  obtain ⟨hAI, rt, L, R, P, C, lo, hi, hC, hT, hw⟩ := hM0
  obtain ⟨x0, x1, x6, x7, x8, ht, hv1, hv7⟩ := id hC
  refine V_aload_n (i := 0) F dJ10_addEntryToEmptyMap_0 rfl rfl ?_
  refine V_aload_n (i := 1) F dJ10_addEntryToEmptyMap_1 rfl rfl ?_
  refine V_aload_n (i := 1) F dJ10_addEntryToEmptyMap_2 rfl rfl ?_
  refine V_callV (st := []) F dJ10_addEntryToEmptyMap_3 lk_J10_123 (ct_TM_compare hM lk hkc hca hmL hdC hcc) ⟨23, _, _, _, rfl, (.inl ht)⟩ rfl rfl (Nat.le_of_ble_eq_true rfl) (Nat.le_of_ble_eq_true rfl) (Nat.le_of_ble_eq_true rfl) (by first | exact Nat.le_of_ble_eq_true rfl | omega) (by first | exact Nat.le_of_ble_eq_true rfl | omega) ?_
  refine PRk ?_
  refine V_pop F dJ10_addEntryToEmptyMap_6 rfl ?_
  refine V_aload_n (i := 0) F dJ10_addEntryToEmptyMap_7 rfl rfl ?_
  refine V_new F dJ10_addEntryToEmptyMap_8 nw_J10_59 (by first | exact Nat.le_of_ble_eq_true rfl | omega) (by first | exact Nat.le_of_ble_eq_true rfl | omega) ?_
  intro o1 hfo1 hbo1
  refine V_dup F dJ10_addEntryToEmptyMap_11 rfl ?_
  refine V_aload_n (i := 1) F dJ10_addEntryToEmptyMap_12 rfl rfl ?_
  refine V_aload_n (i := 2) F dJ10_addEntryToEmptyMap_13 rfl rfl ?_
  refine V_null F dJ10_addEntryToEmptyMap_14 ?_
  refine V_callI (st := [.ref (o1), .ref (t)]) F dJ10_addEntryToEmptyMap_15 lk_J10_167 (ct_Entry_init0 (k := k) (v := v) (hset_self (e := .inr (24, [.null, .null, .null, .null, .null, .int 0])))) rfl rfl (Nat.le_of_ble_eq_true rfl) (Nat.le_of_ble_eq_true rfl) (Nat.le_of_ble_eq_true rfl) (by first | exact Nat.le_of_ble_eq_true rfl | omega) (by first | exact Nat.le_of_ble_eq_true rfl | omega) ?_
  rintro _ h2 ⟨rfl, ho2, hx2⟩
  have hCb := TC.fr (ro := rt.map A) (n := 0) (mc := mc) (t := t) ⟨x0, x1, x6, x7, x8, ((hset_ne (ne_nw ht hfo1)).trans ht), vw_fr hv1 ((Fr.rf (M := fun _ => True) (h := h)).nw (x := .inr (24, [.null, .null, .null, .null, .null, .int 0])) hfo1) rfl, vw_fr hv7 ((Fr.rf (M := fun _ => True) (h := h)).nw (x := .inr (24, [.null, .null, .null, .null, .null, .int 0])) hfo1) rfl⟩ hx2 (ne_nw ht hfo1)
  obtain ⟨z0, z1, z6, z7, z8, htb, hvc, hvd⟩ := id hCb
  have f2 : Fr (mT t 0 A) h h2 := ((Fr.rf (M := mT t 0 A) (h := h)).nw (x := .inr (24, [.null, .null, .null, .null, .null, .int 0])) hfo1).cal hx2 (Yo.m1 ((Fr.rf (M := mT t 0 A) (h := h)).yo hfo1))
  have g3 := ((Fr.rf (M := fun _ => True) (h := h)).nw (x := .inr (24, [.null, .null, .null, .null, .null, .int 0])) hfo1).cal hx2 (fun _ _ => Or.inl trivial)
  refine V_putf F dJ10_addEntryToEmptyMap_18 fp_J10_101_J10 htb rfl rfl (Nat.le_of_ble_eq_true rfl) ?_
  refine VV.heap (h' := (hset h2 (t) (.inr (23, [z0, z1, .null, .ref (o1), .int (nI (0)), .int (nI (mc)), z6, z7, z8])))) rfl ?_
  refine V_aload_n (i := 0) F dJ10_addEntryToEmptyMap_21 rfl rfl ?_
  refine V_iconst (v := nI 1) F dJ10_addEntryToEmptyMap_22 rfl ?_
  refine V_putf F dJ10_addEntryToEmptyMap_23 fp_J10_7_J10 (hset_self (e := .inr (23, [z0, z1, .null, .ref (o1), .int (nI (0)), .int (nI (mc)), z6, z7, z8]))) rfl rfl (Nat.le_of_ble_eq_true rfl) ?_
  refine VV.heap (h' := (hset (hset h2 (t) (.inr (23, [z0, z1, .null, .ref (o1), .int (nI (0)), .int (nI (mc)), z6, z7, z8]))) (t) (.inr (23, [z0, z1, .null, .ref (o1), .int (nI (1)), .int (nI (mc)), z6, z7, z8])))) rfl ?_
  refine V_aload_n (i := 0) F dJ10_addEntryToEmptyMap_26 rfl rfl ?_
  refine V_dup F dJ10_addEntryToEmptyMap_27 rfl ?_
  refine V_getf F dJ10_addEntryToEmptyMap_28 fc_J10_13_J10 (.inl (hset_self (e := .inr (23, [z0, z1, .null, .ref (o1), .int (nI (1)), .int (nI (mc)), z6, z7, z8])))) rfl ?_
  refine V_iconst (v := nI 1) F dJ10_addEntryToEmptyMap_31 rfl ?_
  refine V_iaddN F dJ10_addEntryToEmptyMap_32 ?_
  refine V_putf F dJ10_addEntryToEmptyMap_33 fp_J10_13_J10 (hset_self (e := .inr (23, [z0, z1, .null, .ref (o1), .int (nI (1)), .int (nI (mc)), z6, z7, z8]))) rfl rfl (Nat.le_of_ble_eq_true rfl) ?_
  refine VV.heap (h' := (hset (hset (hset h2 (t) (.inr (23, [z0, z1, .null, .ref (o1), .int (nI (0)), .int (nI (mc)), z6, z7, z8]))) (t) (.inr (23, [z0, z1, .null, .ref (o1), .int (nI (1)), .int (nI (mc)), z6, z7, z8]))) (t) (.inr (23, [z0, z1, .null, .ref (o1), .int (nI (1)), .int (nI (mc + 1)), z6, z7, z8])))) rfl ?_
  have hfz := (((f2.put (x := .inr (23, [z0, z1, .null, .ref (o1), .int (nI (0)), .int (nI (mc)), z6, z7, z8])) htb rfl rfl (Or.inl (Or.inl rfl))).put (x := .inr (23, [z0, z1, .null, .ref (o1), .int (nI (1)), .int (nI (mc)), z6, z7, z8])) (hset_self (e := .inr (23, [z0, z1, .null, .ref (o1), .int (nI (0)), .int (nI (mc)), z6, z7, z8]))) rfl rfl (Or.inl (Or.inl rfl))).put (x := .inr (23, [z0, z1, .null, .ref (o1), .int (nI (1)), .int (nI (mc + 1)), z6, z7, z8])) (hset_self (e := .inr (23, [z0, z1, .null, .ref (o1), .int (nI (1)), .int (nI (mc)), z6, z7, z8]))) rfl rfl (Or.inl (Or.inl rfl)))
  have hfy := ((((Fr.rf (M := fun _ => True) (h := h2)).put (x := .inr (23, [z0, z1, .null, .ref (o1), .int (nI (0)), .int (nI (mc)), z6, z7, z8])) htb rfl rfl (Or.inl trivial)).put (x := .inr (23, [z0, z1, .null, .ref (o1), .int (nI (1)), .int (nI (mc)), z6, z7, z8])) (hset_self (e := .inr (23, [z0, z1, .null, .ref (o1), .int (nI (0)), .int (nI (mc)), z6, z7, z8]))) rfl rfl (Or.inl trivial)).put (x := .inr (23, [z0, z1, .null, .ref (o1), .int (nI (1)), .int (nI (mc + 1)), z6, z7, z8])) (hset_self (e := .inr (23, [z0, z1, .null, .ref (o1), .int (nI (1)), .int (nI (mc)), z6, z7, z8]))) rfl rfl (Or.inl trivial))
  have htz : (hset (hset (hset h2 (t) (.inr (23, [z0, z1, .null, .ref (o1), .int (nI (0)), .int (nI (mc)), z6, z7, z8]))) (t) (.inr (23, [z0, z1, .null, .ref (o1), .int (nI (1)), .int (nI (mc)), z6, z7, z8]))) (t) (.inr (23, [z0, z1, .null, .ref (o1), .int (nI (1)), .int (nI (mc + 1)), z6, z7, z8]))) t = some (.inr (23, [z0, z1, .null, .ref (o1), .int (nI (1)), .int (nI (mc + 1)), z6, z7, z8])) := (hset_self (e := .inr (23, [z0, z1, .null, .ref (o1), .int (nI (1)), .int (nI (mc + 1)), z6, z7, z8])))
  have hoz : (hset (hset (hset h2 (t) (.inr (23, [z0, z1, .null, .ref (o1), .int (nI (0)), .int (nI (mc)), z6, z7, z8]))) (t) (.inr (23, [z0, z1, .null, .ref (o1), .int (nI (1)), .int (nI (mc)), z6, z7, z8]))) (t) (.inr (23, [z0, z1, .null, .ref (o1), .int (nI (1)), .int (nI (mc + 1)), z6, z7, z8]))) o1 = some (.inr (24, [.ref (k), .ref (v), .null, .null, .null, .int (nI (1))])) := ((hset_ne (Ne.symm (ne_nw ht hfo1))).trans ((hset_ne (Ne.symm (ne_nw ht hfo1))).trans ((hset_ne (Ne.symm (ne_nw ht hfo1))).trans ho2)))
  exact V_vret F dJ10_addEntryToEmptyMap_36 (by first | exact Nat.le_of_ble_eq_true rfl | omega) (by first | exact Nat.le_of_ble_eq_true rfl | omega) ⟨rfl, insF A 0 o1, ⟨AI.ins hAI (by omega) (fun i hi => absurd hi (by omega)), some 0, fun _ => none, fun _ => none, fun _ => none, fun _ => true, fun _ => 0, fun _ => 1, ⟨z0, z1, z6, z7, z8, htz, vw_fr hvc hfy rfl, vw_fr hvd hfy rfl⟩, fun i hi => (by rw [show i = 0 by omega]; exact hoz), WT.sing⟩, NF.ins (by omega) hfo1, hfz⟩
theorem ct_TM_add2 {G : GG} {l : Launch} {h : AH} {t mc n : Nat} {A K V : Nat → Nat} {k pos mL dC : Nat} {fd : Bool} {D : String} {y : MethodName} {cc : ByteArray} {v : Nat} (hM : TMp h t mc n A K V) (hcm : CMP G l h k n pos fd K D y cc mL dC) (hfd0 : fd = false) (hkk : CKK G l h k D y cc mL dC) : Ct G l yJ10_put_2 cJ10_put_2 10 (some (.object "java/lang/Object")) 7 (1) (6) [.ref t, .ref k, .ref v, .int (nI 1)] h (fun r h2 => r = some .null ∧ ∃ A2, TMp h2 t (mc + 1) (n + 1) A2 (insF K pos k) (insF V pos v) ∧ NF h n (n + 1) A A2 ∧ Fr (mT t n A) h h2) := by
  refine Ct.of (by decide) (Nat.le_of_ble_eq_true rfl) (cat1 rfl) (fun X hXl F HN => ?_)
  subst hXl
  subst hfd0
  have hcm0 := hcm
  obtain ⟨lk, hkc, hca, hmL, hdC, hpn, hfd, hcmp⟩ := id hcm
  have hM0 := hM
  obtain ⟨hAI, rt, L, R, P, C, lo, hi, hC, hT, hw⟩ := hM0
  obtain ⟨x0, x1, x6, x7, x8, ht, hv1, hv7⟩ := id hC
  have loop : ∀ (nn : Nat) (i : Nat), hi i - lo i < nn → i < n → UN lo hi pos false i → VV G X 10 (EQ G X (1) (6) (fun r h2 => r = some .null ∧ ∃ A2, TMp h2 t (mc + 1) (n + 1) A2 (insF K pos k) (insF V pos v) ∧ NF h n (n + 1) A A2 ∧ Fr (mT t n A) h h2)) h 0 0 [some (.ref (t)), some (.ref (k)), some (.ref (v)), some (.int (nI (1))), some (.ref (A i)), none, none, some (.null), some (.ref (k)), none] [] 123 := by
    intro nn
    induction nn with
    | zero => intro i hm hi1 hun; exact absurd hm (by omega)
    | succ nn ih =>
      intro i hm hi1 hun
      refine V_aload (i := 4) F dJ10_put_2_123 rfl ?_
      refine V_astore (i := 6) F dJ10_put_2_125 (Nat.le_of_ble_eq_true rfl) (Nat.le_of_ble_eq_true rfl) ?_
      refine V_aload (i := 8) F dJ10_put_2_127 rfl ?_
      refine V_aload (i := 4) F dJ10_put_2_129 rfl ?_
      refine V_getf F dJ10_put_2_131 fc_J10_105_J41 (.inl (hT i hi1)) rfl ?_
      obtain ⟨ci, hcc, hcs⟩ := hcmp i hi1
      refine V_callF (st := []) F dJ10_put_2_134 lk hcc hkc rfl rfl (Nat.le_of_ble_eq_true rfl) (by omega) hmL (by first | exact Nat.le_of_ble_eq_true rfl | omega) (by first | exact Nat.le_of_ble_eq_true rfl | omega) (PRk ?_)
      refine V_istore (i := 5) F dJ10_put_2_139 (Nat.le_of_ble_eq_true rfl) (Nat.le_of_ble_eq_true rfl) ?_
      refine V_iload (i := 5) F dJ10_put_2_141 rfl ?_
      refine V_if_ge (tgt := 156) F dJ10_put_2_143 (by decide) (fun c_143 => ?_) (fun c_143 => ?_)
      · refine V_iload (i := 5) F dJ10_put_2_156 rfl ?_
        refine V_if_le (tgt := 171) F dJ10_put_2_158 (by decide) (fun c_158 => ?_) (fun c_158 => ?_)
        · exact absurd (CS.eq hcs c_143 c_158).1 (by decide)
        · refine V_aload (i := 4) F dJ10_put_2_161 rfl ?_
          refine V_getf F dJ10_put_2_163 fc_J10_114_J41 (.inl (hT i hi1)) rfl ?_
          refine V_astoreQ (i := 4) F dJ10_put_2_166 (Nat.le_of_ble_eq_true rfl) (Nat.le_of_ble_eq_true rfl) ?_
          refine V_goto (tgt := 196) F dJ10_put_2_168 (by decide) ?_
          refine V_aloadQ (i := 4) F dJ10_put_2_196 rfl ?_
          refine V_ifnonnullM (tgt := 123) F dJ10_put_2_198 (by decide) (fun j qj => ?_) (fun qj => ?_)
          · have hj : j < n := hw.bR hi1 qj
            refine VV.loc (L' := [some (.ref (t)), some (.ref (k)), some (.ref (v)), some (.int (nI (1))), some (.ref (A j)), some (.int (ci)), some (.ref (A i)), some (.null), some (.ref (k)), none]) (by rw [qj]; rfl) ?_
            refine VV.weak (L' := [some (.ref (t)), some (.ref (k)), some (.ref (v)), some (.int (nI (1))), some (.ref (A j)), none, none, some (.null), some (.ref (k)), none]) (LW.c1 (LW.c1 (LW.c1 (LW.c1 (LW.c1 (LW.c0 (LW.c0 (LW.c1 (LW.c1 (LW.c0 LW.nil)))))))))) ?_
            have hu := hw.2.2.2.2.1 i j hi1 qj
            refine ih j (by have h1 := hw.1 i hi1; have h2 := hw.1 j hj; omega) hj ?_
            have h5 := CS.gt hcs c_158
            exact ⟨by omega, by have := hun.2.1; omega, fun q => by have := hun.2.2 q; omega⟩
          · refine VV.loc (L' := [some (.ref (t)), some (.ref (k)), some (.ref (v)), some (.int (nI (1))), some (.null), some (.int (ci)), some (.ref (A i)), some (.null), some (.ref (k)), none]) (by rw [qj]; rfl) ?_
            have h1 := hw.1 i hi1
            have h2 := hun.1
            have h3 := hun.2.1
            have h4 := hw.2.2.2.1 i hi1 qj
            have h5 := CS.gt hcs c_158
            have hpi : pos = i + 1 := by omega
            refine V_aload_n (i := 0) F dJ10_put_2_201 rfl rfl ?_
            refine V_aload_n (i := 1) F dJ10_put_2_202 rfl rfl ?_
            refine V_aload_n (i := 2) F dJ10_put_2_203 rfl rfl ?_
            refine V_aload (i := 6) F dJ10_put_2_204 rfl ?_
            refine V_iload (i := 5) F dJ10_put_2_206 rfl ?_
            refine V_if_ge (tgt := 215) F dJ10_put_2_208 (by decide) (fun c_208 => ?_) (fun c_208 => absurd c_143 c_208)
            refine V_iconst (v := nI 0) F dJ10_put_2_215 rfl ?_
            refine V_callV (st := []) F dJ10_put_2_216 lk_J10_139 (ct_addEntryR hC hT hAI hw hi1 qj hpi) ⟨23, _, _, _, rfl, (.inl ht)⟩ rfl rfl (Nat.le_of_ble_eq_true rfl) (Nat.le_of_ble_eq_true rfl) (Nat.le_of_ble_eq_true rfl) (by first | exact Nat.le_of_ble_eq_true rfl | omega) (by first | exact Nat.le_of_ble_eq_true rfl | omega) ?_
            rintro _ h2 ⟨rfl, A2, hM2, hN2, hF2⟩
            refine V_null F dJ10_put_2_219 ?_
            exact V_aret F dJ10_put_2_220 (Or.inl ⟨_, rfl⟩) (Or.inl rfl) (by first | exact Nat.le_of_ble_eq_true rfl | omega) (by first | exact Nat.le_of_ble_eq_true rfl | omega) ⟨rfl, A2, hM2, hN2, hF2⟩
      · refine V_aload (i := 4) F dJ10_put_2_146 rfl ?_
        refine V_getf F dJ10_put_2_148 fc_J10_111_J41 (.inl (hT i hi1)) rfl ?_
        refine V_astoreQ (i := 4) F dJ10_put_2_151 (Nat.le_of_ble_eq_true rfl) (Nat.le_of_ble_eq_true rfl) ?_
        refine V_goto (tgt := 196) F dJ10_put_2_153 (by decide) ?_
        refine V_aloadQ (i := 4) F dJ10_put_2_196 rfl ?_
        refine V_ifnonnullM (tgt := 123) F dJ10_put_2_198 (by decide) (fun j qj => ?_) (fun qj => ?_)
        · have hj : j < n := hw.bL hi1 qj
          refine VV.loc (L' := [some (.ref (t)), some (.ref (k)), some (.ref (v)), some (.int (nI (1))), some (.ref (A j)), some (.int (ci)), some (.ref (A i)), some (.null), some (.ref (k)), none]) (by rw [qj]; rfl) ?_
          refine VV.weak (L' := [some (.ref (t)), some (.ref (k)), some (.ref (v)), some (.int (nI (1))), some (.ref (A j)), none, none, some (.null), some (.ref (k)), none]) (LW.c1 (LW.c1 (LW.c1 (LW.c1 (LW.c1 (LW.c0 (LW.c0 (LW.c1 (LW.c1 (LW.c0 LW.nil)))))))))) ?_
          have hu := hw.2.2.1 i j hi1 qj
          refine ih j (by have h1 := hw.1 i hi1; have h2 := hw.1 j hj; omega) hj ?_
          have h5 := CS.lt hcs c_143
          exact ⟨by have := hun.1; omega, by omega, fun q => by have := h5.2 q; omega⟩
        · refine VV.loc (L' := [some (.ref (t)), some (.ref (k)), some (.ref (v)), some (.int (nI (1))), some (.null), some (.int (ci)), some (.ref (A i)), some (.null), some (.ref (k)), none]) (by rw [qj]; rfl) ?_
          have h1 := hw.1 i hi1
          have h2 := hun.1
          have h3 := hun.2.1
          have h4 := hw.2.1 i hi1 qj
          have h5 := (CS.lt hcs c_143).1
          have hpi : pos = i := by omega
          refine V_aload_n (i := 0) F dJ10_put_2_201 rfl rfl ?_
          refine V_aload_n (i := 1) F dJ10_put_2_202 rfl rfl ?_
          refine V_aload_n (i := 2) F dJ10_put_2_203 rfl rfl ?_
          refine V_aload (i := 6) F dJ10_put_2_204 rfl ?_
          refine V_iload (i := 5) F dJ10_put_2_206 rfl ?_
          refine V_if_ge (tgt := 215) F dJ10_put_2_208 (by decide) (fun c_208 => absurd c_208 c_143) (fun c_208 => ?_)
          refine V_iconst (v := nI 1) F dJ10_put_2_211 rfl ?_
          refine V_goto (tgt := 216) F dJ10_put_2_212 (by decide) ?_
          refine V_callV (st := []) F dJ10_put_2_216 lk_J10_139 (ct_addEntryL hC hT hAI hw hi1 qj hpi) ⟨23, _, _, _, rfl, (.inl ht)⟩ rfl rfl (Nat.le_of_ble_eq_true rfl) (Nat.le_of_ble_eq_true rfl) (Nat.le_of_ble_eq_true rfl) (by first | exact Nat.le_of_ble_eq_true rfl | omega) (by first | exact Nat.le_of_ble_eq_true rfl | omega) ?_
          rintro _ h2 ⟨rfl, A2, hM2, hN2, hF2⟩
          refine V_null F dJ10_put_2_219 ?_
          exact V_aret F dJ10_put_2_220 (Or.inl ⟨_, rfl⟩) (Or.inl rfl) (by first | exact Nat.le_of_ble_eq_true rfl | omega) (by first | exact Nat.le_of_ble_eq_true rfl | omega) ⟨rfl, A2, hM2, hN2, hF2⟩
  cases hrt : rt with
  | none =>
    have hn0 : n = 0 := hw.2.2.2.2.2.2.2.2 hrt
    have hp0 : pos = 0 := by omega
    subst hn0
    subst hp0
    refine V_aload_n (i := 0) F dJ10_put_2_0 rfl rfl ?_
    refine V_getf F dJ10_put_2_1 fc_J10_101_J10 (.inl ht) (by rw [hrt]; rfl) ?_
    refine V_astoreN (i := 4) F dJ10_put_2_4 (Nat.le_of_ble_eq_true rfl) (Nat.le_of_ble_eq_true rfl) ?_
    refine V_aloadN (i := 4) F dJ10_put_2_6 rfl ?_
    refine V_ifnonnullN F dJ10_put_2_8 ?_
    refine V_aload_n (i := 0) F dJ10_put_2_11 rfl rfl ?_
    refine V_aload_n (i := 1) F dJ10_put_2_12 rfl rfl ?_
    refine V_aload_n (i := 2) F dJ10_put_2_13 rfl rfl ?_
    refine V_callV (st := []) F dJ10_put_2_14 lk_J10_135 (ct_addEntry0 hM hkk) ⟨23, _, _, _, rfl, (.inl ht)⟩ rfl rfl (Nat.le_of_ble_eq_true rfl) (Nat.le_of_ble_eq_true rfl) (Nat.le_of_ble_eq_true rfl) (by first | exact Nat.le_of_ble_eq_true rfl | omega) (by first | exact Nat.le_of_ble_eq_true rfl | omega) ?_
    rintro _ h2 ⟨rfl, A2, hM2, hN2, hF2⟩
    refine V_null F dJ10_put_2_17 ?_
    exact V_aret F dJ10_put_2_18 (Or.inl ⟨_, rfl⟩) (Or.inl rfl) (by first | exact Nat.le_of_ble_eq_true rfl | omega) (by first | exact Nat.le_of_ble_eq_true rfl | omega) ⟨rfl, A2, hM2, hN2, hF2⟩
  | some r =>
    have hr1 := hw.2.2.2.2.2.2.2.1 r hrt
    refine V_aload_n (i := 0) F dJ10_put_2_0 rfl rfl ?_
    refine V_getf F dJ10_put_2_1 fc_J10_101_J10 (.inl ht) (by rw [hrt]; rfl) ?_
    refine V_astore (i := 4) F dJ10_put_2_4 (Nat.le_of_ble_eq_true rfl) (Nat.le_of_ble_eq_true rfl) ?_
    refine V_aload (i := 4) F dJ10_put_2_6 rfl ?_
    refine V_ifnonnull (tgt := 19) F dJ10_put_2_8 (by decide) ?_
    refine V_aload_n (i := 0) F dJ10_put_2_19 rfl rfl ?_
    refine V_getf F dJ10_put_2_20 fc_J10_16_J10 (.inl ht) rfl ?_
    refine V_astoreN (i := 7) F dJ10_put_2_23 (Nat.le_of_ble_eq_true rfl) (Nat.le_of_ble_eq_true rfl) ?_
    refine V_aloadN (i := 7) F dJ10_put_2_25 rfl ?_
    refine V_ifnullN (tgt := 112) F dJ10_put_2_27 (by decide) ?_
    refine V_aload_n (i := 1) F dJ10_put_2_112 rfl rfl ?_
    refine V_callS (st := []) F dJ10_put_2_113 lk_J10_95 (ct_requireNonNull) rfl rfl (Nat.le_of_ble_eq_true rfl) (Nat.le_of_ble_eq_true rfl) (Nat.le_of_ble_eq_true rfl) (by first | exact Nat.le_of_ble_eq_true rfl | omega) (by first | exact Nat.le_of_ble_eq_true rfl | omega) ?_
    refine PRk ?_
    refine V_pop F dJ10_put_2_116 rfl ?_
    refine V_aload_n (i := 1) F dJ10_put_2_117 rfl rfl ?_
    refine V_ck F dJ10_put_2_118 q2115 hkc hca ?_
    refine V_astore (i := 8) F dJ10_put_2_121 (Nat.le_of_ble_eq_true rfl) (Nat.le_of_ble_eq_true rfl) ?_
    refine VV.weak (L' := [some (.ref (t)), some (.ref (k)), some (.ref (v)), some (.int (nI (1))), some (.ref (A r)), none, none, some (.null), some (.ref (k)), none]) (LW.c1 (LW.c1 (LW.c1 (LW.c1 (LW.c1 (LW.c0 (LW.c0 (LW.c1 (LW.c1 (LW.c0 LW.nil)))))))))) ?_
    exact loop (n + 1) r (by have := hw.1 r hr1.1; omega) hr1.1 ⟨by omega, by omega, fun q => by have := hfd q; omega⟩
theorem ct_TM_add {G : GG} {l : Launch} {h : AH} {t mc n : Nat} {A K V : Nat → Nat} {k pos mL dC : Nat} {fd : Bool} {D : String} {y : MethodName} {cc : ByteArray} {v : Nat} (hM : TMp h t mc n A K V) (hcm : CMP G l h k n pos fd K D y cc mL dC) (hfd0 : fd = false) (hkk : CKK G l h k D y cc mL dC) : Ct G l yJ10_put cJ10_put 3 (some (.object "java/lang/Object")) 8 (1) (6) [.ref t, .ref k, .ref v] h (fun r h2 => r = some .null ∧ ∃ A2, TMp h2 t (mc + 1) (n + 1) A2 (insF K pos k) (insF V pos v) ∧ NF h n (n + 1) A A2 ∧ Fr (mT t n A) h h2) := by
  refine Ct.of (by decide) (Nat.le_of_ble_eq_true rfl) (cat1 rfl) (fun X hXl F HN => ?_)
  subst hXl
  have hM0 := hM
  obtain ⟨hAI, rt, L, R, P, C, lo, hi, hC, hT, hw⟩ := hM0
  obtain ⟨x0, x1, x6, x7, x8, ht, hv1, hv7⟩ := id hC
  refine V_aload_n (i := 0) F dJ10_put_0 rfl rfl ?_
  refine V_aload_n (i := 1) F dJ10_put_1 rfl rfl ?_
  refine V_aload_n (i := 2) F dJ10_put_2 rfl rfl ?_
  refine V_iconst (v := nI 1) F dJ10_put_3 rfl ?_
  refine V_callV (st := []) F dJ10_put_4 lk_J10_127 (ct_TM_add2 hM hcm hfd0 hkk) ⟨23, _, _, _, rfl, (.inl ht)⟩ rfl rfl (Nat.le_of_ble_eq_true rfl) (Nat.le_of_ble_eq_true rfl) (Nat.le_of_ble_eq_true rfl) (by first | exact Nat.le_of_ble_eq_true rfl | omega) (by first | exact Nat.le_of_ble_eq_true rfl | omega) ?_
  rintro _ h2 ⟨rfl, A2, hM2, hN2, hF2⟩
  refine VV.stk (st' := [.null]) rfl ?_
  exact V_aret F dJ10_put_7 (Or.inl ⟨_, rfl⟩) (Or.inl rfl) (by first | exact Nat.le_of_ble_eq_true rfl | omega) (by first | exact Nat.le_of_ble_eq_true rfl | omega) ⟨rfl, A2, hM2, hN2, hF2⟩
theorem ct_TM_set2 {G : GG} {l : Launch} {h : AH} {t mc n : Nat} {A K V : Nat → Nat} {k pos mL dC : Nat} {fd : Bool} {D : String} {y : MethodName} {cc : ByteArray} {v : Nat} (hM : TMp h t mc n A K V) (hcm : CMP G l h k n pos fd K D y cc mL dC) (hfd0 : fd = true) : Ct G l yJ10_put_2 cJ10_put_2 10 (some (.object "java/lang/Object")) 6 (0) (0) [.ref t, .ref k, .ref v, .int (nI 1)] h (fun r h2 => r = some (.ref (V pos)) ∧ TMp h2 t mc n A K (upo V pos v) ∧ Fr (mT t n A) h h2) := by
  refine Ct.of (by decide) (Nat.le_of_ble_eq_true rfl) (cat1 rfl) (fun X hXl F HN => ?_)
  subst hXl
  subst hfd0
  have hcm0 := hcm
  obtain ⟨lk, hkc, hca, hmL, hdC, hpn, hfd, hcmp⟩ := id hcm
  have hM0 := hM
  obtain ⟨hAI, rt, L, R, P, C, lo, hi, hC, hT, hw⟩ := hM0
  obtain ⟨x0, x1, x6, x7, x8, ht, hv1, hv7⟩ := id hC
  have loop : ∀ (nn : Nat) (i : Nat), hi i - lo i < nn → i < n → UN lo hi pos true i → VV G X 10 (EQ G X (0) (0) (fun r h2 => r = some (.ref (V pos)) ∧ TMp h2 t mc n A K (upo V pos v) ∧ Fr (mT t n A) h h2)) h 0 0 [some (.ref (t)), some (.ref (k)), some (.ref (v)), some (.int (nI (1))), some (.ref (A i)), none, none, some (.null), some (.ref (k)), none] [] 123 := by
    intro nn
    induction nn with
    | zero => intro i hm hi1 hun; exact absurd hm (by omega)
    | succ nn ih =>
      intro i hm hi1 hun
      refine V_aload (i := 4) F dJ10_put_2_123 rfl ?_
      refine V_astore (i := 6) F dJ10_put_2_125 (Nat.le_of_ble_eq_true rfl) (Nat.le_of_ble_eq_true rfl) ?_
      refine V_aload (i := 8) F dJ10_put_2_127 rfl ?_
      refine V_aload (i := 4) F dJ10_put_2_129 rfl ?_
      refine V_getf F dJ10_put_2_131 fc_J10_105_J41 (.inl (hT i hi1)) rfl ?_
      obtain ⟨ci, hcc, hcs⟩ := hcmp i hi1
      refine V_callF (st := []) F dJ10_put_2_134 lk hcc hkc rfl rfl (Nat.le_of_ble_eq_true rfl) (by omega) hmL (by first | exact Nat.le_of_ble_eq_true rfl | omega) (by first | exact Nat.le_of_ble_eq_true rfl | omega) (PRk ?_)
      refine V_istore (i := 5) F dJ10_put_2_139 (Nat.le_of_ble_eq_true rfl) (Nat.le_of_ble_eq_true rfl) ?_
      refine V_iload (i := 5) F dJ10_put_2_141 rfl ?_
      refine V_if_ge (tgt := 156) F dJ10_put_2_143 (by decide) (fun c_143 => ?_) (fun c_143 => ?_)
      · refine V_iload (i := 5) F dJ10_put_2_156 rfl ?_
        refine V_if_le (tgt := 171) F dJ10_put_2_158 (by decide) (fun c_158 => ?_) (fun c_158 => ?_)
        · have hpi := (CS.eq hcs c_143 c_158).2
          subst hpi
          refine V_aload (i := 4) F dJ10_put_2_171 rfl ?_
          refine V_getf F dJ10_put_2_173 fc_J10_58_J41 (.inl (hT i hi1)) rfl ?_
          refine V_astore (i := 9) F dJ10_put_2_176 (Nat.le_of_ble_eq_true rfl) (Nat.le_of_ble_eq_true rfl) ?_
          refine V_iload_n (i := 3) F dJ10_put_2_178 rfl rfl ?_
          refine V_if_neN (tgt := 187) F dJ10_put_2_179 (by decide) (by omega) (fun c_179 => ?_) (fun c_179 => absurd c_179 (by decide))
          refine V_aload (i := 4) F dJ10_put_2_187 rfl ?_
          refine V_aload_n (i := 2) F dJ10_put_2_189 rfl rfl ?_
          refine V_putf F dJ10_put_2_190 fp_J10_58_J41 (hT i hi1) rfl rfl (Nat.le_of_ble_eq_true rfl) ?_
          have hT1 := hT.putV (o := v) hAI hi1
          refine V_aload (i := 9) F dJ10_put_2_193 rfl ?_
          have hfz := ((Fr.rf (M := mT t n A) (h := h)).put (x := .inr (24, (ndc A K V L R P C i).set 1 (.ref v))) (hT i hi1) rfl rfl (Or.inl (Or.inr ⟨i, hi1, rfl⟩)))
          have hfy := ((Fr.rf (M := fun _ => True) (h := h)).put (x := .inr (24, (ndc A K V L R P C i).set 1 (.ref v))) (hT i hi1) rfl rfl (Or.inl trivial))
          have hTz := hT1
          have htz : (hset h (A i) (.inr (24, (ndc A K V L R P C i).set 1 (.ref v)))) t = some (.inr (23, [x0, x1, .null, va_rf ((rt).map A), .int (nI (n)), .int (nI (mc)), x6, x7, x8])) := ((hset_ne (ne_oo ht (hT i hi1) (by decide))).trans ht)
          exact V_aret F dJ10_put_2_195 (Or.inl ⟨_, rfl⟩) (Or.inr ⟨_, rfl⟩) (by first | exact Nat.le_of_ble_eq_true rfl | omega) (by first | exact Nat.le_of_ble_eq_true rfl | omega) ⟨rfl, ⟨hAI, rt, L, R, P, C, lo, hi, ⟨x0, x1, x6, x7, x8, htz, vw_fr hv1 hfy rfl, vw_fr hv7 hfy rfl⟩, hTz, hw⟩, hfz⟩
        · refine V_aload (i := 4) F dJ10_put_2_161 rfl ?_
          refine V_getf F dJ10_put_2_163 fc_J10_114_J41 (.inl (hT i hi1)) rfl ?_
          refine V_astoreQ (i := 4) F dJ10_put_2_166 (Nat.le_of_ble_eq_true rfl) (Nat.le_of_ble_eq_true rfl) ?_
          refine V_goto (tgt := 196) F dJ10_put_2_168 (by decide) ?_
          refine V_aloadQ (i := 4) F dJ10_put_2_196 rfl ?_
          refine V_ifnonnullM (tgt := 123) F dJ10_put_2_198 (by decide) (fun j qj => ?_) (fun qj => ?_)
          · have hj : j < n := hw.bR hi1 qj
            refine VV.loc (L' := [some (.ref (t)), some (.ref (k)), some (.ref (v)), some (.int (nI (1))), some (.ref (A j)), some (.int (ci)), some (.ref (A i)), some (.null), some (.ref (k)), none]) (by rw [qj]; rfl) ?_
            refine VV.weak (L' := [some (.ref (t)), some (.ref (k)), some (.ref (v)), some (.int (nI (1))), some (.ref (A j)), none, none, some (.null), some (.ref (k)), none]) (LW.c1 (LW.c1 (LW.c1 (LW.c1 (LW.c1 (LW.c0 (LW.c0 (LW.c1 (LW.c1 (LW.c0 LW.nil)))))))))) ?_
            have hu := hw.2.2.2.2.1 i j hi1 qj
            refine ih j (by have h1 := hw.1 i hi1; have h2 := hw.1 j hj; omega) hj ?_
            have h5 := CS.gt hcs c_158
            exact ⟨by omega, by have := hun.2.1; omega, fun q => by have := hun.2.2 q; omega⟩
          · refine VV.loc (L' := [some (.ref (t)), some (.ref (k)), some (.ref (v)), some (.int (nI (1))), some (.null), some (.int (ci)), some (.ref (A i)), some (.null), some (.ref (k)), none]) (by rw [qj]; rfl) ?_
            have h1 := hw.1 i hi1
            have h2 := hun.1
            have h3 := hun.2.1
            have h6 := hun.2.2 rfl
            have h4 := hw.2.2.2.1 i hi1 qj
            have h5 := CS.gt hcs c_158
            omega
      · refine V_aload (i := 4) F dJ10_put_2_146 rfl ?_
        refine V_getf F dJ10_put_2_148 fc_J10_111_J41 (.inl (hT i hi1)) rfl ?_
        refine V_astoreQ (i := 4) F dJ10_put_2_151 (Nat.le_of_ble_eq_true rfl) (Nat.le_of_ble_eq_true rfl) ?_
        refine V_goto (tgt := 196) F dJ10_put_2_153 (by decide) ?_
        refine V_aloadQ (i := 4) F dJ10_put_2_196 rfl ?_
        refine V_ifnonnullM (tgt := 123) F dJ10_put_2_198 (by decide) (fun j qj => ?_) (fun qj => ?_)
        · have hj : j < n := hw.bL hi1 qj
          refine VV.loc (L' := [some (.ref (t)), some (.ref (k)), some (.ref (v)), some (.int (nI (1))), some (.ref (A j)), some (.int (ci)), some (.ref (A i)), some (.null), some (.ref (k)), none]) (by rw [qj]; rfl) ?_
          refine VV.weak (L' := [some (.ref (t)), some (.ref (k)), some (.ref (v)), some (.int (nI (1))), some (.ref (A j)), none, none, some (.null), some (.ref (k)), none]) (LW.c1 (LW.c1 (LW.c1 (LW.c1 (LW.c1 (LW.c0 (LW.c0 (LW.c1 (LW.c1 (LW.c0 LW.nil)))))))))) ?_
          have hu := hw.2.2.1 i j hi1 qj
          refine ih j (by have h1 := hw.1 i hi1; have h2 := hw.1 j hj; omega) hj ?_
          have h5 := CS.lt hcs c_143
          exact ⟨by have := hun.1; omega, by omega, fun q => by have := h5.2 q; omega⟩
        · refine VV.loc (L' := [some (.ref (t)), some (.ref (k)), some (.ref (v)), some (.int (nI (1))), some (.null), some (.int (ci)), some (.ref (A i)), some (.null), some (.ref (k)), none]) (by rw [qj]; rfl) ?_
          have h1 := hw.1 i hi1
          have h2 := hun.1
          have h3 := hun.2.1
          have h6 := hun.2.2 rfl
          have h4 := hw.2.1 i hi1 qj
          have h5 := (CS.lt hcs c_143).2 rfl
          omega
  cases hrt : rt with
  | none =>
    have hn0 : n = 0 := hw.2.2.2.2.2.2.2.2 hrt
    exact absurd (hfd rfl) (by omega)
  | some r =>
    have hr1 := hw.2.2.2.2.2.2.2.1 r hrt
    refine V_aload_n (i := 0) F dJ10_put_2_0 rfl rfl ?_
    refine V_getf F dJ10_put_2_1 fc_J10_101_J10 (.inl ht) (by rw [hrt]; rfl) ?_
    refine V_astore (i := 4) F dJ10_put_2_4 (Nat.le_of_ble_eq_true rfl) (Nat.le_of_ble_eq_true rfl) ?_
    refine V_aload (i := 4) F dJ10_put_2_6 rfl ?_
    refine V_ifnonnull (tgt := 19) F dJ10_put_2_8 (by decide) ?_
    refine V_aload_n (i := 0) F dJ10_put_2_19 rfl rfl ?_
    refine V_getf F dJ10_put_2_20 fc_J10_16_J10 (.inl ht) rfl ?_
    refine V_astoreN (i := 7) F dJ10_put_2_23 (Nat.le_of_ble_eq_true rfl) (Nat.le_of_ble_eq_true rfl) ?_
    refine V_aloadN (i := 7) F dJ10_put_2_25 rfl ?_
    refine V_ifnullN (tgt := 112) F dJ10_put_2_27 (by decide) ?_
    refine V_aload_n (i := 1) F dJ10_put_2_112 rfl rfl ?_
    refine V_callS (st := []) F dJ10_put_2_113 lk_J10_95 (ct_requireNonNull) rfl rfl (Nat.le_of_ble_eq_true rfl) (Nat.le_of_ble_eq_true rfl) (Nat.le_of_ble_eq_true rfl) (by first | exact Nat.le_of_ble_eq_true rfl | omega) (by first | exact Nat.le_of_ble_eq_true rfl | omega) ?_
    refine PRk ?_
    refine V_pop F dJ10_put_2_116 rfl ?_
    refine V_aload_n (i := 1) F dJ10_put_2_117 rfl rfl ?_
    refine V_ck F dJ10_put_2_118 q2115 hkc hca ?_
    refine V_astore (i := 8) F dJ10_put_2_121 (Nat.le_of_ble_eq_true rfl) (Nat.le_of_ble_eq_true rfl) ?_
    refine VV.weak (L' := [some (.ref (t)), some (.ref (k)), some (.ref (v)), some (.int (nI (1))), some (.ref (A r)), none, none, some (.null), some (.ref (k)), none]) (LW.c1 (LW.c1 (LW.c1 (LW.c1 (LW.c1 (LW.c0 (LW.c0 (LW.c1 (LW.c1 (LW.c0 LW.nil)))))))))) ?_
    exact loop (n + 1) r (by have := hw.1 r hr1.1; omega) hr1.1 ⟨by omega, by omega, fun q => by have := hfd q; omega⟩
theorem ct_TM_set {G : GG} {l : Launch} {h : AH} {t mc n : Nat} {A K V : Nat → Nat} {k pos mL dC : Nat} {fd : Bool} {D : String} {y : MethodName} {cc : ByteArray} {v : Nat} (hM : TMp h t mc n A K V) (hcm : CMP G l h k n pos fd K D y cc mL dC) (hfd0 : fd = true) : Ct G l yJ10_put cJ10_put 3 (some (.object "java/lang/Object")) 7 (0) (0) [.ref t, .ref k, .ref v] h (fun r h2 => r = some (.ref (V pos)) ∧ TMp h2 t mc n A K (upo V pos v) ∧ Fr (mT t n A) h h2) := by
  refine Ct.of (by decide) (Nat.le_of_ble_eq_true rfl) (cat1 rfl) (fun X hXl F HN => ?_)
  subst hXl
  have hM0 := hM
  obtain ⟨hAI, rt, L, R, P, C, lo, hi, hC, hT, hw⟩ := hM0
  obtain ⟨x0, x1, x6, x7, x8, ht, hv1, hv7⟩ := id hC
  refine V_aload_n (i := 0) F dJ10_put_0 rfl rfl ?_
  refine V_aload_n (i := 1) F dJ10_put_1 rfl rfl ?_
  refine V_aload_n (i := 2) F dJ10_put_2 rfl rfl ?_
  refine V_iconst (v := nI 1) F dJ10_put_3 rfl ?_
  refine V_callV (st := []) F dJ10_put_4 lk_J10_127 (ct_TM_set2 hM hcm hfd0) ⟨23, _, _, _, rfl, (.inl ht)⟩ rfl rfl (Nat.le_of_ble_eq_true rfl) (Nat.le_of_ble_eq_true rfl) (Nat.le_of_ble_eq_true rfl) (by first | exact Nat.le_of_ble_eq_true rfl | omega) (by first | exact Nat.le_of_ble_eq_true rfl | omega) ?_
  rintro _ h2 ⟨rfl, hM2, hF2⟩
  refine VV.stk (st' := [.ref (V pos)]) rfl ?_
  exact V_aret F dJ10_put_7 (Or.inl ⟨_, rfl⟩) (Or.inr ⟨_, rfl⟩) (by first | exact Nat.le_of_ble_eq_true rfl | omega) (by first | exact Nat.le_of_ble_eq_true rfl | omega) ⟨rfl, hM2, hF2⟩
