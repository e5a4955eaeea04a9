def kdBK (c : Nat) : String := if c = 1 then "index" else if c = 2 then "argument" else if c = 3 then "state" else "rule"
theorem anyB_one {g : Nat → Nat} {t f k : Nat} (hf : f ≤ k) (h : g (16 + 36 * t + 0) ≤ ldG g t k) : ∀ j, k < j → anyB g t f j = 1
  | 0, hj => absurd hj (Nat.not_lt_zero _)
  | j + 1, hj => by
    unfold anyB
    by_cases e : k = j
    · subst e; rw [if_pos (Or.inr ⟨hf, h⟩)]
    · rw [if_pos (Or.inl (anyB_one hf h j (by omega)))]
theorem anyB_zero {g : Nat → Nat} {t f : Nat} : ∀ j, (∀ k, f ≤ k → k < j → ldG g t k < g (16 + 36 * t + 0)) → anyB g t f j = 0
  | 0, _ => rfl
  | j + 1, h => by
    unfold anyB
    rw [anyB_zero j (fun k h1 h2 => h k h1 (by omega)), if_neg]
    rintro (z | z)
    · cases z
    · have := h j z.1 (by omega); omega
theorem ct_RW_book {G : GG} {l : Launch} {h : AH} {h0 : AH} {r ti tia : Nat} {tf : Nat → Nat} {tt tl ta : Nat} {x : Nat → Nat} {A : Nat → Nat → Nat} {sm smc : Nat} {sA sK sV : Nat → Nat} {bm bmc : Nat} {bA bK bV : Nat → Nat} {g : Nat → Nat} {p a b : Int32}  (hdem : DEM G l) (hW : RW G h r ((ti, tia, tf), (tt, tl, ta, x, A), (sm, smc, sA, sK, sV), (bm, bmc, bA, bK, bV)) g) (hO : RO G h0 r ((ti, tia, tf), (tt, tl, ta, x, A), (sm, smc, sA, sK, sV), (bm, bmc, bA, bK, bV)) g) (hI : GW g) (hF0 : Fr nM h0 h) (hC : LdC g) (hnx : ∀ i, i < g 3 → g (264 + 4 * i + 0) < g 5) : CtX G l yX2_book cX2_book 6 (some .int) 13 (40) (200) [.ref r, .int p, .int a, .int b] h (fun r0 h2 => r0 = some (.int (nI (g 5))) ∧ cdBK g p a b = 0 ∧ (∃ D2, RW G h2 r D2 (nxBK g (tn p) (tn a) (tn b)) ∧ RO G h0 r D2 (nxBK g (tn p) (tn a) (tn b))) ∧ Fr (fH h0) h h2) (CFx G h (cdBK g p a b) kdBK) := by
  refine CtX.of (by decide) (Nat.le_of_ble_eq_true rfl) (cat1 rfl) (fun X hXl F HT => ?_)
  subst hXl
  obtain ⟨hr, hWt, hWr, hWs, hWb⟩ : h r = some (.inr (2, [.ref ti, .ref tt, .ref sm, .ref bm, .int (nI (g 4)), .int (nI (g 5)), .int (nI (g 6)), .int (nI (g 7))])) ∧ RWt G h (ti, tia, tf) g ∧ RWr G h (tt, tl, ta, x, A) g ∧ RWs G h (sm, smc, sA, sK, sV) g ∧ RWb G h (bm, bmc, bA, bK, bV) g := id hW
  refine V_aload_n (i := 0) F dX2_book_0 rfl rfl ?_
  refine V_getf F dX2_book_1 fc_X2_21_X2 (.inl hr) rfl ?_
  refine V_iload_n (i := 1) F dX2_book_4 rfl rfl ?_
  refine V_callV (st := []) (nn := 1) F dX2_book_5 lk_X2_151 (ct_TT_has hWr hI) ⟨3, _, _, _, rfl, .inl hWr.1⟩ rfl rfl (Nat.le_of_ble_eq_true rfl) (Nat.le_of_ble_eq_true rfl) (Nat.le_of_ble_eq_true rfl) (by omega) (by omega) ?_
  refine PRk ?_
  refine V_ldcS F dX2_book_8 q2485 ?_
  intro w1 hGw1
  refine V_xcSN (st := []) (nn := 2) F dX2_book_10 lk_X2_128 q2448 (hdem ((b2 (iR p (g 1)))) w1 (h)) rfl rfl (Nat.le_of_ble_eq_true rfl) (Nat.le_of_ble_eq_true rfl) (Nat.le_of_ble_eq_true rfl) (by omega) (by omega) ?_ ?_
  · rintro _ _ ⟨rfl, rfl, hd_10⟩
    have hP_10 : iR p (g 1) := b2_nz hd_10
    obtain ⟨u, hu, rfl⟩ := iR_of hP_10 hI.b.lt
    have hu6 := hI.t6 hu
    have eu : tn (nI u) = u := tn_nI (by omega)
    have eu2 : (nI u).toInt.toNat = u := eu
    have hTu := hWr.2.2 u hu
    obtain ⟨hxu, f, hA, e0, e1, e2, e3, e4⟩ := id hTu
    have hs8 := (hI.st hu).2
    refine V_aload_n (i := 0) F dX2_book_13 rfl rfl ?_
    refine V_getf F dX2_book_14 fc_X2_21_X2 (.inl hr) rfl ?_
    refine V_iload_n (i := 1) F dX2_book_17 rfl rfl ?_
    refine V_callV (st := []) (nn := 1) F dX2_book_18 lk_X2_154 (ct_TT_get hWr hI hu) ⟨3, _, _, _, rfl, .inl hWr.1⟩ rfl rfl (Nat.le_of_ble_eq_true rfl) (Nat.le_of_ble_eq_true rfl) (Nat.le_of_ble_eq_true rfl) (by omega) (by omega) ?_
    refine PRk ?_
    refine V_astore (i := 4) F dX2_book_21 (Nat.le_of_ble_eq_true rfl) (Nat.le_of_ble_eq_true rfl) ?_
    refine V_aload (i := 4) F dX2_book_23 rfl ?_
    refine V_iload_n (i := 2) F dX2_book_25 rfl rfl ?_
    refine V_callV (st := []) (nn := 1) F dX2_book_26 lk_X2_226 (ct_TR_hasStop hTu (by omega)) ⟨4, _, _, _, rfl, (.inl hxu)⟩ rfl rfl (Nat.le_of_ble_eq_true rfl) (Nat.le_of_ble_eq_true rfl) (Nat.le_of_ble_eq_true rfl) (by omega) (by omega) ?_
    refine PRk ?_
    refine V_if_eqB (tgt := 45) F dX2_book_29 (by decide) (fun c_29 => ?_) (fun c_29 => ?_)
    · refine V_iconst (v := nI 0) F dX2_book_45 rfl ?_
      refine V_ldcS F dX2_book_46 q2485 ?_
      intro w2 hGw2
      refine V_xcSN (st := []) (nn := 2) F dX2_book_48 lk_X2_128 q2448 (hdem ((nI (0))) w2 (h)) rfl rfl (Nat.le_of_ble_eq_true rfl) (Nat.le_of_ble_eq_true rfl) (Nat.le_of_ble_eq_true rfl) (by omega) (by omega) ?_ ?_
      · exact fun _ _ hp => absurd rfl hp.2.2
      · exact fun E q h2 hp => V_xout F (HT _) (by omega) (by omega) (CFx.of (k := 1) (by first | exact if_pos (by rw [eu2]; exact Or.inl (fun z => c_29 z.2)) | exact if_pos (by rw [eu2]; exact Or.inr (fun z => c_38 z.2))) (by decide) hGw2 hp.2)
    · refine V_aload (i := 4) F dX2_book_32 rfl ?_
      refine V_iload_n (i := 3) F dX2_book_34 rfl rfl ?_
      refine V_callV (st := []) (nn := 1) F dX2_book_35 lk_X2_226 (ct_TR_hasStop hTu (by omega)) ⟨4, _, _, _, rfl, (.inl hxu)⟩ rfl rfl (Nat.le_of_ble_eq_true rfl) (Nat.le_of_ble_eq_true rfl) (Nat.le_of_ble_eq_true rfl) (by omega) (by omega) ?_
      refine PRk ?_
      refine V_if_eqB (tgt := 45) F dX2_book_38 (by decide) (fun c_38 => ?_) (fun c_38 => ?_)
      · refine V_iconst (v := nI 0) F dX2_book_45 rfl ?_
        refine V_ldcS F dX2_book_46 q2485 ?_
        intro w3 hGw3
        refine V_xcSN (st := []) (nn := 2) F dX2_book_48 lk_X2_128 q2448 (hdem ((nI (0))) w3 (h)) rfl rfl (Nat.le_of_ble_eq_true rfl) (Nat.le_of_ble_eq_true rfl) (Nat.le_of_ble_eq_true rfl) (by omega) (by omega) ?_ ?_
        · exact fun _ _ hp => absurd rfl hp.2.2
        · exact fun E q h2 hp => V_xout F (HT _) (by omega) (by omega) (CFx.of (k := 1) (by first | exact if_pos (by rw [eu2]; exact Or.inl (fun z => c_29 z.2)) | exact if_pos (by rw [eu2]; exact Or.inr (fun z => c_38 z.2))) (by decide) hGw3 hp.2)
      · refine V_iconst (v := nI 1) F dX2_book_41 rfl ?_
        refine V_goto (tgt := 46) F dX2_book_42 (by decide) ?_
        refine V_ldcS F dX2_book_46 q2485 ?_
        intro w4 hGw4
        refine V_xcSN (st := []) (nn := 2) F dX2_book_48 lk_X2_128 q2448 (hdem ((nI (1))) w4 (h)) rfl rfl (Nat.le_of_ble_eq_true rfl) (Nat.le_of_ble_eq_true rfl) (Nat.le_of_ble_eq_true rfl) (by omega) (by omega) ?_ ?_
        · rintro _ _ ⟨rfl, rfl, hd_48⟩
          have hN1 : ¬ (¬ (iR (nI u) (g 1) ∧ iR a (g (16 + 36 * (nI u).toInt.toNat + 3))) ∨ ¬ (iR (nI u) (g 1) ∧ iR b (g (16 + 36 * (nI u).toInt.toNat + 3)))) := by rw [eu2]; rintro (z | z); exact z ⟨hP_10, c_29⟩; exact z ⟨hP_10, c_38⟩
          obtain ⟨a1, ha1, rfl⟩ := iR_of c_29 (by omega)
          obtain ⟨b1, hb1, rfl⟩ := iR_of c_38 (by omega)
          have ea : tn (nI a1) = a1 := tn_nI (by omega)
          have eb : tn (nI b1) = b1 := tn_nI (by omega)
          refine V_iload_n (i := 2) F dX2_book_51 rfl rfl ?_
          refine V_iload_n (i := 3) F dX2_book_52 rfl rfl ?_
          refine V_icmp_geN (tgt := 60) F dX2_book_53 (by decide) (by omega) (by omega) (fun c_53 => ?_) (fun c_53 => ?_)
          · refine V_iconst (v := nI 0) F dX2_book_60 rfl ?_
            refine V_ldcS F dX2_book_61 q2446 ?_
            intro w5 hGw5
            refine V_xcSN (st := []) (nn := 2) F dX2_book_63 lk_X2_128 q2448 (hdem ((nI (0))) w5 (h)) rfl rfl (Nat.le_of_ble_eq_true rfl) (Nat.le_of_ble_eq_true rfl) (Nat.le_of_ble_eq_true rfl) (by omega) (by omega) ?_ ?_
            · exact fun _ _ hp => absurd rfl hp.2.2
            · exact fun E q h2 hp => V_xout F (HT _) (by omega) (by omega) (CFx.of (k := 2) (by exact (if_neg hN1).trans (if_pos (by rw [ea, eb]; omega))) (by decide) hGw5 hp.2)
          · refine V_iconst (v := nI 1) F dX2_book_56 rfl ?_
            refine V_goto (tgt := 61) F dX2_book_57 (by decide) ?_
            refine V_ldcS F dX2_book_61 q2446 ?_
            intro w6 hGw6
            refine V_xcSN (st := []) (nn := 2) F dX2_book_63 lk_X2_128 q2448 (hdem ((nI (1))) w6 (h)) rfl rfl (Nat.le_of_ble_eq_true rfl) (Nat.le_of_ble_eq_true rfl) (Nat.le_of_ble_eq_true rfl) (by omega) (by omega) ?_ ?_
            · rintro _ _ ⟨rfl, rfl, hd_63⟩
              refine V_aload_n (i := 0) F dX2_book_66 rfl rfl ?_
              refine V_getf F dX2_book_67 fc_X2_32_X2 (.inl hr) rfl ?_
              have h310 := hI.2.2.2.2.1
              refine V_callV (st := []) (nn := 0) F dX2_book_70 lk_X2_171 (ct_TM_size hWb.1) hWb.1.isC rfl rfl (Nat.le_of_ble_eq_true rfl) (Nat.le_of_ble_eq_true rfl) (Nat.le_of_ble_eq_true rfl) (by omega) (by omega) ?_
              refine PRk ?_
              refine V_bipush (v := nI 10) F dX2_book_73 rfl ?_
              refine V_icmp_geN (tgt := 82) F dX2_book_75 (by decide) (by omega) (by decide) (fun c_75 => ?_) (fun c_75 => ?_)
              · refine V_iconst (v := nI 0) F dX2_book_82 rfl ?_
                refine V_ldcS F dX2_book_83 q2476 ?_
                intro w7 hGw7
                refine V_xcSN (st := []) (nn := 2) F dX2_book_85 lk_X2_128 q2448 (hdem ((nI (0))) w7 (h)) rfl rfl (Nat.le_of_ble_eq_true rfl) (Nat.le_of_ble_eq_true rfl) (Nat.le_of_ble_eq_true rfl) (by omega) (by omega) ?_ ?_
                · exact fun _ _ hp => absurd rfl hp.2.2
                · exact fun E q h2 hp => V_xout F (HT _) (by omega) (by omega) (CFx.of (k := 3) (by exact (if_neg hN1).trans ((if_neg (show ¬ tn (nI b1) ≤ tn (nI a1) by rw [ea, eb]; omega)).trans (if_pos (by omega)))) (by decide) hGw7 hp.2)
              · refine V_iconst (v := nI 1) F dX2_book_78 rfl ?_
                refine V_goto (tgt := 83) F dX2_book_79 (by decide) ?_
                refine V_ldcS F dX2_book_83 q2476 ?_
                intro w8 hGw8
                refine V_xcSN (st := []) (nn := 2) F dX2_book_85 lk_X2_128 q2448 (hdem ((nI (1))) w8 (h)) rfl rfl (Nat.le_of_ble_eq_true rfl) (Nat.le_of_ble_eq_true rfl) (Nat.le_of_ble_eq_true rfl) (by omega) (by omega) ?_ ?_
                · rintro _ _ ⟨rfl, rfl, hd_85⟩
                  refine V_iload_n (i := 2) F dX2_book_88 rfl rfl ?_
                  refine V_istore (i := 5) F dX2_book_89 (Nat.le_of_ble_eq_true rfl) (Nat.le_of_ble_eq_true rfl) ?_
                  have loop_91 : ∀ (nn : Nat) (k : Nat), b1 - k < nn → a1 ≤ k → k ≤ b1 → (∀ j, a1 ≤ j → j < k → ldG g u j < g (16 + 36 * u + 0)) → VV G X 6 ((EQX G X (40) (200) (fun r0 h2 => r0 = some (.int (nI (g 5))) ∧ cdBK g (nI u) (nI a1) (nI b1) = 0 ∧ (∃ D2, RW G h2 r D2 (nxBK g (tn (nI u)) (tn (nI a1)) (tn (nI b1))) ∧ RO G h0 r D2 (nxBK g (tn (nI u)) (tn (nI a1)) (tn (nI b1)))) ∧ Fr (fH h0) h h2) (CFx G h (cdBK g (nI u) (nI a1) (nI b1)) kdBK))) h (5 + (k - a1)) (40 + 7 * (k - a1)) [some (.ref (r)), some (.int (nI (u))), some (.int (nI (a1))), some (.int (nI (b1))), some (.ref ((x u))), some (.int (nI (k)))] [] 91 := by
                    intro nn
                    induction nn with
                    | zero => intro k hm hak hkb hnf; exact absurd hm (by omega)
                    | succ nn ih_91 =>
                      intro k hm hak hkb hnf
                      refine V_iload (i := 5) F dX2_book_91 rfl ?_
                      refine V_iload_n (i := 3) F dX2_book_93 rfl rfl ?_
                      refine V_icmp_geN (tgt := 123) F dX2_book_94 (by decide) (by omega) (by omega) (fun c_94 => ?_) (fun c_94 => ?_)
                      · refine V_aload (i := 4) F dX2_book_123 rfl ?_
                        refine V_iload_n (i := 2) F dX2_book_125 rfl rfl ?_
                        refine V_iload_n (i := 3) F dX2_book_126 rfl rfl ?_
                        refine V_iconst (v := nI 1) F dX2_book_127 rfl ?_
                        refine V_callS (st := []) (nn := 4) F dX2_book_128 lk_X2_232 (ct_RW_takeI hxu (hA 4 (by decide)) (by omega) (by omega)) rfl rfl (Nat.le_of_ble_eq_true rfl) (Nat.le_of_ble_eq_true rfl) (Nat.le_of_ble_eq_true rfl) (by omega) (by omega) ?_
                        rintro _ h6 ⟨rfl, hb6, hx6⟩
                        have hA4 := hA 4 (by decide)
                        have ho6 := fun k => offK.m1 (S := kO k) hA4 rfl
                        have hr6 := hx6.get hr ((ho6 2).o hr) rfl
                        have hT6 := hWt.fr hx6 ((ho6 18).o hWt.1.1) (fun c f9 z => ne_qi z hA4) (ho6 27)
                        have hS6 := hWs.frk hx6 (ho6 23) (ho6 24) (ho6 27) (ho6 8)
                        have hB6 := hWb.frk hx6 (ho6 23) (ho6 24) (ho6 27) (ho6 11)
                        have hR6 : RWr G h6 (tt, tl, ta, x, A) (nxBK g u a1 b1) := by
                          refine ⟨hx6.get hWr.1 ((ho6 3).o hWr.1) rfl, ?_, fun t ht => ?_⟩
                          · rw [nxBK_o (by omega) (by omega) (by omega) (by omega) (by omega) (by omega)]; exact hWr.2.1.frQ hx6 ((ho6 18).o hWr.2.1.1) (fun c f9 z => ne_qi z hA4)
                          · rw [nxBK_o (by omega) (by omega) (by omega) (by omega) (by omega) (by omega)] at ht
                            have ht6 := hI.t6 ht
                            have hgt : ∀ j, j < 36 → nxBK g u a1 b1 (16 + 36 * t + j) = g (16 + 36 * t + j) := fun j hj => nxBK_o (by omega) (by omega) (by omega) (by omega) (by omega) (by omega)
                            by_cases e : t = u
                            · subst e
                              refine ⟨by rw [hgt 0 (by omega), hgt 3 (by omega), hgt 2 (by omega)]; exact hx6.get hxu (fun z => ne_oa hxu (hA 4 (by decide)) z) rfl, fun i => if i = 4 then tkI (f 4) a1 b1 else f i, ?_, ?_, ?_, ?_, ?_, ?_⟩
                              · intro i hi
                                by_cases e5 : i = 4
                                · subst e5; exact hb6
                                · show h6 (A t i) = some (iA G 8 (fun k => nI ((if i = 4 then _ else f i) k)))
                                  rw [if_neg e5]; exact hx6.get (hA i hi) (fun z => e5 (hO.Ai t t i 4 ht ht hi (by decide) z).2) rfl
                              · intro j hj; rw [hgt 3 (by omega)] at hj; rw [plG_cg (fun j hj _ => hgt j hj) (by omega)]; exact e0 j hj
                              · intro j hj0 hj; rw [hgt 3 (by omega)] at hj; rw [avG_cg (fun j hj _ => hgt j hj) (by omega)]; exact e1 j hj0 hj
                              · intro j hj; rw [hgt 3 (by omega)] at hj; rw [dpG_cg (fun j hj _ => hgt j hj) j (by omega)]; exact e2 j hj
                              · intro j hj; rw [hgt (28 + j) (by omega)]; exact e3 j hj
                              · intro j hj
                                show tkI (f 4) a1 b1 j = _
                                rw [bkG_bk, ← e4 j hj]; unfold tkI
                                by_cases c : a1 ≤ j ∧ j < b1
                                · rw [if_pos c, if_pos ⟨rfl, c⟩]
                                · rw [if_neg c, if_neg (fun y => c y.2)]; rfl
                            · have hTt := hWr.2.2 t ht
                              have hTt2 : TRs G h6 (x t) (A t) g t := by
                                have hTt0 := hTt
                                obtain ⟨pt, ft, hAt, -⟩ := hTt0
                                exact hTt.fr hx6 (fun z => ne_oa pt hA4 z) (fun i hi z => e (hO.Ai t _ i 4 ht hu hi (by decide) z).1)
                              exact hTt2.cg (hI.st ht).2 hgt (fun j hj => by rw [bkG_bk, if_neg (fun y => e y.1.symm)]; rfl)
                        have hF6 : Fr (fH h0) h h6 := Fr.rf.cal hx6 (Yo.m1 (Or.inl (hO.A u hu 4 (by decide))))
                        refine V_aload_n (i := 0) F dX2_book_131 rfl rfl ?_
                        refine V_getf F dX2_book_132 fc_X2_32_X2 (.inl hr6) rfl ?_
                        refine V_aload_n (i := 0) F dX2_book_135 rfl rfl ?_
                        refine V_getf F dX2_book_136 fc_X2_97_X2 (.inl hr6) rfl ?_
                        refine V_callS (st := [.ref (bm)]) (nn := 1) F dX2_book_139 lk_X2_81 (ct_I_valueOf (x := nI (g 5))) rfl rfl (Nat.le_of_ble_eq_true rfl) (Nat.le_of_ble_eq_true rfl) (Nat.le_of_ble_eq_true rfl) (by omega) (by omega) ?_
                        rintro _ h7 ⟨q3, rfl, hq3, hx7⟩
                        refine V_new F dX2_book_142 nw_X2_89 (by omega) (by omega) ?_
                        intro bo hfbo hbbo
                        have p9 : h7 r = some (.inr (2, [.ref (ti), .ref (tt), .ref (sm), .ref (bm), .int (nI (g 4)), .int (nI (g 5)), .int (nI (g 6)), .int (nI (g 7))])) := (hx7.get hr6 id rfl)
                        refine V_dup F dX2_book_145 rfl ?_
                        refine V_aload_n (i := 0) F dX2_book_146 rfl rfl ?_
                        refine V_getf F dX2_book_147 fc_X2_97_X2 (.inl ((hset_ne (ne_nw p9 hfbo)).trans p9)) rfl ?_
                        refine V_iload_n (i := 1) F dX2_book_150 rfl rfl ?_
                        refine V_iload_n (i := 2) F dX2_book_151 rfl rfl ?_
                        refine V_iload_n (i := 3) F dX2_book_152 rfl rfl ?_
                        refine V_callI (st := [.ref (bo), .ref (q3), .ref (bm)]) (nn := 4) F dX2_book_153 lk_X2_236 (ct_Bo_init (hset_self (e := .inr (11, [.int 0, .int 0, .int 0, .int 0])))) rfl rfl (Nat.le_of_ble_eq_true rfl) (Nat.le_of_ble_eq_true rfl) (Nat.le_of_ble_eq_true rfl) (by omega) (by omega) ?_
                        rintro _ h9 ⟨rfl, hbo, hx9⟩
                        have hfq := (hx7.nw (x := .inr (11, [.int 0, .int 0, .int 0, .int 0])) hfbo)
                        have hG9 : Fr nM h6 h9 := hfq.cal hx9 (Yo.m1 (Or.inr (hx7.none hfbo)))
                        have hr9 := hG9.get hr6 id rfl
                        have hT9 := hT6.fr0 hG9
                        have hS9 := hS6.fr0 hG9
                        have hB9 := hB6.fr0 hG9
                        have hR9 := hR6.fr0 hG9
                        have hq5 := hq3.fr ((Fr.rf (M := nM) (h := h7)).nw (x := .inr (11, [.int 0, .int 0, .int 0, .int 0])) hfbo) offK.nM
                        have hq6 := hq5.fr hx9 (offK.m1 hset_self (kO_ne (by decide)))
                        refine V_callV (st := []) (nn := 2) F dX2_book_156 lk_X2_85 (ct_TM_add (v := bo) hB9.1 (fd := false) (pos := g 3) (cmp_int hq6 (fun i hi => (hB9.2.2 i hi).1) (Nat.le_refl (g 3)) (fun z => by cases z) (fun j hj _ => (nI_ltI (Nat.lt_trans (hI.b _) (by decide)) (Nat.lt_trans (hI.b _) (by decide))).mpr (hnx j hj)) (fun j hj hp _ => absurd hj (by omega))) rfl (ckk_int hq6)) hB9.1.isC rfl rfl (Nat.le_of_ble_eq_true rfl) (Nat.le_of_ble_eq_true rfl) (Nat.le_of_ble_eq_true rfl) (by omega) (by omega) ?_
                        rintro _ h10 ⟨rfl, A6, hM10, hNF, hx10⟩
                        have hof := fun k (h1 : k ≠ 23) (h2 : k ≠ 24) => offK.mT (k := k) hB9.1 h1 h2
                        have hr10 := hx10.get hr9 ((hof 2 (by decide) (by decide)).o hr9) rfl
                        have hg5 := hI.b 5
                        refine V_pop F dX2_book_159 rfl ?_
                        refine V_aload_n (i := 0) F dX2_book_160 rfl rfl ?_
                        refine V_dup F dX2_book_161 rfl ?_
                        refine V_getf F dX2_book_162 fc_X2_97_X2 (.inl hr10) rfl ?_
                        refine V_iconst (v := nI 1) F dX2_book_165 rfl ?_
                        refine V_iaddN F dX2_book_166 ?_
                        refine V_putf F dX2_book_167 fp_X2_97_X2 hr10 rfl rfl (Nat.le_of_ble_eq_true rfl) ?_
                        refine VV.heap (h' := (hset h10 (r) (.inr (2, [.ref (ti), .ref (tt), .ref (sm), .ref (bm), .int (nI (g 4)), .int (nI ((g 5) + 1)), .int (nI (g 6)), .int (nI (g 7))])))) rfl ?_
                        refine V_aload_n (i := 0) F dX2_book_170 rfl rfl ?_
                        refine V_getf F dX2_book_171 fc_X2_97_X2 (.inl (hset_self (e := .inr (2, [.ref (ti), .ref (tt), .ref (sm), .ref (bm), .int (nI (g 4)), .int (nI ((g 5) + 1)), .int (nI (g 6)), .int (nI (g 7))])))) rfl ?_
                        refine V_iconst (v := nI 1) F dX2_book_174 rfl ?_
                        refine V_isubN F dX2_book_175 (by omega) ?_
                        have hr7 : (hset h10 (r) (.inr (2, [.ref (ti), .ref (tt), .ref (sm), .ref (bm), .int (nI (g 4)), .int (nI ((g 5) + 1)), .int (nI (g 6)), .int (nI (g 7))]))) r = some (.inr (2, [.ref (ti), .ref (tt), .ref (sm), .ref (bm), .int (nI (g 4)), .int (nI ((g 5) + 1)), .int (nI (g 6)), .int (nI (g 7))])) := (hset_self (e := .inr (2, [.ref (ti), .ref (tt), .ref (sm), .ref (bm), .int (nI (g 4)), .int (nI ((g 5) + 1)), .int (nI (g 6)), .int (nI (g 7))])))
                        have hx11 : Fr (m1 r) h10 ((hset h10 (r) (.inr (2, [.ref (ti), .ref (tt), .ref (sm), .ref (bm), .int (nI (g 4)), .int (nI ((g 5) + 1)), .int (nI (g 6)), .int (nI (g 7))])))) := ((Fr.rf (M := m1 r) (h := h10)).put (x := .inr (2, [.ref (ti), .ref (tt), .ref (sm), .ref (bm), .int (nI (g 4)), .int (nI ((g 5) + 1)), .int (nI (g 6)), .int (nI (g 7))])) hr10 rfl rfl (Or.inl rfl))
                        generalize (hset h10 (r) (.inr (2, [.ref (ti), .ref (tt), .ref (sm), .ref (bm), .int (nI (g 4)), .int (nI ((g 5) + 1)), .int (nI (g 6)), .int (nI (g 7))]))) = h11 at hr7 hx11 ⊢
                        have hbmc : bmc + g 3 ≤ 2 * g 5 := hWb.2.1
                        have h28 := hI.2.2.2.1
                        have hi8 := hI.2.1
                        have hT11 := ((hT9.frT hB9.1 hx10).fr1 hx11 hr10 (by decide)).cg (g2 := nxBK g u a1 b1) (nxBK_o (by omega) (by omega) (by omega) (by omega) (by omega) (by omega)) (fun j hj => nxBK_o (by omega) (by omega) (by omega) (by omega) (by omega) (by omega))
                        have hR11 := (hR9.frT hB9.1 hx10).fr1 hx11 hr10 (by decide)
                        have hS11 := ((hS9.frT hB9.1 hx10 hO.sb hO.sbA).fr1 hx11 hr10 (by decide)).cg (g2 := nxBK g u a1 b1) (nxBK_o (by omega) (by omega) (by omega) (by omega) (by omega) (by omega)) (nxBK_o (by omega) (by omega) (by omega) (by omega) (by omega) (by omega)) (fun i hi j hj => nxBK_o (by omega) (by omega) (by omega) (by omega) (by omega) (by omega))
                        have d1 : nxBK g u a1 b1 1 = g 1 := nxBK_o (by omega) (by omega) (by omega) (by omega) (by omega) (by omega)
                        have d2 : nxBK g u a1 b1 2 = g 2 := nxBK_o (by omega) (by omega) (by omega) (by omega) (by omega) (by omega)
                        have hoz := fun k (hk : 2 ≠ k) => offK.m1 (S := kO k) hr10 (kO_ne hk)
                        have hB11 : RWb G h11 (bm, bmc + 1, A6, insF bK (g 3) q3, insF bV (g 3) bo) (nxBK g u a1 b1) := by
                          refine ⟨by rw [nxBK_3]; exact hM10.fr1 hx11 hr10 (by decide) (by decide), by rw [nxBK_3, nxBK_5]; show bmc + 1 + (g 3 + 1) ≤ _; omega, fun i hi => ?_⟩
                          rw [nxBK_3] at hi
                          by_cases e : i = g 3
                          · subst e
                            refine ⟨?_, ?_⟩
                            · show IV G h11 (insF bK (g 3) q3 (g 3)) _
                              rw [insF_e, nxBK_i]; exact (hq6.fr hx10 (hof 27 (by decide) (by decide))).fr hx11 (hoz 27 (by decide))
                            · show h11 (insF bV (g 3) bo (g 3)) = _
                              rw [insF_e]; unfold BoE; rw [nxBK_i, nxBK_t, nxBK_f, nxBK_l]; exact hx11.get (hx10.get hbo ((hof 11 (by decide) (by decide)).o hbo) rfl) ((hoz 11 (by decide)).o (hx10.get hbo ((hof 11 (by decide) (by decide)).o hbo) rfl)) rfl
                          · have hi2 : i < g 3 := by omega
                            have hc := hB9.2.2 i hi2
                            have hc6 := hx10.get hc.2 ((hof 11 (by decide) (by decide)).o hc.2) rfl
                            refine ⟨?_, ?_⟩
                            · show IV G h11 (insF bK (g 3) q3 i) _
                              rw [insF_l hi2, nxBK_o (by omega) (by omega) (by omega) (by omega) (by omega) (by omega)]; exact (hc.1.fr hx10 (hof 27 (by decide) (by decide))).fr hx11 (hoz 27 (by decide))
                            · show h11 (insF bV (g 3) bo i) = _
                              rw [insF_l hi2]; unfold BoE; rw [nxBK_o (by omega) (by omega) (by omega) (by omega) (by omega) (by omega), nxBK_o (by omega) (by omega) (by omega) (by omega) (by omega) (by omega), nxBK_o (by omega) (by omega) (by omega) (by omega) (by omega) (by omega), nxBK_o (by omega) (by omega) (by omega) (by omega) (by omega) (by omega)]
                              exact hx11.get hc6 ((hoz 11 (by decide)).o hc6) rfl
                        have hF9 : Fr (fH h0) h h9 := hF6.cal0 hG9
                        have hF11 : Fr (fH h0) h h11 := (hF9.cal hx10 (fun b z => z.elim (fun z => Or.inl (by rw [z]; exact hO.bm)) (fun z => by obtain ⟨i, hi, z⟩ := z; exact Or.inl (by rw [z]; exact hO.bA i hi)))).cal hx11 (Yo.m1 (Or.inl hO.r))
                        have hA6 : ∀ i, i < g 3 + 1 → h0 (A6 i) = none := fun i hi => (hNF i hi).elim (fun z => by obtain ⟨i3, hi3, z⟩ := z; rw [z]; exact hO.bA i3 hi3) (fun z => hF0.none (hF9.none z))
                        have hd6 : ∀ i j, i < g 2 → j < g 3 + 1 → sA i ≠ A6 j := fun i j hi hj => (hNF j hj).elim (fun z => by obtain ⟨i3, hi3, z⟩ := z; rw [z]; exact hO.sbA i i3 hi hi3) (fun z => by obtain ⟨f0, hf0⟩ := hS9.1.nod i hi; exact ne_nw hf0 z)
                        have hcd : cdBK g (nI u) (nI a1) (nI b1) = 0 := (if_neg hN1).trans ((if_neg (show ¬ tn (nI b1) ≤ tn (nI a1) by rw [ea, eb]; omega)).trans ((if_neg (show ¬ g 3 = 10 by omega)).trans (if_neg (by rw [eu, ea, eb, anyB_zero b1 (fun j h1 h2 => hnf j h1 (by omega))]; omega))))
                        exact VV.rx (V_iret F dX2_book_176 rfl (by omega) (by omega) (by rw [eu, ea, eb]; exact ⟨by rw [Nat.add_sub_cancel], hcd, ⟨((ti, tia, tf), (tt, tl, ta, x, A), (sm, smc, sA, sK, sV), (bm, bmc + 1, A6, insF bK (g 3) q3, insF bV (g 3) bo)), ⟨by rw [nxBK_5, nxBK_o (by omega) (by omega) (by omega) (by omega) (by omega) (by omega), nxBK_o (by omega) (by omega) (by omega) (by omega) (by omega) (by omega), nxBK_o (by omega) (by omega) (by omega) (by omega) (by omega) (by omega)]; exact hr7, hT11, hR11, hS11, hB11⟩, hO.r, hO.ti, hO.tia, hO.tt, hO.tl, hO.ta, hO.sm, hO.bm, d1 ▸ hO.x, d1 ▸ hO.A, d2 ▸ hO.sA, (by rw [nxBK_3]; exact hA6), hO.til, hO.tia2, hO.sb, (by rw [nxBK_3, d2]; exact hd6), d1 ▸ hO.xi, d1 ▸ hO.Ai⟩, hF11⟩))
                      · refine V_aload (i := 4) F dX2_book_97 rfl ?_
                        refine V_iload (i := 5) F dX2_book_99 rfl ?_
                        refine V_callV (st := []) (nn := 1) F dX2_book_101 lk_X2_229 (ct_TR_isFull hTu (by omega) hI.2.2.2.2.1 hI.b) ⟨4, _, _, _, rfl, (.inl hxu)⟩ rfl rfl (Nat.le_of_ble_eq_true rfl) (Nat.le_of_ble_eq_true rfl) (Nat.le_of_ble_eq_true rfl) (by omega) (by omega) ?_
                        refine PRk ?_
                        refine V_if_neB (tgt := 111) F dX2_book_104 (by decide) (fun c_104 => ?_) (fun c_104 => ?_)
                        · refine V_iconst (v := nI 0) F dX2_book_111 rfl ?_
                          refine V_ldcS F dX2_book_112 q2563 ?_
                          intro w10 hGw10
                          refine V_xcSN (st := []) (nn := 2) F dX2_book_114 lk_X2_128 q2448 (hdem ((nI (0))) w10 (h)) rfl rfl (Nat.le_of_ble_eq_true rfl) (Nat.le_of_ble_eq_true rfl) (Nat.le_of_ble_eq_true rfl) (by omega) (by omega) ?_ ?_
                          · exact fun _ _ hp => absurd rfl hp.2.2
                          · exact fun E q h2 hp => V_xout F (HT _) (by omega) (by omega) (CFx.of (k := 4) (by exact (if_neg hN1).trans ((if_neg (show ¬ tn (nI b1) ≤ tn (nI a1) by rw [ea, eb]; omega)).trans ((if_neg (show ¬ g 3 = 10 by omega)).trans (if_pos (by rw [eu, ea, eb, anyB_one hak (by omega) b1 (by omega)]; omega))))) (by decide) hGw10 hp.2)
                        · refine V_iconst (v := nI 1) F dX2_book_107 rfl ?_
                          refine V_goto (tgt := 112) F dX2_book_108 (by decide) ?_
                          refine V_ldcS F dX2_book_112 q2563 ?_
                          intro w11 hGw11
                          refine V_xcSN (st := []) (nn := 2) F dX2_book_114 lk_X2_128 q2448 (hdem ((nI (1))) w11 (h)) rfl rfl (Nat.le_of_ble_eq_true rfl) (Nat.le_of_ble_eq_true rfl) (Nat.le_of_ble_eq_true rfl) (by omega) (by omega) ?_ ?_
                          · rintro _ _ ⟨rfl, rfl, hd_114⟩
                            refine V_iinc (i := 5) (v := nI (k + 1)) F dX2_book_117 rfl (nI_add (k) 1) (Nat.le_of_ble_eq_true rfl) ?_
                            refine V_goto (tgt := 91) F dX2_book_120 (by decide) ?_
                            refine VV.weak (L' := [some (.ref (r)), some (.int (nI (u))), some (.int (nI (a1))), some (.int (nI (b1))), some (.ref ((x u))), some (.int (nI (k + 1)))]) (LW.c1 (LW.c1 (LW.c1 (LW.c1 (LW.c1 (LW.c1 LW.nil)))))) ?_
                            refine VV.wide (by omega) (by omega) (ih_91 (k + 1) (by omega) (by omega) (by omega) (fun j h1 h2 => ?_))
                            by_cases e : j = k
                            · subst e; have := hC u j ⟨hu, by omega⟩; omega
                            · exact hnf j h1 (by omega)
                          · exact fun E q h2 hp => absurd hp.1 (by decide)
                  refine VV.weak (L' := [some (.ref (r)), some (.int (nI (u))), some (.int (nI (a1))), some (.int (nI (b1))), some (.ref ((x u))), some (.int (nI (a1)))]) (LW.c1 (LW.c1 (LW.c1 (LW.c1 (LW.c1 (LW.c1 LW.nil)))))) ?_
                  exact VV.wide (by omega) (by omega) (loop_91 (b1 - a1 + 1) a1 (by omega) (Nat.le_refl _) (by omega) (fun j h1 h2 => absurd h2 (by omega)))
                · exact fun E q h2 hp => absurd hp.1 (by decide)
            · exact fun E q h2 hp => absurd hp.1 (by decide)
        · exact fun E q h2 hp => absurd hp.1 (by decide)
  · exact fun E q h2 hp => V_xout F (HT _) (by omega) (by omega) (CFx.of (k := 1) (by have hz := b2_z hp.1; exact if_pos (Or.inl (fun z => hz z.1))) (by decide) hGw1 hp.2)
