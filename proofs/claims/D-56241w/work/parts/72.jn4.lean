theorem ct_J_search {G : GG} {l : Launch} {h : AH} {h0 : AH} {j eA rA a v : Nat} {g e R : Nat → Nat} {I : (Nat → Nat) → (Nat → Nat) → List (Nat × Nat) → Prop}  (hJ : JS G h0 h j g a v eA rA e R) (hI : GW g) (ha31 : a < 2 ^ 31) (hv : v ≤ 9999) (hI0 : I e ((lgL g).foldl (oaS g e a v a) (R, [])).1 ((lgL g).foldl (oaS g e a v a) (R, [])).2) (hI1 : ∀ e R P, I e R P → (∀ i, e i ≤ 1000000) ∧ (∀ i, R i < 2) ∧ P.length ≤ rcN g R ∧ ∀ p, p ∈ P → p ∈ lgL g) (hI2 : ∀ e R P t k P2, I e R P → P.Perm ((t, k) :: P2) → I (srE g e t k) (srB g e a v (srA g (R, P2) t k) t k).1 (srB g e a v (srA g (R, P2) t k) t k).2) : Ct G l yX12_search cX12_search 3 (some (.object "SleeperRailway$Journeys")) 11 (180) (5000) [.ref j] h (fun r h2 => ∃ e2 R2, I e2 R2 [] ∧ r = some (.ref j) ∧ JS G h0 h2 j g a v eA rA e2 R2 ∧ Fr (m2 eA rA) h h2) := by
  refine Ct.of (by decide) (Nat.le_of_ble_eq_true rfl) (cat1 rfl) (fun X hXl F HN => ?_)
  subst hXl
  obtain ⟨⟨tt, tl, ta, x, A, lg, lar, tr, f, hR0, hF0, he0, hr0, her, hte, htr2, hj, hLg, htr⟩, heA, hrA, heM, hRM⟩ := id hJ
  refine V_new F dX12_search_0 nw_X12_102 (by first | exact Nat.le_of_ble_eq_true rfl | omega) (by first | exact Nat.le_of_ble_eq_true rfl | omega) ?_
  intro pq hfpq hbpq
  refine V_dup F dX12_search_3 rfl ?_
  refine V_callI (st := [.ref (pq)]) (nn := 0) F dX12_search_4 lk_X12_104 (ct_PQ_init (fun _ => 0) (hset_self (e := .inr (31, [.null, .int 0, .null, .int 0])))) rfl rfl (Nat.le_of_ble_eq_true rfl) (Nat.le_of_ble_eq_true rfl) (Nat.le_of_ble_eq_true rfl) (by first | exact Nat.le_of_ble_eq_true rfl | omega) (by first | exact Nat.le_of_ble_eq_true rfl | omega) ?_
  rintro _ hp ⟨rfl, ar0, har0, hba0, hQ0, hxp⟩
  have har1 : h ar0 = none := ((Fr.rf (M := m2 eA rA) (h := h)).nw (x := .inr (31, [.null, .int 0, .null, .int 0])) hfpq).none har0
  have p1 := hxp.get ((hset_ne (ne_nw hj hfpq)).trans hj) (ne_nw hj hfpq) rfl
  have p2 := hxp.get ((hset_ne (ne_nw heA hfpq)).trans heA) (ne_nw heA hfpq) rfl
  have p3 := hxp.get ((hset_ne (ne_nw hrA hfpq)).trans hrA) (ne_nw hrA hfpq) rfl
  have f4 : Fr (m2 eA rA) h hp := ((Fr.rf (M := m2 eA rA) (h := h)).nw (x := .inr (31, [.null, .int 0, .null, .int 0])) hfpq).cal hxp (Yo.m1 ((Fr.rf (M := m2 eA rA) (h := h)).yo hfpq))
  have hE0 : EV G hp pq ar0 g [] := ⟨_, _, _, fun _ => 0, fun _ => (0, 0), hQ0, (fun z hz => by cases hz), List.Perm.refl []⟩
  have hpq1 : h pq = none := hfpq
  refine V_astore_n (i := 1) F dX12_search_7 rfl (Nat.le_of_ble_eq_true rfl) (Nat.le_of_ble_eq_true rfl) ?_
  refine V_aload_n (i := 0) F dX12_search_8 rfl rfl ?_
  refine V_aload_n (i := 1) F dX12_search_9 rfl rfl ?_
  refine V_aload_n (i := 0) F dX12_search_10 rfl rfl ?_
  refine V_getf F dX12_search_11 fc_X12_23_X12 (.inl p1) rfl ?_
  have hq0c := rcN_le (R := ((lgL g).foldl (oaS g e a v a) (R, [])).1) hI
  refine V_callV (st := []) (nn := 2) F dX12_search_14 lk_X12_105 (ct_J_offerAll (P := []) hR0 hF0 he0 hr0 her hte htr2 hj hLg htr hI ha31 hv hpq1 ⟨e, heA⟩ ⟨R, hrA⟩ f4 p2 p3 heM hRM har1 hE0 ha31 (Nat.zero_le _)) ⟨10, _, _, _, rfl, (.inl p1)⟩ rfl rfl (Nat.le_of_ble_eq_true rfl) (Nat.le_of_ble_eq_true rfl) (Nat.le_of_ble_eq_true rfl) (by first | exact Nat.le_of_ble_eq_true rfl | omega) (by first | exact Nat.le_of_ble_eq_true rfl | omega) ?_
  rintro _ h2 ⟨rfl, ar2, har2, hE2, hr2, he2, hF2, -⟩
  have loop_17 : ∀ (nn : Nat) (e2 R2 : Nat → Nat) (P2 : List (Nat × Nat)) (ar2 : Nat) (hh : AH), P2.length + 2 * (43 - rcN g R2) < nn → I e2 R2 P2 → EV G hh pq ar2 g P2 → h ar2 = none → hh eA = some (iA G (g 0) (fun i => nI (e2 i))) → hh rA = some (zA G 48 (fun i => nI (R2 i))) → Fr (m2 eA rA) h hh → VV G X 3 ((EQ G X (180) (5000) (fun r h2 => ∃ e2 R2, I e2 R2 [] ∧ r = some (.ref j) ∧ JS G h0 h2 j g a v eA rA e2 R2 ∧ Fr (m2 eA rA) h h2))) hh (4 + 2 * rcN g R2 + 2 * (rcN g R2 - P2.length)) (19 + 100 * rcN g R2 + 10 * (rcN g R2 - P2.length)) [some (.ref (j)), some (.ref (pq)), none] [] 17 := by
    intro nn
    induction nn with
    | zero => intro e2 R2 P2 ar2 hh hm hIv hE2 har2 heA2 hrA2 hFa; exact absurd hm (by omega)
    | succ nn ih_17 =>
      intro e2 R2 P2 ar2 hh hm hIv hE2 har2 heA2 hrA2 hFa
      obtain ⟨-, hjn, -, htn⟩ := jn_at hR0 hF0 he0 hr0 hte htr2 hj hLg htr ⟨e, heA⟩ ⟨R, hrA⟩ hFa
      obtain ⟨heM2, hRM2, hrc2, hmem⟩ := hI1 e2 R2 P2 hIv
      have hrc42 := rcN_le (R := R2) hI
      obtain ⟨mcq, capq, fz, ev, hQ, hev, hPm⟩ := hE2.len
      obtain ⟨fE2, hEc⟩ := hE2.cell
      obtain ⟨nE2, uE2, hEa⟩ := hE2.arr
      refine V_aload_n (i := 1) F dX12_search_17 rfl rfl ?_
      refine V_callU (st := []) (nn := 0) F dX12_search_18 ⟨lw_U q1757 q1758 q1760 q1761 q102 q1762, q1759, (by decide +kernel)⟩ (ct_PQ_isEmpty hQ (by omega)) ⟨31, _, _, _, rfl, .inl hQ.1⟩ rfl rfl (Nat.le_of_ble_eq_true rfl) (Nat.le_of_ble_eq_true rfl) (Nat.le_of_ble_eq_true rfl) (by first | exact Nat.le_of_ble_eq_true rfl | omega) (by first | exact Nat.le_of_ble_eq_true rfl | omega) ?_
      refine PRk ?_
      refine V_if_neB (tgt := 121) F dX12_search_21 (by decide) (fun c_21 => ?_) (fun c_21 => ?_)
      · refine V_aload_n (i := 0) F dX12_search_121 rfl rfl ?_
        have hPn : P2 = [] := List.eq_nil_of_length_eq_zero (by omega)
        subst hPn
        exact V_aret F dX12_search_122 (Or.inl ⟨_, rfl⟩) (Or.inr ⟨_, rfl⟩) (by first | exact Nat.le_of_ble_eq_true rfl | omega) (by first | exact Nat.le_of_ble_eq_true rfl | omega) ⟨e2, R2, hIv, rfl, hJ.fr hFa heA2 hrA2 heM2 hRM2, hFa⟩
      · refine V_aload_n (i := 1) F dX12_search_24 rfl rfl ?_
        refine V_callV (st := []) (nn := 0) F dX12_search_25 lk_X12_112 (ct_PQ_poll hQ (by omega) (qc_poll hQ hev)) ⟨31, _, _, _, rfl, .inl hQ.1⟩ rfl rfl (Nat.le_of_ble_eq_true rfl) (Nat.le_of_ble_eq_true rfl) (Nat.le_of_ble_eq_true rfl) (by first | exact Nat.le_of_ble_eq_true rfl | omega) (by first | exact Nat.le_of_ble_eq_true rfl | omega) ?_
        rintro _ h3 ⟨rfl, f2, hQ2, hpe, hx3⟩
        obtain ⟨q, t, k, P3, hz1, hq, hPP, hE3⟩ := EV.poll hQ hev hPm (by omega) hQ2 hpe hx3
        have hFc : Fr (m2 eA rA) h h3 := hFa.cal hx3 (Yo.m2 (Or.inr hpq1) (Or.inr har2))
        obtain ⟨hR3, hj3, -, ht3⟩ := jn_at hR0 hF0 he0 hr0 hte htr2 hj hLg htr ⟨e, heA⟩ ⟨R, hrA⟩ hFc
        have he3 := hx3.get heA2 (fun z => z.elim (ne_ao heA2 hEc) (ne_iq heA2 hEa)) rfl
        have hr3 := hx3.get hrA2 (fun z => z.elim (ne_ao hrA2 hEc) (ne_iq hrA2 hEa)) rfl
        have hPl := hPP.length_eq
        rw [List.length_cons] at hPl
        obtain ⟨ht, hk⟩ := mem_lgL.mp (hmem _ (hPP.symm.subset List.mem_cons_self))
        have hs8 := (hI.st ht).2
        have ht6 := hI.t6 ht
        refine V_ckS F dX12_search_28 q1479 ⟨12, _, _, _, rfl, (.inl hz1)⟩ ?_
        refine V_getn F dX12_search_31 fc_X12_117_X15 (.inl hz1) rfl ?_
        refine V_astore_n (i := 2) F dX12_search_34 rfl (Nat.le_of_ble_eq_true rfl) (Nat.le_of_ble_eq_true rfl) ?_
        refine V_aload_n (i := 0) F dX12_search_35 rfl rfl ?_
        refine V_getf F dX12_search_36 fc_X12_9_X12 (.inl hj3) rfl ?_
        refine V_aload_n (i := 2) F dX12_search_39 rfl rfl ?_
        refine V_callV (st := [.ref (tt)]) (nn := 0) F dX12_search_40 lk_X12_83 (ct_Leg_train hq) ⟨5, _, _, _, rfl, (.inl hq)⟩ rfl rfl (Nat.le_of_ble_eq_true rfl) (Nat.le_of_ble_eq_true rfl) (Nat.le_of_ble_eq_true rfl) (by first | exact Nat.le_of_ble_eq_true rfl | omega) (by first | exact Nat.le_of_ble_eq_true rfl | omega) ?_
        refine PRk ?_
        refine V_callV (st := []) (nn := 1) F dX12_search_43 lk_X12_121 (ct_TT_get hR3 hI ht) ⟨3, _, _, _, rfl, .inl hR3.1⟩ rfl rfl (Nat.le_of_ble_eq_true rfl) (Nat.le_of_ble_eq_true rfl) (Nat.le_of_ble_eq_true rfl) (by first | exact Nat.le_of_ble_eq_true rfl | omega) (by first | exact Nat.le_of_ble_eq_true rfl | omega) ?_
        refine PRk ?_
        refine V_aload_n (i := 2) F dX12_search_46 rfl rfl ?_
        refine V_callV (st := [.ref ((x t))]) (nn := 0) F dX12_search_47 lk_X12_86 (ct_Leg_number hq) ⟨5, _, _, _, rfl, (.inl hq)⟩ rfl rfl (Nat.le_of_ble_eq_true rfl) (Nat.le_of_ble_eq_true rfl) (Nat.le_of_ble_eq_true rfl) (by first | exact Nat.le_of_ble_eq_true rfl | omega) (by first | exact Nat.le_of_ble_eq_true rfl | omega) ?_
        refine PRk ?_
        refine V_iconst (v := nI 1) F dX12_search_50 rfl ?_
        refine V_iaddN F dX12_search_51 ?_
        refine V_callV (st := []) (nn := 1) F dX12_search_52 lk_X12_125 (ct_TR_hasLeg (hR3.2.2 t ht) (by omega)) ⟨4, _, _, _, rfl, (.inl (hR3.2.2 t ht).1)⟩ rfl rfl (Nat.le_of_ble_eq_true rfl) (Nat.le_of_ble_eq_true rfl) (Nat.le_of_ble_eq_true rfl) (by first | exact Nat.le_of_ble_eq_true rfl | omega) (by first | exact Nat.le_of_ble_eq_true rfl | omega) ?_
        refine PRk ?_
        refine V_if_eqB (tgt := 80) F dX12_search_55 (by decide) (fun c_55 => ?_) (fun c_55 => ?_)
        · have hn1 : ¬ (k + 1 < g (16 + 36 * t + 3) - 1) := fun z => c_55 ((iR_nI (by omega)).mpr z)
          refine V_aload_n (i := 2) F dX12_search_80 rfl rfl ?_
          refine V_callV (st := []) (nn := 0) F dX12_search_81 lk_X12_99 (ct_Leg_arrival hq) ⟨5, _, _, _, rfl, (.inl hq)⟩ rfl rfl (Nat.le_of_ble_eq_true rfl) (Nat.le_of_ble_eq_true rfl) (Nat.le_of_ble_eq_true rfl) (by first | exact Nat.le_of_ble_eq_true rfl | omega) (by first | exact Nat.le_of_ble_eq_true rfl | omega) ?_
          refine PRk ?_
          refine V_aload_n (i := 0) F dX12_search_84 rfl rfl ?_
          refine V_getf F dX12_search_85 fc_X12_30_X12 (.inl hj3) rfl ?_
          refine V_aload_n (i := 2) F dX12_search_88 rfl rfl ?_
          refine V_callV (st := [.ref (eA), .int (nI (CmG g t (k + 1)))]) (nn := 0) F dX12_search_89 lk_X12_96 (ct_Leg_to hq) ⟨5, _, _, _, rfl, (.inl hq)⟩ rfl rfl (Nat.le_of_ble_eq_true rfl) (Nat.le_of_ble_eq_true rfl) (Nat.le_of_ble_eq_true rfl) (by first | exact Nat.le_of_ble_eq_true rfl | omega) (by first | exact Nat.le_of_ble_eq_true rfl | omega) ?_
          refine PRk ?_
          refine V_ialdG F dX12_search_92 (.inl he3) (hI.pl ht (by omega)) hI.b.lt rfl ?_
          refine V_icmp_geN (tgt := 118) F dX12_search_93 (by decide) (Nat.lt_trans (CmG_31 hI.b (by omega)) (by decide)) (by have := heM2 (plG g t (k + 1)); omega) (fun c_93 => ?_) (fun c_93 => ?_)
          · refine V_goto (tgt := 17) F dX12_search_118 (by decide) ?_
            refine VV.weak (L' := [some (.ref (j)), some (.ref (pq)), none]) (LW.c1 (LW.c1 (LW.c0 LW.nil))) ?_
            have hc2 : ¬ ((CmG g t (k + 1)) < e2 (plG g t (k + 1))) := by omega
            have hIn : I e2 R2 P3 := by
              have z := hI2 e2 R2 P2 t k P3 hIv hPP
              simpa only [srE, srB, srA, if_neg hn1, if_neg hc2] using z
            exact VV.wide (by omega) (by omega) (ih_17 e2 R2 P3 ar2 _ (by have := rcN_le (R := R2) hI; omega) hIn hE3 har2 he3 hr3 hFc)
          · refine V_aload_n (i := 0) F dX12_search_96 rfl rfl ?_
            refine V_getf F dX12_search_97 fc_X12_30_X12 (.inl hj3) rfl ?_
            refine V_aload_n (i := 2) F dX12_search_100 rfl rfl ?_
            refine V_callV (st := [.ref (eA)]) (nn := 0) F dX12_search_101 lk_X12_96 (ct_Leg_to hq) ⟨5, _, _, _, rfl, (.inl hq)⟩ rfl rfl (Nat.le_of_ble_eq_true rfl) (Nat.le_of_ble_eq_true rfl) (Nat.le_of_ble_eq_true rfl) (by first | exact Nat.le_of_ble_eq_true rfl | omega) (by first | exact Nat.le_of_ble_eq_true rfl | omega) ?_
            refine PRk ?_
            refine V_aload_n (i := 2) F dX12_search_104 rfl rfl ?_
            refine V_callV (st := [.int (nI (plG g t (k + 1))), .ref (eA)]) (nn := 0) F dX12_search_105 lk_X12_99 (ct_Leg_arrival hq) ⟨5, _, _, _, rfl, (.inl hq)⟩ rfl rfl (Nat.le_of_ble_eq_true rfl) (Nat.le_of_ble_eq_true rfl) (Nat.le_of_ble_eq_true rfl) (by first | exact Nat.le_of_ble_eq_true rfl | omega) (by first | exact Nat.le_of_ble_eq_true rfl | omega) ?_
            refine PRk ?_
            have p1 : h3 tt = some (.inr (3, [.ref (tl)])) := hR3.1
            have p2 : h3 tl = some (.inr (18, [.int (nI (g 1)), .ref (ta), .int (nI (g 1))])) := hR3.2.1.1
            have p3 : h3 ((x t)) = some (.inr (4, [.int (nI (g (16 + 36 * t + 0))), .ref ((A t 0)), .ref ((A t 1)), .ref ((A t 2)), .ref ((A t 3)), .ref ((A t 4)), .int (nI (g (16 + 36 * t + 3))), .int (nI (g (16 + 36 * t + 2)))])) := (hR3.2.2 t ht).1
            refine V_iastG F dX12_search_108 he3 (hI.pl ht (by omega)) hI.b.lt ?_
            have hpu : Fr (m1 eA) h3 ((hset h3 (eA) (.inl (G.2.1 0, (g 0), .inl (fun i => nI (((up e2 (plG g t (k + 1)) (CmG g t (k + 1)))) i)))))) := Fr.rf.put he3 ⟨rfl, rfl⟩ rfl (Or.inl rfl)
            have hF6 : Fr (m2 eA rA) h ((hset h3 (eA) (.inl (G.2.1 0, (g 0), .inl (fun i => nI (((up e2 (plG g t (k + 1)) (CmG g t (k + 1)))) i)))))) := hFc.cal hpu (Yo.m1 (Or.inl (Or.inl rfl)))
            obtain ⟨fc6, hc6⟩ := hE3.cell
            obtain ⟨n6, u6, ha6⟩ := hE3.arr
            have hE6 := hE3.fr hpu (ne_oa hc6 he3) (ne_qi ha6 he3) (by intro y e5 hy hs z; cases (show y = eA from z); cases hy.symm.trans he3; cases hs) (by intro y e5 hy hs z; cases (show y = eA from z); cases hy.symm.trans he3; cases hs)
            have heM6 : ∀ i, (up e2 (plG g t (k + 1)) (CmG g t (k + 1))) i ≤ 1000000 := fun i => by unfold up; split <;> first | exact Nat.le_trans (Nat.le_of_lt (by omega)) (heM2 (plG g t (k + 1))) | exact heM2 i
            refine V_aload_n (i := 0) F dX12_search_109 rfl rfl ?_
            refine V_aload_n (i := 1) F dX12_search_110 rfl rfl ?_
            refine V_aload_n (i := 2) F dX12_search_111 rfl rfl ?_
            refine V_callV (st := [.ref (pq), .ref (j)]) (nn := 0) F dX12_search_112 lk_X12_96 (ct_Leg_to ((hset_ne (ne_oa hq he3)).trans hq)) ⟨5, _, _, _, rfl, (.inl ((hset_ne (ne_oa hq he3)).trans hq))⟩ rfl rfl (Nat.le_of_ble_eq_true rfl) (Nat.le_of_ble_eq_true rfl) (Nat.le_of_ble_eq_true rfl) (by first | exact Nat.le_of_ble_eq_true rfl | omega) (by first | exact Nat.le_of_ble_eq_true rfl | omega) ?_
            refine PRk ?_
            have hq7c := rcN_le (R := ((lgL g).foldl (oaS g (up e2 (plG g t (k + 1)) (CmG g t (k + 1))) a v (plG g t (k + 1))) (R2, P3)).1) hI
            refine V_callV (st := []) (nn := 2) F dX12_search_115 lk_X12_105 (ct_J_offerAll (s0 := (plG g t (k + 1))) hR0 hF0 he0 hr0 her hte htr2 hj hLg htr hI ha31 hv hpq1 ⟨e, heA⟩ ⟨R, hrA⟩ hF6 (hset_self (e := .inl (G.2.1 0, (g 0), .inl (fun i => nI (((up e2 (plG g t (k + 1)) (CmG g t (k + 1)))) i))))) ((hset_ne (Ne.symm her)).trans hr3) heM6 hRM2 har2 hE6 (Nat.lt_trans (hI.b _) (by decide)) (by omega)) ⟨10, _, _, _, rfl, (.inl ((hset_ne (ne_oa hj3 he3)).trans hj3))⟩ rfl rfl (Nat.le_of_ble_eq_true rfl) (Nat.le_of_ble_eq_true rfl) (Nat.le_of_ble_eq_true rfl) (by first | exact Nat.le_of_ble_eq_true rfl | omega) (by first | exact Nat.le_of_ble_eq_true rfl | omega) ?_
            rintro _ h7 ⟨rfl, ar7, har7, hE7, hr7, he7, hF7, hx7⟩
            have hd7 := oaF_df (g := g) (e := (up e2 (plG g t (k + 1)) (CmG g t (k + 1)))) (a := a) (v := v) (s := (plG g t (k + 1))) (lgL g) (x := (R2, P3)) (fun _ z => z)
            have hm7 := oaF_mono (g := g) (e := (up e2 (plG g t (k + 1)) (CmG g t (k + 1)))) (a := a) (v := v) (s := (plG g t (k + 1))) (lgL g) (x := (R2, P3)) (fun _ z => z)
            simp only at hd7 hm7
            refine V_goto (tgt := 17) F dX12_search_118 (by decide) ?_
            refine VV.weak (L' := [some (.ref (j)), some (.ref (pq)), none]) (LW.c1 (LW.c1 (LW.c0 LW.nil))) ?_
            have hc2 : ((CmG g t (k + 1)) < e2 (plG g t (k + 1))) := by omega
            have hIn : I ((up e2 (plG g t (k + 1)) (CmG g t (k + 1)))) (((lgL g).foldl (oaS g (up e2 (plG g t (k + 1)) (CmG g t (k + 1))) a v (plG g t (k + 1))) (R2, P3)).1) (((lgL g).foldl (oaS g (up e2 (plG g t (k + 1)) (CmG g t (k + 1))) a v (plG g t (k + 1))) (R2, P3)).2) := by
              have z := hI2 e2 R2 P2 t k P3 hIv hPP
              simpa only [srE, srB, srA, if_neg hn1, if_pos hc2] using z
            exact VV.wide (by omega) (by omega) (ih_17 ((up e2 (plG g t (k + 1)) (CmG g t (k + 1)))) (((lgL g).foldl (oaS g (up e2 (plG g t (k + 1)) (CmG g t (k + 1))) a v (plG g t (k + 1))) (R2, P3)).1) (((lgL g).foldl (oaS g (up e2 (plG g t (k + 1)) (CmG g t (k + 1))) a v (plG g t (k + 1))) (R2, P3)).2) ar7 _ (by have := rcN_le (R := ((lgL g).foldl (oaS g (up e2 (plG g t (k + 1)) (CmG g t (k + 1))) a v (plG g t (k + 1))) (R2, P3)).1) hI; omega) hIn hE7 har7 he7 hr7 hF7)
        · have hn1 : k + 1 < g (16 + 36 * t + 3) - 1 := (iR_nI (by omega)).mp c_55
          refine V_aload_n (i := 0) F dX12_search_58 rfl rfl ?_
          refine V_aload_n (i := 1) F dX12_search_59 rfl rfl ?_
          refine V_aload_n (i := 0) F dX12_search_60 rfl rfl ?_
          refine V_getf F dX12_search_61 fc_X12_9_X12 (.inl hj3) rfl ?_
          refine V_aload_n (i := 2) F dX12_search_64 rfl rfl ?_
          refine V_callV (st := [.ref (tt), .ref (pq), .ref (j)]) (nn := 0) F dX12_search_65 lk_X12_83 (ct_Leg_train hq) ⟨5, _, _, _, rfl, (.inl hq)⟩ rfl rfl (Nat.le_of_ble_eq_true rfl) (Nat.le_of_ble_eq_true rfl) (Nat.le_of_ble_eq_true rfl) (by first | exact Nat.le_of_ble_eq_true rfl | omega) (by first | exact Nat.le_of_ble_eq_true rfl | omega) ?_
          refine PRk ?_
          refine V_aload_n (i := 2) F dX12_search_68 rfl rfl ?_
          refine V_callV (st := [.int (nI (t)), .ref (tt), .ref (pq), .ref (j)]) (nn := 0) F dX12_search_69 lk_X12_86 (ct_Leg_number hq) ⟨5, _, _, _, rfl, (.inl hq)⟩ rfl rfl (Nat.le_of_ble_eq_true rfl) (Nat.le_of_ble_eq_true rfl) (Nat.le_of_ble_eq_true rfl) (by first | exact Nat.le_of_ble_eq_true rfl | omega) (by first | exact Nat.le_of_ble_eq_true rfl | omega) ?_
          refine PRk ?_
          refine V_iconst (v := nI 1) F dX12_search_72 rfl ?_
          refine V_iaddN F dX12_search_73 ?_
          refine V_callV (st := [.ref (pq), .ref (j)]) (nn := 2) F dX12_search_74 lk_X12_131 (ct_TT_leg hR3 hI ht hn1) ⟨3, _, _, _, rfl, .inl hR3.1⟩ rfl rfl (Nat.le_of_ble_eq_true rfl) (Nat.le_of_ble_eq_true rfl) (Nat.le_of_ble_eq_true rfl) (by first | exact Nat.le_of_ble_eq_true rfl | omega) (by first | exact Nat.le_of_ble_eq_true rfl | omega) ?_
          rintro _ h4 ⟨q2, rfl, hq20, hq2, hx4⟩
          have hF4 : Fr (m2 eA rA) h h4 := hFc.cal0 hx4
          obtain ⟨hR4, hj4, -, ht4⟩ := jn_at hR0 hF0 he0 hr0 hte htr2 hj hLg htr ⟨e, heA⟩ ⟨R, hrA⟩ hF4
          have he4 := hx4.get he3 id rfl
          have hr4 := hx4.get hr3 id rfl
          have hq4 := hx4.get hq id rfl
          have hE4 := hE3.fr0 hx4
          have hq5c := rcN_le (R := (ofS g (R2, P3) (t, k + 1)).1) hI
          refine V_callV (st := []) (nn := 2) F dX12_search_77 lk_X12_134 (ct_J_offer hR4 hI hj4 hr4 hRM2 hq2 ht hn1 hE4 (by omega) hs8 ht6) ⟨10, _, _, _, rfl, (.inl hj4)⟩ rfl rfl (Nat.le_of_ble_eq_true rfl) (Nat.le_of_ble_eq_true rfl) (Nat.le_of_ble_eq_true rfl) (by first | exact Nat.le_of_ble_eq_true rfl | omega) (by first | exact Nat.le_of_ble_eq_true rfl | omega) ?_
          rintro _ h5 ⟨rfl, ar5, ho5, hE5, hr5, hx5⟩
          obtain ⟨fc4, hc4⟩ := hE4.cell
          obtain ⟨n4, u4, ha4⟩ := hE4.arr
          have har5 : h ar5 = none := ho5.elim (fun z => z ▸ har2) (fun z => hF4.none z)
          have hF5 : Fr (m2 eA rA) h h5 := hF4.cal hx5 (fun b z => z.elim (fun z => Or.inr (z ▸ hpq1)) (fun z => z.elim (fun z => Or.inr (z ▸ har2)) (fun z => Or.inl (Or.inr z))))
          obtain ⟨hR5, hj5, -, ht5⟩ := jn_at hR0 hF0 he0 hr0 hte htr2 hj hLg htr ⟨e, heA⟩ ⟨R, hrA⟩ hF5
          have he5 := hx5.get he4 (m3.no (ne_ao he4 hc4) (ne_iq he4 ha4) her) rfl
          have hq5 := hx5.get hq4 ((m3.k2 hE4 hr4 (by decide)).o hq4) rfl
          have hd5 := ofS_df (x := (R2, P3)) (mem_lgL.mpr ⟨ht, hn1⟩)
          have hm5 := ofS_mono (x := (R2, P3)) (mem_lgL.mpr ⟨ht, hn1⟩)
          simp only at hd5 hm5
          have hRM5 := ofS_R (g := g) (x := (R2, P3)) (p := (t, k + 1)) hRM2
          refine V_aload_n (i := 2) F dX12_search_80 rfl rfl ?_
          refine V_callV (st := []) (nn := 0) F dX12_search_81 lk_X12_99 (ct_Leg_arrival hq5) ⟨5, _, _, _, rfl, (.inl hq5)⟩ rfl rfl (Nat.le_of_ble_eq_true rfl) (Nat.le_of_ble_eq_true rfl) (Nat.le_of_ble_eq_true rfl) (by first | exact Nat.le_of_ble_eq_true rfl | omega) (by first | exact Nat.le_of_ble_eq_true rfl | omega) ?_
          refine PRk ?_
          refine V_aload_n (i := 0) F dX12_search_84 rfl rfl ?_
          refine V_getf F dX12_search_85 fc_X12_30_X12 (.inl hj5) rfl ?_
          refine V_aload_n (i := 2) F dX12_search_88 rfl rfl ?_
          refine V_callV (st := [.ref (eA), .int (nI (CmG g t (k + 1)))]) (nn := 0) F dX12_search_89 lk_X12_96 (ct_Leg_to hq5) ⟨5, _, _, _, rfl, (.inl hq5)⟩ rfl rfl (Nat.le_of_ble_eq_true rfl) (Nat.le_of_ble_eq_true rfl) (Nat.le_of_ble_eq_true rfl) (by first | exact Nat.le_of_ble_eq_true rfl | omega) (by first | exact Nat.le_of_ble_eq_true rfl | omega) ?_
          refine PRk ?_
          refine V_ialdG F dX12_search_92 (.inl he5) (hI.pl ht (by omega)) hI.b.lt rfl ?_
          refine V_icmp_geN (tgt := 118) F dX12_search_93 (by decide) (Nat.lt_trans (CmG_31 hI.b (by omega)) (by decide)) (by have := heM2 (plG g t (k + 1)); omega) (fun c_93 => ?_) (fun c_93 => ?_)
          · refine V_goto (tgt := 17) F dX12_search_118 (by decide) ?_
            refine VV.weak (L' := [some (.ref (j)), some (.ref (pq)), none]) (LW.c1 (LW.c1 (LW.c0 LW.nil))) ?_
            have hc2 : ¬ ((CmG g t (k + 1)) < e2 (plG g t (k + 1))) := by omega
            have hIn : I e2 ((ofS g (R2, P3) (t, k + 1)).1) ((ofS g (R2, P3) (t, k + 1)).2) := by
              have z := hI2 e2 R2 P2 t k P3 hIv hPP
              simpa only [srE, srB, srA, if_pos hn1, if_neg hc2] using z
            exact VV.wide (by omega) (by omega) (ih_17 e2 ((ofS g (R2, P3) (t, k + 1)).1) ((ofS g (R2, P3) (t, k + 1)).2) ar5 _ (by have := rcN_le (R := (ofS g (R2, P3) (t, k + 1)).1) hI; omega) hIn hE5 har5 he5 hr5 hF5)
          · refine V_aload_n (i := 0) F dX12_search_96 rfl rfl ?_
            refine V_getf F dX12_search_97 fc_X12_30_X12 (.inl hj5) rfl ?_
            refine V_aload_n (i := 2) F dX12_search_100 rfl rfl ?_
            refine V_callV (st := [.ref (eA)]) (nn := 0) F dX12_search_101 lk_X12_96 (ct_Leg_to hq5) ⟨5, _, _, _, rfl, (.inl hq5)⟩ rfl rfl (Nat.le_of_ble_eq_true rfl) (Nat.le_of_ble_eq_true rfl) (Nat.le_of_ble_eq_true rfl) (by first | exact Nat.le_of_ble_eq_true rfl | omega) (by first | exact Nat.le_of_ble_eq_true rfl | omega) ?_
            refine PRk ?_
            refine V_aload_n (i := 2) F dX12_search_104 rfl rfl ?_
            refine V_callV (st := [.int (nI (plG g t (k + 1))), .ref (eA)]) (nn := 0) F dX12_search_105 lk_X12_99 (ct_Leg_arrival hq5) ⟨5, _, _, _, rfl, (.inl hq5)⟩ rfl rfl (Nat.le_of_ble_eq_true rfl) (Nat.le_of_ble_eq_true rfl) (Nat.le_of_ble_eq_true rfl) (by first | exact Nat.le_of_ble_eq_true rfl | omega) (by first | exact Nat.le_of_ble_eq_true rfl | omega) ?_
            refine PRk ?_
            refine V_iastG F dX12_search_108 he5 (hI.pl ht (by omega)) hI.b.lt ?_
            have hpu : Fr (m1 eA) h5 ((hset h5 (eA) (.inl (G.2.1 0, (g 0), .inl (fun i => nI (((up e2 (plG g t (k + 1)) (CmG g t (k + 1)))) i)))))) := Fr.rf.put he5 ⟨rfl, rfl⟩ rfl (Or.inl rfl)
            have hF6 : Fr (m2 eA rA) h ((hset h5 (eA) (.inl (G.2.1 0, (g 0), .inl (fun i => nI (((up e2 (plG g t (k + 1)) (CmG g t (k + 1)))) i)))))) := hF5.cal hpu (Yo.m1 (Or.inl (Or.inl rfl)))
            obtain ⟨fc6, hc6⟩ := hE5.cell
            obtain ⟨n6, u6, ha6⟩ := hE5.arr
            have hE6 := hE5.fr hpu (ne_oa hc6 he5) (ne_qi ha6 he5) (by intro y e5 hy hs z; cases (show y = eA from z); cases hy.symm.trans he5; cases hs) (by intro y e5 hy hs z; cases (show y = eA from z); cases hy.symm.trans he5; cases hs)
            have heM6 : ∀ i, (up e2 (plG g t (k + 1)) (CmG g t (k + 1))) i ≤ 1000000 := fun i => by unfold up; split <;> first | exact Nat.le_trans (Nat.le_of_lt (by omega)) (heM2 (plG g t (k + 1))) | exact heM2 i
            refine V_aload_n (i := 0) F dX12_search_109 rfl rfl ?_
            refine V_aload_n (i := 1) F dX12_search_110 rfl rfl ?_
            refine V_aload_n (i := 2) F dX12_search_111 rfl rfl ?_
            refine V_callV (st := [.ref (pq), .ref (j)]) (nn := 0) F dX12_search_112 lk_X12_96 (ct_Leg_to ((hset_ne (ne_oa hq5 he5)).trans hq5)) ⟨5, _, _, _, rfl, (.inl ((hset_ne (ne_oa hq5 he5)).trans hq5))⟩ rfl rfl (Nat.le_of_ble_eq_true rfl) (Nat.le_of_ble_eq_true rfl) (Nat.le_of_ble_eq_true rfl) (by first | exact Nat.le_of_ble_eq_true rfl | omega) (by first | exact Nat.le_of_ble_eq_true rfl | omega) ?_
            refine PRk ?_
            have hq7c := rcN_le (R := ((lgL g).foldl (oaS g (up e2 (plG g t (k + 1)) (CmG g t (k + 1))) a v (plG g t (k + 1))) ((ofS g (R2, P3) (t, k + 1)).1, (ofS g (R2, P3) (t, k + 1)).2)).1) hI
            refine V_callV (st := []) (nn := 2) F dX12_search_115 lk_X12_105 (ct_J_offerAll (s0 := (plG g t (k + 1))) hR0 hF0 he0 hr0 her hte htr2 hj hLg htr hI ha31 hv hpq1 ⟨e, heA⟩ ⟨R, hrA⟩ hF6 (hset_self (e := .inl (G.2.1 0, (g 0), .inl (fun i => nI (((up e2 (plG g t (k + 1)) (CmG g t (k + 1)))) i))))) ((hset_ne (Ne.symm her)).trans hr5) heM6 hRM5 har5 hE6 (Nat.lt_trans (hI.b _) (by decide)) (by omega)) ⟨10, _, _, _, rfl, (.inl ((hset_ne (ne_oa hj5 he5)).trans hj5))⟩ rfl rfl (Nat.le_of_ble_eq_true rfl) (Nat.le_of_ble_eq_true rfl) (Nat.le_of_ble_eq_true rfl) (by first | exact Nat.le_of_ble_eq_true rfl | omega) (by first | exact Nat.le_of_ble_eq_true rfl | omega) ?_
            rintro _ h7 ⟨rfl, ar7, har7, hE7, hr7, he7, hF7, hx7⟩
            have hd7 := oaF_df (g := g) (e := (up e2 (plG g t (k + 1)) (CmG g t (k + 1)))) (a := a) (v := v) (s := (plG g t (k + 1))) (lgL g) (x := ((ofS g (R2, P3) (t, k + 1)).1, (ofS g (R2, P3) (t, k + 1)).2)) (fun _ z => z)
            have hm7 := oaF_mono (g := g) (e := (up e2 (plG g t (k + 1)) (CmG g t (k + 1)))) (a := a) (v := v) (s := (plG g t (k + 1))) (lgL g) (x := ((ofS g (R2, P3) (t, k + 1)).1, (ofS g (R2, P3) (t, k + 1)).2)) (fun _ z => z)
            simp only at hd7 hm7
            refine V_goto (tgt := 17) F dX12_search_118 (by decide) ?_
            refine VV.weak (L' := [some (.ref (j)), some (.ref (pq)), none]) (LW.c1 (LW.c1 (LW.c0 LW.nil))) ?_
            have hc2 : ((CmG g t (k + 1)) < e2 (plG g t (k + 1))) := by omega
            have hIn : I ((up e2 (plG g t (k + 1)) (CmG g t (k + 1)))) (((lgL g).foldl (oaS g (up e2 (plG g t (k + 1)) (CmG g t (k + 1))) a v (plG g t (k + 1))) ((ofS g (R2, P3) (t, k + 1)).1, (ofS g (R2, P3) (t, k + 1)).2)).1) (((lgL g).foldl (oaS g (up e2 (plG g t (k + 1)) (CmG g t (k + 1))) a v (plG g t (k + 1))) ((ofS g (R2, P3) (t, k + 1)).1, (ofS g (R2, P3) (t, k + 1)).2)).2) := by
              have z := hI2 e2 R2 P2 t k P3 hIv hPP
              simpa only [srE, srB, srA, if_pos hn1, if_pos hc2] using z
            exact VV.wide (by omega) (by omega) (ih_17 ((up e2 (plG g t (k + 1)) (CmG g t (k + 1)))) (((lgL g).foldl (oaS g (up e2 (plG g t (k + 1)) (CmG g t (k + 1))) a v (plG g t (k + 1))) ((ofS g (R2, P3) (t, k + 1)).1, (ofS g (R2, P3) (t, k + 1)).2)).1) (((lgL g).foldl (oaS g (up e2 (plG g t (k + 1)) (CmG g t (k + 1))) a v (plG g t (k + 1))) ((ofS g (R2, P3) (t, k + 1)).1, (ofS g (R2, P3) (t, k + 1)).2)).2) ar7 _ (by have := rcN_le (R := ((lgL g).foldl (oaS g (up e2 (plG g t (k + 1)) (CmG g t (k + 1))) a v (plG g t (k + 1))) ((ofS g (R2, P3) (t, k + 1)).1, (ofS g (R2, P3) (t, k + 1)).2)).1) hI; omega) hIn hE7 har7 he7 hr7 hF7)
  refine VV.weak (L' := [some (.ref (j)), some (.ref (pq)), none]) (LW.c1 (LW.c1 (LW.c0 LW.nil))) ?_
  exact VV.wide (by omega) (by omega) (loop_17 (_ + 1) e _ _ ar2 _ (Nat.lt_succ_self _) hI0 hE2 har2 he2 hr2 hF2)
