theorem foldl_cst {L : List (Nat × Nat)} {c : Nat} : L.foldl (fun (a : Nat) (_ : Nat × Nat) => a) c = c := by
  induction L with
  | nil => rfl
  | cons x L ih => rw [List.foldl_cons]; exact ih
theorem JS.isC {G : GG} {h0 h : AH} {j a v eA rA : Nat} {g e R : Nat → Nat} (hJ : JS G h0 h j g a v eA rA e R) : isC G h j "SleeperRailway$Journeys" := by
  obtain ⟨⟨tt, tl, ta, x, A, lg, lar, tr, f, q1, q2, q3, q4, q5, q6, q7, q8, q9, qa⟩, -⟩ := hJ
  exact ⟨10, _, _, _, rfl, .inl q8⟩
theorem ct_J_earl {G : GG} {l : Launch} {h0 h : AH} {j a v eA rA s : Nat} {g e R : Nat → Nat} (hJ : JS G h0 h j g a v eA rA e R) (hs : s < g 0) (hg0 : g 0 < 2 ^ 31) : Ct G l yX12_earliest cX12_earliest 2 (some .int) 0 0 0 [.ref j, .int (nI s)] h (PR (.int (if e s < 1000000 then nI (e s) else -1)) h) := by
  obtain ⟨⟨tt, tl, ta, x, A, lg, lar, tr, f, q1, q2, q3, q4, q5, q6, q7, q8, q9, qa⟩, he, -, hM, -⟩ := hJ
  exact ct_J_earliest q8 he hs hg0 hM
theorem bgP_ini {a v n : Nat} {e : Nat → Nat} : ∀ s, s < n → bgP a v e n s = iniE a v s := fun s hs => if_pos hs
/-- both ways of finding the arrivals, at a new journeys object -/
theorem ct_J_searchA {G : GG} {l : Launch} {h : AH} {h0 : AH} {j eA rA a v : Nat} {g : Nat → Nat} (hJ : JS G h0 h j g a v eA rA (bgP a v (fun _ => 0) (g 0)) (fun _ => 0)) (hI : GW g) (hT : TmC g) (hC : LdC g) (ha31 : a < 2 ^ 31) (hv : v ≤ 9999) : Ct G l yX12_search cX12_search 3 (some (.object "SleeperRailway$Journeys")) 11 180 5000 [.ref j] h (fun r h2 => ∃ e2 R2, SRI g a v e2 R2 [] ∧ r = some (.ref j) ∧ JS G h0 h2 j g a v eA rA e2 R2 ∧ Fr (m2 eA rA) h h2) :=
  ct_J_search (I := SRI g a v) hJ hI ha31 hv (SRI.start hI hT hC bgP_ini hJ.2.2.2.1) (fun _ _ _ q => q.1) (fun _ _ _ _ _ _ q hp => SRI.step hI hT hC q hp)
theorem ct_RW_areTrainsGood {G : GG} {l : Launch} {h : AH} {r ti tia : Nat} {tf : Nat → Nat} {tt tl ta : Nat} {x : Nat → Nat} {A : Nat → Nat → Nat} {sm smc : Nat} {sA sK sV : Nat → Nat} {bm bmc : Nat} {bA bK bV : Nat → Nat} {g : Nat → Nat}  (hW : RW G h r ((ti, tia, tf), (tt, tl, ta, x, A), (sm, smc, sA, sK, sV), (bm, bmc, bA, bK, bV)) g) (hI : GW g) (hC : LdC g) (hCs : ∀ t, t < g 1 → ∀ S N nd, BGV g t S N nd → nd = bmN g t (g (16 + 36 * t + 3) - 1)) : Ct G l yX2_areTrainsGood cX2_areTrainsGood 5 (some .boolean) 13 (2500) (14400) [.ref r] h (fun r h2 => r = some (.int (nI 1)) ∧ Fr nM h h2) := by
  refine Ct.of (by decide) (Nat.le_of_ble_eq_true rfl) (cat1 rfl) (fun X hXl F HN => ?_)
  subst hXl
  obtain ⟨hr, hWt, hWr, hWs, hWb⟩ : h r = some (.inr (2, [.ref ti, .ref tt, .ref sm, .ref bm, .int (nI (g 4)), .int (nI (g 5)), .int (nI (g 6)), .int (nI (g 7))])) ∧ RWt G h (ti, tia, tf) g ∧ RWr G h (tt, tl, ta, x, A) g ∧ RWs G h (sm, smc, sA, sK, sV) g ∧ RWb G h (bm, bmc, bA, bK, bV) g := id hW
  have h6 := hI.2.2.1
  have hR := hWr
  refine V_iconst (v := nI 1) F dX2_areTrainsGood_0 rfl ?_
  refine V_istore_n (i := 1) F dX2_areTrainsGood_1 rfl (Nat.le_of_ble_eq_true rfl) (Nat.le_of_ble_eq_true rfl) ?_
  refine V_iconst (v := nI 0) F dX2_areTrainsGood_2 rfl ?_
  refine V_istore_n (i := 2) F dX2_areTrainsGood_3 rfl (Nat.le_of_ble_eq_true rfl) (Nat.le_of_ble_eq_true rfl) ?_
  have loop_4 : ∀ (nn : Nat) (t : Nat) (hh : AH), g 1 - t < nn → t ≤ g 1 → Fr nM h hh → VV G X 5 ((EQ G X (2500) (14400) (fun r h2 => r = some (.int (nI 1)) ∧ Fr nM h h2))) hh (400 * t) (2300 * t) [some (.ref (r)), some (.int (nI (1))), some (.int (nI (t))), none, none] [] 4 := by
    intro nn
    induction nn with
    | zero => intro t hh hm ht9 hF; exact absurd hm (by omega)
    | succ nn ih_4 =>
      intro t hh hm ht9 hF
      refine V_iload_n (i := 2) F dX2_areTrainsGood_4 rfl rfl ?_
      refine V_aload_n (i := 0) F dX2_areTrainsGood_5 rfl rfl ?_
      refine V_getf F dX2_areTrainsGood_6 fc_X2_21_X2 (.inl (hF.get hr id rfl)) rfl ?_
      refine V_callV (st := [.int (nI (t))]) (nn := 0) F dX2_areTrainsGood_9 lk_X2_140 (ct_TT_count (hWr.fr0 hF) hI) ⟨3, _, _, _, rfl, .inl (hWr.fr0 hF).1⟩ rfl rfl (Nat.le_of_ble_eq_true rfl) (Nat.le_of_ble_eq_true rfl) (Nat.le_of_ble_eq_true rfl) (by omega) (by omega) ?_
      refine PRk ?_
      refine V_icmp_geN (tgt := 47) F dX2_areTrainsGood_12 (by decide) (by omega) (by omega) (fun c_12 => ?_) (fun c_12 => ?_)
      · refine V_aload_n (i := 0) F dX2_areTrainsGood_47 rfl rfl ?_
        refine V_getf F dX2_areTrainsGood_48 fc_X2_21_X2 (.inl (hF.get hr id rfl)) rfl ?_
        refine V_callV (st := []) (nn := 0) F dX2_areTrainsGood_51 lk_X2_286 (ct_TT_iterator g) ⟨3, _, _, _, rfl, .inl (hR.fr0 hF).1⟩ rfl rfl (Nat.le_of_ble_eq_true rfl) (Nat.le_of_ble_eq_true rfl) (Nat.le_of_ble_eq_true rfl) (by omega) (by omega) ?_
        rintro _ hY1 ⟨it, rfl, hit1, hIt, hx2⟩
        have hit0 := hF.none hit1
        have p3 := hx2.get (hF.get hr id rfl) id rfl
        have f4 : Fr nM h hY1 := hF.cal0 hx2
        refine V_astore_n (i := 2) F dX2_areTrainsGood_54 rfl (Nat.le_of_ble_eq_true rfl) (Nat.le_of_ble_eq_true rfl) ?_
        have loop_55 : ∀ (nn : Nat) (rest : List (Nat × Nat)) (c : Nat) (hh : AH), rest.length < nn → rest.length ≤ 42 → ITL hh it tt g rest → Fr nM h hh → rest.foldl (fun (a : Nat) (_ : Nat × Nat) => a) c = 1 → c = 1 → VV G X 5 ((EQ G X (2500) (14400) (fun r h2 => r = some (.int (nI 1)) ∧ Fr nM h h2))) hh (2410 + 1 + 1 * (42 - rest.length)) (13900 + 3 + 6 * (42 - rest.length)) [some (.ref (r)), some (.int (nI (c))), some (.ref (it)), none, none] [] 55 := by
          intro nn
          induction nn with
          | zero => intro rest c hh hm h42 hI3 hF hfo hc1; exact absurd hm (by omega)
          | succ nn ih_55 =>
            intro rest c hh hm h42 hI3 hF hfo hc1
            refine V_aload_n (i := 2) F dX2_areTrainsGood_55 rfl rfl ?_
            refine V_callF (st := []) (nn := 0) F dX2_areTrainsGood_56 ⟨lw_F q2028 q462 q464 q157 q466, ⟨q460, List.mem_append_left _ q459, q465, q463, q461⟩, (by decide +kernel), (by decide +kernel)⟩ (ct_TI_hasNext (hR.fr0 hF) hI hI3) hI3.isC rfl rfl (Nat.le_of_ble_eq_true rfl) (Nat.le_of_ble_eq_true rfl) (Nat.le_of_ble_eq_true rfl) (by omega) (by omega) ?_
            rintro _ hY1 ⟨rfl, hN, hx2⟩
            have f3 : Fr nM h hY1 := hF.cal hx2 (Yo.m1 (Or.inr hit0))
            refine V_if_eqB (tgt := 117) F dX2_areTrainsGood_61 (by decide) (fun c_61 => ?_) (fun c_61 => ?_)
            · obtain _ | ⟨p, xs⟩ := rest
              rotate_left
              · exact absurd (Nat.succ_pos _) c_61
              refine V_iload_n (i := 1) F dX2_areTrainsGood_117 rfl rfl ?_
              subst hc1
              exact V_iret F dX2_areTrainsGood_118 rfl (by omega) (by omega) ⟨rfl, f3⟩
            · obtain _ | ⟨⟨u, v⟩, xs⟩ := rest
              · exact absurd c_61 (Nat.lt_irrefl 0)
              obtain ⟨-, hu, hv, -⟩ := hN.hd
              have hs8 := (hI.st hu).2
              refine V_aload_n (i := 2) F dX2_areTrainsGood_64 rfl rfl ?_
              refine V_callF (st := []) (nn := 0) F dX2_areTrainsGood_65 ⟨lw_F q2030 q869 q871 q157 q873, ⟨q868, List.mem_append_left _ q867, q872, q870, q461⟩, (by decide +kernel), (by decide +kernel)⟩ (ct_TI_next (hR.fr0 f3) hI hN.l) hN.l.isC rfl rfl (Nat.le_of_ble_eq_true rfl) (Nat.le_of_ble_eq_true rfl) (Nat.le_of_ble_eq_true rfl) (by omega) (by omega) ?_
              rintro _ hY4 ⟨q, rfl, hq0, hq, hI4, hx5⟩
              have f6 : Fr nM h hY4 := f3.cal hx5 (Yo.m1 (Or.inr hit0))
              have hRn := hR.fr0 f6
              obtain ⟨hxu, fu, hAu, e0, e1, e2, e3, e4⟩ := id (hRn.2.2 u hu)
              refine V_ckS F dX2_areTrainsGood_70 q2244 ⟨5, _, _, _, rfl, (.inl hq)⟩ ?_
              refine V_astore_n (i := 3) F dX2_areTrainsGood_73 rfl (Nat.le_of_ble_eq_true rfl) (Nat.le_of_ble_eq_true rfl) ?_
              refine V_aload_n (i := 0) F dX2_areTrainsGood_74 rfl rfl ?_
              refine V_getf F dX2_areTrainsGood_75 fc_X2_21_X2 (.inl (f6.get hr id rfl)) rfl ?_
              refine V_aload_n (i := 3) F dX2_areTrainsGood_78 rfl rfl ?_
              refine V_callV (st := [.ref (tt)]) (nn := 0) F dX2_areTrainsGood_79 lk_X2_212 (ct_Leg_train hq) ⟨5, _, _, _, rfl, (.inl hq)⟩ rfl rfl (Nat.le_of_ble_eq_true rfl) (Nat.le_of_ble_eq_true rfl) (Nat.le_of_ble_eq_true rfl) (by omega) (by omega) ?_
              refine PRk ?_
              refine V_callV (st := []) (nn := 1) F dX2_areTrainsGood_82 lk_X2_154 (ct_TT_get hRn hI hu) ⟨3, _, _, _, rfl, .inl hRn.1⟩ rfl rfl (Nat.le_of_ble_eq_true rfl) (Nat.le_of_ble_eq_true rfl) (Nat.le_of_ble_eq_true rfl) (by omega) (by omega) ?_
              refine PRk ?_
              refine V_astore (i := 4) F dX2_areTrainsGood_85 (Nat.le_of_ble_eq_true rfl) (Nat.le_of_ble_eq_true rfl) ?_
              refine V_iload_n (i := 1) F dX2_areTrainsGood_87 rfl rfl ?_
              refine V_if_eqN (tgt := 112) F dX2_areTrainsGood_88 (by decide) (by omega) (fun c_88 => absurd c_88 (by omega)) (fun c_88 => ?_)
              refine V_aload (i := 4) F dX2_areTrainsGood_91 rfl ?_
              refine V_aload_n (i := 3) F dX2_areTrainsGood_93 rfl rfl ?_
              refine V_callV (st := [.ref ((x u))]) (nn := 0) F dX2_areTrainsGood_94 lk_X2_217 (ct_Leg_number hq) ⟨5, _, _, _, rfl, (.inl hq)⟩ rfl rfl (Nat.le_of_ble_eq_true rfl) (Nat.le_of_ble_eq_true rfl) (Nat.le_of_ble_eq_true rfl) (by omega) (by omega) ?_
              refine PRk ?_
              refine V_callV (st := []) (nn := 1) F dX2_areTrainsGood_97 lk_X2_287 (ct_TR_load (hRn.2.2 u hu) (by omega)) ⟨4, _, _, _, rfl, (.inl hxu)⟩ rfl rfl (Nat.le_of_ble_eq_true rfl) (Nat.le_of_ble_eq_true rfl) (Nat.le_of_ble_eq_true rfl) (by omega) (by omega) ?_
              refine PRk ?_
              refine V_aload (i := 4) F dX2_areTrainsGood_100 rfl ?_
              refine V_getn F dX2_areTrainsGood_102 fc_X2_290_X5 (.inl hxu) rfl ?_
              have hld := hC u v ⟨hu, by omega⟩
              have hcp := hI.b (16 + 36 * u + 0)
              refine V_icmp_gtN (tgt := 112) F dX2_areTrainsGood_105 (by decide) (by omega) (by omega) (fun c_105 => absurd c_105 (by omega)) (fun c_105 => ?_)
              refine V_iconst (v := nI 1) F dX2_areTrainsGood_108 rfl ?_
              refine V_goto (tgt := 113) F dX2_areTrainsGood_109 (by decide) ?_
              refine V_istore_n (i := 1) F dX2_areTrainsGood_113 rfl (Nat.le_of_ble_eq_true rfl) (Nat.le_of_ble_eq_true rfl) ?_
              refine V_goto (tgt := 55) F dX2_areTrainsGood_114 (by decide) ?_
              refine VV.weak (L' := [some (.ref (r)), some (.int (nI (1))), some (.ref (it)), none, none]) (LW.c1 (LW.c1 (LW.c1 (LW.c0 (LW.c0 LW.nil))))) ?_
              have hfr := f6
              refine VV.wide ?_ ?_ (ih_55 xs 1 _ (by simp only [List.length_cons] at hm; omega) (by simp only [List.length_cons] at h42; omega) hI4 hfr ?_ rfl)
              · simp only [List.length_cons] at h42 ⊢; omega
              · simp only [List.length_cons] at h42 ⊢; omega
              · rw [List.foldl_cons, hc1] at hfo; exact hfo
        refine VV.weak (L' := [some (.ref (r)), some (.int (nI (1))), some (.ref (it)), none, none]) (LW.c1 (LW.c1 (LW.c1 (LW.c0 (LW.c0 LW.nil))))) ?_
        have hfr := f4
        exact VV.wide (by omega) (by omega) (loop_55 ((lgL g).length + 1) (lgL g) 1 _ (Nat.lt_succ_self _) (lgL_len hI) hIt hfr foldl_cst rfl)
      · refine V_iload_n (i := 1) F dX2_areTrainsGood_15 rfl rfl ?_
        refine V_if_eqN (tgt := 39) F dX2_areTrainsGood_16 (by decide) (by omega) (fun c_16 => absurd c_16 (by decide)) (fun c_16 => ?_)
        refine V_aload_n (i := 0) F dX2_areTrainsGood_19 rfl rfl ?_
        refine V_iload_n (i := 2) F dX2_areTrainsGood_20 rfl rfl ?_
        have ht : t < g 1 := by omega
        refine V_callV (st := []) (nn := 1) F dX2_areTrainsGood_21 lk_X2_276 (ct_RW_berths (hW.fr0 hF) hI ht) ⟨2, _, _, _, rfl, (.inl (hF.get hr id rfl))⟩ rfl rfl (Nat.le_of_ble_eq_true rfl) (Nat.le_of_ble_eq_true rfl) (Nat.le_of_ble_eq_true rfl) (by omega) (by omega) ?_
        rintro _ h3 ⟨b, so, nu, ar, nar, S, f, N, fN, nd, rfl, hb0, hb, hBG, -, -, -, -, hx3⟩
        have hF3 := hF.cal0 hx3
        have hnd := hCs t ht _ _ _ hBG
        have hndle := bmN_le (g := g) (t := t) (g (16 + 36 * t + 3) - 1)
        refine V_getn F dX2_areTrainsGood_24 fc_X2_280_X16 (.inl hb) rfl ?_
        refine V_aload_n (i := 0) F dX2_areTrainsGood_27 rfl rfl ?_
        refine V_iload_n (i := 2) F dX2_areTrainsGood_28 rfl rfl ?_
        refine V_callV (st := [.int (nI (nd))]) (nn := 1) F dX2_areTrainsGood_29 lk_X2_283 (ct_RW_berthsByLegs (hW.fr0 hF3) hI ht) ⟨2, _, _, _, rfl, (.inl (hF3.get hr id rfl))⟩ rfl rfl (Nat.le_of_ble_eq_true rfl) (Nat.le_of_ble_eq_true rfl) (Nat.le_of_ble_eq_true rfl) (by omega) (by omega) ?_
        refine PRk ?_
        refine V_icmp_neN (tgt := 39) F dX2_areTrainsGood_32 (by decide) (by have := hI.2.2.2.2.1; omega) (by have := hI.2.2.2.2.1; omega) (fun c_32 => absurd c_32 (fun z => z hnd)) (fun c_32 => ?_)
        refine V_iconst (v := nI 1) F dX2_areTrainsGood_35 rfl ?_
        refine V_goto (tgt := 40) F dX2_areTrainsGood_36 (by decide) ?_
        refine V_istore_n (i := 1) F dX2_areTrainsGood_40 rfl (Nat.le_of_ble_eq_true rfl) (Nat.le_of_ble_eq_true rfl) ?_
        refine V_iinc (i := 2) (v := nI (t + 1)) F dX2_areTrainsGood_41 rfl (nI_add (t) 1) (Nat.le_of_ble_eq_true rfl) ?_
        refine V_goto (tgt := 4) F dX2_areTrainsGood_44 (by decide) ?_
        refine VV.weak (L' := [some (.ref (r)), some (.int (nI (1))), some (.int (nI (t + 1))), none, none]) (LW.c1 (LW.c1 (LW.c1 (LW.c0 (LW.c0 LW.nil))))) ?_
        exact VV.wide (by omega) (by omega) (ih_4 (t + 1) _ (by omega) (by omega) hF3)
  refine VV.weak (L' := [some (.ref (r)), some (.int (nI (1))), some (.int (nI (0))), none, none]) (LW.c1 (LW.c1 (LW.c1 (LW.c0 (LW.c0 LW.nil))))) ?_
  exact VV.wide (by omega) (by omega) (loop_4 (g 1 + 1) 0 h (by omega) (Nat.zero_le _) Fr.rf)
theorem ct_RW_areArrivalsAlike {G : GG} {l : Launch} {h : AH} {r ti tia : Nat} {tf : Nat → Nat} {tt tl ta : Nat} {x : Nat → Nat} {A : Nat → Nat → Nat} {sm smc : Nat} {sA sK sV : Nat → Nat} {bm bmc : Nat} {bA bK bV : Nat → Nat} {g : Nat → Nat} {v : Nat}  (hW : RW G h r ((ti, tia, tf), (tt, tl, ta, x, A), (sm, smc, sA, sK, sV), (bm, bmc, bA, bK, bV)) g) (hI : GW g) (hT : TmC g) (hC : LdC g) (hv : v ≤ 9999) : Ct G l yX2_areArrivalsAlike cX2_areArrivalsAlike 8 (some .boolean) 12 (2600) (96000) [.ref r, .int (nI v)] h (fun r h2 => r = some (.int (nI 1)) ∧ Fr nM h h2) := by
  refine Ct.of (by decide) (Nat.le_of_ble_eq_true rfl) (cat1 rfl) (fun X hXl F HN => ?_)
  subst hXl
  obtain ⟨hr, hWt, hWr, hWs, hWb⟩ : h r = some (.inr (2, [.ref ti, .ref tt, .ref sm, .ref bm, .int (nI (g 4)), .int (nI (g 5)), .int (nI (g 6)), .int (nI (g 7))])) ∧ RWt G h (ti, tia, tf) g ∧ RWr G h (tt, tl, ta, x, A) g ∧ RWs G h (sm, smc, sA, sK, sV) g ∧ RWb G h (bm, bmc, bA, bK, bV) g := id hW
  have h8 := hI.2.1
  refine V_iconst (v := nI 1) F dX2_areArrivalsAlike_0 rfl ?_
  refine V_istore_n (i := 2) F dX2_areArrivalsAlike_1 rfl (Nat.le_of_ble_eq_true rfl) (Nat.le_of_ble_eq_true rfl) ?_
  refine V_aload_n (i := 0) F dX2_areArrivalsAlike_2 rfl rfl ?_
  refine V_getf F dX2_areArrivalsAlike_3 fc_X2_21_X2 (.inl hr) rfl ?_
  refine V_callV (st := []) (nn := 0) F dX2_areArrivalsAlike_6 lk_X2_110 (ct_TT_legs hWr hI) ⟨3, _, _, _, rfl, .inl hWr.1⟩ rfl rfl (Nat.le_of_ble_eq_true rfl) (Nat.le_of_ble_eq_true rfl) (Nat.le_of_ble_eq_true rfl) (by omega) (by omega) ?_
  rintro _ h2 ⟨lg, lar, fl, rfl, hg0, hga0, hLg, hx2⟩
  have hW2 := hW.fr0 hx2
  have hWt2 := hWt.fr0 hx2
  have hr2 : h2 r = some (.inr (2, [.ref ti, .ref tt, .ref sm, .ref bm, .int (nI (g 4)), .int (nI (g 5)), .int (nI (g 6)), .int (nI (g 7))])) := hx2.get hr id rfl
  refine V_astore_n (i := 3) F dX2_areArrivalsAlike_9 rfl (Nat.le_of_ble_eq_true rfl) (Nat.le_of_ble_eq_true rfl) ?_
  refine V_iconst (v := nI 0) F dX2_areArrivalsAlike_10 rfl ?_
  refine V_istore (i := 4) F dX2_areArrivalsAlike_11 (Nat.le_of_ble_eq_true rfl) (Nat.le_of_ble_eq_true rfl) ?_
  have loop_13 : ∀ (nn : Nat) (m : Nat) (hh : AH), g 0 - m < nn → m ≤ g 0 → Fr nM h2 hh → VV G X 8 ((EQ G X (2600) (96000) (fun r h2 => r = some (.int (nI 1)) ∧ Fr nM h h2))) hh (160 + 300 * m) (6010 + 11200 * m) [some (.ref (r)), some (.int (nI (v))), some (.int (nI (1))), some (.ref (lg)), some (.int (nI (m))), none, none, none] [] 13 := by
    intro nn
    induction nn with
    | zero => intro m hh hm hmg9 hG; exact absurd hm (by omega)
    | succ nn ih_13 =>
      intro m hh hm hmg9 hG
      refine V_iload (i := 4) F dX2_areArrivalsAlike_13 rfl ?_
      refine V_aload_n (i := 0) F dX2_areArrivalsAlike_15 rfl rfl ?_
      refine V_getf F dX2_areArrivalsAlike_16 fc_X2_12_X2 (.inl (hG.get hr2 id rfl)) rfl ?_
      refine V_callF (st := [.int (nI (m))]) (nn := 0) F dX2_areArrivalsAlike_19 ⟨lw_F q1237 q388 q390 q111 q392, ⟨q386, List.mem_append_left _ q385, q391, q389, q387⟩, (by decide +kernel), (by decide +kernel)⟩ (ct_AL_size (hWt2.fr0 hG).1) (hWt2.fr0 hG).1.isC rfl rfl (Nat.le_of_ble_eq_true rfl) (Nat.le_of_ble_eq_true rfl) (Nat.le_of_ble_eq_true rfl) (by omega) (by omega) ?_
      refine PRk ?_
      refine V_icmp_geN (tgt := 109) F dX2_areArrivalsAlike_24 (by decide) (by omega) (by omega) (fun c_24 => ?_) (fun c_24 => ?_)
      · refine V_iload_n (i := 2) F dX2_areArrivalsAlike_109 rfl rfl ?_
        exact V_iret F dX2_areArrivalsAlike_110 rfl (by omega) (by omega) ⟨rfl, hx2.cal0 hG⟩
      · refine V_aload_n (i := 0) F dX2_areArrivalsAlike_27 rfl rfl ?_
        refine V_aload_n (i := 3) F dX2_areArrivalsAlike_28 rfl rfl ?_
        refine V_iload (i := 4) F dX2_areArrivalsAlike_29 rfl ?_
        refine V_iload_n (i := 1) F dX2_areArrivalsAlike_31 rfl rfl ?_
        have hmg : m < g 0 := by omega
        refine V_callV (st := []) (nn := 3) F dX2_areArrivalsAlike_32 lk_X2_114 (ct_RW_journeys hW2 hG (hLg.fr0 hG) hI (by omega) hv) ⟨2, _, _, _, rfl, (.inl (hG.get hr2 id rfl))⟩ rfl rfl (Nat.le_of_ble_eq_true rfl) (Nat.le_of_ble_eq_true rfl) (Nat.le_of_ble_eq_true rfl) (by omega) (by omega) ?_
        rintro _ h3 ⟨j1, eA1, rA1, rfl, hj1, he1, hr1, hJ1, hx3⟩
        have hG3 := hG.cal0 hx3
        refine V_callV (st := []) (nn := 0) F dX2_areArrivalsAlike_35 lk_X2_273 (ct_J_searchA hJ1 hI hT hC (by omega) hv) hJ1.isC rfl rfl (Nat.le_of_ble_eq_true rfl) (Nat.le_of_ble_eq_true rfl) (Nat.le_of_ble_eq_true rfl) (by omega) (by omega) ?_
        rintro _ h4 ⟨e1, R1, hS1, rfl, hK1, hx4⟩
        have hG4 : Fr nM h2 h4 := hG3.cal hx4 (Yo.m2 (Or.inr (hG.none he1)) (Or.inr (hG.none hr1)))
        refine V_astore (i := 5) F dX2_areArrivalsAlike_38 (Nat.le_of_ble_eq_true rfl) (Nat.le_of_ble_eq_true rfl) ?_
        refine V_aload_n (i := 0) F dX2_areArrivalsAlike_40 rfl rfl ?_
        refine V_aload_n (i := 3) F dX2_areArrivalsAlike_41 rfl rfl ?_
        refine V_iload (i := 4) F dX2_areArrivalsAlike_42 rfl ?_
        refine V_iload_n (i := 1) F dX2_areArrivalsAlike_44 rfl rfl ?_
        refine V_callV (st := []) (nn := 3) F dX2_areArrivalsAlike_45 lk_X2_114 (ct_RW_journeys hW2 hG4 (hLg.fr0 hG4) hI (by omega) hv) ⟨2, _, _, _, rfl, (.inl (hG4.get hr2 id rfl))⟩ rfl rfl (Nat.le_of_ble_eq_true rfl) (Nat.le_of_ble_eq_true rfl) (Nat.le_of_ble_eq_true rfl) (by omega) (by omega) ?_
        rintro _ h5 ⟨j2, eA2, rA2, rfl, hj2, he2, hr2q, hJ2, hx5⟩
        have hG5 := hG4.cal0 hx5
        refine V_callV (st := []) (nn := 0) F dX2_areArrivalsAlike_48 lk_X2_195 (ct_J_scan hJ2 hI (by omega) hv) hJ2.isC rfl rfl (Nat.le_of_ble_eq_true rfl) (Nat.le_of_ble_eq_true rfl) (Nat.le_of_ble_eq_true rfl) (by omega) (by omega) ?_
        rintro _ h6 ⟨S, hSp, hSs, rfl, hK2, hx6⟩
        have hG6 : Fr nM h2 h6 := hG5.cal hx6 (Yo.m2 (Or.inr (hG4.none he2)) (Or.inr (hG4.none hr2q)))
        refine V_astore (i := 6) F dX2_areArrivalsAlike_51 (Nat.le_of_ble_eq_true rfl) (Nat.le_of_ble_eq_true rfl) ?_
        have hK1b := hK1.fr0 (hx5.cal hx6 (Yo.m2 (Or.inr he2) (Or.inr hr2q)))
        have ha1 := SRI.end_ hI hC hS1
        have ha2 := scan_arr (a := m) (v := v) (e := bgP m v (fun _ => 0) (g 0)) hI hT hC hSp hSs bgP_ini
        have heq := arr_uniq ha1.1 ha1.2.1 ha2.1 ha2.2.1
        have hKM := hK2.2.2.2.1
        generalize hE2 : (S.foldl (scS g m v) (bgP m v (fun _ => 0) (g 0), fun _ => 0)).1 = e2 at hK2 heq hKM
        refine V_iconst (v := nI 0) F dX2_areArrivalsAlike_53 rfl ?_
        refine V_istore (i := 7) F dX2_areArrivalsAlike_54 (Nat.le_of_ble_eq_true rfl) (Nat.le_of_ble_eq_true rfl) ?_
        have loop_56 : ∀ (nn : Nat) (k : Nat), g 0 - k < nn → k ≤ g 0 → VV G X 8 ((EQ G X (2600) (96000) (fun r h2 => r = some (.int (nI 1)) ∧ Fr nM h h2))) h6 (160 + 300 * m + 292) (6010 + 11200 * m + 11190) [some (.ref (r)), some (.int (nI (v))), some (.int (nI (1))), some (.ref (lg)), some (.int (nI (m))), some (.ref (j1)), some (.ref (j2)), some (.int (nI (k)))] [] 56 := by
          intro nn
          induction nn with
          | zero => intro k hm2 hk9; exact absurd hm2 (by omega)
          | succ nn ih_56 =>
            intro k hm2 hk9
            refine V_iload (i := 7) F dX2_areArrivalsAlike_56 rfl ?_
            refine V_aload_n (i := 0) F dX2_areArrivalsAlike_58 rfl rfl ?_
            refine V_getf F dX2_areArrivalsAlike_59 fc_X2_12_X2 (.inl (hG6.get hr2 id rfl)) rfl ?_
            refine V_callF (st := [.int (nI (k))]) (nn := 0) F dX2_areArrivalsAlike_62 ⟨lw_F q1237 q388 q390 q111 q392, ⟨q386, List.mem_append_left _ q385, q391, q389, q387⟩, (by decide +kernel), (by decide +kernel)⟩ (ct_AL_size (hWt2.fr0 hG6).1) (hWt2.fr0 hG6).1.isC rfl rfl (Nat.le_of_ble_eq_true rfl) (Nat.le_of_ble_eq_true rfl) (Nat.le_of_ble_eq_true rfl) (by omega) (by omega) ?_
            refine PRk ?_
            refine V_icmp_geN (tgt := 103) F dX2_areArrivalsAlike_67 (by decide) (by omega) (by omega) (fun c_67 => ?_) (fun c_67 => ?_)
            · refine V_iinc (i := 4) (v := nI (m + 1)) F dX2_areArrivalsAlike_103 rfl (nI_add (m) 1) (Nat.le_of_ble_eq_true rfl) ?_
              refine V_goto (tgt := 13) F dX2_areArrivalsAlike_106 (by decide) ?_
              refine VV.weak (L' := [some (.ref (r)), some (.int (nI (v))), some (.int (nI (1))), some (.ref (lg)), some (.int (nI (m + 1))), none, none, none]) (LW.c1 (LW.c1 (LW.c1 (LW.c1 (LW.c1 (LW.c0 (LW.c0 (LW.c0 LW.nil)))))))) ?_
              exact VV.wide (by omega) (by omega) (ih_13 (m + 1) _ (by omega) (by omega) hG6)
            · refine V_iload_n (i := 2) F dX2_areArrivalsAlike_70 rfl rfl ?_
              refine V_if_eqN (tgt := 95) F dX2_areArrivalsAlike_71 (by decide) (by omega) (fun c_71 => absurd c_71 (by decide)) (fun c_71 => ?_)
              refine V_aload (i := 5) F dX2_areArrivalsAlike_74 rfl ?_
              refine V_iload (i := 7) F dX2_areArrivalsAlike_76 rfl ?_
              refine V_callV (st := []) (nn := 1) F dX2_areArrivalsAlike_78 lk_X2_199 (ct_J_earl hK1b (by omega) hI.b.lt) hK1b.isC rfl rfl (Nat.le_of_ble_eq_true rfl) (Nat.le_of_ble_eq_true rfl) (Nat.le_of_ble_eq_true rfl) (by omega) (by omega) ?_
              refine PRk ?_
              refine V_aload (i := 6) F dX2_areArrivalsAlike_81 rfl ?_
              refine V_iload (i := 7) F dX2_areArrivalsAlike_83 rfl ?_
              refine V_callV (st := [.int (if e1 k < 1000000 then nI (e1 k) else -1)]) (nn := 1) F dX2_areArrivalsAlike_85 lk_X2_199 (ct_J_earl hK2 (by omega) hI.b.lt) hK2.isC rfl rfl (Nat.le_of_ble_eq_true rfl) (Nat.le_of_ble_eq_true rfl) (Nat.le_of_ble_eq_true rfl) (by omega) (by omega) ?_
              refine PRk ?_
              refine V_icmp_ne (tgt := 95) F dX2_areArrivalsAlike_88 (by decide) (fun c_88 => absurd c_88 (fun z => z (by rw [heq k (by omega)]))) (fun c_88 => ?_)
              refine V_iconst (v := nI 1) F dX2_areArrivalsAlike_91 rfl ?_
              refine V_goto (tgt := 96) F dX2_areArrivalsAlike_92 (by decide) ?_
              refine V_istore_n (i := 2) F dX2_areArrivalsAlike_96 rfl (Nat.le_of_ble_eq_true rfl) (Nat.le_of_ble_eq_true rfl) ?_
              refine V_iinc (i := 7) (v := nI (k + 1)) F dX2_areArrivalsAlike_97 rfl (nI_add (k) 1) (Nat.le_of_ble_eq_true rfl) ?_
              refine V_goto (tgt := 56) F dX2_areArrivalsAlike_100 (by decide) ?_
              refine VV.weak (L' := [some (.ref (r)), some (.int (nI (v))), some (.int (nI (1))), some (.ref (lg)), some (.int (nI (m))), some (.ref (j1)), some (.ref (j2)), some (.int (nI (k + 1)))]) (LW.c1 (LW.c1 (LW.c1 (LW.c1 (LW.c1 (LW.c1 (LW.c1 (LW.c1 LW.nil)))))))) ?_
              exact ih_56 (k + 1) (by omega) (by omega)
        refine VV.weak (L' := [some (.ref (r)), some (.int (nI (v))), some (.int (nI (1))), some (.ref (lg)), some (.int (nI (m))), some (.ref (j1)), some (.ref (j2)), some (.int (nI (0)))]) (LW.c1 (LW.c1 (LW.c1 (LW.c1 (LW.c1 (LW.c1 (LW.c1 (LW.c1 LW.nil)))))))) ?_
        exact VV.wide (by omega) (by omega) (loop_56 (g 0 + 1) 0 (by omega) (Nat.zero_le _))
  refine VV.weak (L' := [some (.ref (r)), some (.int (nI (v))), some (.int (nI (1))), some (.ref (lg)), some (.int (nI (0))), none, none, none]) (LW.c1 (LW.c1 (LW.c1 (LW.c1 (LW.c1 (LW.c0 (LW.c0 (LW.c0 LW.nil)))))))) ?_
  exact VV.wide (by omega) (by omega) (loop_13 (g 0 + 1) 0 _ (by omega) (Nat.zero_le _) Fr.rf)
theorem ct_RW_isConsistent {G : GG} {l : Launch} {h : AH} {r ti tia : Nat} {tf : Nat → Nat} {tt tl ta : Nat} {x : Nat → Nat} {A : Nat → Nat → Nat} {sm smc : Nat} {sA sK sV : Nat → Nat} {bm bmc : Nat} {bA bK bV : Nat → Nat} {g : Nat → Nat}  (hW : RW G h r ((ti, tia, tf), (tt, tl, ta, x, A), (sm, smc, sA, sK, sV), (bm, bmc, bA, bK, bV)) g) (hI : GW g) (hT : TmC g) (hC : LdC g) (hCs : ∀ t, t < g 1 → ∀ S N nd, BGV g t S N nd → nd = bmN g t (g (16 + 36 * t + 3) - 1)) (hco : g 6 = 2 * ((lgL g).foldl (fun (a : Nat) (x : Nat × Nat) => a + (g (16 + 36 * x.1 + (28 + x.2)))) 0)) : Ct G l yX2_isConsistent cX2_isConsistent 1 (some .boolean) 14 (7800) (207000) [.ref r] h (fun r h2 => r = some (.int (nI 1)) ∧ Fr nM h h2) := by
  refine Ct.of (by decide) (Nat.le_of_ble_eq_true rfl) (cat1 rfl) (fun X hXl F HN => ?_)
  subst hXl
  obtain ⟨hr, hWt, hWr, hWs, hWb⟩ : h r = some (.inr (2, [.ref ti, .ref tt, .ref sm, .ref bm, .int (nI (g 4)), .int (nI (g 5)), .int (nI (g 6)), .int (nI (g 7))])) ∧ RWt G h (ti, tia, tf) g ∧ RWr G h (tt, tl, ta, x, A) g ∧ RWs G h (sm, smc, sA, sK, sV) g ∧ RWb G h (bm, bmc, bA, bK, bV) g := id hW
  refine V_aload_n (i := 0) F dX2_isConsistent_0 rfl rfl ?_
  refine V_iconst (v := nI 0) F dX2_isConsistent_1 rfl ?_
  refine V_callV (st := []) (nn := 1) F dX2_isConsistent_2 lk_X2_293 (ct_RW_areArrivalsAlike hW hI hT hC (Nat.zero_le _)) ⟨2, _, _, _, rfl, (.inl hr)⟩ rfl rfl (Nat.le_of_ble_eq_true rfl) (Nat.le_of_ble_eq_true rfl) (Nat.le_of_ble_eq_true rfl) (by omega) (by omega) ?_
  rintro _ h1 ⟨rfl, hx1⟩
  have hF1 := hx1
  refine V_if_eqN (tgt := 40) F dX2_isConsistent_5 (by decide) (by omega) (fun c_5 => absurd c_5 (by decide)) (fun c_5 => ?_)
  refine V_aload_n (i := 0) F dX2_isConsistent_8 rfl rfl ?_
  refine V_sipush (v := nI 600) F dX2_isConsistent_9 rfl ?_
  refine V_callV (st := []) (nn := 1) F dX2_isConsistent_12 lk_X2_293 (ct_RW_areArrivalsAlike (hW.fr0 hF1) hI hT hC (by decide)) ⟨2, _, _, _, rfl, (.inl (hF1.get hr id rfl))⟩ rfl rfl (Nat.le_of_ble_eq_true rfl) (Nat.le_of_ble_eq_true rfl) (Nat.le_of_ble_eq_true rfl) (by omega) (by omega) ?_
  rintro _ h2 ⟨rfl, hx2⟩
  have hF2 := hF1.cal0 hx2
  refine V_if_eqN (tgt := 40) F dX2_isConsistent_15 (by decide) (by omega) (fun c_15 => absurd c_15 (by decide)) (fun c_15 => ?_)
  refine V_aload_n (i := 0) F dX2_isConsistent_18 rfl rfl ?_
  refine V_callV (st := []) (nn := 0) F dX2_isConsistent_19 lk_X2_296 (ct_RW_areTrainsGood (hW.fr0 hF2) hI hC hCs) ⟨2, _, _, _, rfl, (.inl (hF2.get hr id rfl))⟩ rfl rfl (Nat.le_of_ble_eq_true rfl) (Nat.le_of_ble_eq_true rfl) (Nat.le_of_ble_eq_true rfl) (by omega) (by omega) ?_
  rintro _ h3 ⟨rfl, hx3⟩
  have hF3 := hF2.cal0 hx3
  refine V_if_eqN (tgt := 40) F dX2_isConsistent_22 (by decide) (by omega) (fun c_22 => absurd c_22 (by decide)) (fun c_22 => ?_)
  refine V_aload_n (i := 0) F dX2_isConsistent_25 rfl rfl ?_
  refine V_getf F dX2_isConsistent_26 fc_X2_100_X2 (.inl (hF3.get hr id rfl)) rfl ?_
  refine V_aload_n (i := 0) F dX2_isConsistent_29 rfl rfl ?_
  refine V_callV (st := [.int (nI (g 6))]) (nn := 0) F dX2_isConsistent_30 lk_X2_299 (ct_RW_coinsByLoads (hW.fr0 hF3) hI) ⟨2, _, _, _, rfl, (.inl (hF3.get hr id rfl))⟩ rfl rfl (Nat.le_of_ble_eq_true rfl) (Nat.le_of_ble_eq_true rfl) (Nat.le_of_ble_eq_true rfl) (by omega) (by omega) ?_
  rintro _ h4 ⟨rfl, hx4⟩
  refine V_icmp_neN (tgt := 40) F dX2_isConsistent_33 (by decide) hI.b.lt (by have := hI.b 6; omega) (fun c_33 => absurd c_33 (fun z => z hco)) (fun c_33 => ?_)
  refine V_iconst (v := nI 1) F dX2_isConsistent_36 rfl ?_
  refine V_goto (tgt := 41) F dX2_isConsistent_37 (by decide) ?_
  exact V_iret F dX2_isConsistent_41 rfl (by omega) (by omega) ⟨rfl, hF3.cal0 hx4⟩
