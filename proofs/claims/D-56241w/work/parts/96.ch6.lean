theorem ct_TT_count2 {G : GG} {l : Launch} {h : AH} {tt tl ta mc n : Nat} {f : Nat → Nat}  (htt : h tt = some (.inr (3, [.ref tl]))) (hA : ALs G h tl ta mc n f) : Ct G l yX3_count cX3_count 1 (some .int) 1 (0) (0) [.ref tt] h (PR (.int (nI n)) h) := by
  refine Ct.of (by decide) (Nat.le_of_ble_eq_true rfl) (cat1 rfl) (fun X hXl F HN => ?_)
  subst hXl
  refine V_aload_n (i := 0) F dX3_count_0 rfl rfl ?_
  refine V_getf F dX3_count_1 fc_X3_12_X3 (.inl htt) rfl ?_
  refine V_callF (st := []) (nn := 0) F dX3_count_4 ⟨lw_F q408 q388 q390 q111 q392, ⟨q386, List.mem_append_left _ q385, q391, q389, q387⟩, (by decide +kernel), (by decide +kernel)⟩ (ct_AL_size hA) hA.isC rfl rfl (Nat.le_of_ble_eq_true rfl) (Nat.le_of_ble_eq_true rfl) (Nat.le_of_ble_eq_true rfl) (by first | exact Nat.le_of_ble_eq_true rfl | omega) (by first | exact Nat.le_of_ble_eq_true rfl | omega) ?_
  refine PRk ?_
  exact V_iret F dX3_count_9 rfl (by first | exact Nat.le_of_ble_eq_true rfl | omega) (by first | exact Nat.le_of_ble_eq_true rfl | omega) ⟨rfl, rfl⟩
def kdAT (c : Nat) : String := if c = 1 then "index" else if c = 2 then "argument" else "state"
section AT
variable {g : Nat → Nat} {s d c i : Nat}
theorem nxAT_o (h0 : i ≠ 16 + 36 * g 1 + 0) (h1 : i ≠ 16 + 36 * g 1 + 1) (h3 : i ≠ 16 + 36 * g 1 + 3) (h4 : i ≠ 16 + 36 * g 1 + 4) (h5 : i ≠ 1) : nxAT g s d c i = g i := by
  unfold nxAT; rw [up_n h5, up_n h4, up_n h3, up_n h1, up_n h0]
theorem nxAT_1 : nxAT g s d c 1 = g 1 + 1 := by unfold nxAT; rw [up_s]
theorem nxAT_c : nxAT g s d c (16 + 36 * g 1 + 0) = c := by unfold nxAT; rw [up_n (by omega), up_n (by omega), up_n (by omega), up_n (by omega), up_s]
theorem nxAT_d : nxAT g s d c (16 + 36 * g 1 + 1) = d := by unfold nxAT; rw [up_n (by omega), up_n (by omega), up_n (by omega), up_s]
theorem nxAT_3 : nxAT g s d c (16 + 36 * g 1 + 3) = 1 := by unfold nxAT; rw [up_n (by omega), up_n (by omega), up_s]
theorem nxAT_4 : nxAT g s d c (16 + 36 * g 1 + 4) = s := by unfold nxAT; rw [up_n (by omega), up_s]
end AT
theorem bkG_none {g : Nat → Nat} {t k : Nat} : ∀ n, (∀ o, o < n → g (264 + 4 * o + 1) ≠ t) → bkG g t k n = 0
  | 0, _ => rfl
  | n + 1, h => by
    have h1 := bkG_none (k := k) n (fun o ho => h o (by omega))
    have h2 := h n (by omega)
    unfold bkG bkC byG
    rw [h1, if_neg (fun z => h2 z.1)]
theorem TRs.new {G : GG} {h : AH} {a s d c : Nat} {B : Nat → Nat} {g : Nat → Nat} (h6 : g 1 < 6) (hz : ∀ j, j < 36 → g (16 + 36 * g 1 + j) = 0) (hb : ∀ o, o < g 3 → g (264 + 4 * o + 1) < g 1) (ha : h a = some (.inr (4, [.int (nI c), .ref (B 0), .ref (B 1), .ref (B 2), .ref (B 3), .ref (B 4), .int (nI 1), .int (nI 0)]))) (hB : ∀ i, i < 5 → h (B i) = some (iA G 8 (fun k => nI (nwT s d i k)))) : TRs G h a B (nxAT g s d c) (g 1) := by
  refine ⟨by rw [nxAT_c, nxAT_3, nxAT_o (by omega) (by omega) (by omega) (by omega) (by omega), hz 2 (by omega)]; exact ha, nwT s d, hB, ?_, ?_, ?_, ?_, ?_⟩
  · intro k hk
    rw [nxAT_3] at hk
    obtain rfl : k = 0 := by omega
    show s = nxAT g s d c (16 + 36 * g 1 + 4)
    rw [nxAT_4]
  · intro k hk0 hk; rw [nxAT_3] at hk; omega
  · intro k hk
    rw [nxAT_3] at hk
    obtain rfl : k = 0 := by omega
    show d = nxAT g s d c (16 + 36 * g 1 + 1)
    rw [nxAT_d]
  · intro k hk
    rw [nxAT_o (by omega) (by omega) (by omega) (by omega) (by omega), hz _ (by omega)]
    rfl
  · intro k hk
    rw [bkG_none _ (fun o ho => by rw [nxAT_o (by omega) (by omega) (by omega) (by omega) (by omega)] at ho ⊢; exact Nat.ne_of_lt (hb o ho))]
    rfl
theorem ct_RW_addTrain {G : GG} {l : Launch} {h : AH} {h0 : AH} {r ti tia : Nat} {tf : Nat → Nat} {tt tl ta : Nat} {x : Nat → Nat} {A : Nat → Nat → Nat} {sm smc : Nat} {sA sK sV : Nat → Nat} {bm bmc : Nat} {bA bK bV : Nat → Nat} {g : Nat → Nat} {s0 d c : Int32}  (hdem : DEM G l) (hW : RW G h r ((ti, tia, tf), (tt, tl, ta, x, A), (sm, smc, sA, sK, sV), (bm, bmc, bA, bK, bV)) g) (hO : RO G h0 r ((ti, tia, tf), (tt, tl, ta, x, A), (sm, smc, sA, sK, sV), (bm, bmc, bA, bK, bV)) g) (hI : GW g) (hF0 : Fr nM h0 h) (hz0 : g 1 < 6 → ∀ j, j < 36 → g (16 + 36 * g 1 + j) = 0) (hbt : ∀ o, o < g 3 → g (264 + 4 * o + 1) < g 1) : CtX G l yX2_addTrain cX2_addTrain 4 (some .int) 13 (16) (200) [.ref r, .int s0, .int d, .int c] h (fun r0 h2 => r0 = some (.int (nI (g 1))) ∧ cdAT g s0 d c = 0 ∧ (∃ D2, RW G h2 r D2 (nxAT g (tn s0) (tn d) (tn c)) ∧ RO G h0 r D2 (nxAT g (tn s0) (tn d) (tn c))) ∧ Fr (fH h0) h h2) (CFx G h (cdAT g s0 d c) kdAT) := by
  refine CtX.of (by decide) (Nat.le_of_ble_eq_true rfl) (cat1 rfl) (fun X hXl F HT => ?_)
  subst hXl
  obtain ⟨hr, hWt, hWr, hWs, hWb⟩ : h r = some (.inr (2, [.ref ti, .ref tt, .ref sm, .ref bm, .int (nI (g 4)), .int (nI (g 5)), .int (nI (g 6)), .int (nI (g 7))])) ∧ RWt G h (ti, tia, tf) g ∧ RWr G h (tt, tl, ta, x, A) g ∧ RWs G h (sm, smc, sA, sK, sV) g ∧ RWb G h (bm, bmc, bA, bK, bV) g := id hW
  have h6 := hI.2.2.1
  refine V_aload_n (i := 0) F dX2_addTrain_0 rfl rfl ?_
  refine V_iload_n (i := 1) F dX2_addTrain_1 rfl rfl ?_
  refine V_callV (st := []) (nn := 1) F dX2_addTrain_2 lk_X2_134 (ct_RW_hasStation hW hI) ⟨2, _, _, _, rfl, (.inl hr)⟩ rfl rfl (Nat.le_of_ble_eq_true rfl) (Nat.le_of_ble_eq_true rfl) (Nat.le_of_ble_eq_true rfl) (by omega) (by omega) ?_
  refine PRk ?_
  refine V_ldcS F dX2_addTrain_5 q2485 ?_
  intro w1 hGw1
  refine V_xcSN (st := []) (nn := 2) F dX2_addTrain_7 lk_X2_128 q2448 (hdem ((b2 (iR s0 (g 0)))) w1 (h)) rfl rfl (Nat.le_of_ble_eq_true rfl) (Nat.le_of_ble_eq_true rfl) (Nat.le_of_ble_eq_true rfl) (by omega) (by omega) ?_ ?_
  · rintro _ _ ⟨rfl, rfl, hd_7⟩
    have hP_7 : iR s0 (g 0) := b2_nz hd_7
    refine V_iload_n (i := 2) F dX2_addTrain_10 rfl rfl ?_
    refine V_iconst (v := nI 0) F dX2_addTrain_11 rfl ?_
    refine V_sipush (v := nI 1439) F dX2_addTrain_12 rfl ?_
    refine V_callSN (st := []) (nn := 3) F dX2_addTrain_15 lk_X2_106 q1796 (ct_isBetween) rfl rfl (Nat.le_of_ble_eq_true rfl) (Nat.le_of_ble_eq_true rfl) (Nat.le_of_ble_eq_true rfl) (by omega) (by omega) ?_
    refine PRk ?_
    refine V_if_eqB (tgt := 34) F dX2_addTrain_18 (by decide) (fun c_18 => ?_) (fun c_18 => ?_)
    · refine V_iconst (v := nI 0) F dX2_addTrain_34 rfl ?_
      refine V_ldcS F dX2_addTrain_35 q2446 ?_
      intro w2 hGw2
      refine V_xcSN (st := []) (nn := 2) F dX2_addTrain_37 lk_X2_128 q2448 (hdem ((nI (0))) w2 (h)) rfl rfl (Nat.le_of_ble_eq_true rfl) (Nat.le_of_ble_eq_true rfl) (Nat.le_of_ble_eq_true rfl) (by omega) (by omega) ?_ ?_
      · exact fun _ _ hp => absurd rfl hp.2.2
      · exact fun E q h2 hp => V_xout F (HT _) (by omega) (by omega) (CFx.of (k := 2) (by first | exact (if_neg (fun z => z hP_7)).trans (if_pos (Or.inl c_18)) | exact (if_neg (fun z => z hP_7)).trans (if_pos (Or.inr c_27))) (by decide) hGw2 hp.2)
    · refine V_iload_n (i := 3) F dX2_addTrain_21 rfl rfl ?_
      refine V_iconst (v := nI 1) F dX2_addTrain_22 rfl ?_
      refine V_iconst (v := nI 5) F dX2_addTrain_23 rfl ?_
      refine V_callSN (st := []) (nn := 3) F dX2_addTrain_24 lk_X2_106 q1796 (ct_isBetween) rfl rfl (Nat.le_of_ble_eq_true rfl) (Nat.le_of_ble_eq_true rfl) (Nat.le_of_ble_eq_true rfl) (by omega) (by omega) ?_
      refine PRk ?_
      refine V_if_eqB (tgt := 34) F dX2_addTrain_27 (by decide) (fun c_27 => ?_) (fun c_27 => ?_)
      · refine V_iconst (v := nI 0) F dX2_addTrain_34 rfl ?_
        refine V_ldcS F dX2_addTrain_35 q2446 ?_
        intro w3 hGw3
        refine V_xcSN (st := []) (nn := 2) F dX2_addTrain_37 lk_X2_128 q2448 (hdem ((nI (0))) w3 (h)) rfl rfl (Nat.le_of_ble_eq_true rfl) (Nat.le_of_ble_eq_true rfl) (Nat.le_of_ble_eq_true rfl) (by omega) (by omega) ?_ ?_
        · exact fun _ _ hp => absurd rfl hp.2.2
        · exact fun E q h2 hp => V_xout F (HT _) (by omega) (by omega) (CFx.of (k := 2) (by first | exact (if_neg (fun z => z hP_7)).trans (if_pos (Or.inl c_18)) | exact (if_neg (fun z => z hP_7)).trans (if_pos (Or.inr c_27))) (by decide) hGw3 hp.2)
      · refine V_iconst (v := nI 1) F dX2_addTrain_30 rfl ?_
        refine V_goto (tgt := 35) F dX2_addTrain_31 (by decide) ?_
        refine V_ldcS F dX2_addTrain_35 q2446 ?_
        intro w4 hGw4
        refine V_xcSN (st := []) (nn := 2) F dX2_addTrain_37 lk_X2_128 q2448 (hdem ((nI (1))) w4 (h)) rfl rfl (Nat.le_of_ble_eq_true rfl) (Nat.le_of_ble_eq_true rfl) (Nat.le_of_ble_eq_true rfl) (by omega) (by omega) ?_ ?_
        · rintro _ _ ⟨rfl, rfl, hd_37⟩
          refine V_aload_n (i := 0) F dX2_addTrain_40 rfl rfl ?_
          refine V_getf F dX2_addTrain_41 fc_X2_21_X2 (.inl hr) rfl ?_
          refine V_callV (st := []) (nn := 0) F dX2_addTrain_44 lk_X2_140 (ct_TT_count2 hWr.1 hWr.2.1) ⟨3, _, _, _, rfl, .inl hWr.1⟩ rfl rfl (Nat.le_of_ble_eq_true rfl) (Nat.le_of_ble_eq_true rfl) (Nat.le_of_ble_eq_true rfl) (by omega) (by omega) ?_
          refine PRk ?_
          refine V_bipush (v := nI 6) F dX2_addTrain_47 rfl ?_
          refine V_icmp_geN (tgt := 56) F dX2_addTrain_49 (by decide) (by omega) (by decide) (fun c_49 => ?_) (fun c_49 => ?_)
          · refine V_iconst (v := nI 0) F dX2_addTrain_56 rfl ?_
            refine V_ldcS F dX2_addTrain_57 q2476 ?_
            intro w5 hGw5
            refine V_xcSN (st := []) (nn := 2) F dX2_addTrain_59 lk_X2_128 q2448 (hdem ((nI (0))) w5 (h)) rfl rfl (Nat.le_of_ble_eq_true rfl) (Nat.le_of_ble_eq_true rfl) (Nat.le_of_ble_eq_true rfl) (by omega) (by omega) ?_ ?_
            · exact fun _ _ hp => absurd rfl hp.2.2
            · exact fun E q h2 hp => V_xout F (HT _) (by omega) (by omega) (CFx.of (k := 3) (by exact ((if_neg (fun z => z hP_7)).trans (if_neg (fun z => z.elim (fun z => z c_18) (fun z => z c_27)))).trans (if_pos (by omega))) (by decide) hGw5 hp.2)
          · refine V_iconst (v := nI 1) F dX2_addTrain_52 rfl ?_
            refine V_goto (tgt := 57) F dX2_addTrain_53 (by decide) ?_
            refine V_ldcS F dX2_addTrain_57 q2476 ?_
            intro w6 hGw6
            refine V_xcSN (st := []) (nn := 2) F dX2_addTrain_59 lk_X2_128 q2448 (hdem ((nI (1))) w6 (h)) rfl rfl (Nat.le_of_ble_eq_true rfl) (Nat.le_of_ble_eq_true rfl) (Nat.le_of_ble_eq_true rfl) (by omega) (by omega) ?_ ?_
            · rintro _ _ ⟨rfl, rfl, hd_59⟩
              obtain ⟨s2, hs2, rfl⟩ := iR_of hP_7 hI.b.lt
              have h8 := hI.2.1
              have es : tn (nI s2) = s2 := tn_nI (by omega)
              obtain ⟨hd1, hd2, hd3⟩ := tn_in (by decide) c_18 (by decide)
              obtain ⟨hc1, hc2, hc3⟩ := tn_in (by decide) c_27 (by decide)
              refine VV.loc (L' := [some (.ref (r)), some (.int (nI (s2))), some (.int (nI (tn d))), some (.int (nI (tn c)))]) (by rw [hd1, hc1]; rfl) ?_
              refine V_aload_n (i := 0) F dX2_addTrain_62 rfl rfl ?_
              refine V_getf F dX2_addTrain_63 fc_X2_21_X2 (.inl hr) rfl ?_
              refine V_getn F dX2_addTrain_66 fc_X2_143_X3 (.inl hWr.1) rfl ?_
              refine V_new F dX2_addTrain_69 nw_X2_146 (by omega) (by omega) ?_
              intro a hfa hba
              have p7 : h tt = some (.inr (3, [.ref (tl)])) := hWr.1
              refine V_dup F dX2_addTrain_72 rfl ?_
              refine V_iload_n (i := 1) F dX2_addTrain_73 rfl rfl ?_
              refine V_iload_n (i := 2) F dX2_addTrain_74 rfl rfl ?_
              refine V_iload_n (i := 3) F dX2_addTrain_75 rfl rfl ?_
              refine V_callI (st := [.ref (a), .ref (tl)]) (nn := 3) F dX2_addTrain_76 lk_X2_148 (ct_TR_init (c := tn c) (hset_self (e := .inr (4, [.int 0, .null, .null, .null, .null, .null, .int 0, .int 0])))) rfl rfl (Nat.le_of_ble_eq_true rfl) (Nat.le_of_ble_eq_true rfl) (Nat.le_of_ble_eq_true rfl) (by omega) (by omega) ?_
              rintro _ h5 ⟨rfl, B, hB0, hBi, ha5, hBr, hx5⟩
              have hfq := ((Fr.rf (M := nM) (h := h)).nw (x := .inr (4, [.int 0, .null, .null, .null, .null, .null, .int 0, .int 0])) hfa)
              have hF5 : Fr nM h h5 := hfq.cal hx5 (Yo.m1 (Or.inr hfa))
              have hW5 := hW.fr0 hF5
              obtain ⟨hr5, hWt5, hWr5, hWs5, hWb5⟩ : h5 r = some (.inr (2, [.ref ti, .ref tt, .ref sm, .ref bm, .int (nI (g 4)), .int (nI (g 5)), .int (nI (g 6)), .int (nI (g 7))])) ∧ RWt G h5 (ti, tia, tf) g ∧ RWr G h5 (tt, tl, ta, x, A) g ∧ RWs G h5 (sm, smc, sA, sK, sV) g ∧ RWb G h5 (bm, bmc, bA, bK, bV) g := id hW5
              have hBh : ∀ i, i < 5 → h (B i) = none := fun i hi => hfq.none (hB0 i hi)
              refine VV.bs (fun hB9 => ?_)
              refine V_callF (st := []) (nn := 1) F dX2_addTrain_79 ⟨lw_F q2276 q1176 q1178 q111 q1180, ⟨q1175, List.mem_append_left _ q1174, q1179, q1177, q387⟩, (by decide +kernel), (by decide +kernel)⟩ (ct_AL_add hWr5.2.1 ⟨"SleeperRailway$Train", ⟨4, _, _, _, rfl, .inl ha5⟩, q4250⟩ (by omega)) hWr5.2.1.isC rfl rfl (Nat.le_of_ble_eq_true rfl) (Nat.le_of_ble_eq_true rfl) (Nat.le_of_ble_eq_true rfl) (by omega) (by omega) ?_
              rintro _ h6 ⟨rfl, ta6, hA6, hx6, hq6⟩
              have hof := fun k hk => offK.al (S := kO k) hWr5.2.1 hB9 (fun _ => kO_ne hk) (fun _ _ _ => rfl)
              have hoi := offK.al (S := kI) hWr5.2.1 hB9 (fun _ => rfl) (fun _ _ _ => rfl)
              have hr6 := hx6.get hr5 ((hof 2 (by decide)).o hr5) rfl
              have htt6 := hx6.get hWr5.1 ((hof 3 (by decide)).o hWr5.1) rfl
              refine V_pop F dX2_addTrain_84 rfl ?_
              refine V_aload_n (i := 0) F dX2_addTrain_85 rfl rfl ?_
              refine V_getf F dX2_addTrain_86 fc_X2_21_X2 (.inl hr6) rfl ?_
              refine V_callV (st := []) (nn := 0) F dX2_addTrain_89 lk_X2_140 (ct_TT_count2 htt6 hA6) ⟨3, _, _, _, rfl, .inl htt6⟩ rfl rfl (Nat.le_of_ble_eq_true rfl) (Nat.le_of_ble_eq_true rfl) (Nat.le_of_ble_eq_true rfl) (by omega) (by omega) ?_
              refine PRk ?_
              refine V_iconst (v := nI 1) F dX2_addTrain_92 rfl ?_
              refine V_isubN F dX2_addTrain_93 (by omega) ?_
              have h28 := hI.2.2.2.1
              have h310 := hI.2.2.2.2.1
              have hT6 := (hWt5.fr hx6 (fun z => z.elim (fun z => hO.til z) (fun z => al_ne_ar hWt5.1 hWr5.2.1 hB9 z)) (fun c f z y => y.elim (fun y => ne_ao z hWr5.2.1.1 y) (fun y => absurd (hB9 _ _ z) (Nat.not_le.mpr (show tia < bz G from hO.tia2 y)))) (hof 27 (by decide))).cg (g2 := nxAT g s2 (tn d) (tn c)) (nxAT_o (by omega) (by omega) (by omega) (by omega) (by omega)) (fun j hj => nxAT_o (by omega) (by omega) (by omega) (by omega) (by omega))
              have hS6 := (hWs5.frk hx6 (hof 23 (by decide)) (hof 24 (by decide)) (hof 27 (by decide)) (hof 8 (by decide))).cg (g2 := nxAT g s2 (tn d) (tn c)) (nxAT_o (by omega) (by omega) (by omega) (by omega) (by omega)) (nxAT_o (by omega) (by omega) (by omega) (by omega) (by omega)) (fun i hi j hj => nxAT_o (by omega) (by omega) (by omega) (by omega) (by omega))
              have hM6 := (hWb5.frk hx6 (hof 23 (by decide)) (hof 24 (by decide)) (hof 27 (by decide)) (hof 11 (by decide))).cg (g2 := nxAT g s2 (tn d) (tn c)) (nxAT_o (by omega) (by omega) (by omega) (by omega) (by omega)) (nxAT_o (by omega) (by omega) (by omega) (by omega) (by omega)) (fun i hi j hj => nxAT_o (by omega) (by omega) (by omega) (by omega) (by omega))
              have hR6 : RWr G h6 (tt, tl, ta6, up x (g 1) a, upA A (g 1) B) (nxAT g s2 (tn d) (tn c)) := by
                refine ⟨htt6, by rw [nxAT_1]; exact hA6, fun t ht => ?_⟩
                rw [nxAT_1] at ht
                by_cases e : t = g 1
                · rw [e]
                  show TRs G h6 (up x (g 1) a (g 1)) (upA A (g 1) B (g 1)) _ (g 1)
                  rw [up_s, upA_s]
                  exact TRs.new (by omega) (hz0 (by omega)) hbt (hx6.get ha5 ((hof 4 (by decide)).o ha5) rfl) (fun i hi => hx6.get (hBr i hi) (hoi _ _ (hBr i hi) rfl) rfl)
                · show TRs G h6 (up x (g 1) a t) (upA A (g 1) B t) _ t
                  rw [up_n e, upA_n e]
                  have ht2 : t < g 1 := by omega
                  exact ((hWr5.2.2 t ht2).frk hx6 (hof 4 (by decide)) hoi).cg (hI.st ht2).2 (fun j hj => nxAT_o (by omega) (by omega) (by omega) (by omega) (by omega)) (fun k hk => bkG_cg (nxAT_o (by omega) (by omega) (by omega) (by omega) (by omega)) (fun o ho j hj => nxAT_o (by omega) (by omega) (by omega) (by omega) (by omega)))
              have hF6 : Fr (fH h0) h h6 := (hF5.mono (fun _ z => z.elim)).cal hx6 (Yo.m2 (Or.inl hO.tl) (Or.inl hO.ta))
              have hta6 : h0 ta6 = none := hq6.elim (fun e => e ▸ hO.ta) (fun z => hF0.none (hF5.none z.1))
              have htia : tia = ta6 → tia < bz G := fun e => hq6.elim (fun z => hO.tia2 (e.trans z)) (fun z => by obtain ⟨-, -, cap, g9, q9, -⟩ := hWt5.1; exact q9.elim (fun y => by rw [e, z.1] at y; cases y) (fun y => y.1))
              have d2 : nxAT g s2 (tn d) (tn c) 2 = g 2 := nxAT_o (by omega) (by omega) (by omega) (by omega) (by omega)
              have d3 : nxAT g s2 (tn d) (tn c) 3 = g 3 := nxAT_o (by omega) (by omega) (by omega) (by omega) (by omega)
              have hx0 : ∀ t, t < g 1 + 1 → h0 (up x (g 1) a t) = none := fun t ht => by
                by_cases e : t = g 1
                · rw [e, up_s]; exact hF0.none hfa
                · rw [up_n e]; exact hO.x t (by omega)
              have hA0 : ∀ t, t < g 1 + 1 → ∀ i, i < 5 → h0 (upA A (g 1) B t i) = none := fun t ht i hi => by
                by_cases e : t = g 1
                · rw [e, upA_s]; exact hF0.none (hBh i hi)
                · rw [upA_n e]; exact hO.A t (by omega) i hi
              have hxi : ∀ t u, t < g 1 + 1 → u < g 1 + 1 → up x (g 1) a t = up x (g 1) a u → t = u := by
                intro t u ht hu e
                by_cases e1 : t = g 1
                · by_cases e2 : u = g 1
                  · rw [e1, e2]
                  · rw [e1, up_s, up_n e2] at e; exact absurd e.symm ((hWr.2.2 u (by omega)).nof hfa).1
                · by_cases e2 : u = g 1
                  · rw [e2, up_s, up_n e1] at e; exact absurd e ((hWr.2.2 t (by omega)).nof hfa).1
                  · rw [up_n e1, up_n e2] at e; exact hO.xi t u (by omega) (by omega) e
              have hAi : ∀ t u i j, t < g 1 + 1 → u < g 1 + 1 → i < 5 → j < 5 → upA A (g 1) B t i = upA A (g 1) B u j → t = u ∧ i = j := by
                intro t u i j ht hu hi hj e
                by_cases e1 : t = g 1
                · by_cases e2 : u = g 1
                  · rw [e1, e2, upA_s] at e; exact ⟨by rw [e1, e2], hBi i j hi hj e⟩
                  · rw [e1, upA_s, upA_n e2] at e; exact absurd e.symm (((hWr.2.2 u (by omega)).nof (hBh i hi)).2 j hj)
                · by_cases e2 : u = g 1
                  · rw [e2, upA_s, upA_n e1] at e; exact absurd e (((hWr.2.2 t (by omega)).nof (hBh j hj)).2 i hi)
                  · rw [upA_n e1, upA_n e2] at e; exact hO.Ai t u i j (by omega) (by omega) hi hj e
              exact VV.rx (V_iret F dX2_addTrain_94 rfl (by omega) (by omega) (by rw [es]; exact ⟨by rw [Nat.add_sub_cancel], ((if_neg (fun z => z hP_7)).trans (if_neg (fun z => z.elim (fun z => z c_18) (fun z => z c_27)))).trans (if_neg (by omega)), ⟨((ti, tia, tf), (tt, tl, ta6, up x (g 1) a, upA A (g 1) B), (sm, smc, sA, sK, sV), (bm, bmc, bA, bK, bV)), ⟨by rw [nxAT_o (by omega) (by omega) (by omega) (by omega) (by omega), nxAT_o (by omega) (by omega) (by omega) (by omega) (by omega), nxAT_o (by omega) (by omega) (by omega) (by omega) (by omega), nxAT_o (by omega) (by omega) (by omega) (by omega) (by omega)]; exact hr6, hT6, hR6, hS6, hM6⟩, hO.r, hO.ti, hO.tia, hO.tt, hO.tl, hta6, hO.sm, hO.bm, (by rw [nxAT_1]; exact hx0), (by rw [nxAT_1]; exact hA0), d2 ▸ hO.sA, d3 ▸ hO.bA, hO.til, htia, hO.sb, d2 ▸ d3 ▸ hO.sbA, (by rw [nxAT_1]; exact hxi), (by rw [nxAT_1]; exact hAi)⟩, hF6⟩))
            · exact fun E q h2 hp => absurd hp.1 (by decide)
        · exact fun E q h2 hp => absurd hp.1 (by decide)
  · exact fun E q h2 hp => V_xout F (HT _) (by omega) (by omega) (CFx.of (k := 1) (by have hz := b2_z hp.1; exact if_pos hz) (by decide) hGw1 hp.2)
