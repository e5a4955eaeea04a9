theorem insF_id {f : Nat → Nat} {k j : Nat} (hj : j < k + 1) : f j = insF f k (f k) j := by
  by_cases e : j = k
  · subst e; rw [insF_e]
  · rw [insF_l (by omega)]
theorem ct_RW_copy {G : GG} {l : Launch} {h : AH} {r ti tia : Nat} {tf : Nat → Nat} {tt tl ta : Nat} {x : Nat → Nat} {A : Nat → Nat → Nat} {sm smc : Nat} {sA sK sV : Nat → Nat} {bm bmc : Nat} {bA bK bV : Nat → Nat} {g : Nat → Nat}  (hW : RW G h r ((ti, tia, tf), (tt, tl, ta, x, A), (sm, smc, sA, sK, sV), (bm, bmc, bA, bK, bV)) g) (hI : GW g) (hid : ∀ i j, i < j → j < g 2 → g (232 + 4 * i + 0) < g (232 + 4 * j + 0)) (hbd : ∀ i j, i < j → j < g 3 → g (264 + 4 * i + 0) < g (264 + 4 * j + 0)) (hn4 : g 2 ≤ g 4) (hn5 : g 3 ≤ g 5) : Ct G l yX2_copy cX2_copy 4 (some (.object "SleeperRailway$Railway")) 9 (200) (2100) [.ref r] h (fun r2 h2 => ∃ q D2, r2 = some (.ref q) ∧ RW G h2 q D2 g ∧ RO G h q D2 g ∧ Fr nM h h2) := by
  refine Ct.of (by decide) (Nat.le_of_ble_eq_true rfl) (cat1 rfl) (fun X hXl F HN => ?_)
  subst hXl
  obtain ⟨hr, hWt, hWr, hWs, hWb⟩ : h r = some (.inr (2, [.ref ti, .ref tt, .ref sm, .ref bm, .int (nI (g 4)), .int (nI (g 5)), .int (nI (g 6)), .int (nI (g 7))])) ∧ RWt G h (ti, tia, tf) g ∧ RWr G h (tt, tl, ta, x, A) g ∧ RWs G h (sm, smc, sA, sK, sV) g ∧ RWb G h (bm, bmc, bA, bK, bV) g := id hW
  have h8 := hI.2.1
  have h28 := hI.2.2.2.1
  have h310 := hI.2.2.2.2.1
  refine V_new F dX2_copy_0 nw_X2_13 (by omega) (by omega) ?_
  intro q hfq hbq
  refine V_dup F dX2_copy_3 rfl ?_
  have hrq := ne_nw hr hfq
  refine V_callI (st := [.ref (q)]) (nn := 0) F dX2_copy_4 lk_X2_35 (ct_RW_init tf (fun _ => 0) sV (fun _ => 0) bV (hset_self (e := .inr (2, [.null, .null, .null, .null, .int 0, .int 0, .int 0, .int 0])))) rfl rfl (Nat.le_of_ble_eq_true rfl) (Nat.le_of_ble_eq_true rfl) (Nat.le_of_ble_eq_true rfl) (by omega) (by omega) ?_
  rintro _ h1 ⟨rfl, ti2, tt0, tl0, sm2, bm2, As0, Ab0, hti1, htt1, htl1, hsm1, hbm1, hsb, hq1, hAt1, -, -, hMs1, hMb1, hx1⟩
  have hfr0 := ((Fr.rf (M := nM) (h := h)).nw (x := .inr (2, [.null, .null, .null, .null, .int 0, .int 0, .int 0, .int 0])) hfq)
  have hF1 : Fr nM h h1 := hfr0.cal hx1 (Yo.m1 (Or.inr hfq))
  have hti := hfr0.none hti1
  have hsm := hfr0.none hsm1
  have hbm := hfr0.none hbm1
  refine V_astore_n (i := 1) F dX2_copy_7 rfl (Nat.le_of_ble_eq_true rfl) (Nat.le_of_ble_eq_true rfl) ?_
  refine V_iconst (v := nI 0) F dX2_copy_8 rfl ?_
  refine V_istore_n (i := 2) F dX2_copy_9 rfl (Nat.le_of_ble_eq_true rfl) (Nat.le_of_ble_eq_true rfl) ?_
  have loop_10 : ∀ (nn : Nat) (k tia2 : Nat) (hh : AH), g 0 - k < nn → k ≤ g 0 → hh q = some (.inr (2, [.ref ti2, .ref tt0, .ref sm2, .ref bm2, .int (nI 0), .int (nI 0), .int (nI 0), .int (nI 0)])) → ALs G hh ti2 tia2 k k tf → h tia2 = none → TMp hh sm2 0 0 As0 (fun _ => 0) sV → TMp hh bm2 0 0 Ab0 (fun _ => 0) bV → Fr nM h hh → VV G X 4 ((EQ G X (200) (2100) (fun r2 h2 => ∃ q D2, r2 = some (.ref q) ∧ RW G h2 q D2 g ∧ RO G h q D2 g ∧ Fr nM h h2))) hh (6 + 2 * k) (40 + 100 * k) [some (.ref (r)), some (.ref (q)), some (.int (nI (k))), none] [] 10 := by
    intro nn
    induction nn with
    | zero => intro k tia2 hh hm hk9 hq hA hta hMs hMb hF; exact absurd hm (by omega)
    | succ nn ih_10 =>
      intro k tia2 hh hm hk9 hq hA hta hMs hMb hF
      refine V_iload_n (i := 2) F dX2_copy_10 rfl rfl ?_
      refine V_aload_n (i := 0) F dX2_copy_11 rfl rfl ?_
      refine V_getf F dX2_copy_12 fc_X2_12_X2 (.inl (hF.get hr id rfl)) rfl ?_
      refine V_callF (st := [.int (nI (k))]) (nn := 0) F dX2_copy_15 ⟨lw_F q1237 q388 q390 q111 q392, ⟨q386, List.mem_append_left _ q385, q391, q389, q387⟩, (by decide +kernel), (by decide +kernel)⟩ (ct_AL_size (hWt.fr0 hF).1) (hWt.fr0 hF).1.isC rfl rfl (Nat.le_of_ble_eq_true rfl) (Nat.le_of_ble_eq_true rfl) (Nat.le_of_ble_eq_true rfl) (by omega) (by omega) ?_
      refine PRk ?_
      refine V_icmp_geN (tgt := 52) F dX2_copy_20 (by decide) (by omega) (by omega) (fun c_20 => ?_) (fun c_20 => ?_)
      · refine V_aload_n (i := 1) F dX2_copy_52 rfl rfl ?_
        refine V_aload_n (i := 0) F dX2_copy_53 rfl rfl ?_
        refine V_getf F dX2_copy_54 fc_X2_21_X2 (.inl (hF.get hr id rfl)) rfl ?_
        have hkg : k = g 0 := by omega
        rw [hkg] at hA
        refine V_callV (st := [.ref (q)]) (nn := 0) F dX2_copy_57 lk_X2_52 (ct_TT_copy (hWr.fr0 hF) hI) ⟨3, _, _, _, rfl, .inl (hWr.fr0 hF).1⟩ rfl rfl (Nat.le_of_ble_eq_true rfl) (Nat.le_of_ble_eq_true rfl) (Nat.le_of_ble_eq_true rfl) (by omega) (by omega) ?_
        rintro _ h5 ⟨tt2, tl2, ta2, x2, A2, rfl, htt5, htl5, hta5, hRr5, hfr5, hxi, hAi, hx5⟩
        have hF5 := hF.cal0 hx5
        have htt2 := hF.none htt5
        have htl2 := hF.none htl5
        have hta2 := hF.none hta5
        have hq5 := hx5.get hq id rfl
        have hRt5 : RWt G h5 (ti2, tia2, tf) g := ⟨hA.fr0 hx5, (hWt.fr0 hF5).2⟩
        have hMs5 := hMs.fr0 hx5
        have hMb5 := hMb.fr0 hx5
        have htil : ti2 ≠ tl2 := ne_nw hA.1 htl5
        have htia : tia2 = ta2 → tia2 < bz G := fun e => by obtain ⟨-, -, cap, g2, q9, -⟩ := hA; exact q9.elim (fun z => by rw [e, hta5] at z; cases z) (fun z => z.1)
        have hfx : ∀ t, t < g 1 → h (x2 t) = none := fun t ht => hF.none (hfr5 t ht).1
        have hfA : ∀ t, t < g 1 → ∀ i, i < 5 → h (A2 t i) = none := fun t ht i hi => hF.none ((hfr5 t ht).2 i hi)
        refine V_putf F dX2_copy_60 fp_X2_21_X2 hq5 rfl rfl (Nat.le_of_ble_eq_true rfl) ?_
        refine VV.heap (h' := (hset h5 (q) (.inr (2, [.ref (ti2), .ref (tt2), .ref (sm2), .ref (bm2), .int (nI (0)), .int (nI (0)), .int (nI (0)), .int (nI (0))])))) rfl ?_
        have hpu : Fr (m1 q) h5 (hset h5 q (.inr (2, [.ref ti2, .ref tt2, .ref sm2, .ref bm2, .int (nI 0), .int (nI 0), .int (nI 0), .int (nI 0)]))) := Fr.rf.put hq5 rfl rfl (Or.inl rfl)
        have hRt6 := hRt5.fr1 hpu hq5 (by decide)
        have hRr6 := hRr5.fr1 hpu hq5 (by decide)
        have hMs6 := hMs5.fr1 hpu hq5 (by decide) (by decide)
        have hMb6 := hMb5.fr1 hpu hq5 (by decide) (by decide)
        have p1 : (hset h5 (q) (.inr (2, [.ref (ti2), .ref (tt2), .ref (sm2), .ref (bm2), .int (nI (0)), .int (nI (0)), .int (nI (0)), .int (nI (0))]))) r = some (.inr (2, [.ref (ti), .ref (tt), .ref (sm), .ref (bm), .int (nI (g 4)), .int (nI (g 5)), .int (nI (g 6)), .int (nI (g 7))])) := ((hset_ne hrq).trans (hF5.get hr id rfl))
        have p2 : (hset h5 (q) (.inr (2, [.ref (ti2), .ref (tt2), .ref (sm2), .ref (bm2), .int (nI (0)), .int (nI (0)), .int (nI (0)), .int (nI (0))]))) q = some (.inr (2, [.ref (ti2), .ref (tt2), .ref (sm2), .ref (bm2), .int (nI (0)), .int (nI (0)), .int (nI (0)), .int (nI (0))])) := (hset_self (e := .inr (2, [.ref (ti2), .ref (tt2), .ref (sm2), .ref (bm2), .int (nI (0)), .int (nI (0)), .int (nI (0)), .int (nI (0))])))
        refine V_aload_n (i := 0) F dX2_copy_63 rfl rfl ?_
        refine V_getf F dX2_copy_64 fc_X2_28_X2 (.inl p1) rfl ?_
        refine V_callV (st := []) (nn := 0) F dX2_copy_67 lk_X2_56 (ct_TM_values (hWs.1.fr0 (hF5.put (x := .inr (2, [.ref (ti2), .ref (tt2), .ref (sm2), .ref (bm2), .int (nI (0)), .int (nI (0)), .int (nI (0)), .int (nI (0))])) hq5 rfl rfl (Or.inr hfq)))) (hWs.1.fr0 (hF5.put (x := .inr (2, [.ref (ti2), .ref (tt2), .ref (sm2), .ref (bm2), .int (nI (0)), .int (nI (0)), .int (nI (0)), .int (nI (0))])) hq5 rfl rfl (Or.inr hfq))).isC rfl rfl (Nat.le_of_ble_eq_true rfl) (Nat.le_of_ble_eq_true rfl) (Nat.le_of_ble_eq_true rfl) (by omega) (by omega) ?_
        rintro _ hY3 ⟨v, rfl, hv, hM2, hx4⟩
        have p5 := hx4.get p1 id rfl
        have p6 := hx4.get p2 id rfl
        have f7 : Fr nM h hY3 := (hF5.put (x := .inr (2, [.ref (ti2), .ref (tt2), .ref (sm2), .ref (bm2), .int (nI (0)), .int (nI (0)), .int (nI (0)), .int (nI (0))])) hq5 rfl rfl (Or.inr hfq)).cal0 hx4
        refine V_callF (st := []) (nn := 0) F dX2_copy_70 ⟨lw_F q1894 q1974 q1976 q132 q1978, ⟨q1896, List.mem_append_left _ q1895, q1977, q1975, q1973⟩, (by decide +kernel), (by decide +kernel)⟩ (ct_Values_iterator hM2 hv) ⟨25, _, _, _, rfl, (.inl hv)⟩ rfl rfl (Nat.le_of_ble_eq_true rfl) (Nat.le_of_ble_eq_true rfl) (Nat.le_of_ble_eq_true rfl) (by omega) (by omega) ?_
        rintro _ hY8 ⟨it, rfl, hit1, hbit, hIt, hx9⟩
        have hit0 := f7.none hit1
        have p10 := hx9.get p5 id rfl
        have p11 := hx9.get p6 id rfl
        have p12 := hx9.get hv id rfl
        have f13 : Fr nM h hY8 := f7.cal0 hx9
        refine V_astore_n (i := 2) F dX2_copy_75 rfl (Nat.le_of_ble_eq_true rfl) (Nat.le_of_ble_eq_true rfl) ?_
        have loop_76 : ∀ (nn : Nat) (i : Nat) (As Ks : Nat → Nat) (hh : AH), g 2 - i < nn → i ≤ g 2 → VIT 28 hh it sm smc (g 2) i sA → hh q = some (.inr (2, [.ref ti2, .ref tt2, .ref sm2, .ref bm2, .int (nI 0), .int (nI 0), .int (nI 0), .int (nI 0)])) → RWt G hh (ti2, tia2, tf) g → RWr G hh (tt2, tl2, ta2, x2, A2) g → TMp hh sm2 i i As Ks sV → (∀ j, j < i → IV G hh (Ks j) (nI (g (232 + 4 * j + 0)))) → (∀ j, j < i → h (As j) = none) → TMp hh bm2 0 0 Ab0 (fun _ => 0) bV → Fr nM h hh → VV G X 4 ((EQ G X (200) (2100) (fun r2 h2 => ∃ q D2, r2 = some (.ref q) ∧ RW G h2 q D2 g ∧ RO G h q D2 g ∧ Fr nM h h2))) hh (100 + 2 * i) (1800 + 8 * i) [some (.ref (r)), some (.ref (q)), some (.ref (it)), none] [] 76 := by
          intro nn
          induction nn with
          | zero => intro i As Ks hh hm hi9 hI3 hq hRt hRr hMs hKs hAs hMb hF; exact absurd hm (by omega)
          | succ nn ih_76 =>
            intro i As Ks hh hm hi9 hI3 hq hRt hRr hMs hKs hAs hMb hF
            refine V_aload_n (i := 2) F dX2_copy_76 rfl rfl ?_
            refine V_callF (st := []) (nn := 0) F dX2_copy_77 ⟨lw_F q2028 q863 q859 q139 q861, ⟨q460, List.mem_append_left _ q459, q860, q864, q862⟩, (by decide +kernel), (by decide +kernel)⟩ (ct_VI_hasNext (K := sK) (V := sV) hI3) hI3.isC28 rfl rfl (Nat.le_of_ble_eq_true rfl) (Nat.le_of_ble_eq_true rfl) (Nat.le_of_ble_eq_true rfl) (by omega) (by omega) ?_
            refine PRk ?_
            refine V_if_eqB (tgt := 114) F dX2_copy_82 (by decide) (fun c_82 => ?_) (fun c_82 => ?_)
            · have hie : i = g 2 := by omega
              rw [hie] at hMs hKs hAs
              refine V_aload_n (i := 0) F dX2_copy_114 rfl rfl ?_
              refine V_getf F dX2_copy_115 fc_X2_32_X2 (.inl (hF.get hr id rfl)) rfl ?_
              refine V_callV (st := []) (nn := 0) F dX2_copy_118 lk_X2_56 (ct_TM_values (hWb.1.fr0 hF)) (hWb.1.fr0 hF).isC rfl rfl (Nat.le_of_ble_eq_true rfl) (Nat.le_of_ble_eq_true rfl) (Nat.le_of_ble_eq_true rfl) (by omega) (by omega) ?_
              rintro _ hY1 ⟨v, rfl, hv, hM2, hx2⟩
              have p3 := hx2.get (hF.get hr id rfl) id rfl
              have p4 := hx2.get hq id rfl
              have f5 : Fr nM h hY1 := hF.cal0 hx2
              refine V_callF (st := []) (nn := 0) F dX2_copy_121 ⟨lw_F q1894 q1974 q1976 q132 q1978, ⟨q1896, List.mem_append_left _ q1895, q1977, q1975, q1973⟩, (by decide +kernel), (by decide +kernel)⟩ (ct_Values_iterator hM2 hv) ⟨25, _, _, _, rfl, (.inl hv)⟩ rfl rfl (Nat.le_of_ble_eq_true rfl) (Nat.le_of_ble_eq_true rfl) (Nat.le_of_ble_eq_true rfl) (by omega) (by omega) ?_
              rintro _ hY6 ⟨jt, rfl, hit1, hbit, hIt, hx7⟩
              have hjt0 := f5.none hit1
              have p8 := hx7.get p3 id rfl
              have p9 := hx7.get p4 id rfl
              have p10 := hx7.get hv id rfl
              have f11 : Fr nM h hY6 := f5.cal0 hx7
              refine V_astore_n (i := 2) F dX2_copy_126 rfl (Nat.le_of_ble_eq_true rfl) (Nat.le_of_ble_eq_true rfl) ?_
              have loop_127 : ∀ (nn : Nat) (i : Nat) (Ab Kb : Nat → Nat) (hh : AH), g 3 - i < nn → i ≤ g 3 → VIT 28 hh jt bm bmc (g 3) i bA → hh q = some (.inr (2, [.ref ti2, .ref tt2, .ref sm2, .ref bm2, .int (nI 0), .int (nI 0), .int (nI 0), .int (nI 0)])) → RWt G hh (ti2, tia2, tf) g → RWr G hh (tt2, tl2, ta2, x2, A2) g → TMp hh sm2 (g 2) (g 2) As Ks sV → (∀ j, j < g 2 → IV G hh (Ks j) (nI (g (232 + 4 * j + 0)))) → TMp hh bm2 i i Ab Kb bV → (∀ j, j < i → IV G hh (Kb j) (nI (g (264 + 4 * j + 0)))) → (∀ j, j < i → h (Ab j) = none) → (∀ j2 k2, j2 < g 2 → k2 < i → As j2 ≠ Ab k2) → Fr nM h hh → VV G X 4 ((EQ G X (200) (2100) (fun r2 h2 => ∃ q D2, r2 = some (.ref q) ∧ RW G h2 q D2 g ∧ RO G h q D2 g ∧ Fr nM h h2))) hh (130 + 2 * i) (1900 + 8 * i) [some (.ref (r)), some (.ref (q)), some (.ref (jt)), none] [] 127 := by
                intro nn
                induction nn with
                | zero => intro i Ab Kb hh hm hi9 hI3 hq hRt hRr hMs hKs hMb hKb hAb hdis hF; exact absurd hm (by omega)
                | succ nn ih_127 =>
                  intro i Ab Kb hh hm hi9 hI3 hq hRt hRr hMs hKs hMb hKb hAb hdis hF
                  refine V_aload_n (i := 2) F dX2_copy_127 rfl rfl ?_
                  refine V_callF (st := []) (nn := 0) F dX2_copy_128 ⟨lw_F q2028 q863 q859 q139 q861, ⟨q460, List.mem_append_left _ q459, q860, q864, q862⟩, (by decide +kernel), (by decide +kernel)⟩ (ct_VI_hasNext (K := bK) (V := bV) hI3) hI3.isC28 rfl rfl (Nat.le_of_ble_eq_true rfl) (Nat.le_of_ble_eq_true rfl) (Nat.le_of_ble_eq_true rfl) (by omega) (by omega) ?_
                  refine PRk ?_
                  refine V_if_eqB (tgt := 165) F dX2_copy_133 (by decide) (fun c_133 => ?_) (fun c_133 => ?_)
                  · have hie3 : i = g 3 := by omega
                    rw [hie3] at hMb hKb hAb hdis
                    have hrh := hF.get hr id rfl
                    refine V_aload_n (i := 1) F dX2_copy_165 rfl rfl ?_
                    refine V_aload_n (i := 0) F dX2_copy_166 rfl rfl ?_
                    refine V_getf F dX2_copy_167 fc_X2_94_X2 (.inl (hF.get hr id rfl)) rfl ?_
                    have p1 : hh r = some (.inr (2, [.ref (ti), .ref (tt), .ref (sm), .ref (bm), .int (nI (g 4)), .int (nI (g 5)), .int (nI (g 6)), .int (nI (g 7))])) := (hF.get hr id rfl)
                    refine V_putf F dX2_copy_170 fp_X2_94_X2 hq rfl rfl (Nat.le_of_ble_eq_true rfl) ?_
                    refine VV.heap (h' := (hset hh (q) (.inr (2, [.ref (ti2), .ref (tt2), .ref (sm2), .ref (bm2), .int (nI (g 4)), .int (nI (0)), .int (nI (0)), .int (nI (0))])))) rfl ?_
                    refine V_aload_n (i := 1) F dX2_copy_173 rfl rfl ?_
                    refine V_aload_n (i := 0) F dX2_copy_174 rfl rfl ?_
                    refine V_getf F dX2_copy_175 fc_X2_97_X2 (.inl ((hset_ne hrq).trans p1)) rfl ?_
                    have p2 : (hset hh (q) (.inr (2, [.ref (ti2), .ref (tt2), .ref (sm2), .ref (bm2), .int (nI (g 4)), .int (nI (0)), .int (nI (0)), .int (nI (0))]))) r = some (.inr (2, [.ref (ti), .ref (tt), .ref (sm), .ref (bm), .int (nI (g 4)), .int (nI (g 5)), .int (nI (g 6)), .int (nI (g 7))])) := ((hset_ne hrq).trans p1)
                    have p3 : (hset hh (q) (.inr (2, [.ref (ti2), .ref (tt2), .ref (sm2), .ref (bm2), .int (nI (g 4)), .int (nI (0)), .int (nI (0)), .int (nI (0))]))) q = some (.inr (2, [.ref (ti2), .ref (tt2), .ref (sm2), .ref (bm2), .int (nI (g 4)), .int (nI (0)), .int (nI (0)), .int (nI (0))])) := (hset_self (e := .inr (2, [.ref (ti2), .ref (tt2), .ref (sm2), .ref (bm2), .int (nI (g 4)), .int (nI (0)), .int (nI (0)), .int (nI (0))])))
                    refine V_putf F dX2_copy_178 fp_X2_97_X2 p3 rfl rfl (Nat.le_of_ble_eq_true rfl) ?_
                    refine VV.heap (h' := (hset (hset hh (q) (.inr (2, [.ref (ti2), .ref (tt2), .ref (sm2), .ref (bm2), .int (nI (g 4)), .int (nI (0)), .int (nI (0)), .int (nI (0))]))) (q) (.inr (2, [.ref (ti2), .ref (tt2), .ref (sm2), .ref (bm2), .int (nI (g 4)), .int (nI (g 5)), .int (nI (0)), .int (nI (0))])))) rfl ?_
                    refine V_aload_n (i := 1) F dX2_copy_181 rfl rfl ?_
                    refine V_aload_n (i := 0) F dX2_copy_182 rfl rfl ?_
                    refine V_getf F dX2_copy_183 fc_X2_100_X2 (.inl ((hset_ne hrq).trans p2)) rfl ?_
                    have p4 : (hset (hset hh (q) (.inr (2, [.ref (ti2), .ref (tt2), .ref (sm2), .ref (bm2), .int (nI (g 4)), .int (nI (0)), .int (nI (0)), .int (nI (0))]))) (q) (.inr (2, [.ref (ti2), .ref (tt2), .ref (sm2), .ref (bm2), .int (nI (g 4)), .int (nI (g 5)), .int (nI (0)), .int (nI (0))]))) r = some (.inr (2, [.ref (ti), .ref (tt), .ref (sm), .ref (bm), .int (nI (g 4)), .int (nI (g 5)), .int (nI (g 6)), .int (nI (g 7))])) := ((hset_ne hrq).trans p2)
                    have p5 : (hset (hset hh (q) (.inr (2, [.ref (ti2), .ref (tt2), .ref (sm2), .ref (bm2), .int (nI (g 4)), .int (nI (0)), .int (nI (0)), .int (nI (0))]))) (q) (.inr (2, [.ref (ti2), .ref (tt2), .ref (sm2), .ref (bm2), .int (nI (g 4)), .int (nI (g 5)), .int (nI (0)), .int (nI (0))]))) q = some (.inr (2, [.ref (ti2), .ref (tt2), .ref (sm2), .ref (bm2), .int (nI (g 4)), .int (nI (g 5)), .int (nI (0)), .int (nI (0))])) := (hset_self (e := .inr (2, [.ref (ti2), .ref (tt2), .ref (sm2), .ref (bm2), .int (nI (g 4)), .int (nI (g 5)), .int (nI (0)), .int (nI (0))])))
                    refine V_putf F dX2_copy_186 fp_X2_100_X2 p5 rfl rfl (Nat.le_of_ble_eq_true rfl) ?_
                    refine VV.heap (h' := (hset (hset (hset hh (q) (.inr (2, [.ref (ti2), .ref (tt2), .ref (sm2), .ref (bm2), .int (nI (g 4)), .int (nI (0)), .int (nI (0)), .int (nI (0))]))) (q) (.inr (2, [.ref (ti2), .ref (tt2), .ref (sm2), .ref (bm2), .int (nI (g 4)), .int (nI (g 5)), .int (nI (0)), .int (nI (0))]))) (q) (.inr (2, [.ref (ti2), .ref (tt2), .ref (sm2), .ref (bm2), .int (nI (g 4)), .int (nI (g 5)), .int (nI (g 6)), .int (nI (0))])))) rfl ?_
                    refine V_aload_n (i := 1) F dX2_copy_189 rfl rfl ?_
                    refine V_aload_n (i := 0) F dX2_copy_190 rfl rfl ?_
                    refine V_getf F dX2_copy_191 fc_X2_103_X2 (.inl ((hset_ne hrq).trans p4)) rfl ?_
                    have p6 : (hset (hset (hset hh (q) (.inr (2, [.ref (ti2), .ref (tt2), .ref (sm2), .ref (bm2), .int (nI (g 4)), .int (nI (0)), .int (nI (0)), .int (nI (0))]))) (q) (.inr (2, [.ref (ti2), .ref (tt2), .ref (sm2), .ref (bm2), .int (nI (g 4)), .int (nI (g 5)), .int (nI (0)), .int (nI (0))]))) (q) (.inr (2, [.ref (ti2), .ref (tt2), .ref (sm2), .ref (bm2), .int (nI (g 4)), .int (nI (g 5)), .int (nI (g 6)), .int (nI (0))]))) r = some (.inr (2, [.ref (ti), .ref (tt), .ref (sm), .ref (bm), .int (nI (g 4)), .int (nI (g 5)), .int (nI (g 6)), .int (nI (g 7))])) := ((hset_ne hrq).trans p4)
                    have p7 : (hset (hset (hset hh (q) (.inr (2, [.ref (ti2), .ref (tt2), .ref (sm2), .ref (bm2), .int (nI (g 4)), .int (nI (0)), .int (nI (0)), .int (nI (0))]))) (q) (.inr (2, [.ref (ti2), .ref (tt2), .ref (sm2), .ref (bm2), .int (nI (g 4)), .int (nI (g 5)), .int (nI (0)), .int (nI (0))]))) (q) (.inr (2, [.ref (ti2), .ref (tt2), .ref (sm2), .ref (bm2), .int (nI (g 4)), .int (nI (g 5)), .int (nI (g 6)), .int (nI (0))]))) q = some (.inr (2, [.ref (ti2), .ref (tt2), .ref (sm2), .ref (bm2), .int (nI (g 4)), .int (nI (g 5)), .int (nI (g 6)), .int (nI (0))])) := (hset_self (e := .inr (2, [.ref (ti2), .ref (tt2), .ref (sm2), .ref (bm2), .int (nI (g 4)), .int (nI (g 5)), .int (nI (g 6)), .int (nI (0))])))
                    refine V_putf F dX2_copy_194 fp_X2_103_X2 p7 rfl rfl (Nat.le_of_ble_eq_true rfl) ?_
                    refine VV.heap (h' := (hset (hset (hset (hset hh (q) (.inr (2, [.ref (ti2), .ref (tt2), .ref (sm2), .ref (bm2), .int (nI (g 4)), .int (nI (0)), .int (nI (0)), .int (nI (0))]))) (q) (.inr (2, [.ref (ti2), .ref (tt2), .ref (sm2), .ref (bm2), .int (nI (g 4)), .int (nI (g 5)), .int (nI (0)), .int (nI (0))]))) (q) (.inr (2, [.ref (ti2), .ref (tt2), .ref (sm2), .ref (bm2), .int (nI (g 4)), .int (nI (g 5)), .int (nI (g 6)), .int (nI (0))]))) (q) (.inr (2, [.ref (ti2), .ref (tt2), .ref (sm2), .ref (bm2), .int (nI (g 4)), .int (nI (g 5)), .int (nI (g 6)), .int (nI (g 7))])))) rfl ?_
                    refine V_aload_n (i := 1) F dX2_copy_197 rfl rfl ?_
                    have hfz := (((((Fr.rf (M := m1 q) (h := hh)).put (x := .inr (2, [.ref (ti2), .ref (tt2), .ref (sm2), .ref (bm2), .int (nI (g 4)), .int (nI (0)), .int (nI (0)), .int (nI (0))])) hq rfl rfl (Or.inl rfl)).put (x := .inr (2, [.ref (ti2), .ref (tt2), .ref (sm2), .ref (bm2), .int (nI (g 4)), .int (nI (g 5)), .int (nI (0)), .int (nI (0))])) p3 rfl rfl (Or.inl rfl)).put (x := .inr (2, [.ref (ti2), .ref (tt2), .ref (sm2), .ref (bm2), .int (nI (g 4)), .int (nI (g 5)), .int (nI (g 6)), .int (nI (0))])) p5 rfl rfl (Or.inl rfl)).put (x := .inr (2, [.ref (ti2), .ref (tt2), .ref (sm2), .ref (bm2), .int (nI (g 4)), .int (nI (g 5)), .int (nI (g 6)), .int (nI (g 7))])) p7 rfl rfl (Or.inl rfl))
                    have pq : (hset (hset (hset (hset hh (q) (.inr (2, [.ref (ti2), .ref (tt2), .ref (sm2), .ref (bm2), .int (nI (g 4)), .int (nI (0)), .int (nI (0)), .int (nI (0))]))) (q) (.inr (2, [.ref (ti2), .ref (tt2), .ref (sm2), .ref (bm2), .int (nI (g 4)), .int (nI (g 5)), .int (nI (0)), .int (nI (0))]))) (q) (.inr (2, [.ref (ti2), .ref (tt2), .ref (sm2), .ref (bm2), .int (nI (g 4)), .int (nI (g 5)), .int (nI (g 6)), .int (nI (0))]))) (q) (.inr (2, [.ref (ti2), .ref (tt2), .ref (sm2), .ref (bm2), .int (nI (g 4)), .int (nI (g 5)), .int (nI (g 6)), .int (nI (g 7))]))) q = some (.inr (2, [.ref (ti2), .ref (tt2), .ref (sm2), .ref (bm2), .int (nI (g 4)), .int (nI (g 5)), .int (nI (g 6)), .int (nI (g 7))])) := (hset_self (e := .inr (2, [.ref (ti2), .ref (tt2), .ref (sm2), .ref (bm2), .int (nI (g 4)), .int (nI (g 5)), .int (nI (g 6)), .int (nI (g 7))])))
                    have hoq := fun k (hk : 2 ≠ k) => offK.m1 (S := kO k) hq (kO_ne hk)
                    have hFz := hF.cal hfz (Yo.m1 (Or.inr hfq))
                    exact V_aret F dX2_copy_198 (Or.inl ⟨_, rfl⟩) (Or.inr ⟨_, rfl⟩) (by omega) (by omega) ⟨q, ((ti2, tia2, tf), (tt2, tl2, ta2, x2, A2), (sm2, g 2, As, Ks, sV), (bm2, g 3, Ab, Kb, bV)), rfl, ⟨pq, hRt.fr1 hfz hq (by decide), hRr.fr1 hfz hq (by decide), ⟨hMs.fr1 hfz hq (by decide) (by decide), by show g 2 + g 2 ≤ 2 * g 4; omega, fun i hi => ⟨(hKs i hi).fr hfz (hoq 27 (by decide)), ((hWs.fr0 hFz).2.2 i hi).2⟩⟩, ⟨hMb.fr1 hfz hq (by decide) (by decide), by show g 3 + g 3 ≤ 2 * g 5; omega, fun i hi => ⟨(hKb i hi).fr hfz (hoq 27 (by decide)), ((hWb.fr0 hFz).2.2 i hi).2⟩⟩⟩, ⟨hfq, hti, hta, htt2, htl2, hta2, hsm, hbm, hfx, hfA, hAs, hAb, htil, htia, hsb, hdis, hxi, hAi⟩, hFz⟩
                  · have hi : i < g 3 := c_133
                    refine V_aload_n (i := 2) F dX2_copy_136 rfl rfl ?_
                    refine V_callF (st := []) (nn := 0) F dX2_copy_137 ⟨lw_F q2030 q1136 q1138 q141 q1140, ⟨q868, List.mem_append_left _ q867, q1139, q1137, q862⟩, (by decide +kernel), (by decide +kernel)⟩ (ct_VI_next (hWb.1.fr0 hF) hI3 (by have := hWb.2.1; have := hI.b 5; omega) hi) hI3.isC28 rfl rfl (Nat.le_of_ble_eq_true rfl) (Nat.le_of_ble_eq_true rfl) (Nat.le_of_ble_eq_true rfl) (by omega) (by omega) ?_
                    rintro _ h3 ⟨rfl, hI4, hx3⟩
                    have hF3 : Fr nM h h3 := hF.cal hx3 (Yo.m1 (Or.inr hjt0))
                    obtain ⟨lr, hci⟩ := id hI3
                    have hq3 := hx3.get hq (fun z => ne_oo hq hci (by decide) z) rfl
                    have hRt3 := hRt.fr1 hx3 hci (by decide)
                    have hRr3 := hRr.fr1 hx3 hci (by decide)
                    have hMs3 := hMs.fr1 hx3 hci (by decide) (by decide)
                    have hMb3 := hMb.fr1 hx3 hci (by decide) (by decide)
                    have hsk := ((hWb.fr0 hF3).2.2 i hi).2
                    refine V_ckS F dX2_copy_142 q2031 ⟨11, _, _, _, rfl, (.inl hsk)⟩ ?_
                    refine V_astore_n (i := 3) F dX2_copy_145 rfl (Nat.le_of_ble_eq_true rfl) (Nat.le_of_ble_eq_true rfl) ?_
                    refine V_aload_n (i := 1) F dX2_copy_146 rfl rfl ?_
                    refine V_getf F dX2_copy_147 fc_X2_32_X2 (.inl hq3) rfl ?_
                    refine V_aload_n (i := 3) F dX2_copy_150 rfl rfl ?_
                    refine V_getn F dX2_copy_151 fc_X2_91_X14 (.inl hsk) rfl ?_
                    refine V_callS (st := [.ref (bm2)]) (nn := 1) F dX2_copy_154 lk_X2_81 (ct_I_valueOf (x := nI (g (264 + 4 * i + 0)))) rfl rfl (Nat.le_of_ble_eq_true rfl) (Nat.le_of_ble_eq_true rfl) (Nat.le_of_ble_eq_true rfl) (by omega) (by omega) ?_
                    rintro _ h4 ⟨qk, rfl, hqk, hx4⟩
                    have hF4 := hF3.cal0 hx4
                    have hq4 := hx4.get hq3 id rfl
                    have hRt4 := hRt3.fr0 hx4
                    have hRr4 := hRr3.fr0 hx4
                    have hMs4 := hMs3.fr0 hx4
                    have hMb4 := hMb3.fr0 hx4
                    have hI5 := hI4.fr hx4 id (Or.inl rfl)
                    have hK4 : ∀ j, j < i → IV G h4 (Kb j) (nI (g (264 + 4 * j + 0))) := fun j hj => ((hKb j hj).fr hx3 (offK.m1 hci (kO_ne (by decide)))).fr hx4 offK.nM
                    have hsk4 := hx4.get hsk id rfl
                    have hKs4 : ∀ j, j < g 2 → IV G h4 (Ks j) (nI (g (232 + 4 * j + 0))) := fun j hj => ((hKs j hj).fr hx3 (offK.m1 hci (kO_ne (by decide)))).fr hx4 offK.nM
                    refine V_aload_n (i := 3) F dX2_copy_157 rfl rfl ?_
                    refine V_callV (st := []) (nn := 2) F dX2_copy_158 lk_X2_85 (ct_TM_add hMb4 (fd := false) (pos := i) (cmp_int hqk hK4 (Nat.le_refl i) (fun z => by cases z) (fun j hj _ => (nI_ltI (Nat.lt_trans (hI.b _) (by decide)) (Nat.lt_trans (hI.b _) (by decide))).mpr (hbd j i hj hi)) (fun j hj hp _ => absurd hj (by omega))) rfl (ckk_int hqk)) hMb4.isC rfl rfl (Nat.le_of_ble_eq_true rfl) (Nat.le_of_ble_eq_true rfl) (Nat.le_of_ble_eq_true rfl) (by omega) (by omega) ?_
                    rintro _ h5 ⟨rfl, An, hMn, hNF, hx5⟩
                    have hF5 : Fr nM h h5 := hF4.cal hx5 (fun b z => z.elim (fun z => Or.inr (z ▸ hbm)) (fun z => by obtain ⟨i2, hi2, z⟩ := z; exact Or.inr (z ▸ hAb i2 hi2)))
                    have hAn : ∀ j, j < i + 1 → h (An j) = none := fun j hj => (hNF j hj).elim (fun z => by obtain ⟨i3, hi3, z⟩ := z; rw [z]; exact hAb i3 hi3) (fun z => hF4.none z)
                    have hof := fun k (h1 : k ≠ 23) (h2 : k ≠ 24) => offK.mT (k := k) hMb4 h1 h2
                    have hq5 := hx5.get hq4 ((hof 2 (by decide) (by decide)).o hq4) rfl
                    have hRt5 := hRt4.frT hMb4 hx5
                    have hRr5 := hRr4.frT hMb4 hx5
                    have hI6 := hI5.fr hx5 (hI5.elim (fun _ q => (hof 28 (by decide) (by decide)).o q)) (Or.inl rfl)
                    have hMn2 := hMn.ext (K2 := insF Kb i qk) (V2 := bV) (fun _ _ => rfl) (fun j hj => insF_id hj)
                    have hKn : ∀ j, j < i + 1 → IV G h5 (insF Kb i qk j) (nI (g (264 + 4 * j + 0))) := fun j hj => by
                      by_cases e : j = i
                      · subst e; rw [insF_e]; exact hqk.fr hx5 (hof 27 (by decide) (by decide))
                      · rw [insF_l (by omega)]; exact (hK4 j (by omega)).fr hx5 (hof 27 (by decide) (by decide))
                    have hMs5 := hMs4.frT hMb4 hx5 hsb hdis
                    have hKs5 : ∀ j, j < g 2 → IV G h5 (Ks j) (nI (g (232 + 4 * j + 0))) := fun j hj => (hKs4 j hj).fr hx5 (hof 27 (by decide) (by decide))
                    have hdis5 : ∀ j2 k2, j2 < g 2 → k2 < i + 1 → As j2 ≠ An k2 := fun j2 k2 hj2 hk2 => (hNF k2 hk2).elim (fun z => by obtain ⟨i3, hi3, z⟩ := z; rw [z]; exact hdis j2 i3 hj2 hi3) (fun z => by obtain ⟨f0, hf0⟩ := hMs4.nod j2 hj2; exact ne_nw hf0 z)
                    refine V_pop F dX2_copy_161 rfl ?_
                    refine V_goto (tgt := 127) F dX2_copy_162 (by decide) ?_
                    refine VV.weak (L' := [some (.ref (r)), some (.ref (q)), some (.ref (jt)), none]) (LW.c1 (LW.c1 (LW.c1 (LW.c0 LW.nil)))) ?_
                    exact VV.wide (by omega) (by omega) (ih_127 (i + 1) An _ _ (by omega) (by omega) hI6 hq5 hRt5 hRr5 hMs5 hKs5 hMn2 hKn hAn hdis5 hF5)
              refine VV.weak (L' := [some (.ref (r)), some (.ref (q)), some (.ref (jt)), none]) (LW.c1 (LW.c1 (LW.c1 (LW.c0 LW.nil)))) ?_
              have hF9 := f11
              exact VV.wide (by omega) (by omega) (loop_127 (g 3 + 1) 0 Ab0 (fun _ => 0) _ (by omega) (Nat.zero_le _) hIt p9 ((hRt.fr0 hx2).fr0 hx7) ((hRr.fr0 hx2).fr0 hx7) ((hMs.fr0 hx2).fr0 hx7) (fun j hj => ((hKs j hj).fr hx2 offK.nM).fr hx7 offK.nM) ((hMb.fr0 hx2).fr0 hx7) (fun j hj => absurd hj (Nat.not_lt_zero j)) (fun j hj => absurd hj (Nat.not_lt_zero j)) (fun _ j _ hj => absurd hj (Nat.not_lt_zero j)) hF9)
            · have hi : i < g 2 := c_82
              refine V_aload_n (i := 2) F dX2_copy_85 rfl rfl ?_
              refine V_callF (st := []) (nn := 0) F dX2_copy_86 ⟨lw_F q2030 q1136 q1138 q141 q1140, ⟨q868, List.mem_append_left _ q867, q1139, q1137, q862⟩, (by decide +kernel), (by decide +kernel)⟩ (ct_VI_next (hWs.1.fr0 hF) hI3 (by have := hWs.2.1; have := hI.b 4; omega) hi) hI3.isC28 rfl rfl (Nat.le_of_ble_eq_true rfl) (Nat.le_of_ble_eq_true rfl) (Nat.le_of_ble_eq_true rfl) (by omega) (by omega) ?_
              rintro _ h3 ⟨rfl, hI4, hx3⟩
              have hF3 : Fr nM h h3 := hF.cal hx3 (Yo.m1 (Or.inr hit0))
              obtain ⟨lr, hci⟩ := id hI3
              have hq3 := hx3.get hq (fun z => ne_oo hq hci (by decide) z) rfl
              have hRt3 := hRt.fr1 hx3 hci (by decide)
              have hRr3 := hRr.fr1 hx3 hci (by decide)
              have hMs3 := hMs.fr1 hx3 hci (by decide) (by decide)
              have hMb3 := hMb.fr1 hx3 hci (by decide) (by decide)
              have hsk := ((hWs.fr0 hF3).2.2 i hi).2
              refine V_ckS F dX2_copy_91 q2336 ⟨8, _, _, _, rfl, (.inl hsk)⟩ ?_
              refine V_astore_n (i := 3) F dX2_copy_94 rfl (Nat.le_of_ble_eq_true rfl) (Nat.le_of_ble_eq_true rfl) ?_
              refine V_aload_n (i := 1) F dX2_copy_95 rfl rfl ?_
              refine V_getf F dX2_copy_96 fc_X2_28_X2 (.inl hq3) rfl ?_
              refine V_aload_n (i := 3) F dX2_copy_99 rfl rfl ?_
              refine V_callV (st := [.ref (sm2)]) (nn := 0) F dX2_copy_100 lk_X2_78 (ct_Su_id hsk) ⟨8, _, _, _, rfl, (.inl hsk)⟩ rfl rfl (Nat.le_of_ble_eq_true rfl) (Nat.le_of_ble_eq_true rfl) (Nat.le_of_ble_eq_true rfl) (by omega) (by omega) ?_
              refine PRk ?_
              refine V_callS (st := [.ref (sm2)]) (nn := 1) F dX2_copy_103 lk_X2_81 (ct_I_valueOf (x := nI (g (232 + 4 * i + 0)))) rfl rfl (Nat.le_of_ble_eq_true rfl) (Nat.le_of_ble_eq_true rfl) (Nat.le_of_ble_eq_true rfl) (by omega) (by omega) ?_
              rintro _ h4 ⟨qk, rfl, hqk, hx4⟩
              have hF4 := hF3.cal0 hx4
              have hq4 := hx4.get hq3 id rfl
              have hRt4 := hRt3.fr0 hx4
              have hRr4 := hRr3.fr0 hx4
              have hMs4 := hMs3.fr0 hx4
              have hMb4 := hMb3.fr0 hx4
              have hI5 := hI4.fr hx4 id (Or.inl rfl)
              have hK4 : ∀ j, j < i → IV G h4 (Ks j) (nI (g (232 + 4 * j + 0))) := fun j hj => ((hKs j hj).fr hx3 (offK.m1 hci (kO_ne (by decide)))).fr hx4 offK.nM
              have hsk4 := hx4.get hsk id rfl
              refine V_aload_n (i := 3) F dX2_copy_106 rfl rfl ?_
              refine V_callV (st := []) (nn := 2) F dX2_copy_107 lk_X2_85 (ct_TM_add hMs4 (fd := false) (pos := i) (cmp_int hqk hK4 (Nat.le_refl i) (fun z => by cases z) (fun j hj _ => (nI_ltI (Nat.lt_trans (hI.b _) (by decide)) (Nat.lt_trans (hI.b _) (by decide))).mpr (hid j i hj hi)) (fun j hj hp _ => absurd hj (by omega))) rfl (ckk_int hqk)) hMs4.isC rfl rfl (Nat.le_of_ble_eq_true rfl) (Nat.le_of_ble_eq_true rfl) (Nat.le_of_ble_eq_true rfl) (by omega) (by omega) ?_
              rintro _ h5 ⟨rfl, An, hMn, hNF, hx5⟩
              have hF5 : Fr nM h h5 := hF4.cal hx5 (fun b z => z.elim (fun z => Or.inr (z ▸ hsm)) (fun z => by obtain ⟨i2, hi2, z⟩ := z; exact Or.inr (z ▸ hAs i2 hi2)))
              have hAn : ∀ j, j < i + 1 → h (An j) = none := fun j hj => (hNF j hj).elim (fun z => by obtain ⟨i3, hi3, z⟩ := z; rw [z]; exact hAs i3 hi3) (fun z => hF4.none z)
              have hof := fun k (h1 : k ≠ 23) (h2 : k ≠ 24) => offK.mT (k := k) hMs4 h1 h2
              have hq5 := hx5.get hq4 ((hof 2 (by decide) (by decide)).o hq4) rfl
              have hRt5 := hRt4.frT hMs4 hx5
              have hRr5 := hRr4.frT hMs4 hx5
              have hI6 := hI5.fr hx5 (hI5.elim (fun _ q => (hof 28 (by decide) (by decide)).o q)) (Or.inl rfl)
              have hMn2 := hMn.ext (K2 := insF Ks i qk) (V2 := sV) (fun _ _ => rfl) (fun j hj => insF_id hj)
              have hKn : ∀ j, j < i + 1 → IV G h5 (insF Ks i qk j) (nI (g (232 + 4 * j + 0))) := fun j hj => by
                by_cases e : j = i
                · subst e; rw [insF_e]; exact hqk.fr hx5 (hof 27 (by decide) (by decide))
                · rw [insF_l (by omega)]; exact (hK4 j (by omega)).fr hx5 (hof 27 (by decide) (by decide))
              have hMb5 := hMb4.frT hMs4 hx5 (Ne.symm hsb) (fun i2 j2 hi2 => absurd hi2 (Nat.not_lt_zero _))
              refine V_pop F dX2_copy_110 rfl ?_
              refine V_goto (tgt := 76) F dX2_copy_111 (by decide) ?_
              refine VV.weak (L' := [some (.ref (r)), some (.ref (q)), some (.ref (it)), none]) (LW.c1 (LW.c1 (LW.c1 (LW.c0 LW.nil)))) ?_
              exact VV.wide (by omega) (by omega) (ih_76 (i + 1) An _ _ (by omega) (by omega) hI6 hq5 hRt5 hRr5 hMn2 hKn hAn hMb5 hF5)
        refine VV.weak (L' := [some (.ref (r)), some (.ref (q)), some (.ref (it)), none]) (LW.c1 (LW.c1 (LW.c1 (LW.c0 LW.nil)))) ?_
        have hF9 := f13
        exact VV.wide (by omega) (by omega) (loop_76 (g 2 + 1) 0 As0 (fun _ => 0) _ (by omega) (Nat.zero_le _) hIt p11 ((hRt6.fr0 hx4).fr0 hx9) ((hRr6.fr0 hx4).fr0 hx9) ((hMs6.fr0 hx4).fr0 hx9) (fun j hj => absurd hj (Nat.not_lt_zero j)) (fun j hj => absurd hj (Nat.not_lt_zero j)) ((hMb6.fr0 hx4).fr0 hx9) hF9)
      · refine V_aload_n (i := 1) F dX2_copy_23 rfl rfl ?_
        refine V_getf F dX2_copy_24 fc_X2_12_X2 (.inl hq) rfl ?_
        refine V_aload_n (i := 0) F dX2_copy_27 rfl rfl ?_
        refine V_getf F dX2_copy_28 fc_X2_12_X2 (.inl (hF.get hr id rfl)) rfl ?_
        refine V_iload_n (i := 2) F dX2_copy_31 rfl rfl ?_
        have hk : k < g 0 := by omega
        have hIk := (hWt.fr0 hF).2 k hk
        refine V_callF (st := [.ref (ti2)]) (nn := 1) F dX2_copy_32 ⟨lw_F q1243 q473 q475 q111 q477, ⟨q472, List.mem_append_left _ q471, q476, q474, q387⟩, (by decide +kernel), (by decide +kernel)⟩ (ct_AL_get (hWt.fr0 hF).1 (k := k) (by omega) (by omega)) (hWt.fr0 hF).1.isC rfl rfl (Nat.le_of_ble_eq_true rfl) (Nat.le_of_ble_eq_true rfl) (Nat.le_of_ble_eq_true rfl) (by omega) (by omega) ?_
        refine PRk ?_
        refine V_ckS F dX2_copy_37 q1244 ⟨27, _, _, _, rfl, hIk⟩ ?_
        refine VV.bs (fun hB9 => ?_)
        refine V_callF (st := []) (nn := 1) F dX2_copy_40 ⟨lw_F q2276 q1176 q1178 q111 q1180, ⟨q1175, List.mem_append_left _ q1174, q1179, q1177, q387⟩, (by decide +kernel), (by decide +kernel)⟩ (ct_AL_add hA (isO_int hIk) (by omega)) hA.isC rfl rfl (Nat.le_of_ble_eq_true rfl) (Nat.le_of_ble_eq_true rfl) (Nat.le_of_ble_eq_true rfl) (by omega) (by omega) ?_
        rintro _ h4 ⟨rfl, tia4, hA4, hx4, hq4⟩
        have hF4 : Fr nM h h4 := hF.cal hx4 (Yo.m2 (Or.inr hti) (Or.inr hta))
        have hof := fun k hk => offK.al (S := kO k) hA hB9 (fun _ => kO_ne hk) (fun _ _ _ => rfl)
        have hq4b := hx4.get hq ((hof 2 (by decide)).o hq) rfl
        have hta4 := hF.ar2 hta hq4
        have hMs4 := hMs.frk hx4 (hof 23 (by decide)) (hof 24 (by decide))
        have hMb4 := hMb.frk hx4 (hof 23 (by decide)) (hof 24 (by decide))
        rw [up_id] at hA4
        refine V_pop F dX2_copy_45 rfl ?_
        refine V_iinc (i := 2) (v := nI (k + 1)) F dX2_copy_46 rfl (nI_add (k) 1) (Nat.le_of_ble_eq_true rfl) ?_
        refine V_goto (tgt := 10) F dX2_copy_49 (by decide) ?_
        refine VV.weak (L' := [some (.ref (r)), some (.ref (q)), some (.int (nI (k + 1))), none]) (LW.c1 (LW.c1 (LW.c1 (LW.c0 LW.nil)))) ?_
        exact VV.wide (by omega) (by omega) (ih_10 (k + 1) tia4 _ (by omega) (by omega) hq4b hA4 hta4 hMs4 hMb4 hF4)
  refine VV.weak (L' := [some (.ref (r)), some (.ref (q)), some (.int (nI (0))), none]) (LW.c1 (LW.c1 (LW.c1 (LW.c0 LW.nil)))) ?_
  refine VV.bs (fun hB1 => ?_)
  exact VV.wide (by omega) (by omega) (loop_10 (g 0 + 1) 0 (ad G 1) _ (by omega) (Nat.zero_le _) hq1 hAt1 (hF1.none (F.hb1 hB1)) hMs1 hMb1 hF1)
