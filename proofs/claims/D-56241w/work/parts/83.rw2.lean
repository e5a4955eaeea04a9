theorem ALs.fr1 {G : GG} {h h2 : AH} {a ar mc n it c : Nat} {f : Nat → Nat} {fs : List Value} (hA : ALs G h a ar mc n f) (hx : Fr (m1 it) h h2) (hi : h it = some (.inr (c, fs))) (hc : c ≠ 18) : ALs G h2 a ar mc n f := hA.frQ hx (fun q => ne_oo hA.1 hi (Ne.symm hc) q) (fun _ _ z q => ne_ao z hi q)
theorem BKS.fr1 {G : GG} {h h2 : AH} {a ar it c : Nat} {f : Nat → Nat} {fs : List Value} {g : Nat → Nat} {S : List Nat} (hA : BKS G h a ar g S f) (hx : Fr (m1 it) h h2) (hi : h it = some (.inr (c, fs))) (hc : c ≠ 18) (h11 : c ≠ 11) : BKS G h2 a ar g S f := hA.fr hx (fun q => ne_oo hA.1.1 hi (Ne.symm hc) q) (fun _ _ z q => ne_ao z hi q) (offK.m1 hi (kO_ne h11))
/-- the bookings of a train, in the order of their first stops -/
def BOS (g : Nat → Nat) (t : Nat) (S : List Nat) : Prop := S.Perm ((List.range (g 3)).filter (fun k => decide (g (264 + 4 * k + 1) = t))) ∧ S.Pairwise (boLe g)
theorem BOS.lt {g : Nat → Nat} {t : Nat} {S : List Nat} (h : BOS g t S) {k : Nat} (hk : k ∈ S) : k < g 3 ∧ g (264 + 4 * k + 1) = t := by
  have z := List.mem_filter.mp (h.1.subset hk)
  exact ⟨List.mem_range.mp z.1, of_decide_eq_true z.2⟩
theorem BOS.len {g : Nat → Nat} {t : Nat} {S : List Nat} (h : BOS g t S) : S.length ≤ g 3 := by
  have z1 := h.1.length_eq
  have z2 := List.length_filter_le (fun k => decide (g (264 + 4 * k + 1) = t)) (List.range (g 3))
  rw [List.length_range] at z2
  omega
/-- all berths given -/
def BGV (g : Nat → Nat) (t : Nat) (S : List Nat) (N : Nat → Nat) (nd : Nat) : Prop := BOS g t S ∧ (∀ k, k < S.length → mexB g S N k (N k)) ∧ NDm N S.length nd
theorem ct_RW_berths {G : GG} {l : Launch} {h : AH} {r ti tia : Nat} {tf : Nat → Nat} {tt tl ta : Nat} {x : Nat → Nat} {A : Nat → Nat → Nat} {sm smc : Nat} {sA sK sV : Nat → Nat} {bm bmc : Nat} {bA bK bV : Nat → Nat} {g : Nat → Nat} {t : Nat}  (hW : RW G h r ((ti, tia, tf), (tt, tl, ta, x, A), (sm, smc, sA, sK, sV), (bm, bmc, bA, bK, bV)) g) (hI : GW g) (ht : t < g 1) : Ct G l yX2_berths cX2_berths 5 (some (.object "SleeperRailway$Berths")) 12 (370) (2100) [.ref r, .int (nI t)] h (fun r h2 => ∃ b so nu ar nar S f N fN nd, r = some (.ref b) ∧ h b = none ∧ h2 b = some (.inr (13, [.ref so, .ref nu, .int (nI nd)])) ∧ BGV g t S N nd ∧ BKS G h2 so ar g S f ∧ ALs G h2 nu nar S.length S.length fN ∧ (∀ i, i < S.length → IV G h2 (fN i) (nI (N i))) ∧ (∀ i, i < S.length → f i = bV (S.getD i 0)) ∧ Fr nM h h2) := by
  refine Ct.of (by decide) (Nat.le_of_ble_eq_true rfl) (cat1 rfl) (fun X hXl F HN => ?_)
  subst hXl
  obtain ⟨hr, hWt, hWr, hWs, hWb⟩ : h r = some (.inr (2, [.ref ti, .ref tt, .ref sm, .ref bm, .int (nI (g 4)), .int (nI (g 5)), .int (nI (g 6)), .int (nI (g 7))])) ∧ RWt G h (ti, tia, tf) g ∧ RWr G h (tt, tl, ta, x, A) g ∧ RWs G h (sm, smc, sA, sK, sV) g ∧ RWb G h (bm, bmc, bA, bK, bV) g := id hW
  have h10 := hI.2.2.2.2.1
  have ht6 := hI.t6 ht
  refine VV.bs (fun hB0 => ?_)
  refine V_new F dX2_berths_0 nw_X2_247 (by first | exact Nat.le_of_ble_eq_true rfl | omega) (by first | exact Nat.le_of_ble_eq_true rfl | omega) ?_
  intro b hfb hbb
  refine V_dup F dX2_berths_3 rfl ?_
  refine V_callIN (st := [.ref (b)]) (nn := 0) F dX2_berths_4 lk_X2_249 q1862 rfl (ct_BE_init (hset_self (e := .inr (13, [.null, .null, .int 0])))) rfl rfl (Nat.le_of_ble_eq_true rfl) (Nat.le_of_ble_eq_true rfl) (Nat.le_of_ble_eq_true rfl) (by first | exact Nat.le_of_ble_eq_true rfl | omega) (by first | exact Nat.le_of_ble_eq_true rfl | omega) ?_
  rintro _ h1 ⟨rfl, so, nu, hne, hso0, hnu0, hb1, hAs, hAn, hx1⟩
  have hfr0 := ((Fr.rf (M := nM) (h := h)).nw (x := .inr (13, [.null, .null, .int 0])) hfb)
  have hF1 : Fr nM h h1 := hfr0.cal hx1 (Yo.m1 (Or.inr hfb))
  have hso := hfr0.none hso0
  have hnu := hfr0.none hnu0
  have hr1 := hF1.get hr id rfl
  refine V_astore_n (i := 2) F dX2_berths_7 rfl (Nat.le_of_ble_eq_true rfl) (Nat.le_of_ble_eq_true rfl) ?_
  refine V_aload_n (i := 0) F dX2_berths_8 rfl rfl ?_
  refine V_getf F dX2_berths_9 fc_X2_32_X2 (.inl hr1) rfl ?_
  refine V_callV (st := []) (nn := 0) F dX2_berths_12 lk_X2_56 (ct_TM_values (hWb.1.fr0 hF1)) (hWb.1.fr0 hF1).isC rfl rfl (Nat.le_of_ble_eq_true rfl) (Nat.le_of_ble_eq_true rfl) (Nat.le_of_ble_eq_true rfl) (by first | exact Nat.le_of_ble_eq_true rfl | omega) (by first | exact Nat.le_of_ble_eq_true rfl | omega) ?_
  rintro _ hY1 ⟨v, rfl, hv, hM2, hx2⟩
  have p3 := hx2.get hr1 id rfl
  have p4 := hx2.get hb1 id rfl
  have f5 : Fr nM h hY1 := hF1.cal0 hx2
  refine V_callF (st := []) (nn := 0) F dX2_berths_15 ⟨lw_F q1894 q1974 q1976 q132 q1978, ⟨q1896, List.mem_append_left _ q1895, q1977, q1975, q1973⟩, (by decide +kernel), (by decide +kernel)⟩ (ct_Values_iterator hM2 hv) ⟨25, _, _, _, rfl, (.inl hv)⟩ rfl rfl (Nat.le_of_ble_eq_true rfl) (Nat.le_of_ble_eq_true rfl) (Nat.le_of_ble_eq_true rfl) (by first | exact Nat.le_of_ble_eq_true rfl | omega) (by first | exact Nat.le_of_ble_eq_true rfl | omega) ?_
  rintro _ hY6 ⟨it, rfl, hit1, hbit, hIt, hx7⟩
  have hit0 := f5.none hit1
  have p8 := hx7.get p3 id rfl
  have p9 := hx7.get p4 id rfl
  have p10 := hx7.get hv id rfl
  have f11 : Fr nM h hY6 := f5.cal0 hx7
  refine V_astore_n (i := 3) F dX2_berths_20 rfl (Nat.le_of_ble_eq_true rfl) (Nat.le_of_ble_eq_true rfl) ?_
  have loop_21 : ∀ (nn : Nat) (i ar : Nat) (S : List Nat) (f : Nat → Nat) (hh : AH), g 3 - i < nn → i ≤ g 3 → VIT 28 hh it bm bmc (g 3) i bA → hh b = some (.inr (13, [.ref so, .ref nu, .int (nI 0)])) → BKS G hh so ar g S f → ALs G hh nu (ad G 1) 0 0 (fun _ => 0) → h ar = none → S.Perm ((List.range i).filter (fun k => decide (g (264 + 4 * k + 1) = t))) → S.Pairwise (boLe g) → (∀ j, j < S.length → f j = bV (S.getD j 0)) → Fr nM h hh → VV G X 5 ((EQ G X (370) (2100) (fun r h2 => ∃ b so nu ar nar S f N fN nd, r = some (.ref b) ∧ h b = none ∧ h2 b = some (.inr (13, [.ref so, .ref nu, .int (nI nd)])) ∧ BGV g t S N nd ∧ BKS G h2 so ar g S f ∧ ALs G h2 nu nar S.length S.length fN ∧ (∀ i, i < S.length → IV G h2 (fN i) (nI (N i))) ∧ (∀ i, i < S.length → f i = bV (S.getD i 0)) ∧ Fr nM h h2))) hh (10 + 1 * i) (40 + 30 * i) [some (.ref (r)), some (.int (nI (t))), some (.ref (b)), some (.ref (it)), none] [] 21 := by
    intro nn
    induction nn with
    | zero => intro i ar S f hh hm hi9 hI3 hb hB hn har hPm hSo hfV hF; exact absurd hm (by omega)
    | succ nn ih_21 =>
      intro i ar S f hh hm hi9 hI3 hb hB hn har hPm hSo hfV hF
      have hSl : S.length ≤ i := by
        have z1 := hPm.length_eq
        have z2 := List.length_filter_le (fun k => decide (g (264 + 4 * k + 1) = t)) (List.range i)
        rw [List.length_range] at z2; omega
      have hbmc := hWb.2.1
      have hg5 := hI.b 5
      refine V_aload_n (i := 3) F dX2_berths_21 rfl rfl ?_
      refine V_callF (st := []) (nn := 0) F dX2_berths_22 ⟨lw_F q2028 q863 q859 q139 q861, ⟨q460, List.mem_append_left _ q459, q860, q864, q862⟩, (by decide +kernel), (by decide +kernel)⟩ (ct_VI_hasNext (K := bK) (V := bV) hI3) hI3.isC28 rfl rfl (Nat.le_of_ble_eq_true rfl) (Nat.le_of_ble_eq_true rfl) (Nat.le_of_ble_eq_true rfl) (by first | exact Nat.le_of_ble_eq_true rfl | omega) (by first | exact Nat.le_of_ble_eq_true rfl | omega) ?_
      refine PRk ?_
      refine V_if_eqB (tgt := 59) F dX2_berths_27 (by decide) (fun c_27 => ?_) (fun c_27 => ?_)
      · refine V_aload_n (i := 2) F dX2_berths_59 rfl rfl ?_
        have hie : i = g 3 := by omega
        subst hie
        refine VV.wide (k' := 20) (n' := 340) (by omega) (by omega) ?_
        refine V_callV (st := []) (nn := 0) F dX2_berths_60 lk_X2_253 (ct_BE_give hb hB hn hne (by omega) hI.b) ⟨13, _, _, _, rfl, (.inl hb)⟩ rfl rfl (Nat.le_of_ble_eq_true rfl) (Nat.le_of_ble_eq_true rfl) (Nat.le_of_ble_eq_true rfl) (by first | exact Nat.le_of_ble_eq_true rfl | omega) (by first | exact Nat.le_of_ble_eq_true rfl | omega) ?_
        rintro _ h6 ⟨rfl, N, fN, nd, nar, hb6, hmex, hnd, hnu6, hIN, hB6, hx6⟩
        exact V_aret F dX2_berths_63 (Or.inl ⟨_, rfl⟩) (Or.inr ⟨_, rfl⟩) (by first | exact Nat.le_of_ble_eq_true rfl | omega) (by first | exact Nat.le_of_ble_eq_true rfl | omega) ⟨b, so, nu, ar, nar, S, f, N, fN, nd, rfl, hfb, hb6, ⟨⟨hPm, hSo⟩, hmex, hnd⟩, hB6, hnu6, hIN, hfV, hF.cal hx6 (Yo.m2 (Or.inr hfb) (Or.inr hnu))⟩
      · have hi : i < g 3 := c_27
        refine V_aload_n (i := 3) F dX2_berths_30 rfl rfl ?_
        refine V_callF (st := []) (nn := 0) F dX2_berths_31 ⟨lw_F q2030 q1136 q1138 q141 q1140, ⟨q868, List.mem_append_left _ q867, q1139, q1137, q862⟩, (by decide +kernel), (by decide +kernel)⟩ (ct_VI_next (hWb.1.fr0 hF) hI3 (by omega) hi) hI3.isC28 rfl rfl (Nat.le_of_ble_eq_true rfl) (Nat.le_of_ble_eq_true rfl) (Nat.le_of_ble_eq_true rfl) (by first | exact Nat.le_of_ble_eq_true rfl | omega) (by first | exact Nat.le_of_ble_eq_true rfl | omega) ?_
        rintro _ h3 ⟨rfl, hI4, hx3⟩
        have hF3 : Fr nM h h3 := hF.cal hx3 (Yo.m1 (Or.inr hit0))
        obtain ⟨lr, hci⟩ := id hI3
        have hb3 := hx3.get hb (fun z => ne_oo hb hci (by decide) z) rfl
        have hB3 := hB.fr1 hx3 hci (by decide) (by decide)
        have hn3 := hn.fr1 hx3 hci (by decide)
        have hbk := ((hWb.fr0 hF3).2.2 i hi).2
        refine V_ckS F dX2_berths_36 q2031 ⟨11, _, _, _, rfl, (.inl hbk)⟩ ?_
        refine V_astore (i := 4) F dX2_berths_39 (Nat.le_of_ble_eq_true rfl) (Nat.le_of_ble_eq_true rfl) ?_
        refine V_aload (i := 4) F dX2_berths_41 rfl ?_
        refine V_getn F dX2_berths_43 fc_X2_239_X14 (.inl hbk) rfl ?_
        refine V_iload_n (i := 1) F dX2_berths_46 rfl rfl ?_
        refine V_icmp_neN (tgt := 56) F dX2_berths_47 (by decide) (Nat.lt_trans (hI.b _) (by decide)) (by omega) (fun c_47 => ?_) (fun c_47 => ?_)
        · refine V_goto (tgt := 21) F dX2_berths_56 (by decide) ?_
          refine VV.weak (L' := [some (.ref (r)), some (.int (nI (t))), some (.ref (b)), some (.ref (it)), none]) (LW.c1 (LW.c1 (LW.c1 (LW.c1 (LW.c0 LW.nil))))) ?_
          refine VV.wide (by omega) (by omega) (ih_21 (i + 1) ar S f _ (by omega) (by omega) hI4 hb3 hB3 hn3 har ?_ hSo hfV hF3)
          · rw [List.range_succ, List.filter_append]
            have e1 : ([i].filter (fun k => decide (g (264 + 4 * k + 1) = t))) = [] := by rw [List.filter_cons, if_neg (by rw [decide_eq_true_eq]; omega)]; rfl
            rw [e1, List.append_nil]
            exact hPm
        · refine V_aload_n (i := 2) F dX2_berths_50 rfl rfl ?_
          refine V_aload (i := 4) F dX2_berths_51 rfl ?_
          refine VV.bs (fun hB9 => ?_)
          refine V_callV (st := []) (nn := 1) F dX2_berths_53 lk_X2_250 (ct_BE_add hb3 hbk hB3 (by omega) hI.b) ⟨13, _, _, _, rfl, (.inl hb3)⟩ rfl rfl (Nat.le_of_ble_eq_true rfl) (Nat.le_of_ble_eq_true rfl) (Nat.le_of_ble_eq_true rfl) (by first | exact Nat.le_of_ble_eq_true rfl | omega) (by first | exact Nat.le_of_ble_eq_true rfl | omega) ?_
          rintro _ h5 ⟨rfl, at0, ar2, hat, hB5, hle, hlt, hx5, hq5⟩
          have hF5 : Fr nM h h5 := hF3.cal hx5 (Yo.m2 (Or.inr hso) (Or.inr har))
          have hof := fun k hk => offK.al (S := kO k) hB3.1 hB9 (fun _ => kO_ne hk) (fun _ _ _ => rfl)
          have hb5 := hx5.get hb3 ((hof 13 (by decide)).o hb3) rfl
          have hI5 := hI4.fr hx5 (hI4.elim (fun _ q => (hof 28 (by decide)).o q)) (Or.inl rfl)
          have hn5 := hn3.frQ hx5 (fun z => z.elim (fun z => hne z.symm) (fun z => al_ne_ar hn3 hB3.1 hB9 z)) (fun c f2 z => by rw [F.hb1 hB9] at z; cases z)
          have har5 := hF3.ar2 har hq5
          refine V_goto (tgt := 21) F dX2_berths_56 (by decide) ?_
          refine VV.weak (L' := [some (.ref (r)), some (.int (nI (t))), some (.ref (b)), some (.ref (it)), none]) (LW.c1 (LW.c1 (LW.c1 (LW.c1 (LW.c0 LW.nil))))) ?_
          refine VV.wide (by omega) (by omega) (ih_21 (i + 1) ar2 (S.take at0 ++ i :: S.drop at0) _ _ (by omega) (by omega) hI5 hb5 hB5 hn5 har5 ?_ ?_ ?_ hF5)
          · rw [List.range_succ, List.filter_append]
            have e1 : ([i].filter (fun k => decide (g (264 + 4 * k + 1) = t))) = [i] := by rw [List.filter_cons, if_pos (decide_eq_true (by omega))]; rfl
            rw [e1]
            exact ins_perm.trans ((List.Perm.cons _ hPm).trans (List.perm_append_comm (l₁ := [i])))
          · exact ins_sorted (d := 0) hat hSo (fun _ _ _ z1 z2 => by unfold boLe boLt at *; omega) hle (fun z => by have z2 := hlt z; unfold boLe boLt at *; omega)
          · intro j hj
            rw [ins_len hat] at hj
            rcases Nat.lt_trichotomy j at0 with q | q | q
            · rw [ins_l hat q, insF_l q]; exact hfV j (by omega)
            · subst q; rw [ins_e hat, insF_e]
            · rw [ins_g hat q, insF_g q]; exact hfV (j - 1) (by omega)
  refine VV.weak (L' := [some (.ref (r)), some (.int (nI (t))), some (.ref (b)), some (.ref (it)), none]) (LW.c1 (LW.c1 (LW.c1 (LW.c1 (LW.c0 LW.nil))))) ?_
  have hF9 := f11
  exact VV.wide (by omega) (by omega) (loop_21 (g 3 + 1) 0 (ad G 1) [] (fun _ => 0) _ (by omega) (Nat.zero_le _) hIt p9 (BKS.nil ((hAs.fr0 hx2).fr0 hx7)) ((hAn.fr0 hx2).fr0 hx7) (F.hb1 hB0) (List.Perm.refl _) List.Pairwise.nil (fun j hj => absurd hj (Nat.not_lt_zero j)) hF9)
