/-- what an object of journeys stands on, carried to a later heap -/
theorem jn_at {G : GG} {h0 h1 h : AH} {tt tl ta : Nat} {x : Nat → Nat} {A : Nat → Nat → Nat} {lg lar tr : Nat} {fl : Nat → Nat} {j eA rA a v : Nat} {g : Nat → Nat} (hR0 : RWr G h0 (tt, tl, ta, x, A) g) (hF0 : Fr nM h0 h1) (he0 : h0 eA = none) (hr0 : h0 rA = none) (hte : tr ≠ eA) (htr2 : tr ≠ rA) (hj1 : h1 j = some (jnE G tt lg tr a v eA rA)) (hLg1 : LGS G h1 lg lar g (lgL g) fl) (htr1 : h1 tr = some (iA G (g 0) (fun i => nI (g (8 + i))))) (heA1 : ∃ e0 : Nat → Nat, h1 eA = some (iA G (g 0) (fun i => nI (e0 i)))) (hrA1 : ∃ R0 : Nat → Nat, h1 rA = some (zA G 48 (fun i => nI (R0 i)))) (hx : Fr (m2 eA rA) h1 h) :
    RWr G h (tt, tl, ta, x, A) g ∧ h j = some (jnE G tt lg tr a v eA rA) ∧ LGS G h lg lar g (lgL g) fl ∧ h tr = some (iA G (g 0) (fun i => nI (g (8 + i)))) := by
  obtain ⟨e0, he⟩ := heA1
  obtain ⟨R0, hr⟩ := hrA1
  have hk : ∀ k, offK (m2 eA rA) h1 (kO k) := by
    intro k y e hy hs q
    rcases q with rfl | rfl
    · cases he.symm.trans hy; cases hs
    · cases hr.symm.trans hy; cases hs
  exact ⟨hR0.fr0 (hF0.cal hx (Yo.m2 (Or.inr he0) (Or.inr hr0))), hx.get hj1 ((hk 10).o hj1) rfl, hLg1.fr hx (fun q => q.elim (ne_oa hLg1.1.1 he) (ne_oa hLg1.1.1 hr)) (fun _ _ z q => q.elim (ne_qi z he) (ne_qi z hr)) (hk 5), hx.get htr1 (fun q => q.elim hte htr2) rfl⟩
theorem m3.k2 {G : GG} {h : AH} {pq ar rA k : Nat} {g R : Nat → Nat} {P : List (Nat × Nat)} (hE : EV G h pq ar g P) (hr : h rA = some (zA G 48 (fun i => nI (R i)))) (hk : k ≠ 31) : offK (m3 pq ar rA) h (kO k) := by
  obtain ⟨f, h1⟩ := hE.cell
  obtain ⟨n, u, h2⟩ := hE.arr
  exact m3.k h1 hk h2 hr
theorem oaS_R {g e : Nat → Nat} {a v s : Nat} {x : (Nat → Nat) × List (Nat × Nat)} {p : Nat × Nat} (h : ∀ i, x.1 i < 2) : ∀ i, (oaS g e a v s x p).1 i < 2 := by
  unfold oaS; split
  · exact ofS_R h
  · exact h
theorem oaF_R {g e : Nat → Nat} {a v s : Nat} : ∀ (L : List (Nat × Nat)) {x : (Nat → Nat) × List (Nat × Nat)}, (∀ i, x.1 i < 2) → ∀ i, (L.foldl (oaS g e a v s) x).1 i < 2
  | [], _, h => h
  | p :: L, _, h => oaF_R L (oaS_R h)

theorem ct_J_offerAll {G : GG} {l : Launch} {h : AH} {h0 h1 : AH} {tt tl ta : Nat} {x : Nat → Nat} {A : Nat → Nat → Nat} {lg lar tr : Nat} {fl : Nat → Nat} {j eA rA a v pq ar : Nat} {g e R : Nat → Nat} {P : List (Nat × Nat)} {s0 : Nat}  (hR0 : RWr G h0 (tt, tl, ta, x, A) g) (hF0 : Fr nM h0 h1) (he0 : h0 eA = none) (hr0 : h0 rA = none) (her : eA ≠ rA) (hte : tr ≠ eA) (htr2 : tr ≠ rA) (hj1 : h1 j = some (jnE G tt lg tr a v eA rA)) (hLg1 : LGS G h1 lg lar g (lgL g) fl) (htr1 : h1 tr = some (iA G (g 0) (fun i => nI (g (8 + i))))) (hI : GW g) (ha31 : a < 2 ^ 31) (hv : v ≤ 9999) (hpq1 : h1 pq = none) (heA1 : ∃ e0 : Nat → Nat, h1 eA = some (iA G (g 0) (fun i => nI (e0 i)))) (hrA1 : ∃ R0 : Nat → Nat, h1 rA = some (zA G 48 (fun i => nI (R0 i)))) (hF1 : Fr (m2 eA rA) h1 h) (heA : h eA = some (iA G (g 0) (fun i => nI (e i)))) (hrA : h rA = some (zA G 48 (fun i => nI (R i)))) (heM : ∀ i, e i ≤ 1000000) (hRM : ∀ i, R i < 2) (har1 : h1 ar = none) (hE : EV G h pq ar g P) (hs31 : s0 < 2 ^ 31) (hrc : P.length ≤ rcN g R) : Ct G l yX12_offerAll cX12_offerAll 5 none 10 (1 + 2 * (rcN g ((lgL g).foldl (oaS g e a v s0) (R, P)).1 - rcN g R)) (4 + 100 * (rcN g ((lgL g).foldl (oaS g e a v s0) (R, P)).1 - rcN g R)) [.ref j, .ref pq, .int (nI s0)] h (fun r h2 => r = none ∧ ∃ ar2, h1 ar2 = none ∧ EV G h2 pq ar2 g ((lgL g).foldl (oaS g e a v s0) (R, P)).2 ∧ h2 rA = some (zA G 48 (fun i => nI (((lgL g).foldl (oaS g e a v s0) (R, P)).1 i))) ∧ h2 eA = some (iA G (g 0) (fun i => nI (e i))) ∧ Fr (m2 eA rA) h1 h2 ∧ Fr (m3 pq ar rA) h h2) := by
  refine Ct.of (by decide) (Nat.le_of_ble_eq_true rfl) (cat1 rfl) (fun X hXl F HN => ?_)
  subst hXl
  obtain ⟨-, hj, hLg, -⟩ := jn_at hR0 hF0 he0 hr0 hte htr2 hj1 hLg1 htr1 heA1 hrA1 hF1
  refine V_aload_n (i := 0) F dX12_offerAll_0 rfl rfl ?_
  refine V_getf F dX12_offerAll_1 fc_X12_15_X12 (.inl hj) rfl ?_
  refine V_callF (st := []) (nn := 0) F dX12_offerAll_4 ⟨lw_F q1323 q1326 q1328 q111 q1330, ⟨q1325, List.mem_append_left _ q1324, q1329, q1327, q387⟩, (by decide +kernel), (by decide +kernel)⟩ (ct_AL_iterator hLg.1) (hLg.1).isC rfl rfl (Nat.le_of_ble_eq_true rfl) (Nat.le_of_ble_eq_true rfl) (Nat.le_of_ble_eq_true rfl) (by first | exact Nat.le_of_ble_eq_true rfl | omega) (by first | exact Nat.le_of_ble_eq_true rfl | omega) ?_
  rintro _ hY1 ⟨it, rfl, hit1, hbit, hIt, hx2⟩
  have hit0 := (Fr.rf (M := nM) (h := h)).none hit1
  have p3 := hx2.get hj id rfl
  have f4 : Fr nM h hY1 := (Fr.rf (M := nM) (h := h)).cal0 hx2
  refine V_astore_n (i := 3) F dX12_offerAll_9 rfl (Nat.le_of_ble_eq_true rfl) (Nat.le_of_ble_eq_true rfl) ?_
  have loop_10 : ∀ (nn : Nat) (i ar2 : Nat) (R2 : Nat → Nat) (P2 : List (Nat × Nat)) (hh : AH), (lgL g).length - i < nn → i ≤ (lgL g).length → ITR hh it lg i (lgL g).length → EV G hh pq ar2 g P2 → h1 ar2 = none → Yo (m3 pq ar rA) h ar2 → hh eA = some (iA G (g 0) (fun i => nI (e i))) → hh rA = some (zA G 48 (fun i => nI (R2 i))) → Fr (m2 eA rA) h1 hh → Fr (m3 pq ar rA) h hh → (∀ i, R2 i < 2) → P2.length ≤ rcN g R2 → rcN g R ≤ rcN g R2 → ((lgL g).take i).foldl (oaS g e a v s0) (R, P) = (R2, P2) → VV G X 5 ((EQ G X (1 + 2 * (rcN g ((lgL g).foldl (oaS g e a v s0) (R, P)).1 - rcN g R)) (4 + 100 * (rcN g ((lgL g).foldl (oaS g e a v s0) (R, P)).1 - rcN g R)) (fun r h2 => r = none ∧ ∃ ar2, h1 ar2 = none ∧ EV G h2 pq ar2 g ((lgL g).foldl (oaS g e a v s0) (R, P)).2 ∧ h2 rA = some (zA G 48 (fun i => nI (((lgL g).foldl (oaS g e a v s0) (R, P)).1 i))) ∧ h2 eA = some (iA G (g 0) (fun i => nI (e i))) ∧ Fr (m2 eA rA) h1 h2 ∧ Fr (m3 pq ar rA) h h2))) hh (1 + 2 * (rcN g R2 - rcN g R)) (4 + 100 * (rcN g R2 - rcN g R)) [some (.ref (j)), some (.ref (pq)), some (.int (nI (s0))), some (.ref (it)), none] [] 10 := by
    intro nn
    induction nn with
    | zero => intro i ar2 R2 P2 hh hm hi9 hI3 hE2 har2 harY heA2 hrA2 hFa hFb hRM2 hP44 hrm hfo; exact absurd hm (by omega)
    | succ nn ih_10 =>
      intro i ar2 R2 P2 hh hm hi9 hI3 hE2 har2 harY heA2 hrA2 hFa hFb hRM2 hP44 hrm hfo
      have h42 := lgL_len hI
      have hrm7 : rcN g R2 ≤ rcN g ((lgL g).foldl (oaS g e a v s0) (R, P)).1 := oaF_at hfo
      obtain ⟨-, hjn, hLn, htn⟩ := jn_at hR0 hF0 he0 hr0 hte htr2 hj1 hLg1 htr1 heA1 hrA1 hFa
      obtain ⟨lr3, hit3⟩ := id hI3
      obtain ⟨fE2, hE2c⟩ := hE2.cell
      obtain ⟨nE2, uE2, hE2a⟩ := hE2.arr
      have hjit := ne_oo hjn hit3 (by decide)
      have heit := ne_ao heA2 hit3
      have hrit := ne_ao hrA2 hit3
      have htit := ne_ao htn hit3
      refine V_aload_n (i := 3) F dX12_offerAll_10 rfl rfl ?_
      refine V_callF (st := []) (nn := 0) F dX12_offerAll_11 ⟨lw_F q1436 q832 q834 q133 q836, ⟨q460, List.mem_append_left _ q459, q835, q833, q831⟩, (by decide +kernel), (by decide +kernel)⟩ (ct_Itr_hasNext hLn.1 hI3 (by omega) hi9) hI3.isC rfl rfl (Nat.le_of_ble_eq_true rfl) (Nat.le_of_ble_eq_true rfl) (Nat.le_of_ble_eq_true rfl) (by first | exact Nat.le_of_ble_eq_true rfl | omega) (by first | exact Nat.le_of_ble_eq_true rfl | omega) ?_
      refine PRk ?_
      refine V_if_eqB (tgt := 58) F dX12_offerAll_16 (by decide) (fun c_16 => ?_) (fun c_16 => ?_)
      · have hie : i = (lgL g).length := by omega
        rw [hie, List.take_length] at hfo
        exact V_vret F dX12_offerAll_58 (by first | exact Nat.le_of_ble_eq_true rfl | omega) (by first | exact Nat.le_of_ble_eq_true rfl | omega) ⟨rfl, ar2, har2, by rw [hfo]; exact hE2, by rw [hfo]; exact hrA2, heA2, hFa, hFb⟩
      · have hi : i < (lgL g).length := c_16
        refine V_aload_n (i := 3) F dX12_offerAll_19 rfl rfl ?_
        refine V_callF (st := []) (nn := 0) F dX12_offerAll_20 ⟨lw_F q1438 q1072 q1074 q133 q1076, ⟨q868, List.mem_append_left _ q867, q1075, q1073, q831⟩, (by decide +kernel), (by decide +kernel)⟩ (ct_Itr_next hLn.1 hI3 (by omega) (by omega) hi) hI3.isC rfl rfl (Nat.le_of_ble_eq_true rfl) (Nat.le_of_ble_eq_true rfl) (Nat.le_of_ble_eq_true rfl) (by first | exact Nat.le_of_ble_eq_true rfl | omega) (by first | exact Nat.le_of_ble_eq_true rfl | omega) ?_
        rintro _ h3 ⟨rfl, hI4, hx3⟩
        have p1 := hx3.get hjn (fun z => hjit z) rfl
        have p2 := hx3.get heA2 (fun z => heit z) rfl
        have p3 := hx3.get hrA2 (fun z => hrit z) rfl
        have p4 := hx3.get htn (fun z => htit z) rfl
        have f5 : Fr ((m3 it it it)) hh h3 := (Fr.rf (M := (m3 it it it)) (h := hh)).cal hx3 (Yo.m1 (Or.inl (Or.inl rfl)))
        have hq := hLn.2 i hi
        obtain ⟨hu, hk⟩ := lgL_at hi
        have hs8 := (hI.st hu).2
        generalize hp0 : (lgL g).getD i (0, 0) = pq0 at hq hu hk hs8
        obtain ⟨u, k⟩ := pq0
        have hq : hh (fl i) = some (LgE g u k) := hq
        have hu : u < g 1 := hu
        have hk : k < g (16 + 36 * u + 3) - 1 := hk
        have hs8 : g (16 + 36 * u + 3) ≤ 8 := hs8
        have hu6 := hI.t6 hu
        generalize hfq : fl i = q at hq
        have hq := hx3.get hq (ne_oo hq hit3 (by decide)) rfl
        have hE3 := hE2.fr hx3 (ne_oo hE2c hit3 (by decide)) (ne_ao hE2a hit3) (offK.m1 hit3 (kO_ne (by decide))) (offK.m1 hit3 (kO_ne (by decide)))
        have hFc : Fr (m2 eA rA) h1 h3 := hFa.cal hx3 (Yo.m1 (Or.inr (hF1.none hit0)))
        obtain ⟨hRn, -, -, -⟩ := jn_at hR0 hF0 he0 hr0 hte htr2 hj1 hLg1 htr1 heA1 hrA1 hFc
        refine VV.stk (st' := [.ref (q)]) rfl ?_
        refine V_ckS F dX12_offerAll_25 q1439 ⟨5, _, _, _, rfl, (.inl hq)⟩ ?_
        refine V_astore (i := 4) F dX12_offerAll_28 (Nat.le_of_ble_eq_true rfl) (Nat.le_of_ble_eq_true rfl) ?_
        refine V_aload (i := 4) F dX12_offerAll_30 rfl ?_
        refine V_callV (st := []) (nn := 0) F dX12_offerAll_32 lk_X12_50 (ct_Leg_from hq) ⟨5, _, _, _, rfl, (.inl hq)⟩ rfl rfl (Nat.le_of_ble_eq_true rfl) (Nat.le_of_ble_eq_true rfl) (Nat.le_of_ble_eq_true rfl) (by first | exact Nat.le_of_ble_eq_true rfl | omega) (by first | exact Nat.le_of_ble_eq_true rfl | omega) ?_
        refine PRk ?_
        refine V_iload_n (i := 2) F dX12_offerAll_35 rfl rfl ?_
        refine V_icmp_neN (tgt := 55) F dX12_offerAll_36 (by decide) (Nat.lt_trans (hI.b _) (by decide)) hs31 (fun c_36 => ?_) (fun c_36 => ?_)
        · refine V_goto (tgt := 10) F dX12_offerAll_55 (by decide) ?_
          refine VV.weak (L' := [some (.ref (j)), some (.ref (pq)), some (.int (nI (s0))), some (.ref (it)), none]) (LW.c1 (LW.c1 (LW.c1 (LW.c1 (LW.c0 LW.nil))))) ?_
          have hst : (oaS g e a v s0 (R2, P2) (u, k)) = (R2, P2) := if_neg (fun z => c_36 z.1)
          have hFe : Fr (m3 pq ar rA) h h3 := hFb.cal hx3 (Yo.m1 (Or.inr hit0))
          exact VV.wide (by omega) (by omega) (ih_10 (i + 1) ar2 R2 P2 _ (by omega) (by omega) hI4 hE3 har2 harY p2 p3 hFc hFe hRM2 hP44 hrm (by rw [foldl_take (d := (0, 0)) hi, hfo, hp0]; exact hst))
        · refine V_aload_n (i := 0) F dX12_offerAll_39 rfl rfl ?_
          refine V_aload (i := 4) F dX12_offerAll_40 rfl ?_
          refine V_callV (st := []) (nn := 1) F dX12_offerAll_42 lk_X12_79 (ct_J_canBoard p1 p2 p4 hq (hI.pl hu (by omega)) hI.b.lt (Nat.lt_trans (LvG_31 hI.b (by omega)) (by decide)) ha31 (by omega) heM hI.b) ⟨10, _, _, _, rfl, (.inl p1)⟩ rfl rfl (Nat.le_of_ble_eq_true rfl) (Nat.le_of_ble_eq_true rfl) (Nat.le_of_ble_eq_true rfl) (by first | exact Nat.le_of_ble_eq_true rfl | omega) (by first | exact Nat.le_of_ble_eq_true rfl | omega) ?_
          refine PRk ?_
          refine V_if_eqB (tgt := 55) F dX12_offerAll_45 (by decide) (fun c_45 => ?_) (fun c_45 => ?_)
          · refine V_goto (tgt := 10) F dX12_offerAll_55 (by decide) ?_
            refine VV.weak (L' := [some (.ref (j)), some (.ref (pq)), some (.int (nI (s0))), some (.ref (it)), none]) (LW.c1 (LW.c1 (LW.c1 (LW.c1 (LW.c0 LW.nil))))) ?_
            have hst : (oaS g e a v s0 (R2, P2) (u, k)) = (R2, P2) := if_neg (fun z => c_45 z.2)
            have hFe : Fr (m3 pq ar rA) h h3 := hFb.cal hx3 (Yo.m1 (Or.inr hit0))
            exact VV.wide (by omega) (by omega) (ih_10 (i + 1) ar2 R2 P2 _ (by omega) (by omega) hI4 hE3 har2 harY p2 p3 hFc hFe hRM2 hP44 hrm (by rw [foldl_take (d := (0, 0)) hi, hfo, hp0]; exact hst))
          · refine V_aload_n (i := 0) F dX12_offerAll_48 rfl rfl ?_
            refine V_aload_n (i := 1) F dX12_offerAll_49 rfl rfl ?_
            refine V_aload (i := 4) F dX12_offerAll_50 rfl ?_
            have hst8 : (oaS g e a v s0 (R2, P2) (u, k)) = ofS g (R2, P2) (u, k) := if_pos ⟨by omega, c_45⟩
            have hrm9 := oaS_mono (g := g) (e := e) (a := a) (v := v) (s := s0) (x := (R2, P2)) (mem_lgL.mpr ⟨hu, hk⟩)
            have hrm8 := oaF_at (i := i + 1) (x := (R, P)) (y := oaS g e a v s0 (R2, P2) (u, k)) (by rw [foldl_take (d := (0, 0)) hi, hfo, hp0])
            rw [hst8] at hrm9 hrm8
            simp only at hrm9
            obtain ⟨fE3, hE3c⟩ := hE3.cell
            obtain ⟨nE3, uE3, hE3a⟩ := hE3.arr
            obtain ⟨lr4, hI4c⟩ := id hI4
            refine V_callV (st := []) (nn := 2) F dX12_offerAll_52 lk_X12_134 (ct_J_offer hRn hI p1 p3 hRM2 hq hu hk hE3 (by have := rcN_le (R := R2) hI; omega) hs8 hu6) ⟨10, _, _, _, rfl, (.inl p1)⟩ rfl rfl (Nat.le_of_ble_eq_true rfl) (Nat.le_of_ble_eq_true rfl) (Nat.le_of_ble_eq_true rfl) (by first | exact Nat.le_of_ble_eq_true rfl | omega) (by first | exact Nat.le_of_ble_eq_true rfl | omega) ?_
            rintro _ h9 ⟨rfl, ar9, ho9, hE9, hr9, hx9⟩
            have hk9 := fun k hk => m3.k2 (k := k) hE3 p3 hk
            have pe9 := hx9.get p2 (m3.no (ne_ao p2 hE3c) (ne_iq p2 hE3a) her) rfl
            refine V_goto (tgt := 10) F dX12_offerAll_55 (by decide) ?_
            refine VV.weak (L' := [some (.ref (j)), some (.ref (pq)), some (.int (nI (s0))), some (.ref (it)), none]) (LW.c1 (LW.c1 (LW.c1 (LW.c1 (LW.c0 LW.nil))))) ?_
            have hst : (oaS g e a v s0 (R2, P2) (u, k)) = ofS g (R2, P2) (u, k) := hst8
            rw [← hst] at hE9 hr9 hrm9 hrm8
            have hz9 := hE3c
            have hI5 := hI4.fr hx9 (m3.no (ne_oo hI4c hE3c (by decide)) (ne_oa hI4c hE3a) (ne_oa hI4c p3))
            have har9 : h1 ar9 = none := ho9.elim (fun z => z ▸ har2) (fun z => hFc.none z)
            have hFd : Fr (m2 eA rA) h1 h9 := hFc.cal hx9 (fun b z => z.elim (fun z => Or.inr (z ▸ hpq1)) (fun z => z.elim (fun z => Or.inr (z ▸ har2)) (fun z => Or.inl (Or.inr z))))
            have hFe : Fr (m3 pq ar rA) h h9 := (hFb.cal hx3 (Yo.m1 (Or.inr hit0))).cal hx9 (fun b z => z.elim (fun z => Or.inl (Or.inl z)) (fun z => z.elim (fun z => z ▸ harY) (fun z => Or.inl (Or.inr (Or.inr z)))))
            have harY9 : Yo (m3 pq ar rA) h ar9 := ho9.elim (fun z => z ▸ harY) (fun z => Or.inr ((hFb.cal hx3 (Yo.m1 (Or.inr hit0))).none z))
            exact VV.wide (by rw [hst]; rw [hst] at hrm9; omega) (by rw [hst]; rw [hst] at hrm9; omega) (ih_10 (i + 1) ar9 (oaS g e a v s0 (R2, P2) (u, k)).1 (oaS g e a v s0 (R2, P2) (u, k)).2 _ (by omega) (by omega) hI5 hE9 har9 harY9 pe9 hr9 hFd hFe (oaS_R hRM2) (oaS_rc (mem_lgL.mpr ⟨hu, hk⟩) hP44) (Nat.le_trans hrm hrm9) (by rw [foldl_take (d := (0, 0)) hi, hfo, hp0]))
  refine VV.weak (L' := [some (.ref (j)), some (.ref (pq)), some (.int (nI (s0))), some (.ref (it)), none]) (LW.c1 (LW.c1 (LW.c1 (LW.c1 (LW.c0 LW.nil))))) ?_
  have hFb0 : Fr (m3 pq ar rA) h hY1 := f4.mono (fun _ z => z.elim)
  have hE1 := hE.fr0 f4
  exact VV.wide (by omega) (by omega) (loop_10 ((lgL g).length + 1) 0 ar R P _ (by omega) (Nat.zero_le _) hIt hE1 har1 (Or.inl (Or.inr (Or.inl rfl))) (f4.get heA id rfl) (f4.get hrA id rfl) (hF1.cal0 f4) hFb0 hRM hrc (Nat.le_refl _) rfl)
