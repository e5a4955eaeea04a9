def kdCO (c : Nat) : String := if c = 1 then "element" else "state"
/-- the code of a collection, as the class has it -/
def ccCO (g : Nat → Nat) (p : Int32) : Nat := (fdO g 232 p (g 2)).elim 1 (fun k => if g (232 + 4 * k + 1) = g (232 + 4 * k + 2) then 0 else 2)
section CO
variable {g : Nat → Nat} {k i j : Nat}
theorem nxCO_2 : nxCO g k 2 = g 2 - 1 := by unfold nxCO; rw [up_n (by omega), dropN_lo (by omega), up_s]
theorem nxCO_7 : nxCO g k 7 = g 7 + 1 := by unfold nxCO; rw [up_s, dropN_lo (by omega), up_n (by omega)]
theorem nxCO_lo (h : i < 232) (h2 : i ≠ 2) (h7 : i ≠ 7) : nxCO g k i = g i := by unfold nxCO; rw [up_n h7, dropN_lo h, up_n h2]
theorem nxCO_hi (h8 : g 2 ≤ 8) (h1 : 1 ≤ g 2) (h : 264 ≤ i) : nxCO g k i = g i := by
  unfold nxCO dropN z1N d1N; rw [up_n (by omega), if_neg (by omega), if_neg (by omega), up_n (by omega)]
theorem nxCO_e (h8 : g 2 ≤ 8) (hi : i < g 2 - 1) (hj : j < 4) : nxCO g k (232 + 4 * i + j) = g (232 + 4 * sk k i + j) := by
  unfold nxCO dropN z1N d1N sk
  rw [up_n (by omega), if_neg (by omega)]
  by_cases e : i < k
  · rw [if_neg (by omega), if_pos e, up_n (by omega)]
  · rw [if_pos (by omega), if_neg e, up_n (by omega)]
    exact congrArg g (by omega)
end CO
theorem ct_RW_collect {G : GG} {l : Launch} {h : AH} {h0 : AH} {r ti tia : Nat} {tf : Nat → Nat} {tt tl ta : Nat} {x : Nat → Nat} {A : Nat → Nat → Nat} {sm smc : Nat} {sA sK sV : Nat → Nat} {bm bmc : Nat} {bA bK bV : Nat → Nat} {g : Nat → Nat} {p : Int32}  (hdem : DEM G l) (hW : RW G h r ((ti, tia, tf), (tt, tl, ta, x, A), (sm, smc, sA, sK, sV), (bm, bmc, bA, bK, bV)) g) (hO : RO G h0 r ((ti, tia, tf), (tt, tl, ta, x, A), (sm, smc, sA, sK, sV), (bm, bmc, bA, bK, bV)) g) (hI : GW g) (hid : ∀ i j, i < j → j < g 2 → g (232 + 4 * i + 0) < g (232 + 4 * j + 0)) : CtX G l yX2_collect cX2_collect 2 (some .int) 13 (8) (60) [.ref r, .int p] h (fun r0 h2 => ccCO g p = 0 ∧ ∃ k, fdO g 232 p (g 2) = some k ∧ r0 = some (.int (nI (g 2 - 1))) ∧ (∃ D2, RW G h2 r D2 (nxCO g k) ∧ RO G h0 r D2 (nxCO g k)) ∧ Fr (fH h0) h h2) (CFx G h (ccCO g p) kdCO) := by
  refine CtX.of (by decide) (Nat.le_of_ble_eq_true rfl) (cat1 rfl) (fun X hXl F HT => ?_)
  subst hXl
  obtain ⟨hr, hWt, hWr, hWs, hWb⟩ : h r = some (.inr (2, [.ref ti, .ref tt, .ref sm, .ref bm, .int (nI (g 4)), .int (nI (g 5)), .int (nI (g 6)), .int (nI (g 7))])) ∧ RWt G h (ti, tia, tf) g ∧ RWr G h (tt, tl, ta, x, A) g ∧ RWs G h (sm, smc, sA, sK, sV) g ∧ RWb G h (bm, bmc, bA, bK, bV) g := id hW
  have hasc : ∀ i j, i < j → j < g 2 → nI (g (232 + 4 * i + 0)) < nI (g (232 + 4 * j + 0)) := fun i j hij hj => (nI_ltI (Nat.lt_trans (hI.b _) (by decide)) (Nat.lt_trans (hI.b _) (by decide))).mpr (hid i j hij hj)
  refine V_aload_n (i := 0) F dX2_collect_0 rfl rfl ?_
  refine V_getf F dX2_collect_1 fc_X2_28_X2 (.inl hr) rfl ?_
  refine V_iload_n (i := 1) F dX2_collect_4 rfl rfl ?_
  refine V_callS (st := [.ref (sm)]) (nn := 1) F dX2_collect_5 lk_X2_81 (ct_I_valueOf (x := p)) rfl rfl (Nat.le_of_ble_eq_true rfl) (Nat.le_of_ble_eq_true rfl) (Nat.le_of_ble_eq_true rfl) (by omega) (by omega) ?_
  rintro _ h1 ⟨q1, rfl, hq1, hx1⟩
  have hF1 : Fr nM h h1 := hx1
  have hK1 : ∀ i, i < g 2 → IV G h1 (sK i) (nI (g (232 + 4 * i + 0))) := fun i hi => ((hWs.fr0 hF1).2.2 i hi).1
  obtain ⟨pos, fd, hcm, hp1, hp2, hp3, -, -⟩ := cmp_asc (l := xl X) hq1 hK1 hasc
  refine V_callV (st := []) (nn := 1) F dX2_collect_8 lk_X2_175 (ct_TM_has (hWs.fr0 hF1).1 hcm) (hWs.fr0 hF1).1.isC rfl rfl (Nat.le_of_ble_eq_true rfl) (Nat.le_of_ble_eq_true rfl) (Nat.le_of_ble_eq_true rfl) (by omega) (by omega) ?_
  refine PRk ?_
  refine V_ldcS F dX2_collect_11 q2538 ?_
  intro w1 hGw1
  refine V_xcSN (st := []) (nn := 2) F dX2_collect_13 lk_X2_128 q2448 (hdem ((cB (fd))) w1 (h1)) rfl rfl (Nat.le_of_ble_eq_true rfl) (Nat.le_of_ble_eq_true rfl) (Nat.le_of_ble_eq_true rfl) (by omega) (by omega) ?_ ?_
  · rintro _ _ ⟨rfl, rfl, hd_13⟩
    have hP_13 : fd = true := cB_nz hd_13
    obtain ⟨hk, hkv⟩ := hp2 hP_13
    subst hkv
    have hfo : fdO g 232 (nI (g (232 + 4 * pos + 0))) (g 2) = some pos := fdO_some hk rfl (fun i hi e => by have := hasc i pos hi hk; rw [e] at this; exact Int32.lt_irrefl this)
    refine V_aload_n (i := 0) F dX2_collect_16 rfl rfl ?_
    refine V_getf F dX2_collect_17 fc_X2_28_X2 (.inl (hF1.get hr id rfl)) rfl ?_
    refine V_iload_n (i := 1) F dX2_collect_20 rfl rfl ?_
    refine V_callS (st := [.ref (sm)]) (nn := 1) F dX2_collect_21 lk_X2_81 (ct_I_valueOf (x := nI (g (232 + 4 * pos + 0)))) rfl rfl (Nat.le_of_ble_eq_true rfl) (Nat.le_of_ble_eq_true rfl) (Nat.le_of_ble_eq_true rfl) (by omega) (by omega) ?_
    rintro _ h2 ⟨q2, rfl, hq2, hx2⟩
    have hF2 : Fr nM h h2 := hF1.cal0 hx2
    have hK2 : ∀ i, i < g 2 → IV G h2 (sK i) (nI (g (232 + 4 * i + 0))) := fun i hi => ((hWs.fr0 hF2).2.2 i hi).1
    refine V_callV (st := []) (nn := 1) F dX2_collect_24 lk_X2_180 (ct_TM_get (hWs.fr0 hF2).1 (cmp_at (kv := fun i => nI (g (232 + 4 * i + 0))) hq2 hK2 hasc hk) rfl) (hWs.fr0 hF2).1.isC rfl rfl (Nat.le_of_ble_eq_true rfl) (Nat.le_of_ble_eq_true rfl) (Nat.le_of_ble_eq_true rfl) (by omega) (by omega) ?_
    refine PRk ?_
    refine V_ckS F dX2_collect_27 q2336 ⟨8, _, _, _, rfl, (.inl ((hWs.fr0 hF2).2.2 pos hk).2)⟩ ?_
    refine V_callV (st := []) (nn := 0) F dX2_collect_30 lk_X2_220 (ct_Su_isThere ((hWs.fr0 hF2).2.2 pos hk).2 (Nat.lt_trans (hI.b _) (by decide)) (Nat.lt_trans (hI.b _) (by decide))) ⟨8, _, _, _, rfl, (.inl ((hWs.fr0 hF2).2.2 pos hk).2)⟩ rfl rfl (Nat.le_of_ble_eq_true rfl) (Nat.le_of_ble_eq_true rfl) (Nat.le_of_ble_eq_true rfl) (by omega) (by omega) ?_
    refine PRk ?_
    refine V_ldcS F dX2_collect_33 q2476 ?_
    intro w2 hGw2
    refine V_xcSN (st := []) (nn := 2) F dX2_collect_35 lk_X2_128 q2448 (hdem ((b2 (g (232 + 4 * pos + 1) = g (232 + 4 * pos + 2)))) w2 (h2)) rfl rfl (Nat.le_of_ble_eq_true rfl) (Nat.le_of_ble_eq_true rfl) (Nat.le_of_ble_eq_true rfl) (by omega) (by omega) ?_ ?_
    · rintro _ _ ⟨rfl, rfl, hd_35⟩
      have hP_35 : g (232 + 4 * pos + 1) = g (232 + 4 * pos + 2) := b2_nz hd_35
      refine V_aload_n (i := 0) F dX2_collect_38 rfl rfl ?_
      refine V_getf F dX2_collect_39 fc_X2_28_X2 (.inl (hF2.get hr id rfl)) rfl ?_
      refine V_iload_n (i := 1) F dX2_collect_42 rfl rfl ?_
      refine V_callS (st := [.ref (sm)]) (nn := 1) F dX2_collect_43 lk_X2_81 (ct_I_valueOf (x := nI (g (232 + 4 * pos + 0)))) rfl rfl (Nat.le_of_ble_eq_true rfl) (Nat.le_of_ble_eq_true rfl) (Nat.le_of_ble_eq_true rfl) (by omega) (by omega) ?_
      rintro _ h3 ⟨q3, rfl, hq3, hx3⟩
      have hF3 : Fr nM h h3 := hF2.cal0 hx3
      have hK3 : ∀ i, i < g 2 → IV G h3 (sK i) (nI (g (232 + 4 * i + 0))) := fun i hi => ((hWs.fr0 hF3).2.2 i hi).1
      obtain ⟨hr5, hWt5, hWr5, hWs5, hWb5⟩ : h3 r = some (.inr (2, [.ref ti, .ref tt, .ref sm, .ref bm, .int (nI (g 4)), .int (nI (g 5)), .int (nI (g 6)), .int (nI (g 7))])) ∧ RWt G h3 (ti, tia, tf) g ∧ RWr G h3 (tt, tl, ta, x, A) g ∧ RWs G h3 (sm, smc, sA, sK, sV) g ∧ RWb G h3 (bm, bmc, bA, bK, bV) g := hW.fr0 hF3
      refine V_callV (st := []) (nn := 1) F dX2_collect_46 lk_X2_223 (ct_TM_remove hWs5.1 (cmp_at (kv := fun i => nI (g (232 + 4 * i + 0))) hq3 hK3 hasc hk) rfl) hWs5.1.isC rfl rfl (Nat.le_of_ble_eq_true rfl) (Nat.le_of_ble_eq_true rfl) (Nat.le_of_ble_eq_true rfl) (by omega) (by omega) ?_
      rintro _ h6 ⟨rfl, A6, hM6, hNS, hx6⟩
      have hof := fun k (h1 : k ≠ 23) (h2 : k ≠ 24) => offK.mT (k := k) hWs5.1 h1 h2
      have hr6 := hx6.get hr5 ((hof 2 (by decide) (by decide)).o hr5) rfl
      refine V_pop F dX2_collect_49 rfl ?_
      refine V_aload_n (i := 0) F dX2_collect_50 rfl rfl ?_
      refine V_dup F dX2_collect_51 rfl ?_
      refine V_getf F dX2_collect_52 fc_X2_103_X2 (.inl hr6) rfl ?_
      refine V_iconst (v := nI 1) F dX2_collect_55 rfl ?_
      refine V_iaddN F dX2_collect_56 ?_
      refine V_putf F dX2_collect_57 fp_X2_103_X2 hr6 rfl rfl (Nat.le_of_ble_eq_true rfl) ?_
      refine VV.heap (h' := (hset h6 (r) (.inr (2, [.ref (ti), .ref (tt), .ref (sm), .ref (bm), .int (nI (g 4)), .int (nI (g 5)), .int (nI (g 6)), .int (nI ((g 7) + 1))])))) rfl ?_
      have hr7 : (hset h6 (r) (.inr (2, [.ref (ti), .ref (tt), .ref (sm), .ref (bm), .int (nI (g 4)), .int (nI (g 5)), .int (nI (g 6)), .int (nI ((g 7) + 1))]))) r = some (.inr (2, [.ref (ti), .ref (tt), .ref (sm), .ref (bm), .int (nI (g 4)), .int (nI (g 5)), .int (nI (g 6)), .int (nI ((g 7) + 1))])) := (hset_self (e := .inr (2, [.ref (ti), .ref (tt), .ref (sm), .ref (bm), .int (nI (g 4)), .int (nI (g 5)), .int (nI (g 6)), .int (nI ((g 7) + 1))])))
      have hx7 : Fr (m1 r) h6 ((hset h6 (r) (.inr (2, [.ref (ti), .ref (tt), .ref (sm), .ref (bm), .int (nI (g 4)), .int (nI (g 5)), .int (nI (g 6)), .int (nI ((g 7) + 1))])))) := ((Fr.rf (M := m1 r) (h := h6)).put (x := .inr (2, [.ref (ti), .ref (tt), .ref (sm), .ref (bm), .int (nI (g 4)), .int (nI (g 5)), .int (nI (g 6)), .int (nI ((g 7) + 1))])) hr6 rfl rfl (Or.inl rfl))
      have hM7 := hM6.fr1 hx7 hr6 (by decide) (by decide)
      generalize (hset h6 (r) (.inr (2, [.ref (ti), .ref (tt), .ref (sm), .ref (bm), .int (nI (g 4)), .int (nI (g 5)), .int (nI (g 6)), .int (nI ((g 7) + 1))]))) = h7 at hr7 hx7 hM7 ⊢
      refine V_aload_n (i := 0) F dX2_collect_60 rfl rfl ?_
      refine V_getf F dX2_collect_61 fc_X2_28_X2 (.inl hr7) rfl ?_
      refine V_callV (st := []) (nn := 0) F dX2_collect_64 lk_X2_171 (ct_TM_size hM7) hM7.isC rfl rfl (Nat.le_of_ble_eq_true rfl) (Nat.le_of_ble_eq_true rfl) (Nat.le_of_ble_eq_true rfl) (by omega) (by omega) ?_
      refine PRk ?_
      have h28 := hI.2.2.2.1
      have h310 := hI.2.2.2.2.1
      have h1 : 1 ≤ g 2 := by omega
      have hbmc : smc + g 2 ≤ 2 * g 4 := hWs.2.1
      have hT7 := ((hWt5.frT hWs5.1 hx6).fr1 hx7 hr6 (by decide)).cg (g2 := nxCO g pos) (nxCO_lo (by omega) (by omega) (by omega)) (fun j hj => nxCO_lo (by have := hI.2.1; omega) (by omega) (by omega))
      have hbk : ∀ t k, bkG (nxCO g pos) t k (nxCO g pos 3) = bkG g t k (g 3) := fun t k => bkG_cg (nxCO_lo (by omega) (by omega) (by omega)) (fun o ho j hj => nxCO_hi h28 h1 (by omega))
      have hR7 := ((hWr5.frT hWs5.1 hx6).fr1 hx7 hr6 (by decide)).cg (g2 := nxCO g pos) hI (nxCO_lo (by omega) (by omega) (by omega)) (fun t ht j hj => nxCO_lo (by have := hI.t6 ht; omega) (by omega) (by omega)) (fun t k ht hk => hbk t k)
      have hB7 := ((hWb5.frT hWs5.1 hx6 (Ne.symm hO.sb) (fun i j hi hj => Ne.symm (hO.sbA j i hj hi))).fr1 hx7 hr6 (by decide)).cg (g2 := nxCO g pos) (nxCO_lo (by omega) (by omega) (by omega)) (nxCO_lo (by omega) (by omega) (by omega)) (fun i hi j hj => nxCO_hi h28 h1 (by omega))
      have d1 : nxCO g pos 1 = g 1 := nxCO_lo (by omega) (by omega) (by omega)
      have d3 : nxCO g pos 3 = g 3 := nxCO_lo (by omega) (by omega) (by omega)
      have hoz := fun k (hk : 2 ≠ k) => offK.m1 (S := kO k) hr6 (kO_ne hk)
      have hS7 : RWs G h7 (sm, smc + 1, A6, fun j => sK (sk pos j), fun j => sV (sk pos j)) (nxCO g pos) := by
        refine ⟨by rw [nxCO_2]; exact hM7, by rw [nxCO_2, nxCO_lo (by omega) (by omega) (by omega)]; show smc + 1 + (g 2 - 1) ≤ _; omega, fun i hi => ?_⟩
        rw [nxCO_2] at hi
        have hsk : sk pos i < g 2 := sk_lt hi
        have hc := hWs5.2.2 _ hsk
        have hc6 := hx6.get hc.2 ((hof 8 (by decide) (by decide)).o hc.2) rfl
        refine ⟨by rw [nxCO_e h28 hi (by omega)]; exact (hc.1.fr hx6 (hof 27 (by decide) (by decide))).fr hx7 (hoz 27 (by decide)), ?_⟩
        unfold SuE; rw [nxCO_e h28 hi (by omega), nxCO_e h28 hi (by omega), nxCO_e h28 hi (by omega), nxCO_e h28 hi (by omega)]
        exact hx7.get hc6 ((hoz 8 (by decide)).o hc6) rfl
      have hF7 : Fr (fH h0) h h7 := ((hF3.mono (fun _ z => z.elim)).cal hx6 (fun b z => z.elim (fun z => Or.inl (by rw [z]; exact hO.sm)) (fun z => by obtain ⟨i, hi, z⟩ := z; exact Or.inl (by rw [z]; exact hO.sA i hi)))).cal hx7 (Yo.m1 (Or.inl hO.r))
      have hA6 : ∀ i, i < g 2 - 1 → h0 (A6 i) = none := fun i hi => by obtain ⟨i3, hi3, z⟩ := hNS i hi; rw [z]; exact hO.sA i3 hi3
      have hd6 : ∀ i j, i < g 2 - 1 → j < g 3 → A6 i ≠ bA j := fun i j hi hj => by obtain ⟨i3, hi3, z⟩ := hNS i hi; rw [z]; exact hO.sbA i3 j hi3 hj
      have hcc : ccCO g (nI (g (232 + 4 * pos + 0))) = 0 := by unfold ccCO; rw [hfo]; exact if_pos hP_35
      exact VV.rx (V_iret F dX2_collect_67 rfl (by omega) (by omega) ⟨hcc, pos, hfo, rfl, ⟨((ti, tia, tf), (tt, tl, ta, x, A), (sm, smc + 1, A6, fun j => sK (sk pos j), fun j => sV (sk pos j)), (bm, bmc, bA, bK, bV)), ⟨by rw [nxCO_7, nxCO_lo (by omega) (by omega) (by omega), nxCO_lo (by omega) (by omega) (by omega), nxCO_lo (by omega) (by omega) (by omega)]; exact hr7, hT7, hR7, hS7, hB7⟩, hO.r, hO.ti, hO.tia, hO.tt, hO.tl, hO.ta, hO.sm, hO.bm, d1 ▸ hO.x, d1 ▸ hO.A, (by rw [nxCO_2]; exact hA6), d3 ▸ hO.bA, hO.til, hO.tia2, hO.sb, (by rw [nxCO_2, d3]; exact hd6), d1 ▸ hO.xi, d1 ▸ hO.Ai⟩, hF7⟩)
    · exact fun E q h2 hp => V_xout F (HT _) (by omega) (by omega) (CFx.of (k := 2) (by have hz := b2_z hp.1; unfold ccCO; rw [hfo]; exact if_neg hz) (by decide) hGw2 (TH.fr hF2 hp.2))
  · exact fun E q h2 hp => V_xout F (HT _) (by omega) (by omega) (CFx.of (k := 1) (by have hz := cB_z hp.1; unfold ccCO; rw [fdO_none (hp3 hz)]; rfl) (by decide) hGw1 (TH.fr hF1 hp.2))
