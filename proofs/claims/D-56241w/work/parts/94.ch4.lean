theorem cB_nz {b : Bool} (h : cB b ≠ 0) : b = true := by cases b; exact absurd rfl h; rfl
theorem cB_z {b : Bool} (h : cB b = 0) : b = false := by cases b; rfl; cases h
theorem TH.fr {G : GG} {a : Nat} {h h1 : AH} {E : String} {q : Nat} {h2 : AH} (hx : Fr nM h h1) (hT : TH G a h1 E q h2) : TH G a h E q h2 := ⟨hT.1, hx.none hT.2.1, hT.2.2.1, hx.cal0 hT.2.2.2⟩
/-- the key of a place, boxed anew -/
theorem cmp_at {G : GG} {l : Launch} {h : AH} {q n k : Nat} {K : Nat → Nat} {kv : Nat → Int32} (hq : IV G h q (kv k)) (hK : ∀ i, i < n → IV G h (K i) (kv i)) (hasc : ∀ i j, i < j → j < n → kv i < kv j) (hk : k < n) : CMP G l h q n k true K "java/lang/Integer" yJ22_compareTo cJ22_compareTo 2 2 :=
  cmp_int hq hK (Nat.le_of_lt hk) (fun _ => ⟨hk, rfl⟩) (fun i _ hi => hasc i k hi hk) (fun i hi hp hne => hasc k i (Nat.lt_of_le_of_ne hp (fun e => hne ⟨rfl, e.symm⟩)) hi)
theorem RWb.frT {G : GG} {h h2 : AH} {t mc n : Nat} {A K V : Nat → Nat} {d : DM} {g : Nat → Nat} (hR : RWb G h d g) (hN : TMp h t mc n A K V) (hx : Fr (mT t n A) h h2) (hne : d.1 ≠ t) (hd : ∀ i j, i < g 3 → j < n → d.2.2.1 i ≠ A j) : RWb G h2 d g :=
  ⟨hR.1.frT hN hx hne hd, hR.2.1, fun i hi => ⟨(hR.2.2 i hi).1.fr hx (offK.mT hN (by decide) (by decide)), hx.get (hR.2.2 i hi).2 ((offK.mT (k := 11) hN (by decide) (by decide)).o (hR.2.2 i hi).2) rfl⟩⟩
theorem RWs.frT {G : GG} {h h2 : AH} {t mc n : Nat} {A K V : Nat → Nat} {d : DM} {g : Nat → Nat} (hR : RWs G h d g) (hN : TMp h t mc n A K V) (hx : Fr (mT t n A) h h2) (hne : d.1 ≠ t) (hd : ∀ i j, i < g 2 → j < n → d.2.2.1 i ≠ A j) : RWs G h2 d g :=
  ⟨hR.1.frT hN hx hne hd, hR.2.1, fun i hi => ⟨(hR.2.2 i hi).1.fr hx (offK.mT hN (by decide) (by decide)), hx.get (hR.2.2 i hi).2 ((offK.mT (k := 8) hN (by decide) (by decide)).o (hR.2.2 i hi).2) rfl⟩⟩
def kdRL (c : Nat) : String := if c = 1 then "element" else "index"
/-- the code of a relabelling, as the class has it -/
def ccRL (g : Nat → Nat) (p d : Int32) : Nat := if fdO g 232 p (g 2) = none then 1 else if ¬ iR d (g 0) then 2 else 0
theorem nxRL_o {g : Nat → Nat} {k q i : Nat} (h : i ≠ 232 + 4 * k + 2) : nxRL g k q i = g i := by unfold nxRL; rw [up_n h]
theorem nxRL_s {g : Nat → Nat} {k q : Nat} : nxRL g k q (232 + 4 * k + 2) = q := by unfold nxRL; rw [up_s]
theorem ct_RW_relabel {G : GG} {l : Launch} {h : AH} {h0 : AH} {r ti tia : Nat} {tf : Nat → Nat} {tt tl ta : Nat} {x : Nat → Nat} {A : Nat → Nat → Nat} {sm smc : Nat} {sA sK sV : Nat → Nat} {bm bmc : Nat} {bA bK bV : Nat → Nat} {g : Nat → Nat} {p d : Int32}  (hdem : DEM G l) (hW : RW G h r ((ti, tia, tf), (tt, tl, ta, x, A), (sm, smc, sA, sK, sV), (bm, bmc, bA, bK, bV)) g) (hO : RO G h0 r ((ti, tia, tf), (tt, tl, ta, x, A), (sm, smc, sA, sK, sV), (bm, bmc, bA, bK, bV)) g) (hI : GW g) (hid : ∀ i j, i < j → j < g 2 → g (232 + 4 * i + 0) < g (232 + 4 * j + 0)) : CtX G l yX2_relabel cX2_relabel 4 (some .int) 13 (8) (60) [.ref r, .int p, .int d] h (fun r0 h2 => ccRL g p d = 0 ∧ ∃ k, fdO g 232 p (g 2) = some k ∧ r0 = some (.int (nI (g (232 + 4 * k + 2)))) ∧ (∃ D2, RW G h2 r D2 (nxRL g k (tn d)) ∧ RO G h0 r D2 (nxRL g k (tn d))) ∧ Fr (fH h0) h h2) (CFx G h (ccRL g p d) kdRL) := by
  refine CtX.of (by decide) (Nat.le_of_ble_eq_true rfl) (cat1 rfl) (fun X hXl F HT => ?_)
  subst hXl
  obtain ⟨hr, hWt, hWr, hWs, hWb⟩ : h r = some (.inr (2, [.ref ti, .ref tt, .ref sm, .ref bm, .int (nI (g 4)), .int (nI (g 5)), .int (nI (g 6)), .int (nI (g 7))])) ∧ RWt G h (ti, tia, tf) g ∧ RWr G h (tt, tl, ta, x, A) g ∧ RWs G h (sm, smc, sA, sK, sV) g ∧ RWb G h (bm, bmc, bA, bK, bV) g := id hW
  have hasc : ∀ i j, i < j → j < g 2 → nI (g (232 + 4 * i + 0)) < nI (g (232 + 4 * j + 0)) := fun i j hij hj => (nI_ltI (Nat.lt_trans (hI.b _) (by decide)) (Nat.lt_trans (hI.b _) (by decide))).mpr (hid i j hij hj)
  refine V_aload_n (i := 0) F dX2_relabel_0 rfl rfl ?_
  refine V_getf F dX2_relabel_1 fc_X2_28_X2 (.inl hr) rfl ?_
  refine V_iload_n (i := 1) F dX2_relabel_4 rfl rfl ?_
  refine V_callS (st := [.ref (sm)]) (nn := 1) F dX2_relabel_5 lk_X2_81 (ct_I_valueOf (x := p)) rfl rfl (Nat.le_of_ble_eq_true rfl) (Nat.le_of_ble_eq_true rfl) (Nat.le_of_ble_eq_true rfl) (by omega) (by omega) ?_
  rintro _ h1 ⟨q1, rfl, hq1, hx1⟩
  have hF1 : Fr nM h h1 := hx1
  have hK1 : ∀ i, i < g 2 → IV G h1 (sK i) (nI (g (232 + 4 * i + 0))) := fun i hi => ((hWs.fr0 hF1).2.2 i hi).1
  obtain ⟨pos, fd, hcm, hp1, hp2, hp3, -, -⟩ := cmp_asc (l := xl X) hq1 hK1 hasc
  refine V_callV (st := []) (nn := 1) F dX2_relabel_8 lk_X2_175 (ct_TM_has (hWs.fr0 hF1).1 hcm) (hWs.fr0 hF1).1.isC rfl rfl (Nat.le_of_ble_eq_true rfl) (Nat.le_of_ble_eq_true rfl) (Nat.le_of_ble_eq_true rfl) (by omega) (by omega) ?_
  refine PRk ?_
  refine V_ldcS F dX2_relabel_11 q2538 ?_
  intro w1 hGw1
  refine V_xcSN (st := []) (nn := 2) F dX2_relabel_13 lk_X2_128 q2448 (hdem ((cB (fd))) w1 (h1)) rfl rfl (Nat.le_of_ble_eq_true rfl) (Nat.le_of_ble_eq_true rfl) (Nat.le_of_ble_eq_true rfl) (by omega) (by omega) ?_ ?_
  · rintro _ _ ⟨rfl, rfl, hd_13⟩
    have hP_13 : fd = true := cB_nz hd_13
    obtain ⟨hk, hkv⟩ := hp2 hP_13
    subst hkv
    have hfo : fdO g 232 (nI (g (232 + 4 * pos + 0))) (g 2) = some pos := fdO_some hk rfl (fun i hi e => by have := hasc i pos hi hk; rw [e] at this; exact Int32.lt_irrefl this)
    have hfn : ¬ fdO g 232 (nI (g (232 + 4 * pos + 0))) (g 2) = none := fun z => by rw [hfo] at z; cases z
    refine V_aload_n (i := 0) F dX2_relabel_16 rfl rfl ?_
    refine V_iload_n (i := 2) F dX2_relabel_17 rfl rfl ?_
    refine V_callV (st := []) (nn := 1) F dX2_relabel_18 lk_X2_134 (ct_RW_hasStation (hW.fr0 hF1) hI) ⟨2, _, _, _, rfl, (.inl (hF1.get hr id rfl))⟩ rfl rfl (Nat.le_of_ble_eq_true rfl) (Nat.le_of_ble_eq_true rfl) (Nat.le_of_ble_eq_true rfl) (by omega) (by omega) ?_
    refine PRk ?_
    refine V_ldcS F dX2_relabel_21 q2485 ?_
    intro w2 hGw2
    refine V_xcSN (st := []) (nn := 2) F dX2_relabel_23 lk_X2_128 q2448 (hdem ((b2 (iR d (g 0)))) w2 (h1)) rfl rfl (Nat.le_of_ble_eq_true rfl) (Nat.le_of_ble_eq_true rfl) (Nat.le_of_ble_eq_true rfl) (by omega) (by omega) ?_ ?_
    · rintro _ _ ⟨rfl, rfl, hd_23⟩
      have hP_23 : iR d (g 0) := b2_nz hd_23
      obtain ⟨d2, hd2, rfl⟩ := iR_of hP_23 hI.b.lt
      have h8 := hI.2.1
      have ed : tn (nI d2) = d2 := tn_nI (by omega)
      refine V_aload_n (i := 0) F dX2_relabel_26 rfl rfl ?_
      refine V_getf F dX2_relabel_27 fc_X2_28_X2 (.inl (hF1.get hr id rfl)) rfl ?_
      refine V_iload_n (i := 1) F dX2_relabel_30 rfl rfl ?_
      refine V_callS (st := [.ref (sm)]) (nn := 1) F dX2_relabel_31 lk_X2_81 (ct_I_valueOf (x := nI (g (232 + 4 * pos + 0)))) rfl rfl (Nat.le_of_ble_eq_true rfl) (Nat.le_of_ble_eq_true rfl) (Nat.le_of_ble_eq_true rfl) (by omega) (by omega) ?_
      rintro _ h2 ⟨q2, rfl, hq2, hx2⟩
      have hF2 : Fr nM h h2 := hF1.cal0 hx2
      have hK2 : ∀ i, i < g 2 → IV G h2 (sK i) (nI (g (232 + 4 * i + 0))) := fun i hi => ((hWs.fr0 hF2).2.2 i hi).1
      refine V_callV (st := []) (nn := 1) F dX2_relabel_34 lk_X2_180 (ct_TM_get (hWs.fr0 hF2).1 (cmp_at (kv := fun i => nI (g (232 + 4 * i + 0))) hq2 hK2 hasc hk) rfl) (hWs.fr0 hF2).1.isC rfl rfl (Nat.le_of_ble_eq_true rfl) (Nat.le_of_ble_eq_true rfl) (Nat.le_of_ble_eq_true rfl) (by omega) (by omega) ?_
      refine PRk ?_
      refine V_ckS F dX2_relabel_37 q2336 ⟨8, _, _, _, rfl, (.inl ((hWs.fr0 hF2).2.2 pos hk).2)⟩ ?_
      refine V_astore_n (i := 3) F dX2_relabel_40 rfl (Nat.le_of_ble_eq_true rfl) (Nat.le_of_ble_eq_true rfl) ?_
      refine V_aload_n (i := 0) F dX2_relabel_41 rfl rfl ?_
      refine V_getf F dX2_relabel_42 fc_X2_28_X2 (.inl (hF2.get hr id rfl)) rfl ?_
      refine V_iload_n (i := 1) F dX2_relabel_45 rfl rfl ?_
      refine V_callS (st := [.ref (sm)]) (nn := 1) F dX2_relabel_46 lk_X2_81 (ct_I_valueOf (x := nI (g (232 + 4 * pos + 0)))) rfl rfl (Nat.le_of_ble_eq_true rfl) (Nat.le_of_ble_eq_true rfl) (Nat.le_of_ble_eq_true rfl) (by omega) (by omega) ?_
      rintro _ h3 ⟨q3, rfl, hq3, hx3⟩
      have hF3 : Fr nM h h3 := hF2.cal0 hx3
      have hK3 : ∀ i, i < g 2 → IV G h3 (sK i) (nI (g (232 + 4 * i + 0))) := fun i hi => ((hWs.fr0 hF3).2.2 i hi).1
      refine V_new F dX2_relabel_49 nw_X2_76 (by omega) (by omega) ?_
      intro su hfsu hbsu
      have p3 : h3 r = some (.inr (2, [.ref (ti), .ref (tt), .ref (sm), .ref (bm), .int (nI (g 4)), .int (nI (g 5)), .int (nI (g 6)), .int (nI (g 7))])) := (hF3.get hr id rfl)
      have p4 : h3 ((sV pos)) = some (.inr (8, [.int (nI (g (232 + 4 * pos + 0))), .int (nI (g (232 + 4 * pos + 1))), .int (nI (g (232 + 4 * pos + 2))), .int (nI (g (232 + 4 * pos + 3)))])) := ((hWs.fr0 hF3).2.2 pos hk).2
      refine V_dup F dX2_relabel_52 rfl ?_
      refine V_iload_n (i := 1) F dX2_relabel_53 rfl rfl ?_
      refine V_aload_n (i := 3) F dX2_relabel_54 rfl rfl ?_
      refine V_callV (st := [.int (nI (g (232 + 4 * pos + 0))), .ref (su), .ref (su), .ref (q3), .ref (sm)]) (nn := 0) F dX2_relabel_55 lk_X2_183 (ct_Su_station ((hset_ne (ne_nw p4 hfsu)).trans p4)) ⟨8, _, _, _, rfl, (.inl ((hset_ne (ne_nw p4 hfsu)).trans p4))⟩ rfl rfl (Nat.le_of_ble_eq_true rfl) (Nat.le_of_ble_eq_true rfl) (Nat.le_of_ble_eq_true rfl) (by omega) (by omega) ?_
      refine PRk ?_
      refine V_iload_n (i := 2) F dX2_relabel_58 rfl rfl ?_
      refine V_aload_n (i := 3) F dX2_relabel_59 rfl rfl ?_
      refine V_callV (st := [.int (nI (d2)), .int (nI (g (232 + 4 * pos + 1))), .int (nI (g (232 + 4 * pos + 0))), .ref (su), .ref (su), .ref (q3), .ref (sm)]) (nn := 0) F dX2_relabel_60 lk_X2_186 (ct_Su_ready ((hset_ne (ne_nw p4 hfsu)).trans p4)) ⟨8, _, _, _, rfl, (.inl ((hset_ne (ne_nw p4 hfsu)).trans p4))⟩ rfl rfl (Nat.le_of_ble_eq_true rfl) (Nat.le_of_ble_eq_true rfl) (Nat.le_of_ble_eq_true rfl) (by omega) (by omega) ?_
      refine PRk ?_
      refine V_callIN (st := [.ref (su), .ref (q3), .ref (sm)]) (nn := 4) F dX2_relabel_63 lk_X2_172 q2514 rfl (ct_Su_init (hset_self (e := .inr (8, [.int 0, .int 0, .int 0, .int 0])))) rfl rfl (Nat.le_of_ble_eq_true rfl) (Nat.le_of_ble_eq_true rfl) (Nat.le_of_ble_eq_true rfl) (by omega) (by omega) ?_
      rintro _ h5 ⟨rfl, hsu, hx5⟩
      have hfq := (hF3.nw (x := .inr (8, [.int 0, .int 0, .int 0, .int 0])) hfsu)
      have hF5 : Fr nM h h5 := hfq.cal hx5 (Yo.m1 (Or.inr (hF3.none hfsu)))
      have hW5 := hW.fr0 hF5
      obtain ⟨hr5, hWt5, hWr5, hWs5, hWb5⟩ : h5 r = some (.inr (2, [.ref ti, .ref tt, .ref sm, .ref bm, .int (nI (g 4)), .int (nI (g 5)), .int (nI (g 6)), .int (nI (g 7))])) ∧ RWt G h5 (ti, tia, tf) g ∧ RWr G h5 (tt, tl, ta, x, A) g ∧ RWs G h5 (sm, smc, sA, sK, sV) g ∧ RWb G h5 (bm, bmc, bA, bK, bV) g := id hW5
      have hq5 := hq3.fr ((Fr.rf (M := nM) (h := h3)).nw (x := .inr (8, [.int 0, .int 0, .int 0, .int 0])) hfsu) offK.nM
      have hq6 := hq5.fr hx5 (offK.m1 hset_self (kO_ne (by decide)))
      refine V_callV (st := []) (nn := 2) F dX2_relabel_66 lk_X2_85 (ct_TM_set (v := su) hWs5.1 (cmp_at (kv := fun i => nI (g (232 + 4 * i + 0))) hq6 (fun i hi => (hWs5.2.2 i hi).1) hasc hk) rfl) hWs5.1.isC rfl rfl (Nat.le_of_ble_eq_true rfl) (Nat.le_of_ble_eq_true rfl) (Nat.le_of_ble_eq_true rfl) (by omega) (by omega) ?_
      rintro _ h6 ⟨rfl, hM6, hx6⟩
      have hof := fun k (h1 : k ≠ 23) (h2 : k ≠ 24) => offK.mT (k := k) hWs5.1 h1 h2
      have hsp := hx6.get (hWs5.2.2 pos hk).2 ((hof 8 (by decide) (by decide)).o (hWs5.2.2 pos hk).2) rfl
      refine V_pop F dX2_relabel_69 rfl ?_
      refine V_aload_n (i := 3) F dX2_relabel_70 rfl rfl ?_
      refine V_callV (st := []) (nn := 0) F dX2_relabel_71 lk_X2_189 (ct_Su_destination hsp) ⟨8, _, _, _, rfl, (.inl hsp)⟩ rfl rfl (Nat.le_of_ble_eq_true rfl) (Nat.le_of_ble_eq_true rfl) (Nat.le_of_ble_eq_true rfl) (by omega) (by omega) ?_
      refine PRk ?_
      have h28 := hI.2.2.2.1
      have h310 := hI.2.2.2.2.1
      have hlo : ∀ i, i ≠ 232 + 4 * pos + 2 → nxRL g pos d2 i = g i := fun i hi => nxRL_o hi
      have hT6 := (hWt5.frT hWs5.1 hx6).cg (g2 := nxRL g pos d2) (hlo _ (by omega)) (fun j hj => hlo _ (by omega))
      have hR6 := (hWr5.frT hWs5.1 hx6).cg (g2 := nxRL g pos d2) hI (hlo _ (by omega)) (fun t ht j hj => hlo _ (by have := hI.t6 ht; omega)) (fun t k ht hk => bkG_cg (hlo _ (by omega)) (fun o ho j hj => hlo _ (by omega)))
      have hB6 := (hWb5.frT hWs5.1 hx6 (Ne.symm hO.sb) (fun i j hi hj => Ne.symm (hO.sbA j i hj hi))).cg (g2 := nxRL g pos d2) (hlo _ (by omega)) (hlo _ (by omega)) (fun i hi j hj => hlo _ (by omega))
      have d1 : nxRL g pos d2 1 = g 1 := hlo _ (by omega)
      have dd2 : nxRL g pos d2 2 = g 2 := hlo _ (by omega)
      have d3 : nxRL g pos d2 3 = g 3 := hlo _ (by omega)
      have hS6 : RWs G h6 (sm, smc, sA, sK, upo sV pos su) (nxRL g pos d2) := by
        refine ⟨by rw [dd2]; exact hM6, by rw [dd2, hlo 4 (by omega)]; exact hWs5.2.1, fun i hi => ?_⟩
        rw [dd2] at hi
        refine ⟨by rw [hlo _ (by omega)]; exact (hWs5.2.2 i hi).1.fr hx6 (hof 27 (by decide) (by decide)), ?_⟩
        by_cases e : i = pos
        · subst e
          show h6 (upo sV i su i) = _
          rw [upo_s]; unfold SuE; rw [nxRL_s, hlo (232 + 4 * i + 0) (by omega), hlo (232 + 4 * i + 1) (by omega), hlo (232 + 4 * i + 3) (by omega)]
          exact hx6.get hsu ((hof 8 (by decide) (by decide)).o hsu) rfl
        · show h6 (upo sV pos su i) = _
          rw [upo_n e]; unfold SuE; rw [hlo (232 + 4 * i + 0) (by omega), hlo (232 + 4 * i + 1) (by omega), hlo (232 + 4 * i + 2) (by omega), hlo (232 + 4 * i + 3) (by omega)]
          exact hx6.get (hWs5.2.2 i hi).2 ((hof 8 (by decide) (by decide)).o (hWs5.2.2 i hi).2) rfl
      have hr6 := hx6.get hr5 ((hof 2 (by decide) (by decide)).o hr5) rfl
      have hF6 : Fr (fH h0) h h6 := (hF5.mono (fun _ z => z.elim)).cal hx6 (fun b z => z.elim (fun z => Or.inl (by rw [z]; exact hO.sm)) (fun z => by obtain ⟨i, hi, z⟩ := z; exact Or.inl (by rw [z]; exact hO.sA i hi)))
      exact VV.rx (V_iret F dX2_relabel_74 rfl (by omega) (by omega) (by rw [ed]; exact ⟨(if_neg hfn).trans (if_neg (fun z => z hP_23)), pos, hfo, rfl, ⟨((ti, tia, tf), (tt, tl, ta, x, A), (sm, smc, sA, sK, upo sV pos su), (bm, bmc, bA, bK, bV)), ⟨by rw [hlo 4 (by omega), hlo 5 (by omega), hlo 6 (by omega), hlo 7 (by omega)]; exact hr6, hT6, hR6, hS6, hB6⟩, hO.r, hO.ti, hO.tia, hO.tt, hO.tl, hO.ta, hO.sm, hO.bm, d1 ▸ hO.x, d1 ▸ hO.A, dd2 ▸ hO.sA, d3 ▸ hO.bA, hO.til, hO.tia2, hO.sb, dd2 ▸ d3 ▸ hO.sbA, d1 ▸ hO.xi, d1 ▸ hO.Ai⟩, hF6⟩))
    · exact fun E q h2 hp => V_xout F (HT _) (by omega) (by omega) (CFx.of (k := 2) (by have hz := b2_z hp.1; exact (if_neg hfn).trans (if_pos hz)) (by decide) hGw2 (TH.fr hF1 hp.2))
  · exact fun E q h2 hp => V_xout F (HT _) (by omega) (by omega) (CFx.of (k := 1) (by have hz := cB_z hp.1; exact if_pos (fdO_none (hp3 hz))) (by decide) hGw1 (TH.fr hF1 hp.2))
