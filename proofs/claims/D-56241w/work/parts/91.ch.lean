/-! ===== changes ===== -/
theorem b2_nz {p : Prop} [Decidable p] (h : b2 p ≠ 0) : p := Decidable.byContradiction fun q => h (b2_f q)
theorem b2_z {p : Prop} [Decidable p] (h : b2 p = 0) : ¬ p := fun q => by rw [b2_t q] at h; cases h
/-- a condition's failure with the kind at a is thrown -/
def TH (G : GG) (a : Nat) (h : AH) : String → Nat → AH → Prop := fun E q h2 => E = "SleeperRailway$ConditionFailure" ∧ h q = none ∧ h2 q = some (.inr (7, [.ref a])) ∧ Fr nM h h2
/-- the contract of demand (to be proved) -/
def DEM (G : GG) (l : Launch) : Prop := ∀ (v : Int32) (a : Nat) (h : AH), CtX G l yX1_demand cX1_demand 2 none 12 1 7 [.int v, .ref a] h (fun r h2 => r = none ∧ h = h2 ∧ v ≠ 0) (fun E q h2 => v = 0 ∧ TH G a h E q h2)
/-- a change fails with one of the kinds, told by the code -/
def CFx (G : GG) (h : AH) (c : Nat) (kd : Nat → String) : String → Nat → AH → Prop := fun E q h2 => c ≠ 0 ∧ ∃ a, Gstr G (kd c) a ∧ TH G a h E q h2
theorem CFx.of {G : GG} {h : AH} {c k a : Nat} {kd : Nat → String} {E : String} {q : Nat} {h2 : AH} (hc : c = k) (h0 : k ≠ 0) (hG : Gstr G (kd k) a) (hT : TH G a h E q h2) : CFx G h c kd E q h2 := by
  subst hc; exact ⟨h0, a, hG, hT⟩
section CG
variable {G : GG} {h : AH} {g g2 : Nat → Nat}
theorem plG_cg {t k : Nat} (ht : ∀ j, j < 36 → j ≠ 2 → g2 (16 + 36 * t + j) = g (16 + 36 * t + j)) (hk : k < 8) : plG g2 t k = plG g t k := ht (4 + 3 * k) (by omega) (by omega)
theorem dpG_cg {t : Nat} (ht : ∀ j, j < 36 → j ≠ 2 → g2 (16 + 36 * t + j) = g (16 + 36 * t + j)) : ∀ k, k < 8 → dpG g2 t k = dpG g t k
  | 0, _ => ht 1 (by omega) (by omega)
  | k + 1, hk => by
    show dpG g2 t k + (g2 (16 + 36 * t + (4 + 3 * (k + 1) + 1)) + g2 (16 + 36 * t + (4 + 3 * (k + 1) + 2))) = dpG g t k + _
    rw [dpG_cg ht k (by omega), ht (4 + 3 * (k + 1) + 1) (by omega) (by omega), ht (4 + 3 * (k + 1) + 2) (by omega) (by omega)]
theorem avG_cg {t k : Nat} (ht : ∀ j, j < 36 → j ≠ 2 → g2 (16 + 36 * t + j) = g (16 + 36 * t + j)) (hk : k < 8) : avG g2 t k = avG g t k := by
  unfold avG; rw [dpG_cg ht (k - 1) (by omega), ht (4 + 3 * k + 1) (by omega) (by omega)]
theorem TRs.cg {x t : Nat} {A : Nat → Nat} (hT : TRs G h x A g t) (hs : g (16 + 36 * t + 3) ≤ 8) (ht : ∀ j, j < 36 → g2 (16 + 36 * t + j) = g (16 + 36 * t + j)) (hb : ∀ k, k < 8 → bkG g2 t k (g2 3) = bkG g t k (g 3)) : TRs G h x A g2 t := by
  obtain ⟨p, f, q, e0, e1, e2, e3, e4⟩ := hT
  refine ⟨by rw [ht 0 (by omega), ht 3 (by omega), ht 2 (by omega)]; exact p, f, q, ?_, ?_, ?_, ?_, ?_⟩
  · intro k hk; rw [ht 3 (by omega)] at hk; rw [plG_cg (fun j hj _ => ht j hj) (by omega)]; exact e0 k hk
  · intro k hk0 hk; rw [ht 3 (by omega)] at hk; rw [avG_cg (fun j hj _ => ht j hj) (by omega)]; exact e1 k hk0 hk
  · intro k hk; rw [ht 3 (by omega)] at hk; rw [dpG_cg (fun j hj _ => ht j hj) k (by omega)]; exact e2 k hk
  · intro k hk; rw [ht (28 + k) (by omega)]; exact e3 k hk
  · intro k hk; rw [hb k hk]; exact e4 k hk
theorem RWr.cg {d : DR} (hR : RWr G h d g) (hI : GW g) (h1 : g2 1 = g 1) (ht : ∀ t, t < g 1 → ∀ j, j < 36 → g2 (16 + 36 * t + j) = g (16 + 36 * t + j)) (hb : ∀ t k, t < g 1 → k < 8 → bkG g2 t k (g2 3) = bkG g t k (g 3)) : RWr G h d g2 :=
  ⟨hR.1, by rw [h1]; exact hR.2.1, fun t ht2 => by rw [h1] at ht2; exact (hR.2.2 t ht2).cg (hI.st ht2).2 (ht t ht2) (fun k hk => hb t k ht2 hk)⟩
theorem RWs.cg {d : DM} (hR : RWs G h d g) (h2 : g2 2 = g 2) (h4 : g2 4 = g 4) (hs : ∀ i, i < g 2 → ∀ j, j < 4 → g2 (232 + 4 * i + j) = g (232 + 4 * i + j)) : RWs G h d g2 := by
  obtain ⟨a, b, c⟩ := hR
  refine ⟨by rw [h2]; exact a, by rw [h2, h4]; exact b, fun i hi => ?_⟩
  rw [h2] at hi
  unfold SuE
  rw [hs i hi 0 (by omega), hs i hi 1 (by omega), hs i hi 2 (by omega), hs i hi 3 (by omega)]
  exact c i hi
theorem RWb.cg {d : DM} (hR : RWb G h d g) (h3 : g2 3 = g 3) (h5 : g2 5 = g 5) (hs : ∀ i, i < g 3 → ∀ j, j < 4 → g2 (264 + 4 * i + j) = g (264 + 4 * i + j)) : RWb G h d g2 := by
  obtain ⟨a, b, c⟩ := hR
  refine ⟨by rw [h3]; exact a, by rw [h3, h5]; exact b, fun i hi => ?_⟩
  rw [h3] at hi
  unfold BoE
  rw [hs i hi 0 (by omega), hs i hi 1 (by omega), hs i hi 2 (by omega), hs i hi 3 (by omega)]
  exact c i hi
theorem RWt.cg {d : DT} (hR : RWt G h d g) (h0 : g2 0 = g 0) (hs : ∀ k, k < g 0 → g2 (8 + k) = g (8 + k)) : RWt G h d g2 := by
  obtain ⟨a, b⟩ := hR
  exact ⟨by rw [h0]; exact a, fun k hk => by rw [h0] at hk; rw [hs k hk]; exact b k hk⟩
theorem bkG_cg {t k : Nat} (h3 : g2 3 = g 3) (hb : ∀ o, o < g 3 → ∀ j, j < 4 → g2 (264 + 4 * o + j) = g (264 + 4 * o + j)) : bkG g2 t k (g2 3) = bkG g t k (g 3) := by
  rw [h3]
  have hz : ∀ n, n ≤ g 3 → bkG g2 t k n = bkG g t k n := by
    intro n
    induction n with
    | zero => intro _; rfl
    | succ n ih =>
      intro hn
      have e := hb n (by omega)
      unfold bkG bkC byG
      rw [ih (by omega), e 1 (by omega), e 2 (by omega), e 3 (by omega)]
  exact hz _ (Nat.le_refl _)
end CG

def kdAS (c : Nat) : String := if c = 1 then "argument" else "state"
theorem nxAS_o {g : Nat → Nat} {p i : Nat} (h0 : i ≠ 0) (h8 : i ≠ 8 + g 0) : nxAS g p i = g i := by unfold nxAS; rw [up_n h0, up_n h8]
theorem nxAS_0 {g : Nat → Nat} {p : Nat} : nxAS g p 0 = g 0 + 1 := by unfold nxAS; rw [up_s]
theorem nxAS_8 {g : Nat → Nat} {p : Nat} : nxAS g p (8 + g 0) = p := by unfold nxAS; rw [up_n (by omega), up_s]
theorem tn_in {p : Int32} {a b : Nat} (hb : b < 2 ^ 31) (h : nI a ≤ p ∧ p ≤ nI b) (ha : a ≤ b) : nI (tn p) = p ∧ a ≤ tn p ∧ tn p ≤ b := by
  obtain ⟨h1, h2⟩ := h
  rw [Int32.le_iff_toInt_le, nI_toInt (by omega)] at h1
  rw [Int32.le_iff_toInt_le, nI_toInt hb] at h2
  have e : ((tn p : Nat) : Int) = p.toInt := by unfold tn; omega
  refine ⟨?_, by omega, by omega⟩
  rw [← Int32.toInt_inj, nI_toInt (by omega), e]
theorem ct_RW_addStation {G : GG} {l : Launch} {h : AH} {h0 : AH} {r ti tia : Nat} {tf : Nat → Nat} {tt tl ta : Nat} {x : Nat → Nat} {A : Nat → Nat → Nat} {sm smc : Nat} {sA sK sV : Nat → Nat} {bm bmc : Nat} {bA bK bV : Nat → Nat} {g : Nat → Nat} {p : Int32}  (hdem : DEM G l) (hW : RW G h r ((ti, tia, tf), (tt, tl, ta, x, A), (sm, smc, sA, sK, sV), (bm, bmc, bA, bK, bV)) g) (hO : RO G h0 r ((ti, tia, tf), (tt, tl, ta, x, A), (sm, smc, sA, sK, sV), (bm, bmc, bA, bK, bV)) g) (hI : GW g) (hF0 : Fr nM h0 h) : CtX G l yX2_addStation cX2_addStation 2 (some .int) 13 (8) (120) [.ref r, .int p] h (fun r0 h2 => r0 = some (.int (nI (g 0))) ∧ cdAS g p = 0 ∧ (∃ D2, RW G h2 r D2 (nxAS g (tn p)) ∧ RO G h0 r D2 (nxAS g (tn p))) ∧ Fr (fH h0) h h2) (CFx G h (cdAS g p) kdAS) := by
  refine CtX.of (by decide) (Nat.le_of_ble_eq_true rfl) (cat1 rfl) (fun X hXl F HT => ?_)
  subst hXl
  obtain ⟨hr, hWt, hWr, hWs, hWb⟩ : h r = some (.inr (2, [.ref ti, .ref tt, .ref sm, .ref bm, .int (nI (g 4)), .int (nI (g 5)), .int (nI (g 6)), .int (nI (g 7))])) ∧ RWt G h (ti, tia, tf) g ∧ RWr G h (tt, tl, ta, x, A) g ∧ RWs G h (sm, smc, sA, sK, sV) g ∧ RWb G h (bm, bmc, bA, bK, bV) g := id hW
  have h8 := hI.2.1
  refine V_iload_n (i := 1) F dX2_addStation_0 rfl rfl ?_
  refine V_iconst (v := nI 1) F dX2_addStation_1 rfl ?_
  refine V_bipush (v := nI 30) F dX2_addStation_2 rfl ?_
  refine V_callSN (st := []) (nn := 3) F dX2_addStation_4 lk_X2_106 q1796 (ct_isBetween) rfl rfl (Nat.le_of_ble_eq_true rfl) (Nat.le_of_ble_eq_true rfl) (Nat.le_of_ble_eq_true rfl) (by omega) (by omega) ?_
  refine PRk ?_
  refine V_ldcS F dX2_addStation_7 q2446 ?_
  intro w1 hGw1
  refine V_xcSN (st := []) (nn := 2) F dX2_addStation_9 lk_X2_128 q2448 (hdem ((b2 (nI 1 ≤ p ∧ p ≤ nI 30))) w1 (h)) rfl rfl (Nat.le_of_ble_eq_true rfl) (Nat.le_of_ble_eq_true rfl) (Nat.le_of_ble_eq_true rfl) (by omega) (by omega) ?_ ?_
  · rintro _ _ ⟨rfl, rfl, hd_9⟩
    have hP_9 : nI 1 ≤ p ∧ p ≤ nI 30 := b2_nz hd_9
    refine V_aload_n (i := 0) F dX2_addStation_12 rfl rfl ?_
    refine V_getf F dX2_addStation_13 fc_X2_12_X2 (.inl hr) rfl ?_
    refine V_callF (st := []) (nn := 0) F dX2_addStation_16 ⟨lw_F q1237 q388 q390 q111 q392, ⟨q386, List.mem_append_left _ q385, q391, q389, q387⟩, (by decide +kernel), (by decide +kernel)⟩ (ct_AL_size hWt.1) hWt.1.isC rfl rfl (Nat.le_of_ble_eq_true rfl) (Nat.le_of_ble_eq_true rfl) (Nat.le_of_ble_eq_true rfl) (by omega) (by omega) ?_
    refine PRk ?_
    refine V_bipush (v := nI 8) F dX2_addStation_21 rfl ?_
    refine V_icmp_geN (tgt := 30) F dX2_addStation_23 (by decide) (by omega) (by decide) (fun c_23 => ?_) (fun c_23 => ?_)
    · refine V_iconst (v := nI 0) F dX2_addStation_30 rfl ?_
      refine V_ldcS F dX2_addStation_31 q2476 ?_
      intro w2 hGw2
      refine V_xcSN (st := []) (nn := 2) F dX2_addStation_33 lk_X2_128 q2448 (hdem ((nI (0))) w2 (h)) rfl rfl (Nat.le_of_ble_eq_true rfl) (Nat.le_of_ble_eq_true rfl) (Nat.le_of_ble_eq_true rfl) (by omega) (by omega) ?_ ?_
      · exact fun _ _ hp => absurd rfl hp.2.2
      · exact fun E q h2 hp => V_xout F (HT _) (by omega) (by omega) (CFx.of (k := 2) (by exact (if_neg (fun z => z hP_9)).trans (if_pos (by omega))) (by decide) hGw2 hp.2)
    · refine V_iconst (v := nI 1) F dX2_addStation_26 rfl ?_
      refine V_goto (tgt := 31) F dX2_addStation_27 (by decide) ?_
      refine V_ldcS F dX2_addStation_31 q2476 ?_
      intro w3 hGw3
      refine V_xcSN (st := []) (nn := 2) F dX2_addStation_33 lk_X2_128 q2448 (hdem ((nI (1))) w3 (h)) rfl rfl (Nat.le_of_ble_eq_true rfl) (Nat.le_of_ble_eq_true rfl) (Nat.le_of_ble_eq_true rfl) (by omega) (by omega) ?_ ?_
      · rintro _ _ ⟨rfl, rfl, hd_33⟩
        refine V_aload_n (i := 0) F dX2_addStation_36 rfl rfl ?_
        refine V_getf F dX2_addStation_37 fc_X2_12_X2 (.inl hr) rfl ?_
        refine V_iload_n (i := 1) F dX2_addStation_40 rfl rfl ?_
        refine V_callS (st := [.ref (ti)]) (nn := 1) F dX2_addStation_41 lk_X2_81 (ct_I_valueOf (x := p)) rfl rfl (Nat.le_of_ble_eq_true rfl) (Nat.le_of_ble_eq_true rfl) (Nat.le_of_ble_eq_true rfl) (by omega) (by omega) ?_
        rintro _ h3 ⟨qk, rfl, hqk, hx3⟩
        refine VV.bs (fun hB9 => ?_)
        refine V_callF (st := []) (nn := 1) F dX2_addStation_44 ⟨lw_F q2276 q1176 q1178 q111 q1180, ⟨q1175, List.mem_append_left _ q1174, q1179, q1177, q387⟩, (by decide +kernel), (by decide +kernel)⟩ (ct_AL_add (hWt.fr0 hx3).1 (isO_int hqk) (by omega)) (hWt.fr0 hx3).1.isC rfl rfl (Nat.le_of_ble_eq_true rfl) (Nat.le_of_ble_eq_true rfl) (Nat.le_of_ble_eq_true rfl) (by omega) (by omega) ?_
        rintro _ h4 ⟨rfl, tia4, hA4, hx4, hq4⟩
        have hWt3 := hWt.fr0 hx3
        have hof := fun k hk => offK.al (S := kO k) hWt3.1 hB9 (fun _ => kO_ne hk) (fun _ _ _ => rfl)
        have hoi := offK.al (S := kI) hWt3.1 hB9 (fun _ => rfl) (fun _ _ _ => rfl)
        have hr4 := hx4.get (hx3.get hr id rfl) ((hof 2 (by decide)).o (hx3.get hr id rfl)) rfl
        refine V_pop F dX2_addStation_49 rfl ?_
        refine V_aload_n (i := 0) F dX2_addStation_50 rfl rfl ?_
        refine V_getf F dX2_addStation_51 fc_X2_12_X2 (.inl hr4) rfl ?_
        refine V_callF (st := []) (nn := 0) F dX2_addStation_54 ⟨lw_F q1237 q388 q390 q111 q392, ⟨q386, List.mem_append_left _ q385, q391, q389, q387⟩, (by decide +kernel), (by decide +kernel)⟩ (ct_AL_size hA4) hA4.isC rfl rfl (Nat.le_of_ble_eq_true rfl) (Nat.le_of_ble_eq_true rfl) (Nat.le_of_ble_eq_true rfl) (by omega) (by omega) ?_
        refine PRk ?_
        refine V_iconst (v := nI 1) F dX2_addStation_59 rfl ?_
        refine V_isubN F dX2_addStation_60 (by omega) ?_
        obtain ⟨hp1, hp2, hp3⟩ := tn_in (by decide) hP_9 (by decide)
        have hWr3 := hWr.fr0 hx3
        have hWs3 := hWs.fr0 hx3
        have hWb3 := hWb.fr0 hx3
        have hbt : ∀ {k i : Nat}, i ≠ 0 → i ≠ 8 + g 0 → nxAS g (tn p) i = g i := fun h1 h2 => nxAS_o h1 h2
        have e1 : nxAS g (tn p) 1 = g 1 := nxAS_o (by omega) (by omega)
        have e2 : nxAS g (tn p) 2 = g 2 := nxAS_o (by omega) (by omega)
        have e3 : nxAS g (tn p) 3 = g 3 := nxAS_o (by omega) (by omega)
        have hR4 : RWr G h4 (tt, tl, ta, x, A) g := hWr3.frM hx4 (hof 3 (by decide)) (fun z => z.elim (fun z => hO.til z.symm) (fun z => al_ne_ar hWr3.2.1 hWt3.1 hB9 z)) (fun c f z y => y.elim (fun y => ne_ao z hWt3.1.1 y) (fun y => absurd (show bz G ≤ tia from (show ta = tia from y) ▸ hB9 _ _ z) (Nat.not_le.mpr (show tia < bz G from hO.tia2 y.symm)))) (hof 4 (by decide)) hoi
        have hS4 : RWs G h4 (sm, smc, sA, sK, sV) g := ⟨hWs3.1.frk hx4 (hof 23 (by decide)) (hof 24 (by decide)), hWs3.2.1, fun i hi => ⟨(hWs3.2.2 i hi).1.fr hx4 (hof 27 (by decide)), hx4.get (hWs3.2.2 i hi).2 ((hof 8 (by decide)).o (hWs3.2.2 i hi).2) rfl⟩⟩
        have hM4 : RWb G h4 (bm, bmc, bA, bK, bV) g := ⟨hWb3.1.frk hx4 (hof 23 (by decide)) (hof 24 (by decide)), hWb3.2.1, fun i hi => ⟨(hWb3.2.2 i hi).1.fr hx4 (hof 27 (by decide)), hx4.get (hWb3.2.2 i hi).2 ((hof 11 (by decide)).o (hWb3.2.2 i hi).2) rfl⟩⟩
        have hT4 : RWt G h4 (ti, tia4, up tf (g 0) qk) (nxAS g (tn p)) := by
          refine ⟨by rw [nxAS_0]; exact hA4, fun k hk => ?_⟩
          rw [nxAS_0] at hk
          by_cases e : k = g 0
          · subst e; show IV G h4 (up tf (g 0) qk (g 0)) _; rw [up_s, nxAS_8, hp1]; exact hqk.fr hx4 (hof 27 (by decide))
          · show IV G h4 (up tf (g 0) qk k) _; rw [up_n e, nxAS_o (by omega) (by omega)]; exact (hWt3.2 k (by omega)).fr hx4 (hof 27 (by decide))
        have hF4 : Fr (fH h0) h h4 := (hx3.mono (fun _ z => z.elim)).cal hx4 (Yo.m2 (Or.inl hO.ti) (Or.inl hO.tia))
        have hti4 : h0 tia4 = none := hq4.elim (fun e => e ▸ hO.tia) (fun z => hF0.none (hx3.none z.1))
        have hta4 : tia4 = ta → tia4 < bz G := fun e => hq4.elim (fun z => by rw [z]; exact hO.tia2 (z.symm.trans e)) (fun z => by obtain ⟨-, -, cap, g9, q9, -⟩ := hWr3.2.1; exact q9.elim (fun y => by rw [← e, z.1] at y; cases y) (fun y => by rw [e]; exact y.1))
        exact VV.rx (V_iret F dX2_addStation_61 rfl (by omega) (by omega) ⟨by rw [Nat.add_sub_cancel], (if_neg (fun z => z hP_9)).trans (if_neg (by omega)), ⟨((ti, tia4, up tf (g 0) qk), (tt, tl, ta, x, A), (sm, smc, sA, sK, sV), (bm, bmc, bA, bK, bV)), ⟨by rw [nxAS_o (by omega) (by omega), nxAS_o (by omega) (by omega), nxAS_o (by omega) (by omega), nxAS_o (by omega) (by omega)]; exact hr4, hT4, hR4.cg hI e1 (fun t ht j hj => nxAS_o (by omega) (by omega)) (fun t k ht hk => bkG_cg e3 (fun o ho j hj => nxAS_o (by omega) (by omega))), hS4.cg e2 (nxAS_o (by omega) (by omega)) (fun i hi j hj => nxAS_o (by omega) (by omega)), hM4.cg e3 (nxAS_o (by omega) (by omega)) (fun i hi j hj => nxAS_o (by omega) (by omega))⟩, hO.r, hO.ti, hti4, hO.tt, hO.tl, hO.ta, hO.sm, hO.bm, e1 ▸ hO.x, e1 ▸ hO.A, e2 ▸ hO.sA, e3 ▸ hO.bA, hO.til, hta4, hO.sb, e2 ▸ e3 ▸ hO.sbA, e1 ▸ hO.xi, e1 ▸ hO.Ai⟩, hF4⟩)
      · exact fun E q h2 hp => absurd hp.1 (by decide)
  · exact fun E q h2 hp => V_xout F (HT _) (by omega) (by omega) (CFx.of (k := 1) (by have hz := b2_z hp.1; exact if_pos hz) (by decide) hGw1 hp.2)
