set_option maxRecDepth 100000
/-! ===== the reference's scripts ===== -/
theorem Z3.up {g : Nat → Nat} {k v : Nat} (h : Z3 g) (hk : k < 304) : Z3 (up g k v) := fun i hi => (up_n (by omega)).trans (h i hi)
theorem Z3.drop {g : Nat → Nat} {b k c : Nat} (h : Z3 g) (hb : b + 4 * c + 4 ≤ 304) : Z3 (dropN g b k c) := by
  intro i hi
  unfold dropN z1N d1N
  rw [if_neg (by omega), if_neg (by omega)]
  exact h i hi
/-- a change's next row is nothing beyond its range -/
theorem chg_Z3 {n k : Nat} {g g2 : Nat → Nat} {f : Nat → Int32} {v : Int32} (hV : INV n g) (hz : Z3 g) (hk : k < 10) (hc : cdK k g f = 0) (hg : CHG k g f v g2) : Z3 g2 := by
  have hW := hV.W
  obtain ⟨hB, w0, w1, w2, w3, w4, w5⟩ := id hW
  rcases ten hk with rfl | rfl | rfl | rfl | rfl | rfl | rfl | rfl | rfl | rfl
  · obtain ⟨-, rfl⟩ := hg
    unfold nxAS; exact (hz.up (by omega)).up (by omega)
  · obtain ⟨-, rfl⟩ := hg
    have h3 : ¬ g 1 = 6 := by
      have : cdAT g (f 0) (f 1) (f 2) = 0 := hc
      unfold cdAT at this
      intro q
      rw [if_pos q] at this
      split at this
      · cases this
      · split at this <;> cases this
    unfold nxAT; exact (((((hz.up (by omega)).up (by omega)).up (by omega)).up (by omega)).up (by omega))
  · obtain ⟨-, rfl⟩ := hg
    have hc : cdET g (f 0) (f 1) (f 2) (f 3) = 0 := hc
    unfold cdET at hc
    split at hc
    · cases hc
    · rename_i q1
      split at hc
      · cases hc
      · split at hc
        · cases hc
        · rename_i q3
          have q : iR (f 0) (g 1) := Classical.byContradiction fun z => q1 (Or.inl z)
          have ht : tn (f 0) < g 1 := by obtain ⟨z1, z2⟩ := q; unfold tn; omega
          have h8 := w4 _ ht
          have h7 : ¬ g (16 + 36 * tn (f 0) + 3) = 8 := fun z => q3 (Or.inl z)
          unfold nxET; exact ((((hz.up (by omega)).up (by omega)).up (by omega)).up (by omega))
  · obtain ⟨-, rfl⟩ := hg
    have hc : cdDT g (f 0) (f 1) = 0 := hc
    unfold cdDT at hc
    split at hc
    · cases hc
    · rename_i q1
      have q : iR (f 0) (g 1) := Classical.byContradiction fun z => q1 z
      have ht : tn (f 0) < g 1 := by obtain ⟨z1, z2⟩ := q; unfold tn; omega
      unfold nxDT; exact hz.up (by omega)
  · obtain ⟨-, rfl⟩ := hg
    have h3 : ¬ g 2 = 8 := by
      have : cdAC g (f 0) (f 1) (f 2) = 0 := hc
      unfold cdAC at this
      intro q
      rw [if_pos q] at this
      split at this
      · cases this
      · split at this <;> cases this
    unfold nxAC; exact ((((((hz.up (by omega)).up (by omega)).up (by omega)).up (by omega)).up (by omega)).up (by omega))
  · obtain ⟨k, hf, -, rfl⟩ := hg
    have := (fdO_lt hf).1
    unfold nxRL; exact hz.up (by omega)
  · obtain ⟨k, e, R, hf, hA, -, -, rfl⟩ := hg
    have hk8 := (fdO_lt hf).1
    intro i hi
    unfold nxSC
    rw [up_n (by omega), up_n (by omega), cinS_at, if_neg (by omega), hz i hi, Nat.zero_add, List.countP_eq_zero]
    intro p hp
    have hl := ltG_mem _ _ hp
    have h1 := hl.1
    have h2 := hl.k8 hW
    unfold ixL
    intro q
    have q := beq_iff_eq.mp q
    omega
  · obtain ⟨k, hf, -, rfl⟩ := hg
    have := (fdO_lt hf).1
    unfold nxCO; exact ((hz.up (by omega)).drop (by omega)).up (by omega)
  · obtain ⟨-, rfl⟩ := hg
    have h3 : ¬ g 3 = 10 := by
      have : cdBK g (f 0) (f 1) (f 2) = 0 := hc
      unfold cdBK at this
      intro q
      rw [if_pos q] at this
      split at this
      · cases this
      · split at this <;> cases this
    unfold nxBK; exact ((((((hz.up (by omega)).up (by omega)).up (by omega)).up (by omega)).up (by omega)).up (by omega))
  · obtain ⟨k, hf, -, rfl⟩ := hg
    have := (fdO_lt hf).1
    unfold nxCB; exact (hz.up (by omega)).drop (by omega)
theorem QH.int {G : GG} {h h2 : AH} {m : Nat} {A : Nat → Nat} {W tm : Nat} {gb τ g : Nat → Nat} {sn : Option (Nat → Nat)} {hs : List (Nat → Nat)} {tx : List Nat} {ep fc : Nat} {ot : List Nat} {k : Nat} {f : Nat → Int32} {r : Option Value} (hq : QH G h m A W tm gb τ g sn hs tx ep fc ot k f r h2) : ∃ y : Int32, r = some (.int y) := by
  obtain ⟨-, ⟨-, e, -⟩ | ⟨-, v, g2, e, -⟩⟩ := hq
  · exact ⟨_, e⟩
  · exact ⟨_, e⟩
theorem cm_does {G : GG} {l : Launch} {h : AH} {m : Nat} {A : Nat → Nat} {W tm : Nat} {gb τ g : Nat → Nat} {sn : Option (Nat → Nat)} {hs : List (Nat → Nat)} {tx : List Nat} {ep fc : Nat} {ot : List Nat} {cd n p k : Nat} (hM : MW G h m A W tm gb τ g sn hs tx ep fc ot cd) (hV : SVI n g sn hs tx ep fc ot) (hw : W < 2) (hp4 : p + 4 < 155) (hk : k < 10) (he : τ p = k) :
    Ct G l yX4_does cX4_does 5 (some .int) 7 0 0 [.ref m, .int (nI p)] h (QH G h m A W tm gb τ g sn hs tx ep fc ot k (fun i => nI (τ (p + 1 + i)))) := by
  obtain ⟨V, F, hC, hE⟩ := id hM
  obtain rfl := hE.tl
  rcases ten hk with rfl | rfl | rfl | rfl | rfl | rfl | rfl | rfl | rfl | rfl
  · exact (ct_does0 hC.mm rfl hC.a11 hp4 he (fun v h2 q => QH.int q) (cm_chg0 (f := fun i => nI (F 11 (p + 1 + i))) hM hV hw)).up (by decide)
  · exact (ct_does1 hC.mm rfl hC.a11 hp4 he (fun v h2 q => QH.int q) (cm_chg1 (f := fun i => nI (F 11 (p + 1 + i))) hM hV hw)).up (by decide)
  · exact (ct_does2 hC.mm rfl hC.a11 hp4 he (fun v h2 q => QH.int q) (cm_chg2 (f := fun i => nI (F 11 (p + 1 + i))) hM hV hw)).up (by decide)
  · exact (ct_does3 hC.mm rfl hC.a11 hp4 he (fun v h2 q => QH.int q) (cm_chg3 (f := fun i => nI (F 11 (p + 1 + i))) hM hV hw)).up (by decide)
  · exact (ct_does4 hC.mm rfl hC.a11 hp4 he (fun v h2 q => QH.int q) (cm_chg4 (f := fun i => nI (F 11 (p + 1 + i))) hM hV hw)).up (by decide)
  · exact (ct_does5 hC.mm rfl hC.a11 hp4 he (fun v h2 q => QH.int q) (cm_chg5 (f := fun i => nI (F 11 (p + 1 + i))) hM hV hw)).up (by decide)
  · exact (ct_does6_6 hC.mm rfl hC.a11 hp4 he (fun v h2 q => QH.int q) (cm_chg6 (f := fun i => nI (F 11 (p + 1 + i))) hM hV hw)).up (by decide)
  · exact (ct_does7 hC.mm rfl hC.a11 hp4 he (fun v h2 q => QH.int q) (cm_chg7 (f := fun i => nI (F 11 (p + 1 + i))) hM hV hw)).up (by decide)
  · exact (ct_does8 hC.mm rfl hC.a11 hp4 he (fun v h2 q => QH.int q) (cm_chg8 (f := fun i => nI (F 11 (p + 1 + i))) hM hV hw)).up (by decide)
  · exact (ct_does9 hC.mm rfl hC.a11 hp4 (by omega) (by omega) (fun v h2 q => QH.int q) (cm_chg9 (f := fun i => nI (F 11 (p + 1 + i))) hM hV hw)).up (by decide)
theorem cdK_lt {k : Nat} {g : Nat → Nat} {f : Nat → Int32} (hk : k < 10) : cdK k g f < 5 := by
  rcases ten hk with rfl | rfl | rfl | rfl | rfl | rfl | rfl | rfl | rfl | rfl
  · show cdAS g _ < 5; unfold cdAS; (repeat' split) <;> decide
  · show cdAT g _ _ _ < 5; unfold cdAT; (repeat' split) <;> decide
  · show cdET g _ _ _ _ < 5; unfold cdET; (repeat' split) <;> decide
  · show cdDT g _ _ < 5; unfold cdDT; (repeat' split) <;> decide
  · show cdAC g _ _ _ < 5; unfold cdAC; (repeat' split) <;> decide
  · show ccRL g _ _ < 5; unfold ccRL; (repeat' split) <;> decide
  · show ccSD g _ < 5; unfold ccSD
    cases fdO g 232 (f 0) (g 2) with
    | none => show 1 < 5; decide
    | some k => show (if _ then 0 else 2) < 5; split <;> decide
  · show ccCO g _ < 5; unfold ccCO
    cases fdO g 232 (f 0) (g 2) with
    | none => show 1 < 5; decide
    | some k => show (if _ then 0 else 2) < 5; split <;> decide
  · show cdBK g _ _ _ < 5; unfold cdBK; (repeat' split) <;> decide
  · show ccCB g _ < 5; unfold ccCB
    cases fdO g 264 (f 0) (g 3) with
    | none => show 1 < 5; decide
    | some k => show 0 < 5; decide
/-- the words told of a script -/
def TLD (L : List (Nat × List Nat)) (τ : Nat → Nat) : Prop := ∀ j, j < L.length → τ (5 * j) = (L.getD j (0, [])).1 ∧ ∀ i, i < arK (L.getD j (0, [])).1 → τ (5 * j + 1 + i) = (L.getD j (0, [])).2.getD i 0
/-- the reference's reading of a text is the class's (a law of texts alone) -/
def PARS (tx : List Nat) (gi τ : Nat → Nat) : Prop := ((scF gi tx.length 61 0 (0, τ)).1 = 0 ∧ PRN tx 0 (scF gi tx.length 61 0 (0, τ)).2.2.1 ∧ (scF gi tx.length 61 0 (0, τ)).2.2.1 ≤ 60) ∨
  ((scF gi tx.length 61 0 (0, τ)).1 = 1 ∧ ∃ L, PRS tx 0 L ∧ L.length ≤ 20 ∧ (scF gi tx.length 61 0 (0, τ)).2.1 = L.length ∧ TLD L (scF gi tx.length 61 0 (0, τ)).2.2.2)
theorem MC.sc {G : GG} {h : AH} {m : Nat} {A : Nat → Nat} {V : Nat → Value} {F : Nat → Nat → Nat} (hM : MC G h m A V F) {t2 : Nat → Nat} {M a : Nat} : MC G (scH G h m (mF A V) (A 11) t2 M a) m A (upV (upV V 24 (.int (nI M))) 22 (.int (nI a))) (upF F 11 t2) ∧ EqM m A h (scH G h m (mF A V) (A 11) t2 M a) := by
  unfold scH scL
  rw [mF_set24, mF_set22]
  exact ⟨(hM.seta 11 (by decide) _).setm _, (EqM.rf.seta (by decide)).setm⟩
theorem SVI.emp {n : Nat} {g : Nat → Nat} {sn : Option (Nat → Nat)} {hs : List (Nat → Nat)} {l : List Nat} {ep fc : Nat} {ot : List Nat} (h : SVI n g sn hs l ep fc ot) : SVI n g sn hs [] ep fc ot := ⟨h.1, h.2.1, h.2.2.1, h.2.2.2.1, Nat.zero_le _, fun c hc => absurd hc List.not_mem_nil, h.2.2.2.2.2.2⟩
theorem SVI.row {n n2 : Nat} {g g2 : Nat → Nat} {sn : Option (Nat → Nat)} {hs : List (Nat → Nat)} {l : List Nat} {ep fc : Nat} {ot : List Nat} (h : SVI n g sn hs l ep fc ot) (hn : n ≤ n2) (h1 : INV n2 g2) (h2 : Z3 g2) : SVI n2 g2 sn hs l ep fc ot := ⟨⟨h1, h2⟩, fun gs q => ⟨(h.2.1 gs q).1.up hn, (h.2.1 gs q).2⟩, fun i hi => ⟨(h.2.2.1 i hi).1.up hn, (h.2.2.1 i hi).2⟩, h.2.2.2⟩
/-- the end of a script -/
def QR (G : GG) (h : AH) (m : Nat) (A : Nat → Nat) (g : Nat → Nat) (sn : Option (Nat → Nat)) (hs : List (Nat → Nat)) (tx : List Nat) (ep fc : Nat) (ot : List Nat) : Option Value → AH → Prop :=
  fun r h2 => Fr (MP m A) h h2 ∧ (∃ y : Int32, r = some (.int y)) ∧ ∃ (tm : Nat) (gb τ : Nat → Nat), (∃ pos, pos ≤ 60 ∧ PRN tx 0 pos ∧ MW G h2 m A 0 tm gb τ g sn hs [] (pos + 1) fc ot 1) ∨ (∃ L idx, PRS tx 0 L ∧ L.length ≤ 20 ∧ RUX L g idx ∧ MW G h2 m A 0 tm gb τ g sn hs [] ep (idx + 1) ot 2) ∨
    (∃ L g2, PRS tx 0 L ∧ L.length ≤ 20 ∧ RUN L g g2 ∧ r = some (.int (nI L.length)) ∧ MW G h2 m A 0 tm gb τ g2 sn (pushH hs g) [] ep fc ot 0)
theorem cm_runScript {G : GG} {l : Launch} {h : AH} {m : Nat} {A : Nat → Nat} {tm : Nat} {gb τ g : Nat → Nat} {sn : Option (Nat → Nat)} {hs : List (Nat → Nat)} {tx : List Nat} {ep fc : Nat} {ot : List Nat} {cd n : Nat} (hM : MW G h m A 0 tm gb τ g sn hs tx ep fc ot cd) (hV : SVI n g sn hs tx ep fc ot) (hn : n ≤ 900) (hPA : ∀ gi : Nat → Nat, (∀ i, i < tx.length → gi i = tx.getD i 0) → PARS tx gi τ) :
    Ct G l yX4_runScript cX4_runScript 4 (some .int) 8 0 0 [.ref m] h (QR G h m A g sn hs tx ep fc ot) := by
  obtain ⟨V, F, hC, hE⟩ := hM
  obtain rfl := hE.gg
  obtain rfl := hE.tl
  have h60 := hV.2.2.2.2.1
  have hPA := hPA (F 4) hE.i.1
  unfold PARS at hPA
  generalize hSC : scF (F 4) tx.length 61 0 (0, F 11) = R at hPA
  obtain ⟨b, M, a, t2⟩ := R
  dsimp only at hPA
  obtain ⟨k1, k2⟩ := hC.sc (t2 := t2) (M := M) (a := a)
  have e1 := ((hE.tml M).fld (k := 22) (c := .int (nI a)) (by decide)).tld t2
  refine Ct.of (by decide) (Nat.le_of_ble_eq_true rfl) (cat1 rfl) (fun X hXl F0 HN => ?_)
  subst hXl
  refine V_aload_n (i := 0) F0 dX4_runScript_0 rfl rfl ?_
  have hsc := ct_isScript (G := G) (l := xl X) (n := tx.length) hC.mm rfl hC.a4 (congrArg some hE.v9) rfl h60 hE.i.2 rfl hC.a11 (hC.ne (by decide) (by decide) (by decide))
  rw [hSC] at hsc
  refine V_cV0r F0 dX4_runScript_1 lk_X4_293 hsc ⟨0, _, _, _, rfl, (.inl hC.mm)⟩ (Nat.le_of_ble_eq_true rfl) (Nat.le_of_ble_eq_true rfl) (Nat.le_of_ble_eq_true rfl) (Nat.le_of_ble_eq_true rfl) (Nat.le_of_ble_eq_true rfl) ?_
  refine V_istore_n (i := 1) F0 dX4_runScript_4 rfl (Nat.le_of_ble_eq_true rfl) (Nat.le_of_ble_eq_true rfl) ?_
  refine V_iload_n (i := 1) F0 dX4_runScript_5 rfl rfl ?_
  dsimp only
  generalize scH G h m (mF A V) (A 11) t2 M a = h1 at k1 k2 ⊢
  generalize hV1 : upV (upV V 24 (.int (nI M))) 22 (.int (nI a)) = V1 at k1 e1
  have hat : V1 22 = .int (nI a) := by rw [← hV1]; rfl
  generalize hF1 : upF F 11 t2 = F1 at k1 e1
  have hF14 : F1 0 = F 0 := by rw [← hF1]; rfl
  rcases hPA with ⟨rfl, hpn, ha60⟩ | ⟨rfl, L, hps, hL20, rfl, htl⟩
  · refine V_if_neN (tgt := 17) F0 dX4_runScript_6 (by decide) (by decide) (fun c => absurd c (by decide)) (fun _ => ?_)
    refine V_aload_n (i := 0) F0 dX4_runScript_9 rfl rfl ?_
    refine V_aload_n (i := 0) F0 dX4_runScript_10 rfl rfl ?_
    refine V_getf F0 dX4_runScript_11 fc_X4_205_X4 (.inl k1.mm) rfl ?_
    refine VV.stk (st' := [.int (nI a), .ref m]) (by rw [hat]) ?_
    refine V_putf F0 dX4_runScript_14 fp_X4_25_X4 k1.mm rfl rfl (Nat.le_of_ble_eq_true rfl) ?_
    rw [mF_set10]
    have k3 := k1.setm (upV V1 10 (.int (nI a)))
    refine V_aload_n (i := 0) F0 dX4_runScript_17 rfl rfl ?_
    refine V_iconst (v := nI 0) F0 dX4_runScript_18 rfl ?_
    refine V_putf F0 dX4_runScript_19 fp_X4_202_X4 k3.mm rfl rfl (Nat.le_of_ble_eq_true rfl) ?_
    rw [mF_set9]
    have k4 := k3.setm (upV (upV V1 10 (.int (nI a))) 9 (.int (nI 0)))
    refine V_aload_n (i := 0) F0 dX4_runScript_22 rfl rfl ?_
    refine V_iload_n (i := 1) F0 dX4_runScript_23 rfl rfl ?_
    refine V_if_eqN (tgt := 31) F0 dX4_runScript_24 (by decide) (by decide) (fun _ => ?_) (fun c => absurd c (by decide))
    refine V_iconst (v := nI 1) F0 dX4_runScript_31 rfl ?_
    refine V_cV1r F0 dX4_runScript_32 lk_X4_92 (ct_failsP 1 k4.mm rfl (by decide)) ⟨0, _, _, _, rfl, (.inl k4.mm)⟩ (Nat.le_of_ble_eq_true rfl) (Nat.le_of_ble_eq_true rfl) (Nat.le_of_ble_eq_true rfl) (Nat.le_of_ble_eq_true rfl) (Nat.le_of_ble_eq_true rfl) ?_
    refine V_if_eqN (tgt := 40) F0 dX4_runScript_35 (by decide) (by decide) (fun c => absurd c (by decide)) (fun _ => ?_)
    refine V_iconst (v := nI 0) F0 dX4_runScript_38 rfl ?_
    rw [mF_set7]
    have k5 := k4.setm (upV (upV (upV V1 10 (.int (nI a))) 9 (.int (nI 0))) 7 (.int (nI 1)))
    have e5 := ((e1.fau (a + 1)).emp).cod 1
    refine V_iret F0 dX4_runScript_39 rfl (Nat.le_of_ble_eq_true rfl) (Nat.le_of_ble_eq_true rfl) ⟨hC.fr k5 (((k2.setm).setm).setm), ⟨_, rfl⟩, M, _, _, Or.inl ⟨a, ha60, hpn, _, _, k5, e5⟩⟩
  · refine V_if_neN (tgt := 17) F0 dX4_runScript_6 (by decide) (by decide) (fun _ => ?_) (fun c => absurd c (by decide))
    refine V_aload_n (i := 0) F0 dX4_runScript_17 rfl rfl ?_
    refine V_iconst (v := nI 0) F0 dX4_runScript_18 rfl ?_
    refine V_putf F0 dX4_runScript_19 fp_X4_202_X4 k1.mm rfl rfl (Nat.le_of_ble_eq_true rfl) ?_
    rw [mF_set9]
    have k3 := k1.setm (upV V1 9 (.int (nI 0)))
    refine V_aload_n (i := 0) F0 dX4_runScript_22 rfl rfl ?_
    refine V_iload_n (i := 1) F0 dX4_runScript_23 rfl rfl ?_
    refine V_if_eqN (tgt := 31) F0 dX4_runScript_24 (by decide) (by decide) (fun c => absurd c (by decide)) (fun _ => ?_)
    refine V_iconst (v := nI 0) F0 dX4_runScript_27 rfl ?_
    refine V_goto (tgt := 32) F0 dX4_runScript_28 (by decide) ?_
    refine V_cV1r F0 dX4_runScript_32 lk_X4_92 (ct_fails0 k3.mm rfl) ⟨0, _, _, _, rfl, (.inl k3.mm)⟩ (Nat.le_of_ble_eq_true rfl) (Nat.le_of_ble_eq_true rfl) (Nat.le_of_ble_eq_true rfl) (Nat.le_of_ble_eq_true rfl) (Nat.le_of_ble_eq_true rfl) ?_
    refine V_if_eqN (tgt := 40) F0 dX4_runScript_35 (by decide) (by decide) (fun _ => ?_) (fun c => absurd c (by decide))
    rw [mF_set7]
    have k4 := k3.setm (upV (upV V1 9 (.int (nI 0))) 7 (.int (nI 0)))
    have e4 := (e1.emp).cod 0
    refine V_aload_n (i := 0) F0 dX4_runScript_40 rfl rfl ?_
    refine V_getf F0 dX4_runScript_41 fc_X4_7_X4 (.inl k4.mm) rfl ?_
    refine V_iconst (v := nI 0) F0 dX4_runScript_44 rfl ?_
    refine V_aload_n (i := 0) F0 dX4_runScript_45 rfl rfl ?_
    refine V_getf F0 dX4_runScript_46 fc_X4_19_X4 (.inl k4.mm) rfl ?_
    refine V_iconst (v := nI 0) F0 dX4_runScript_49 rfl ?_
    refine V_cS4v F0 dX4_runScript_50 lk_X4_64 (ct_copies k4.a0 k4.a3 (k4.ne (by decide) (by decide) (by decide)) (Nat.le_refl _) (Nat.le_refl _) (by decide) (by decide)) (Nat.le_of_ble_eq_true rfl) (Nat.le_of_ble_eq_true rfl) (Nat.le_of_ble_eq_true rfl) (Nat.le_of_ble_eq_true rfl) (Nat.le_of_ble_eq_true rfl) ?_
    have ecp : cpN (F1 0) 0 (F1 3) 0 304 = F 0 := by rw [hF14]; exact cp_row (fun i _ => by rw [Nat.zero_add]) e1.zb hV.1.2
    refine VV.heap (h' := hset _ (A 3) (mC G 3 (F 0))) (by rw [ecp]; rfl) ?_
    have k5 := k4.seta 3 (by decide) (F 0)
    have e5 := e4.bef hV.1.2
    refine V_aload_n (i := 0) F0 dX4_runScript_53 rfl rfl ?_
    refine V_iconst (v := nI 1) F0 dX4_runScript_54 rfl ?_
    refine V_putf F0 dX4_runScript_55 fp_X4_57_X4 k5.mm rfl rfl (Nat.le_of_ble_eq_true rfl) ?_
    rw [mF_set6]
    have k6 := k5.setm (upV (upV (upV V1 9 (.int (nI 0))) 7 (.int (nI 0))) 6 (.int (nI 1)))
    have e6 := e5.wit 1
    have q6 : EqM m A h _ := ((((k2.setm (e := .inr (0, mF A (upV V1 9 (.int (nI 0)))))).setm (e := .inr (0, mF A (upV (upV V1 9 (.int (nI 0))) 7 (.int (nI 0)))))).seta (i := 3) (e := mC G 3 (F 0)) (by decide))).setm (e := .inr (0, mF A (upV (upV (upV V1 9 (.int (nI 0))) 7 (.int (nI 0))) 6 (.int (nI 1)))))
    have f6 := hC.fr k6 q6
    refine V_iconst (v := nI 0) F0 dX4_runScript_58 rfl ?_
    refine V_istore_n (i := 2) F0 dX4_runScript_59 rfl (Nat.le_of_ble_eq_true rfl) (Nat.le_of_ble_eq_true rfl) ?_
    refine V_iconst (v := nI 0) F0 dX4_runScript_60 rfl ?_
    refine V_istore_n (i := 3) F0 dX4_runScript_61 rfl (Nat.le_of_ble_eq_true rfl) (Nat.le_of_ble_eq_true rfl) ?_
    have hk10 := hps.k10
    -- the end, from 98 on
    have fin : ∀ (d c : Nat) (x : Int32) (gd : Nat → Nat) (h2 : AH), c < 2 ^ 31 → d ≤ L.length → MW G h2 m A 1 L.length (F 0) t2 gd sn hs [] ep fc ot c → Fr (MP m A) h h2 → Z3 gd → (c = 0 → d = L.length ∧ RUN L (F 0) gd) → (c ≠ 0 → x = nI 0 ∧ RUX L (F 0) d) → VV G X 4 (EQ G X 0 0 (QR G h m A (F 0) sn hs tx ep fc ot)) h2 0 0 [some (.ref m), none, some (.int (nI d)), some (.int x)] [] 98 := by
      intro d c x gd h2 hc31 hd hM2 hf2 hz hc0 hc1
      obtain ⟨V2, F2, m1, v1⟩ := hM2
      obtain rfl := v1.gg
      refine V_aload_n (i := 0) F0 dX4_runScript_98 rfl rfl ?_
      refine V_iconst (v := nI 0) F0 dX4_runScript_99 rfl ?_
      refine V_putf F0 dX4_runScript_100 fp_X4_57_X4 m1.mm rfl rfl (Nat.le_of_ble_eq_true rfl) ?_
      rw [mF_set6]
      have m2 := m1.setm (upV V2 6 (.int (nI 0)))
      have v2 := v1.wit 0
      refine V_aload_n (i := 0) F0 dX4_runScript_103 rfl rfl ?_
      refine V_getf F0 dX4_runScript_104 fc_X4_54_X4 (.inl m2.mm) (congrArg some v2.v7) ?_
      refine V_if_leN (tgt := 143) F0 dX4_runScript_107 (by decide) hc31 (fun c_107 => ?_) (fun c_107 => ?_)
      · obtain ⟨rfl, hrun⟩ := hc0 (by omega)
        have hcz : c = 0 := by omega
        subst hcz
        refine V_aload_n (i := 0) F0 dX4_runScript_143 rfl rfl ?_
        refine V_aload_n (i := 0) F0 dX4_runScript_144 rfl rfl ?_
        refine V_getf F0 dX4_runScript_145 fc_X4_19_X4 (.inl m2.mm) rfl ?_
        refine V_cV1v F0 dX4_runScript_148 lk_X4_95 (ct_keeps (w := 0) (ch := hs.length) m2.mm rfl rfl m2.a1 (congrArg some v2.v6) (by decide) (congrArg some v2.v5) hV.2.2.2.1 m2.a3 (m2.ne (by decide) (by decide) (by decide))) ⟨0, _, _, _, rfl, (.inl m2.mm)⟩ (Nat.le_of_ble_eq_true rfl) (Nat.le_of_ble_eq_true rfl) (Nat.le_of_ble_eq_true rfl) (Nat.le_of_ble_eq_true rfl) (Nat.le_of_ble_eq_true rfl) ?_
        rw [v2.b]
        obtain ⟨m3, q3⟩ := m2.kp (W := 0) (ch := hs.length) (g := F 0)
        have v3 := v2.kp hV.2.2.2.1 (F 0)
        refine V_aload_n (i := 0) F0 dX4_runScript_151 rfl rfl ?_
        refine V_getf F0 dX4_runScript_152 fc_X4_211_X4 (.inl m3.mm) (congrArg some v3.v24) ?_
        refine V_iret F0 dX4_runScript_155 rfl (Nat.le_of_ble_eq_true rfl) (Nat.le_of_ble_eq_true rfl) ⟨hf2.cal (m1.fr m3 (EqM.rf.setm.trans q3)) (fun _ q => Or.inl q), ⟨_, rfl⟩, _, _, _, Or.inr (Or.inr ⟨L, _, hps, hL20, hrun, rfl, _, _, m3, v3⟩)⟩
      · have hcn : c ≠ 0 := by omega
        obtain ⟨rfl, hrux⟩ := hc1 hcn
        refine V_aload_n (i := 0) F0 dX4_runScript_110 rfl rfl ?_
        refine V_getf F0 dX4_runScript_111 fc_X4_19_X4 (.inl m2.mm) rfl ?_
        refine V_iconst (v := nI 0) F0 dX4_runScript_114 rfl ?_
        refine V_aload_n (i := 0) F0 dX4_runScript_115 rfl rfl ?_
        refine V_getf F0 dX4_runScript_116 fc_X4_7_X4 (.inl m2.mm) rfl ?_
        refine V_iconst (v := nI 0) F0 dX4_runScript_119 rfl ?_
        refine V_cS4v F0 dX4_runScript_120 lk_X4_64 (ct_copies m2.a3 m2.a0 (m2.ne (by decide) (by decide) (by decide)) (Nat.le_refl _) (Nat.le_refl _) (by decide) (by decide)) (Nat.le_of_ble_eq_true rfl) (Nat.le_of_ble_eq_true rfl) (Nat.le_of_ble_eq_true rfl) (Nat.le_of_ble_eq_true rfl) (Nat.le_of_ble_eq_true rfl) ?_
        have ecp2 : cpN (F2 3) 0 (F2 0) 0 304 = F 0 := by rw [v2.b]; exact cp_row (fun i _ => by rw [Nat.zero_add]) hz hV.1.2
        refine VV.heap (h' := hset _ (A 0) (mC G 0 (F 0))) (by rw [ecp2]; rfl) ?_
        have m3 := m2.seta 0 (by decide) (F 0)
        have v3 := v2.row (F 0)
        refine V_aload_n (i := 0) F0 dX4_runScript_123 rfl rfl ?_
        refine V_iload_n (i := 2) F0 dX4_runScript_124 rfl rfl ?_
        refine V_putf F0 dX4_runScript_125 fp_X4_29_X4 m3.mm rfl rfl (Nat.le_of_ble_eq_true rfl) ?_
        rw [mF_set11]
        have m4 := m3.setm (upV (upV V2 6 (.int (nI 0))) 11 (.int (nI d)))
        refine V_aload_n (i := 0) F0 dX4_runScript_128 rfl rfl ?_
        refine V_iconst (v := nI 2) F0 dX4_runScript_129 rfl ?_
        refine V_putf F0 dX4_runScript_130 fp_X4_54_X4 m4.mm rfl rfl (Nat.le_of_ble_eq_true rfl) ?_
        rw [mF_set7]
        have m5 := m4.setm (upV (upV (upV V2 6 (.int (nI 0))) 11 (.int (nI d))) 7 (.int (nI 2)))
        have v5 := (v3.fai (d + 1)).cod 2
        refine V_iload_n (i := 3) F0 dX4_runScript_133 rfl rfl ?_
        refine V_if_leN (tgt := 141) F0 dX4_runScript_134 (by decide) (by decide) (fun _ => ?_) (fun c => absurd c (by decide))
        refine V_iload_n (i := 3) F0 dX4_runScript_141 rfl rfl ?_
        refine V_iret F0 dX4_runScript_142 rfl (Nat.le_of_ble_eq_true rfl) (Nat.le_of_ble_eq_true rfl) ⟨hf2.cal (m1.fr m5 (((EqM.rf.setm.seta (by decide)).setm).setm)) (fun _ q => Or.inl q), ⟨_, rfl⟩, _, _, _, Or.inr (Or.inl ⟨L, d, hps, hL20, hrux, _, _, m5, v5⟩)⟩
    have loop : ∀ (nn : Nat) (d c : Nat) (x : Int32) (gd : Nat → Nat) (h2 : AH), L.length + 1 < d + nn → c < 2 ^ 31 → d ≤ L.length → MW G h2 m A 1 L.length (F 0) t2 gd sn hs [] ep fc ot c → Fr (MP m A) h h2 → INV (n + d) gd → Z3 gd → (c = 0 → RUN (L.take d) (F 0) gd) → (c ≠ 0 → x = nI 0 ∧ RUX L (F 0) d) → VV G X 4 (EQ G X 0 0 (QR G h m A (F 0) sn hs tx ep fc ot)) h2 0 0 [some (.ref m), none, some (.int (nI d)), some (.int x)] [] 62 := by
      intro nn
      induction nn with
      | zero => intro d c x gd h2 h1 _ h3; exact absurd h1 (by omega)
      | succ nn ih =>
        intro d c x gd h2 hnn hc31 hd hM2 hf2 hI hz hc0 hc1
        obtain ⟨V2, F2, m1, v1⟩ := id hM2
        refine V_iload_n (i := 2) F0 dX4_runScript_62 rfl rfl ?_
        refine V_aload_n (i := 0) F0 dX4_runScript_63 rfl rfl ?_
        refine V_getf F0 dX4_runScript_64 fc_X4_211_X4 (.inl m1.mm) (congrArg some v1.v24) ?_
        refine V_icmp_geN (tgt := 98) F0 dX4_runScript_67 (by decide) (by omega) (by omega) (fun c_67 => ?_) (fun c_67 => ?_)
        · refine fin d c x gd h2 hc31 hd hM2 hf2 hz (fun q => ⟨by omega, ?_⟩) hc1
          have q2 := hc0 q
          rw [List.take_of_length_le c_67] at q2
          exact q2
        · refine V_aload_n (i := 0) F0 dX4_runScript_70 rfl rfl ?_
          refine V_getf F0 dX4_runScript_71 fc_X4_54_X4 (.inl m1.mm) (congrArg some v1.v7) ?_
          refine V_if_neN (tgt := 98) F0 dX4_runScript_74 (by decide) hc31 (fun c_74 => ?_) (fun c_74 => ?_)
          · exact fin d c x gd h2 hc31 hd hM2 hf2 hz (fun q => absurd q (by omega)) hc1
          · have hcz : c = 0 := by omega
            subst hcz
            have hlt : d < L.length := by omega
            refine V_aload_n (i := 0) F0 dX4_runScript_77 rfl rfl ?_
            refine V_iconst (v := nI 5) F0 dX4_runScript_78 rfl ?_
            refine V_iload_n (i := 2) F0 dX4_runScript_79 rfl rfl ?_
            refine V_imulN F0 dX4_runScript_80 ?_
            obtain ⟨t1, t3⟩ := htl d hlt
            have hx10 : (L.getD d (0, [])).1 < 10 := by
              refine hk10 _ ?_
              rw [List.getD_eq_getElem?_getD, List.getElem?_eq_getElem hlt]
              exact List.getElem_mem _
            have hS2 : SVI (n + d) gd sn hs [] ep fc ot := (hV.emp).row (by omega) hI hz
            refine V_callV (st := []) (nn := 1) F0 dX4_runScript_81 lk_X4_296 (cm_does hM2 hS2 (by decide) (p := 5 * d) (by omega) hx10 t1) ⟨0, _, _, _, rfl, (.inl m1.mm)⟩ rfl rfl (Nat.le_of_ble_eq_true rfl) (Nat.le_of_ble_eq_true rfl) (Nat.le_of_ble_eq_true rfl) (Nat.le_of_ble_eq_true rfl) (Nat.le_of_ble_eq_true rfl) ?_
            intro r h3 hq
            obtain ⟨hf3, hq⟩ := hq
            have hf4 : Fr (MP m A) h h3 := hf2.cal hf3 (fun _ q => Or.inl q)
            have hcg : ∀ i, i < arK (L.getD d (0, [])).1 → (fun i => nI (t2 (5 * d + 1 + i))) i = afK (L.getD d (0, [])).2 i := fun i hi => by
              show nI (t2 (5 * d + 1 + i)) = nI _
              rw [t3 i hi]
            rcases hq with ⟨hne, rfl, hM3⟩ | ⟨he0, v, g2, rfl, hG, hM3⟩
            · obtain ⟨V3, F3, m3, v3⟩ := id hM3
              have hlt31 : cdK (L.getD d (0, [])).1 gd (fun i => nI (t2 (5 * d + 1 + i))) < 2 ^ 31 := Nat.lt_of_lt_of_le (cdK_lt hx10) (by decide)
              refine V_istore_n (i := 3) F0 dX4_runScript_84 rfl (Nat.le_of_ble_eq_true rfl) (Nat.le_of_ble_eq_true rfl) ?_
              refine V_aload_n (i := 0) F0 dX4_runScript_85 rfl rfl ?_
              refine V_getf F0 dX4_runScript_86 fc_X4_54_X4 (.inl m3.mm) (congrArg some v3.v7) ?_
              refine V_if_neN (tgt := 62) F0 dX4_runScript_89 (by decide) hlt31 (fun _ => ?_) (fun c => absurd c hne)
              -- the loop's end is reached at once
              refine V_iload_n (i := 2) F0 dX4_runScript_62 rfl rfl ?_
              refine V_aload_n (i := 0) F0 dX4_runScript_63 rfl rfl ?_
              refine V_getf F0 dX4_runScript_64 fc_X4_211_X4 (.inl m3.mm) (congrArg some v3.v24) ?_
              refine V_icmp_geN (tgt := 98) F0 dX4_runScript_67 (by decide) (by omega) (by omega) (fun c => absurd c (by omega)) (fun _ => ?_)
              refine V_aload_n (i := 0) F0 dX4_runScript_70 rfl rfl ?_
              refine V_getf F0 dX4_runScript_71 fc_X4_54_X4 (.inl m3.mm) (congrArg some v3.v7) ?_
              refine V_if_neN (tgt := 98) F0 dX4_runScript_74 (by decide) hlt31 (fun _ => ?_) (fun c => absurd c hne)
              refine fin d _ _ gd h3 hlt31 hd hM3 hf4 hz (fun q => absurd q hne) (fun _ => ⟨rfl, gd, hlt, hc0 rfl, ?_⟩)
              rw [← cdK_cg hx10 hcg]; exact hne
            · obtain ⟨V3, F3, m3, v3⟩ := id hM3
              refine V_istore_n (i := 3) F0 dX4_runScript_84 rfl (Nat.le_of_ble_eq_true rfl) (Nat.le_of_ble_eq_true rfl) ?_
              refine V_aload_n (i := 0) F0 dX4_runScript_85 rfl rfl ?_
              refine V_getf F0 dX4_runScript_86 fc_X4_54_X4 (.inl m3.mm) (congrArg some v3.v7) ?_
              refine V_if_neN (tgt := 62) F0 dX4_runScript_89 (by decide) (by decide) (fun c => absurd c (Nat.lt_irrefl 0)) (fun _ => ?_)
              refine V_iinc (i := 2) (v := nI (d + 1)) F0 dX4_runScript_92 rfl (nI_add d 1) (Nat.le_of_ble_eq_true rfl) ?_
              refine V_goto (tgt := 62) F0 dX4_runScript_95 (by decide) ?_
              have hI2 := invp (n + d) _ gd g2 _ v (by omega) hI hx10 he0 hG
              have hz2 := chg_Z3 hI hz hx10 he0 hG
              refine ih (d + 1) 0 v g2 h3 (by omega) (by decide) (by omega) hM3 hf4 hI2 hz2 (fun _ => ?_) (fun q => absurd rfl q)
              refine RUN.step (v := v) hlt (hc0 rfl) ?_ ?_
              · rw [← cdK_cg hx10 hcg]; exact he0
              · exact CHG_cg hx10 hcg hG
    refine VV.weak (L' := [some (.ref m), none, some (.int (nI 0)), some (.int (nI 0))]) (LW.c1 (LW.c0 (LW.c1 (LW.c1 LW.nil)))) ?_
    exact loop (L.length + 2) 0 0 (nI 0) (F 0) _ (by omega) (by decide) (Nat.zero_le _) ⟨_, _, k6, e6⟩ f6 (by rw [Nat.add_zero]; exact hV.1.1) hV.1.2 (fun _ => rfl) (fun q => absurd rfl q)
