set_option maxRecDepth 100000
/-! ===== a new object ===== -/
theorem LEG_Z0 {t k : Nat} : ¬ LEG Z0 t k := fun h => Nat.not_lt_zero _ h.1
theorem INV_Z0 : INV 0 Z0 :=
  ⟨⟨fun _ => (show 0 < 2 ^ 20 by decide), by decide, by decide, by decide, by decide, fun t ht => absurd ht (Nat.not_lt_zero t), fun t k ht => absurd ht (Nat.not_lt_zero t)⟩, fun i j _ h => absurd h (Nat.not_lt_zero j), fun i j _ h => absurd h (Nat.not_lt_zero j), fun i h => absurd h (Nat.not_lt_zero i), fun i h => absurd h (Nat.not_lt_zero i), ⟨Nat.le_refl _, Nat.le_refl _⟩, fun _ _ _ _ _ => rfl, fun o h => absurd h (Nat.not_lt_zero o), fun i h => absurd h (Nat.not_lt_zero i), fun t k h => absurd h LEG_Z0, rfl, fun _ => (show 0 < 2 ^ 19 by decide), fun s h => absurd h (Nat.not_lt_zero s), fun t h => absurd h (Nat.not_lt_zero t), ⟨Nat.le_refl _, Nat.le_refl _, Nat.le_refl _⟩, fun t k h => absurd h (Nat.not_lt_zero t)⟩

theorem ct_X1_init {G : GG} {l : Launch} {h : AH} {P : Nat → Prop} {xo : Nat}  (hx : h xo = some (.inr (1, [.null, .null, .null, .null, .int (nI 0), .int (nI 0), .null]))) (hP : ∀ z, h z = none → P z) (hPx : P xo)  : Ct G l yX1_init cX1_init 1 none 6 (20) (120) [.ref xo] h (fun r0 h2 => r0 = none ∧ CW G P h2 xo Z0 none [] [] (-1) (-1) [] ∧ Fr P h h2) := by
  refine Ct.of (by decide) (Nat.le_of_ble_eq_true rfl) (cat1 rfl) (fun X hXl F HN => ?_)
  subst hXl
  refine V_aload_n (i := 0) F dX1_init_0 rfl rfl ?_
  refine V_objInit F dX1_init_1 q179 q180 q181 (Nat.le_of_ble_eq_true rfl) (Nat.le_of_ble_eq_true rfl) ?_
  refine V_aload_n (i := 0) F dX1_init_4 rfl rfl ?_
  refine V_new F dX1_init_5 nw_X1_12 (by omega) (by omega) ?_
  intro hl hfhl hbhl
  refine V_dup F dX1_init_8 rfl ?_
  refine V_callI (st := [.ref (hl), .ref (xo)]) (nn := 0) F dX1_init_9 lk_X1_14 (ct_LL_init (fun _ => 0) (fun _ => 0) (hset_self (e := .inr (19, [.int 0, .int 0, .null, .null])))) rfl rfl (Nat.le_of_ble_eq_true rfl) (Nat.le_of_ble_eq_true rfl) (Nat.le_of_ble_eq_true rfl) (by omega) (by omega) ?_
  rintro _ h1 ⟨rfl, hL1, hx1⟩
  have hN1 : Fr nM h h1 := (Fr.rf.nw (x := .inr (19, [.int 0, .int 0, .null, .null])) hfhl).cal hx1 (Yo.m1 (Or.inr hfhl))
  have hx1c := hN1.get hx id rfl
  have hF1 : Fr P h h1 := hN1.mono (fun _ z => z.elim)
  refine V_putF F dX1_init_12 ff_X1_15_X1 hx1c HN rfl rfl (Nat.le_of_ble_eq_true rfl) ?_
  refine VV.heap (h' := (hset h1 (xo) (.inr (1, [.null, .null, .ref (hl), .null, .int (nI (0)), .int (nI (0)), .null])))) rfl ?_
  refine V_aload_n (i := 0) F dX1_init_15 rfl rfl ?_
  have k1 : Fr (m1 xo) h1 ((hset h1 (xo) (.inr (1, [.null, .null, .ref (hl), .null, .int (nI (0)), .int (nI (0)), .null])))) := Fr.rf.put (x := .inr (1, [.null, .null, .ref (hl), .null, .int (nI (0)), .int (nI (0)), .null])) hx1c rfl rfl (Or.inl rfl)
  have q1 : ((hset h1 (xo) (.inr (1, [.null, .null, .ref (hl), .null, .int (nI (0)), .int (nI (0)), .null])))) xo = some (.inr (1, [.null, .null, .ref (hl), .null, .int (nI (0)), .int (nI (0)), .null])) := hset_self
  have hF1b : Fr P h ((hset h1 (xo) (.inr (1, [.null, .null, .ref (hl), .null, .int (nI (0)), .int (nI (0)), .null])))) := hF1.cal k1 (fun z e => Or.inl (e ▸ hPx))
  have hL1b := hL1.frk k1 (offK.m1 hx1c rfl) (offK.m1 hx1c rfl)
  refine V_new F dX1_init_16 nw_X1_21 (by omega) (by omega) ?_
  intro sb hfsb hbsb
  have p1 : (hset h1 (xo) (.inr (1, [.null, .null, .ref (hl), .null, .int (nI (0)), .int (nI (0)), .null]))) xo = some (.inr (1, [.null, .null, .ref (hl), .null, .int (nI (0)), .int (nI (0)), .null])) := (hset_self (e := .inr (1, [.null, .null, .ref (hl), .null, .int (nI (0)), .int (nI (0)), .null])))
  refine V_dup F dX1_init_19 rfl ?_
  refine V_callI (st := [.ref (sb), .ref (xo)]) (nn := 0) F dX1_init_20 lk_X1_23 (ct_J5_init (hset_self (e := .inr (21, [.null, .int 0, .int 0, .int 0])))) rfl rfl (Nat.le_of_ble_eq_true rfl) (Nat.le_of_ble_eq_true rfl) (Nat.le_of_ble_eq_true rfl) (by omega) (by omega) ?_
  rintro _ h2 ⟨rfl, b2, hb2, hS2, hx2⟩
  have hw2 : Fr nM _ _ := Fr.rf.nw (x := .inr (21, [.null, .int 0, .int 0, .int 0])) hfsb
  have hN2 := hw2.cal hx2 (Yo.m1 (Or.inr hfsb))
  have hx2c := hN2.get q1 id rfl
  have hF2 := hF1b.cal0 hN2
  have hL2 := hL1b.frm hN2 id (fun _ _ => id)
  have hPb : P b2 := hP _ (hF1b.none (hw2.none hb2))
  have hPs : P sb := hP _ (hF1b.none hfsb)
  refine V_putF F dX1_init_23 ff_X1_24_X1 hx2c HN rfl rfl (Nat.le_of_ble_eq_true rfl) ?_
  refine VV.heap (h' := (hset h2 (xo) (.inr (1, [.null, .null, .ref (hl), .ref (sb), .int (nI (0)), .int (nI (0)), .null])))) rfl ?_
  refine V_aload_n (i := 0) F dX1_init_26 rfl rfl ?_
  refine V_iconst (v := -1) F dX1_init_27 rfl ?_
  refine V_putf F dX1_init_28 fp_X1_28_X1 (hset_self (e := .inr (1, [.null, .null, .ref (hl), .ref (sb), .int (nI (0)), .int (nI (0)), .null]))) rfl rfl (Nat.le_of_ble_eq_true rfl) ?_
  refine VV.heap (h' := (hset (hset h2 (xo) (.inr (1, [.null, .null, .ref (hl), .ref (sb), .int (nI (0)), .int (nI (0)), .null]))) (xo) (.inr (1, [.null, .null, .ref (hl), .ref (sb), .int (-1), .int (nI (0)), .null])))) rfl ?_
  refine V_aload_n (i := 0) F dX1_init_31 rfl rfl ?_
  refine V_iconst (v := -1) F dX1_init_32 rfl ?_
  refine V_putf F dX1_init_33 fp_X1_32_X1 (hset_self (e := .inr (1, [.null, .null, .ref (hl), .ref (sb), .int (-1), .int (nI (0)), .null]))) rfl rfl (Nat.le_of_ble_eq_true rfl) ?_
  refine VV.heap (h' := (hset (hset (hset h2 (xo) (.inr (1, [.null, .null, .ref (hl), .ref (sb), .int (nI (0)), .int (nI (0)), .null]))) (xo) (.inr (1, [.null, .null, .ref (hl), .ref (sb), .int (-1), .int (nI (0)), .null]))) (xo) (.inr (1, [.null, .null, .ref (hl), .ref (sb), .int (-1), .int (-1), .null])))) rfl ?_
  refine V_aload_n (i := 0) F dX1_init_36 rfl rfl ?_
  refine V_ldcS F dX1_init_37 q251 ?_
  intro w2 hGw2
  refine V_putf F dX1_init_39 fp_X1_37_X1 (hset_self (e := .inr (1, [.null, .null, .ref (hl), .ref (sb), .int (-1), .int (-1), .null]))) rfl rfl (Nat.le_of_ble_eq_true rfl) ?_
  refine VV.heap (h' := (hset (hset (hset (hset h2 (xo) (.inr (1, [.null, .null, .ref (hl), .ref (sb), .int (nI (0)), .int (nI (0)), .null]))) (xo) (.inr (1, [.null, .null, .ref (hl), .ref (sb), .int (-1), .int (nI (0)), .null]))) (xo) (.inr (1, [.null, .null, .ref (hl), .ref (sb), .int (-1), .int (-1), .null]))) (xo) (.inr (1, [.null, .null, .ref (hl), .ref (sb), .int (-1), .int (-1), .ref (w2)])))) rfl ?_
  refine V_aload_n (i := 0) F dX1_init_42 rfl rfl ?_
  refine VV.heap (h' := hset h2 (xo) (.inr (1, [.null, .null, .ref (hl), .ref (sb), .int (-1), .int (-1), .ref (w2)]))) (by simp only [hset_hset]) ?_
  have k2 : Fr (m1 xo) h2 ((hset h2 (xo) (.inr (1, [.null, .null, .ref (hl), .ref (sb), .int (-1), .int (-1), .ref (w2)])))) := Fr.rf.put (x := .inr (1, [.null, .null, .ref (hl), .ref (sb), .int (-1), .int (-1), .ref (w2)])) hx2c rfl rfl (Or.inl rfl)
  have q2 : ((hset h2 (xo) (.inr (1, [.null, .null, .ref (hl), .ref (sb), .int (-1), .int (-1), .ref (w2)])))) xo = some (.inr (1, [.null, .null, .ref (hl), .ref (sb), .int (-1), .int (-1), .ref (w2)])) := hset_self
  have hF2b : Fr P h ((hset h2 (xo) (.inr (1, [.null, .null, .ref (hl), .ref (sb), .int (-1), .int (-1), .ref (w2)])))) := hF2.cal k2 (fun z e => Or.inl (e ▸ hPx))
  have hL2b := hL2.frk k2 (offK.m1 hx2c rfl) (offK.m1 hx2c rfl)
  have hS2b := hS2.fr k2 (fun e => by obtain ⟨ml, c, z1, -⟩ := hS2; exact ne_oo z1 hx2c (by decide) e) (fun e => by obtain ⟨ml, c, z1, z2, -⟩ := hS2; exact ne_ao z2 hx2c e)
  refine V_new F dX1_init_43 nw_X1_41 (by omega) (by omega) ?_
  intro r hfr hbr
  have p3 : (hset h2 (xo) (.inr (1, [.null, .null, .ref (hl), .ref (sb), .int (-1), .int (-1), .ref (w2)]))) xo = some (.inr (1, [.null, .null, .ref (hl), .ref (sb), .int (-1), .int (-1), .ref (w2)])) := (hset_self (e := .inr (1, [.null, .null, .ref (hl), .ref (sb), .int (-1), .int (-1), .ref (w2)])))
  refine V_dup F dX1_init_46 rfl ?_
  refine V_callIN (st := [.ref (r), .ref (xo)]) (nn := 0) F dX1_init_47 lk_X1_43 q255 rfl (ct_RW_init (fun _ => 0) (fun _ => 0) (fun _ => 0) (fun _ => 0) (fun _ => 0) (hset_self (e := .inr (2, [.null, .null, .null, .null, .int 0, .int 0, .int 0, .int 0])))) rfl rfl (Nat.le_of_ble_eq_true rfl) (Nat.le_of_ble_eq_true rfl) (Nat.le_of_ble_eq_true rfl) (by omega) (by omega) ?_
  rintro _ h3 ⟨rfl, ti, tt, tl, sm, bm, As, Ab, hti, htt, htl, hsm, hbm, hsb, hr3, hT3, htt3, hTL3, hSM3, hB3, hx3⟩
  have hN3 := (Fr.rf.nw (M := nM) (x := .inr (2, [.null, .null, .null, .null, .int 0, .int 0, .int 0, .int 0])) hfr).cal hx3 (Yo.m1 (Or.inr hfr))
  have hx3c := hN3.get q2 id rfl
  have hF3 := hF2b.cal0 hN3
  have hL3 := hL2b.frm hN3 id (fun _ _ => id)
  have hS3 := hS2b.fr0 hN3
  have hRW3 : RG G P h3 r Z0 := ⟨⟨⟨ti, ad G 1, fun _ => 0⟩, ⟨tt, tl, ad G 1, fun _ => 0, fun _ _ => 0⟩, ⟨sm, 0, As, fun _ => 0, fun _ => 0⟩, ⟨bm, 0, Ab, fun _ => 0, fun _ => 0⟩⟩, ⟨hr3, ⟨hT3, fun k hk => absurd hk (Nat.not_lt_zero k)⟩, ⟨htt3, hTL3, fun k hk => absurd hk (Nat.not_lt_zero k)⟩, ⟨hSM3, Nat.le_refl _, fun k hk => absurd hk (Nat.not_lt_zero k)⟩, ⟨hB3, Nat.le_refl _, fun k hk => absurd hk (Nat.not_lt_zero k)⟩⟩, fun t i ht _ => absurd ht (Nat.not_lt_zero t)⟩
  refine V_putf F dX1_init_50 fp_X1_44_X1 hx3c rfl rfl (Nat.le_of_ble_eq_true rfl) ?_
  refine VV.heap (h' := (hset h3 (xo) (.inr (1, [.ref (r), .null, .ref (hl), .ref (sb), .int (-1), .int (-1), .ref (w2)])))) rfl ?_
  have k3 : Fr (m1 xo) h3 ((hset h3 (xo) (.inr (1, [.ref (r), .null, .ref (hl), .ref (sb), .int (-1), .int (-1), .ref (w2)])))) := Fr.rf.put (x := .inr (1, [.ref (r), .null, .ref (hl), .ref (sb), .int (-1), .int (-1), .ref (w2)])) hx3c rfl rfl (Or.inl rfl)
  have q3 : ((hset h3 (xo) (.inr (1, [.ref (r), .null, .ref (hl), .ref (sb), .int (-1), .int (-1), .ref (w2)])))) xo = some (.inr (1, [.ref (r), .null, .ref (hl), .ref (sb), .int (-1), .int (-1), .ref (w2)])) := hset_self
  have hF3b : Fr P h ((hset h3 (xo) (.inr (1, [.ref (r), .null, .ref (hl), .ref (sb), .int (-1), .int (-1), .ref (w2)])))) := hF3.cal k3 (fun z e => Or.inl (e ▸ hPx))
  have hL3b := hL3.frk k3 (offK.m1 hx3c rfl) (offK.m1 hx3c rfl)
  have hS3b := hS3.fr k3 (fun e => by obtain ⟨ml, c, z1, -⟩ := hS3; exact ne_oo z1 hx3c (by decide) e) (fun e => by obtain ⟨ml, c, z1, z2, -⟩ := hS3; exact ne_ao z2 hx3c e)
  have km3 : KM G P (m1 xo) h3 := KM.m1o hx3c (by decide)
  exact V_vret F dX1_init_53 (by first | exact Nat.le_of_ble_eq_true rfl | omega) (by first | exact Nat.le_of_ble_eq_true rfl | omega) ⟨rfl, ⟨r, none, hl, sb, w2, 0, fun _ => 0, fun _ => 0, b2, 16, q3, hRW3.fr k3 km3, trivial, hL3b, fun i hi => absurd hi (Nat.not_lt_zero i), hS3b, ⟨by decide, Or.inr ⟨hGw2, rfl⟩⟩, hPx, hP _ hfhl, fun i hi => absurd hi (Nat.not_lt_zero i), hPs, hPb⟩, hF3b⟩
