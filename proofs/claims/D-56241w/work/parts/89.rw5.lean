/-! ===== railways under change ===== -/
/-- the own cells of a railway: all new since h0, and apart -/
def RO (G : GG) (h0 : AH) (r : Nat) (D : RD) (g : Nat → Nat) : Prop :=
  (h0 r = Option.none) ∧
  (h0 D.1.1 = Option.none) ∧
  (h0 D.1.2.1 = Option.none) ∧
  (h0 D.2.1.1 = Option.none) ∧
  (h0 D.2.1.2.1 = Option.none) ∧
  (h0 D.2.1.2.2.1 = Option.none) ∧
  (h0 D.2.2.1.1 = Option.none) ∧
  (h0 D.2.2.2.1 = Option.none) ∧
  (∀ t, t < g 1 → h0 (D.2.1.2.2.2.1 t) = Option.none) ∧
  (∀ t, t < g 1 → ∀ i, i < 5 → h0 (D.2.1.2.2.2.2 t i) = Option.none) ∧
  (∀ i, i < g 2 → h0 (D.2.2.1.2.2.1 i) = Option.none) ∧
  (∀ i, i < g 3 → h0 (D.2.2.2.2.2.1 i) = Option.none) ∧
  (D.1.1 ≠ D.2.1.2.1) ∧
  (D.1.2.1 = D.2.1.2.2.1 → D.1.2.1 < bz G) ∧
  (D.2.2.1.1 ≠ D.2.2.2.1) ∧
  (∀ i j, i < g 2 → j < g 3 → D.2.2.1.2.2.1 i ≠ D.2.2.2.2.2.1 j) ∧
  (∀ t u, t < g 1 → u < g 1 → D.2.1.2.2.2.1 t = D.2.1.2.2.2.1 u → t = u) ∧
  (∀ t u i j, t < g 1 → u < g 1 → i < 5 → j < 5 → D.2.1.2.2.2.2 t i = D.2.1.2.2.2.2 u j → t = u ∧ i = j)
theorem RO.r {G : GG} {h0 : AH} {r : Nat} {D : RD} {g : Nat → Nat} (h : RO G h0 r D g) : h0 r = Option.none := h.1
theorem RO.ti {G : GG} {h0 : AH} {r : Nat} {D : RD} {g : Nat → Nat} (h : RO G h0 r D g) : h0 D.1.1 = Option.none := h.2.1
theorem RO.tia {G : GG} {h0 : AH} {r : Nat} {D : RD} {g : Nat → Nat} (h : RO G h0 r D g) : h0 D.1.2.1 = Option.none := h.2.2.1
theorem RO.tt {G : GG} {h0 : AH} {r : Nat} {D : RD} {g : Nat → Nat} (h : RO G h0 r D g) : h0 D.2.1.1 = Option.none := h.2.2.2.1
theorem RO.tl {G : GG} {h0 : AH} {r : Nat} {D : RD} {g : Nat → Nat} (h : RO G h0 r D g) : h0 D.2.1.2.1 = Option.none := h.2.2.2.2.1
theorem RO.ta {G : GG} {h0 : AH} {r : Nat} {D : RD} {g : Nat → Nat} (h : RO G h0 r D g) : h0 D.2.1.2.2.1 = Option.none := h.2.2.2.2.2.1
theorem RO.sm {G : GG} {h0 : AH} {r : Nat} {D : RD} {g : Nat → Nat} (h : RO G h0 r D g) : h0 D.2.2.1.1 = Option.none := h.2.2.2.2.2.2.1
theorem RO.bm {G : GG} {h0 : AH} {r : Nat} {D : RD} {g : Nat → Nat} (h : RO G h0 r D g) : h0 D.2.2.2.1 = Option.none := h.2.2.2.2.2.2.2.1
theorem RO.x {G : GG} {h0 : AH} {r : Nat} {D : RD} {g : Nat → Nat} (h : RO G h0 r D g) : ∀ t, t < g 1 → h0 (D.2.1.2.2.2.1 t) = Option.none := h.2.2.2.2.2.2.2.2.1
theorem RO.A {G : GG} {h0 : AH} {r : Nat} {D : RD} {g : Nat → Nat} (h : RO G h0 r D g) : ∀ t, t < g 1 → ∀ i, i < 5 → h0 (D.2.1.2.2.2.2 t i) = Option.none := h.2.2.2.2.2.2.2.2.2.1
theorem RO.sA {G : GG} {h0 : AH} {r : Nat} {D : RD} {g : Nat → Nat} (h : RO G h0 r D g) : ∀ i, i < g 2 → h0 (D.2.2.1.2.2.1 i) = Option.none := h.2.2.2.2.2.2.2.2.2.2.1
theorem RO.bA {G : GG} {h0 : AH} {r : Nat} {D : RD} {g : Nat → Nat} (h : RO G h0 r D g) : ∀ i, i < g 3 → h0 (D.2.2.2.2.2.1 i) = Option.none := h.2.2.2.2.2.2.2.2.2.2.2.1
theorem RO.til {G : GG} {h0 : AH} {r : Nat} {D : RD} {g : Nat → Nat} (h : RO G h0 r D g) : D.1.1 ≠ D.2.1.2.1 := h.2.2.2.2.2.2.2.2.2.2.2.2.1
theorem RO.tia2 {G : GG} {h0 : AH} {r : Nat} {D : RD} {g : Nat → Nat} (h : RO G h0 r D g) : D.1.2.1 = D.2.1.2.2.1 → D.1.2.1 < bz G := h.2.2.2.2.2.2.2.2.2.2.2.2.2.1
theorem RO.sb {G : GG} {h0 : AH} {r : Nat} {D : RD} {g : Nat → Nat} (h : RO G h0 r D g) : D.2.2.1.1 ≠ D.2.2.2.1 := h.2.2.2.2.2.2.2.2.2.2.2.2.2.2.1
theorem RO.sbA {G : GG} {h0 : AH} {r : Nat} {D : RD} {g : Nat → Nat} (h : RO G h0 r D g) : ∀ i j, i < g 2 → j < g 3 → D.2.2.1.2.2.1 i ≠ D.2.2.2.2.2.1 j := h.2.2.2.2.2.2.2.2.2.2.2.2.2.2.2.1
theorem RO.xi {G : GG} {h0 : AH} {r : Nat} {D : RD} {g : Nat → Nat} (h : RO G h0 r D g) : ∀ t u, t < g 1 → u < g 1 → D.2.1.2.2.2.1 t = D.2.1.2.2.2.1 u → t = u := h.2.2.2.2.2.2.2.2.2.2.2.2.2.2.2.2.1
theorem RO.Ai {G : GG} {h0 : AH} {r : Nat} {D : RD} {g : Nat → Nat} (h : RO G h0 r D g) : ∀ t u i j, t < g 1 → u < g 1 → i < 5 → j < 5 → D.2.1.2.2.2.2 t i = D.2.1.2.2.2.2 u j → t = u ∧ i = j := h.2.2.2.2.2.2.2.2.2.2.2.2.2.2.2.2.2
/-- what was not there in the heap h0 -/
abbrev fH (h0 : AH) : Nat → Prop := fun a => h0 a = Option.none
section TMF
variable {G : GG} {h h2 : AH} {M : Nat → Prop} {t t2 mc mc2 n n2 : Nat} {A K V A2 K2 V2 : Nat → Nat}
theorem TMp.nod (hM : TMp h t mc n A K V) (i : Nat) (hi : i < n) : ∃ f, h (A i) = some (.inr (24, f)) := by
  obtain ⟨-, rt, L, R, P, C, lo, hi', ⟨x0, x1, x6, x7, x8, ht, -⟩, hT, -⟩ := hM
  exact ⟨_, hT i hi⟩
theorem TMp.frk (hM : TMp h t mc n A K V) (hx : Fr M h h2) (h23 : offK M h (kO 23)) (h24 : offK M h (kO 24)) : TMp h2 t mc n A K V :=
  hM.fr hx (by obtain ⟨f, hf⟩ := hM.cell; exact h23.o hf) (fun i hi => by obtain ⟨f, hf⟩ := hM.nod i hi; exact h24.o hf)
theorem TMp.fr1 {a c : Nat} {fs : List Value} (hM : TMp h t mc n A K V) (hx : Fr (m1 a) h h2) (ha : h a = some (.inr (c, fs))) (h23 : c ≠ 23) (h24 : c ≠ 24) : TMp h2 t mc n A K V :=
  hM.frk hx (offK.m1 ha (kO_ne h23)) (offK.m1 ha (kO_ne h24))
theorem TMp.frT (hM : TMp h t mc n A K V) (hN : TMp h t2 mc2 n2 A2 K2 V2) (hx : Fr (mT t2 n2 A2) h h2) (hne : t ≠ t2) (hd : ∀ i j, i < n → j < n2 → A i ≠ A2 j) : TMp h2 t mc n A K V := by
  obtain ⟨f, hf⟩ := hM.cell
  obtain ⟨f2, hf2⟩ := hN.cell
  refine hM.fr hx ?_ (fun i hi => ?_)
  · rintro (q | ⟨j, hj, q⟩)
    · exact hne q
    · obtain ⟨f3, hf3⟩ := hN.nod j hj
      exact ne_oo hf hf3 (by decide) q
  · obtain ⟨f4, hf4⟩ := hM.nod i hi
    rintro (q | ⟨j, hj, q⟩)
    · exact ne_oo hf4 hf2 (by decide) q
    · exact hd i j hi hj q
theorem mT.kI (hM : TMp h t mc n A K V) : offK (mT t n A) h kI := by
  intro y e hy hs q
  obtain ⟨f, hf⟩ := hM.cell
  rcases q with rfl | ⟨i, hi, rfl⟩
  · cases hf.symm.trans hy; cases hs
  · obtain ⟨f3, hf3⟩ := hM.nod i hi
    cases hf3.symm.trans hy; cases hs
theorem RWr.frM {d : DR} {g : Nat → Nat} (hR : RWr G h d g) (hx : Fr M h h2) (h3 : offK M h (kO 3)) (h1 : ¬ M d.2.1) (ha : ∀ c f, h d.2.2.1 = some (qA G c f) → ¬ M d.2.2.1) (h4 : offK M h (kO 4)) (hi : offK M h kI) : RWr G h2 d g :=
  ⟨hx.get hR.1 (h3.o hR.1) rfl, hR.2.1.frQ hx h1 ha, fun t ht => (hR.2.2 t ht).frk hx h4 hi⟩
theorem RWr.frT {d : DR} {g : Nat → Nat} (hR : RWr G h d g) (hN : TMp h t mc n A K V) (hx : Fr (mT t n A) h h2) : RWr G h2 d g :=
  hR.frM hx (offK.mT hN (by decide) (by decide)) (mT.al hN hR.2.1) (fun _ _ z => mT.ar hN z) (offK.mT hN (by decide) (by decide)) (mT.kI hN)
theorem RWt.frT {d : DT} {g : Nat → Nat} (hR : RWt G h d g) (hN : TMp h t mc n A K V) (hx : Fr (mT t n A) h h2) : RWt G h2 d g :=
  hR.fr hx (mT.al hN hR.1) (fun _ _ z => mT.ar hN z) (offK.mT hN (by decide) (by decide))
theorem RWt.fr1 {a c : Nat} {fs : List Value} {d : DT} {g : Nat → Nat} (hR : RWt G h d g) (hx : Fr (m1 a) h h2) (ha : h a = some (.inr (c, fs))) (hc : c ≠ 18 ∧ c ≠ 27) : RWt G h2 d g :=
  hR.fr hx (fun q => ne_oo hR.1.1 ha (Ne.symm hc.1) q) (fun _ _ z q => ne_ao z ha q) (offK.m1 ha (kO_ne hc.2))
end TMF

theorem ct_RW_init {G : GG} {l : Launch} {h : AH} {r : Nat} (TF K1 V1 K2 V2 : Nat → Nat)  (hr : h r = some (.inr (2, [.null, .null, .null, .null, .int (nI 0), .int (nI 0), .int (nI 0), .int (nI 0)]))) : Ct G l yX2_init cX2_init 1 none 5 (5) (30) [.ref r] h (fun r0 h2 => r0 = none ∧ ∃ ti tt tl sm bm As Ab, h ti = none ∧ h tt = none ∧ h tl = none ∧ h sm = none ∧ h bm = none ∧ sm ≠ bm ∧ h2 r = some (.inr (2, [.ref ti, .ref tt, .ref sm, .ref bm, .int (nI 0), .int (nI 0), .int (nI 0), .int (nI 0)])) ∧ ALs G h2 ti (ad G 1) 0 0 TF ∧ h2 tt = some (.inr (3, [.ref tl])) ∧ ALs G h2 tl (ad G 1) 0 0 (fun _ => 0) ∧ TMp h2 sm 0 0 As K1 V1 ∧ TMp h2 bm 0 0 Ab K2 V2 ∧ Fr (m1 r) h h2) := by
  refine Ct.of (by decide) (Nat.le_of_ble_eq_true rfl) (cat1 rfl) (fun X hXl F HN => ?_)
  subst hXl
  refine V_aload_n (i := 0) F dX2_init_0 rfl rfl ?_
  refine V_objInit F dX2_init_1 q257 q180 q181 (Nat.le_of_ble_eq_true rfl) (Nat.le_of_ble_eq_true rfl) ?_
  refine V_aload_n (i := 0) F dX2_init_4 rfl rfl ?_
  refine V_new F dX2_init_5 nw_X2_9 (by first | exact Nat.le_of_ble_eq_true rfl | omega) (by first | exact Nat.le_of_ble_eq_true rfl | omega) ?_
  intro ti hfti hbti
  have hfzti := ((Fr.rf (M := m1 r) (h := h))).none hfti
  refine V_dup F dX2_init_8 rfl ?_
  have p1 : (hset h ti (.inr (18, [.int 0, .null, .int 0]))) r = some (.inr (2, [.null, .null, .null, .null, .int (nI (0)), .int (nI (0)), .int (nI (0)), .int (nI (0))])) := ((hset_ne (ne_nw hr hfti)).trans hr)
  have p2 : (hset h ti (.inr (18, [.int 0, .null, .int 0]))) ti = some (.inr (18, [.int 0, .null, .int 0])) := (hset_self (e := .inr (18, [.int 0, .null, .int 0])))
  refine V_callI (st := [.ref (ti), .ref (r)]) (nn := 0) F dX2_init_9 lk_X2_11 (ct_AL_init TF p2) rfl rfl (Nat.le_of_ble_eq_true rfl) (Nat.le_of_ble_eq_true rfl) (Nat.le_of_ble_eq_true rfl) (by first | exact Nat.le_of_ble_eq_true rfl | omega) (by first | exact Nat.le_of_ble_eq_true rfl | omega) ?_
  rintro _ hY3 ⟨rfl, hT0, hx4⟩
  have p5 := hx4.get p1 (ne_nw hr hfti) rfl
  have f6 : Fr (m1 r) h hY3 := ((Fr.rf (M := m1 r) (h := h)).nw (x := .inr (18, [.int 0, .null, .int 0])) hfti).cal hx4 (Yo.m1 ((Fr.rf (M := m1 r) (h := h)).yo hfti))
  refine V_putF F dX2_init_12 ff_X2_12_X2 p5 HN rfl rfl (Nat.le_of_ble_eq_true rfl) ?_
  refine VV.heap (h' := (hset hY3 (r) (.inr (2, [.ref (ti), .null, .null, .null, .int (nI (0)), .int (nI (0)), .int (nI (0)), .int (nI (0))])))) rfl ?_
  have qhT7 := hT0.fr1 (Fr.rf.put (M := m1 r) (h := hY3) (x := .inr (2, [.ref (ti), .null, .null, .null, .int (nI (0)), .int (nI (0)), .int (nI (0)), .int (nI (0))])) p5 rfl rfl (Or.inl rfl)) p5 (by decide)
  refine V_aload_n (i := 0) F dX2_init_15 rfl rfl ?_
  have p8 : (hset hY3 (r) (.inr (2, [.ref (ti), .null, .null, .null, .int (nI (0)), .int (nI (0)), .int (nI (0)), .int (nI (0))]))) r = some (.inr (2, [.ref (ti), .null, .null, .null, .int (nI (0)), .int (nI (0)), .int (nI (0)), .int (nI (0))])) := (hset_self (e := .inr (2, [.ref (ti), .null, .null, .null, .int (nI (0)), .int (nI (0)), .int (nI (0)), .int (nI (0))])))
  refine V_new F dX2_init_16 nw_X2_18 (by first | exact Nat.le_of_ble_eq_true rfl | omega) (by first | exact Nat.le_of_ble_eq_true rfl | omega) ?_
  intro tt hftt hbtt
  have hfztt := ((f6.put (x := .inr (2, [.ref (ti), .null, .null, .null, .int (nI (0)), .int (nI (0)), .int (nI (0)), .int (nI (0))])) p5 rfl rfl (Or.inl rfl))).none hftt
  have qhT9 := qhT7.fr0 (Fr.rf.nw (M := nM) (h := (hset hY3 (r) (.inr (2, [.ref (ti), .null, .null, .null, .int (nI (0)), .int (nI (0)), .int (nI (0)), .int (nI (0))])))) (x := .inr (3, [.null])) hftt)
  refine V_dup F dX2_init_19 rfl ?_
  have p10 : (hset (hset hY3 (r) (.inr (2, [.ref (ti), .null, .null, .null, .int (nI (0)), .int (nI (0)), .int (nI (0)), .int (nI (0))]))) tt (.inr (3, [.null]))) r = some (.inr (2, [.ref (ti), .null, .null, .null, .int (nI (0)), .int (nI (0)), .int (nI (0)), .int (nI (0))])) := ((hset_ne (ne_nw p8 hftt)).trans p8)
  have p11 : (hset (hset hY3 (r) (.inr (2, [.ref (ti), .null, .null, .null, .int (nI (0)), .int (nI (0)), .int (nI (0)), .int (nI (0))]))) tt (.inr (3, [.null]))) tt = some (.inr (3, [.null])) := (hset_self (e := .inr (3, [.null])))
  refine V_callIN (st := [.ref (tt), .ref (r)]) (nn := 0) F dX2_init_20 lk_X2_20 q279 rfl (ct_TT_init p11) rfl rfl (Nat.le_of_ble_eq_true rfl) (Nat.le_of_ble_eq_true rfl) (Nat.le_of_ble_eq_true rfl) (by first | exact Nat.le_of_ble_eq_true rfl | omega) (by first | exact Nat.le_of_ble_eq_true rfl | omega) ?_
  rintro _ hY12 ⟨rfl, tl, htl1, hL0, htt1, hx13⟩
  have htl0 := ((f6.put (x := .inr (2, [.ref (ti), .null, .null, .null, .int (nI (0)), .int (nI (0)), .int (nI (0)), .int (nI (0))])) p5 rfl rfl (Or.inl rfl)).nw (x := .inr (3, [.null])) hftt).none htl1
  have qhT14 := qhT9.fr1 hx13 p11 (by decide)
  have p15 := hx13.get p10 (ne_nw p8 hftt) rfl
  have f16 : Fr (m1 r) h hY12 := ((f6.put (x := .inr (2, [.ref (ti), .null, .null, .null, .int (nI (0)), .int (nI (0)), .int (nI (0)), .int (nI (0))])) p5 rfl rfl (Or.inl rfl)).nw (x := .inr (3, [.null])) hftt).cal hx13 (Yo.m1 ((f6.put (x := .inr (2, [.ref (ti), .null, .null, .null, .int (nI (0)), .int (nI (0)), .int (nI (0)), .int (nI (0))])) p5 rfl rfl (Or.inl rfl)).yo hftt))
  refine V_putf F dX2_init_23 fp_X2_21_X2 p15 rfl rfl (Nat.le_of_ble_eq_true rfl) ?_
  refine VV.heap (h' := (hset hY12 (r) (.inr (2, [.ref (ti), .ref (tt), .null, .null, .int (nI (0)), .int (nI (0)), .int (nI (0)), .int (nI (0))])))) rfl ?_
  have qhT17 := qhT14.fr1 (Fr.rf.put (M := m1 r) (h := hY12) (x := .inr (2, [.ref (ti), .ref (tt), .null, .null, .int (nI (0)), .int (nI (0)), .int (nI (0)), .int (nI (0))])) p15 rfl rfl (Or.inl rfl)) p15 (by decide)
  have qhL18 := hL0.fr1 (Fr.rf.put (M := m1 r) (h := hY12) (x := .inr (2, [.ref (ti), .ref (tt), .null, .null, .int (nI (0)), .int (nI (0)), .int (nI (0)), .int (nI (0))])) p15 rfl rfl (Or.inl rfl)) p15 (by decide)
  refine V_aload_n (i := 0) F dX2_init_26 rfl rfl ?_
  have p19 : (hset hY12 (r) (.inr (2, [.ref (ti), .ref (tt), .null, .null, .int (nI (0)), .int (nI (0)), .int (nI (0)), .int (nI (0))]))) tt = some (.inr (3, [.ref (tl)])) := ((hset_ne (Ne.symm (ne_nw p8 hftt))).trans htt1)
  have p20 : (hset hY12 (r) (.inr (2, [.ref (ti), .ref (tt), .null, .null, .int (nI (0)), .int (nI (0)), .int (nI (0)), .int (nI (0))]))) r = some (.inr (2, [.ref (ti), .ref (tt), .null, .null, .int (nI (0)), .int (nI (0)), .int (nI (0)), .int (nI (0))])) := (hset_self (e := .inr (2, [.ref (ti), .ref (tt), .null, .null, .int (nI (0)), .int (nI (0)), .int (nI (0)), .int (nI (0))])))
  refine V_new F dX2_init_27 nw_X2_25 (by first | exact Nat.le_of_ble_eq_true rfl | omega) (by first | exact Nat.le_of_ble_eq_true rfl | omega) ?_
  intro sm hfsm hbsm
  have hfzsm := ((f16.put (x := .inr (2, [.ref (ti), .ref (tt), .null, .null, .int (nI (0)), .int (nI (0)), .int (nI (0)), .int (nI (0))])) p15 rfl rfl (Or.inl rfl))).none hfsm
  have qhT21 := qhT17.fr0 (Fr.rf.nw (M := nM) (h := (hset hY12 (r) (.inr (2, [.ref (ti), .ref (tt), .null, .null, .int (nI (0)), .int (nI (0)), .int (nI (0)), .int (nI (0))])))) (x := .inr (23, [.null, .null, .null, .null, .int 0, .int 0, .null, .null, .null])) hfsm)
  have qhL22 := qhL18.fr0 (Fr.rf.nw (M := nM) (h := (hset hY12 (r) (.inr (2, [.ref (ti), .ref (tt), .null, .null, .int (nI (0)), .int (nI (0)), .int (nI (0)), .int (nI (0))])))) (x := .inr (23, [.null, .null, .null, .null, .int 0, .int 0, .null, .null, .null])) hfsm)
  refine V_dup F dX2_init_30 rfl ?_
  have p23 : (hset (hset hY12 (r) (.inr (2, [.ref (ti), .ref (tt), .null, .null, .int (nI (0)), .int (nI (0)), .int (nI (0)), .int (nI (0))]))) sm (.inr (23, [.null, .null, .null, .null, .int 0, .int 0, .null, .null, .null]))) tt = some (.inr (3, [.ref (tl)])) := ((hset_ne (ne_nw p19 hfsm)).trans p19)
  have p24 : (hset (hset hY12 (r) (.inr (2, [.ref (ti), .ref (tt), .null, .null, .int (nI (0)), .int (nI (0)), .int (nI (0)), .int (nI (0))]))) sm (.inr (23, [.null, .null, .null, .null, .int 0, .int 0, .null, .null, .null]))) r = some (.inr (2, [.ref (ti), .ref (tt), .null, .null, .int (nI (0)), .int (nI (0)), .int (nI (0)), .int (nI (0))])) := ((hset_ne (ne_nw p20 hfsm)).trans p20)
  have p25 : (hset (hset hY12 (r) (.inr (2, [.ref (ti), .ref (tt), .null, .null, .int (nI (0)), .int (nI (0)), .int (nI (0)), .int (nI (0))]))) sm (.inr (23, [.null, .null, .null, .null, .int 0, .int 0, .null, .null, .null]))) sm = some (.inr (23, [.null, .null, .null, .null, .int 0, .int 0, .null, .null, .null])) := (hset_self (e := .inr (23, [.null, .null, .null, .null, .int 0, .int 0, .null, .null, .null])))
  refine V_callI (st := [.ref (sm), .ref (r)]) (nn := 0) F dX2_init_31 lk_X2_27 (ct_TM_init (fun _ => 0) K1 V1 p25) rfl rfl (Nat.le_of_ble_eq_true rfl) (Nat.le_of_ble_eq_true rfl) (Nat.le_of_ble_eq_true rfl) (by first | exact Nat.le_of_ble_eq_true rfl | omega) (by first | exact Nat.le_of_ble_eq_true rfl | omega) ?_
  rintro _ hY26 ⟨rfl, hS0, hx27⟩
  have qhT28 := qhT21.fr1 hx27 p25 (by decide)
  have qhL29 := qhL22.fr1 hx27 p25 (by decide)
  have p30 := hx27.get p23 (ne_nw p19 hfsm) rfl
  have p31 := hx27.get p24 (ne_nw p20 hfsm) rfl
  have f32 : Fr (m1 r) h hY26 := ((f16.put (x := .inr (2, [.ref (ti), .ref (tt), .null, .null, .int (nI (0)), .int (nI (0)), .int (nI (0)), .int (nI (0))])) p15 rfl rfl (Or.inl rfl)).nw (x := .inr (23, [.null, .null, .null, .null, .int 0, .int 0, .null, .null, .null])) hfsm).cal hx27 (Yo.m1 ((f16.put (x := .inr (2, [.ref (ti), .ref (tt), .null, .null, .int (nI (0)), .int (nI (0)), .int (nI (0)), .int (nI (0))])) p15 rfl rfl (Or.inl rfl)).yo hfsm))
  refine V_putF F dX2_init_34 ff_X2_28_X2 p31 HN rfl rfl (Nat.le_of_ble_eq_true rfl) ?_
  refine VV.heap (h' := (hset hY26 (r) (.inr (2, [.ref (ti), .ref (tt), .ref (sm), .null, .int (nI (0)), .int (nI (0)), .int (nI (0)), .int (nI (0))])))) rfl ?_
  have qhT33 := qhT28.fr1 (Fr.rf.put (M := m1 r) (h := hY26) (x := .inr (2, [.ref (ti), .ref (tt), .ref (sm), .null, .int (nI (0)), .int (nI (0)), .int (nI (0)), .int (nI (0))])) p31 rfl rfl (Or.inl rfl)) p31 (by decide)
  have qhL34 := qhL29.fr1 (Fr.rf.put (M := m1 r) (h := hY26) (x := .inr (2, [.ref (ti), .ref (tt), .ref (sm), .null, .int (nI (0)), .int (nI (0)), .int (nI (0)), .int (nI (0))])) p31 rfl rfl (Or.inl rfl)) p31 (by decide)
  have qhS35 := hS0.fr1 (Fr.rf.put (M := m1 r) (h := hY26) (x := .inr (2, [.ref (ti), .ref (tt), .ref (sm), .null, .int (nI (0)), .int (nI (0)), .int (nI (0)), .int (nI (0))])) p31 rfl rfl (Or.inl rfl)) p31 (by decide) (by decide)
  refine V_aload_n (i := 0) F dX2_init_37 rfl rfl ?_
  have p36 : (hset hY26 (r) (.inr (2, [.ref (ti), .ref (tt), .ref (sm), .null, .int (nI (0)), .int (nI (0)), .int (nI (0)), .int (nI (0))]))) tt = some (.inr (3, [.ref (tl)])) := ((hset_ne (Ne.symm (ne_nw p8 hftt))).trans p30)
  have p37 : (hset hY26 (r) (.inr (2, [.ref (ti), .ref (tt), .ref (sm), .null, .int (nI (0)), .int (nI (0)), .int (nI (0)), .int (nI (0))]))) r = some (.inr (2, [.ref (ti), .ref (tt), .ref (sm), .null, .int (nI (0)), .int (nI (0)), .int (nI (0)), .int (nI (0))])) := (hset_self (e := .inr (2, [.ref (ti), .ref (tt), .ref (sm), .null, .int (nI (0)), .int (nI (0)), .int (nI (0)), .int (nI (0))])))
  refine V_new F dX2_init_38 nw_X2_25 (by first | exact Nat.le_of_ble_eq_true rfl | omega) (by first | exact Nat.le_of_ble_eq_true rfl | omega) ?_
  intro bm hfbm hbbm
  have hfzbm := ((f32.put (x := .inr (2, [.ref (ti), .ref (tt), .ref (sm), .null, .int (nI (0)), .int (nI (0)), .int (nI (0)), .int (nI (0))])) p31 rfl rfl (Or.inl rfl))).none hfbm
  have qhT38 := qhT33.fr0 (Fr.rf.nw (M := nM) (h := (hset hY26 (r) (.inr (2, [.ref (ti), .ref (tt), .ref (sm), .null, .int (nI (0)), .int (nI (0)), .int (nI (0)), .int (nI (0))])))) (x := .inr (23, [.null, .null, .null, .null, .int 0, .int 0, .null, .null, .null])) hfbm)
  have qhL39 := qhL34.fr0 (Fr.rf.nw (M := nM) (h := (hset hY26 (r) (.inr (2, [.ref (ti), .ref (tt), .ref (sm), .null, .int (nI (0)), .int (nI (0)), .int (nI (0)), .int (nI (0))])))) (x := .inr (23, [.null, .null, .null, .null, .int 0, .int 0, .null, .null, .null])) hfbm)
  have qhS40 := qhS35.fr0 (Fr.rf.nw (M := nM) (h := (hset hY26 (r) (.inr (2, [.ref (ti), .ref (tt), .ref (sm), .null, .int (nI (0)), .int (nI (0)), .int (nI (0)), .int (nI (0))])))) (x := .inr (23, [.null, .null, .null, .null, .int 0, .int 0, .null, .null, .null])) hfbm)
  refine V_dup F dX2_init_41 rfl ?_
  have p41 : (hset (hset hY26 (r) (.inr (2, [.ref (ti), .ref (tt), .ref (sm), .null, .int (nI (0)), .int (nI (0)), .int (nI (0)), .int (nI (0))]))) bm (.inr (23, [.null, .null, .null, .null, .int 0, .int 0, .null, .null, .null]))) tt = some (.inr (3, [.ref (tl)])) := ((hset_ne (ne_nw p36 hfbm)).trans p36)
  have p42 : (hset (hset hY26 (r) (.inr (2, [.ref (ti), .ref (tt), .ref (sm), .null, .int (nI (0)), .int (nI (0)), .int (nI (0)), .int (nI (0))]))) bm (.inr (23, [.null, .null, .null, .null, .int 0, .int 0, .null, .null, .null]))) r = some (.inr (2, [.ref (ti), .ref (tt), .ref (sm), .null, .int (nI (0)), .int (nI (0)), .int (nI (0)), .int (nI (0))])) := ((hset_ne (ne_nw p37 hfbm)).trans p37)
  have p43 : (hset (hset hY26 (r) (.inr (2, [.ref (ti), .ref (tt), .ref (sm), .null, .int (nI (0)), .int (nI (0)), .int (nI (0)), .int (nI (0))]))) bm (.inr (23, [.null, .null, .null, .null, .int 0, .int 0, .null, .null, .null]))) bm = some (.inr (23, [.null, .null, .null, .null, .int 0, .int 0, .null, .null, .null])) := (hset_self (e := .inr (23, [.null, .null, .null, .null, .int 0, .int 0, .null, .null, .null])))
  refine V_callI (st := [.ref (bm), .ref (r)]) (nn := 0) F dX2_init_42 lk_X2_27 (ct_TM_init (fun _ => 0) K2 V2 p43) rfl rfl (Nat.le_of_ble_eq_true rfl) (Nat.le_of_ble_eq_true rfl) (Nat.le_of_ble_eq_true rfl) (by first | exact Nat.le_of_ble_eq_true rfl | omega) (by first | exact Nat.le_of_ble_eq_true rfl | omega) ?_
  rintro _ hY44 ⟨rfl, hB0, hx45⟩
  have qhT46 := qhT38.fr1 hx45 p43 (by decide)
  have qhL47 := qhL39.fr1 hx45 p43 (by decide)
  have hsb : sm ≠ bm := by obtain ⟨f0, hf0⟩ := qhS35.cell; exact ne_nw hf0 hfbm
  have qhS48 := qhS40.fr hx45 (fun z => hsb z) (fun i hi => absurd hi (Nat.not_lt_zero i))
  have p49 := hx45.get p41 (ne_nw p36 hfbm) rfl
  have p50 := hx45.get p42 (ne_nw p37 hfbm) rfl
  have f51 : Fr (m1 r) h hY44 := ((f32.put (x := .inr (2, [.ref (ti), .ref (tt), .ref (sm), .null, .int (nI (0)), .int (nI (0)), .int (nI (0)), .int (nI (0))])) p31 rfl rfl (Or.inl rfl)).nw (x := .inr (23, [.null, .null, .null, .null, .int 0, .int 0, .null, .null, .null])) hfbm).cal hx45 (Yo.m1 ((f32.put (x := .inr (2, [.ref (ti), .ref (tt), .ref (sm), .null, .int (nI (0)), .int (nI (0)), .int (nI (0)), .int (nI (0))])) p31 rfl rfl (Or.inl rfl)).yo hfbm))
  refine V_putF F dX2_init_45 ff_X2_32_X2 p50 HN rfl rfl (Nat.le_of_ble_eq_true rfl) ?_
  refine VV.heap (h' := (hset hY44 (r) (.inr (2, [.ref (ti), .ref (tt), .ref (sm), .ref (bm), .int (nI (0)), .int (nI (0)), .int (nI (0)), .int (nI (0))])))) rfl ?_
  have qhT52 := qhT46.fr1 (Fr.rf.put (M := m1 r) (h := hY44) (x := .inr (2, [.ref (ti), .ref (tt), .ref (sm), .ref (bm), .int (nI (0)), .int (nI (0)), .int (nI (0)), .int (nI (0))])) p50 rfl rfl (Or.inl rfl)) p50 (by decide)
  have qhL53 := qhL47.fr1 (Fr.rf.put (M := m1 r) (h := hY44) (x := .inr (2, [.ref (ti), .ref (tt), .ref (sm), .ref (bm), .int (nI (0)), .int (nI (0)), .int (nI (0)), .int (nI (0))])) p50 rfl rfl (Or.inl rfl)) p50 (by decide)
  have qhS54 := qhS48.fr1 (Fr.rf.put (M := m1 r) (h := hY44) (x := .inr (2, [.ref (ti), .ref (tt), .ref (sm), .ref (bm), .int (nI (0)), .int (nI (0)), .int (nI (0)), .int (nI (0))])) p50 rfl rfl (Or.inl rfl)) p50 (by decide) (by decide)
  have qhB55 := hB0.fr1 (Fr.rf.put (M := m1 r) (h := hY44) (x := .inr (2, [.ref (ti), .ref (tt), .ref (sm), .ref (bm), .int (nI (0)), .int (nI (0)), .int (nI (0)), .int (nI (0))])) p50 rfl rfl (Or.inl rfl)) p50 (by decide) (by decide)
  have pr : (hset hY44 (r) (.inr (2, [.ref (ti), .ref (tt), .ref (sm), .ref (bm), .int (nI (0)), .int (nI (0)), .int (nI (0)), .int (nI (0))]))) r = some (.inr (2, [.ref (ti), .ref (tt), .ref (sm), .ref (bm), .int (nI (0)), .int (nI (0)), .int (nI (0)), .int (nI (0))])) := (hset_self (e := .inr (2, [.ref (ti), .ref (tt), .ref (sm), .ref (bm), .int (nI (0)), .int (nI (0)), .int (nI (0)), .int (nI (0))])))
  have ptt : (hset hY44 (r) (.inr (2, [.ref (ti), .ref (tt), .ref (sm), .ref (bm), .int (nI (0)), .int (nI (0)), .int (nI (0)), .int (nI (0))]))) tt = some (.inr (3, [.ref (tl)])) := ((hset_ne (Ne.symm (ne_nw p8 hftt))).trans p49)
  exact V_vret F dX2_init_48 (by first | exact Nat.le_of_ble_eq_true rfl | omega) (by first | exact Nat.le_of_ble_eq_true rfl | omega) ⟨rfl, ti, tt, tl, sm, bm, _, _, hfzti, hfztt, htl0, hfzsm, hfzbm, hsb, pr, qhT52, ptt, qhL53, qhS54, qhB55, (f51.put (x := .inr (2, [.ref (ti), .ref (tt), .ref (sm), .ref (bm), .int (nI (0)), .int (nI (0)), .int (nI (0)), .int (nI (0))])) p50 rfl rfl (Or.inl rfl))⟩
