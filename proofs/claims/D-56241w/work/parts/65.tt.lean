theorem ct_TT_count {G : GG} {l : Launch} {h : AH} {tt tl ta : Nat} {x : Nat → Nat} {A : Nat → Nat → Nat} {g : Nat → Nat}  (hR : RWr G h (tt, tl, ta, x, A) g) (hI : GW g)  : Ct G l yX3_count cX3_count 1 (some .int) 1 (0) (0) [.ref tt] h (PR (.int (nI (g 1))) h) := by
  refine Ct.of (by decide) (Nat.le_of_ble_eq_true rfl) (cat1 rfl) (fun X hXl F HN => ?_)
  subst hXl
  refine V_aload_n (i := 0) F dX3_count_0 rfl rfl ?_
  refine V_getf F dX3_count_1 fc_X3_12_X3 (.inl hR.1) rfl ?_
  refine V_callF (st := []) (nn := 0) F dX3_count_4 ⟨lw_F q408 q388 q390 q111 q392, ⟨q386, List.mem_append_left _ q385, q391, q389, q387⟩, (by decide +kernel), (by decide +kernel)⟩ (ct_AL_size hR.2.1) ⟨18, _, _, _, rfl, (.inl hR.2.1.1)⟩ rfl rfl (Nat.le_of_ble_eq_true rfl) (Nat.le_of_ble_eq_true rfl) (Nat.le_of_ble_eq_true rfl) (by first | exact Nat.le_of_ble_eq_true rfl | omega) (by first | exact Nat.le_of_ble_eq_true rfl | omega) ?_
  refine PRk ?_
  exact V_iret F dX3_count_9 rfl (by first | exact Nat.le_of_ble_eq_true rfl | omega) (by first | exact Nat.le_of_ble_eq_true rfl | omega) ⟨rfl, rfl⟩
theorem ct_TT_has {G : GG} {l : Launch} {h : AH} {tt tl ta : Nat} {x : Nat → Nat} {A : Nat → Nat → Nat} {g : Nat → Nat} {p : Int32}  (hR : RWr G h (tt, tl, ta, x, A) g) (hI : GW g)  : Ct G l yX3_has cX3_has 2 (some .boolean) 1 (0) (0) [.ref tt, .int p] h (PR (.int (b2 (iR p (g 1)))) h) := by
  refine Ct.of (by decide) (Nat.le_of_ble_eq_true rfl) (cat1 rfl) (fun X hXl F HN => ?_)
  subst hXl
  refine V_iload_n (i := 1) F dX3_has_0 rfl rfl ?_
  refine V_iconst (v := nI 0) F dX3_has_1 rfl ?_
  refine V_aload_n (i := 0) F dX3_has_2 rfl rfl ?_
  refine V_getf F dX3_has_3 fc_X3_12_X3 (.inl hR.1) rfl ?_
  refine V_callF (st := [.int (nI (0)), .int (p)]) (nn := 0) F dX3_has_6 ⟨lw_F q408 q388 q390 q111 q392, ⟨q386, List.mem_append_left _ q385, q391, q389, q387⟩, (by decide +kernel), (by decide +kernel)⟩ (ct_AL_size hR.2.1) ⟨18, _, _, _, rfl, (.inl hR.2.1.1)⟩ rfl rfl (Nat.le_of_ble_eq_true rfl) (Nat.le_of_ble_eq_true rfl) (Nat.le_of_ble_eq_true rfl) (by first | exact Nat.le_of_ble_eq_true rfl | omega) (by first | exact Nat.le_of_ble_eq_true rfl | omega) ?_
  refine PRk ?_
  refine V_iconst (v := nI 1) F dX3_has_11 rfl ?_
  refine V_isub F dX3_has_12 ?_
  refine V_callSN (st := []) (nn := 3) F dX3_has_13 lk_X3_39 q1796 (ct_isBetween) rfl rfl (Nat.le_of_ble_eq_true rfl) (Nat.le_of_ble_eq_true rfl) (Nat.le_of_ble_eq_true rfl) (by first | exact Nat.le_of_ble_eq_true rfl | omega) (by first | exact Nat.le_of_ble_eq_true rfl | omega) ?_
  refine PRk ?_
  exact V_iret F dX3_has_16 nar_b2 (by first | exact Nat.le_of_ble_eq_true rfl | omega) (by first | exact Nat.le_of_ble_eq_true rfl | omega) ⟨by rw [b2_c (iR_in hI.b.lt)], rfl⟩
theorem ct_TT_get {G : GG} {l : Launch} {h : AH} {tt tl ta : Nat} {x : Nat → Nat} {A : Nat → Nat → Nat} {g : Nat → Nat} {t : Nat}  (hR : RWr G h (tt, tl, ta, x, A) g) (hI : GW g) (ht : t < g 1) : Ct G l yX3_get cX3_get 2 (some (.object "SleeperRailway$Train")) 3 (0) (0) [.ref tt, .int (nI t)] h (PR (.ref (x t)) h) := by
  refine Ct.of (by decide) (Nat.le_of_ble_eq_true rfl) (cat1 rfl) (fun X hXl F HN => ?_)
  subst hXl
  refine V_aload_n (i := 0) F dX3_get_0 rfl rfl ?_
  refine V_getf F dX3_get_1 fc_X3_12_X3 (.inl hR.1) rfl ?_
  refine V_iload_n (i := 1) F dX3_get_4 rfl rfl ?_
  refine V_callF (st := []) (nn := 1) F dX3_get_5 ⟨lw_F q905 q473 q475 q111 q477, ⟨q472, List.mem_append_left _ q471, q476, q474, q387⟩, (by decide +kernel), (by decide +kernel)⟩ (ct_AL_get hR.2.1 ht (by have := hI.2.2.1; omega)) ⟨18, _, _, _, rfl, (.inl hR.2.1.1)⟩ rfl rfl (Nat.le_of_ble_eq_true rfl) (Nat.le_of_ble_eq_true rfl) (Nat.le_of_ble_eq_true rfl) (by first | exact Nat.le_of_ble_eq_true rfl | omega) (by first | exact Nat.le_of_ble_eq_true rfl | omega) ?_
  refine PRk ?_
  refine V_ckS F dX3_get_10 q906 ⟨4, _, _, _, rfl, (.inl (hR.2.2 t ht).1)⟩ ?_
  exact V_aret F dX3_get_13 (Or.inl ⟨_, rfl⟩) (Or.inr ⟨_, rfl⟩) (by first | exact Nat.le_of_ble_eq_true rfl | omega) (by first | exact Nat.le_of_ble_eq_true rfl | omega) ⟨rfl, rfl⟩
theorem ct_TT_leg {G : GG} {l : Launch} {h : AH} {tt tl ta : Nat} {x : Nat → Nat} {A : Nat → Nat → Nat} {g : Nat → Nat} {t k : Nat}  (hR : RWr G h (tt, tl, ta, x, A) g) (hI : GW g) (ht : t < g 1) (hk : k < g (16 + 36 * t + 3) - 1) : Ct G l yX3_leg cX3_leg 6 (some (.object "SleeperRailway$Leg")) 3 (1) (6) [.ref tt, .int (nI t), .int (nI k)] h (fun r h2 => ∃ q, r = some (.ref q) ∧ h q = none ∧ h2 q = some (LgE g t k) ∧ Fr nM h h2) := by
  refine Ct.of (by decide) (Nat.le_of_ble_eq_true rfl) (cat1 rfl) (fun X hXl F HN => ?_)
  subst hXl
  obtain ⟨hx, f, hA, h0, h1, h2, h3, h4⟩ := id (hR.2.2 t ht)
  have hs8 := (hI.st ht).2
  refine V_aload_n (i := 0) F dX3_leg_0 rfl rfl ?_
  refine V_getf F dX3_leg_1 fc_X3_12_X3 (.inl hR.1) rfl ?_
  refine V_iload_n (i := 1) F dX3_leg_4 rfl rfl ?_
  refine V_callF (st := []) (nn := 1) F dX3_leg_5 ⟨lw_F q905 q473 q475 q111 q477, ⟨q472, List.mem_append_left _ q471, q476, q474, q387⟩, (by decide +kernel), (by decide +kernel)⟩ (ct_AL_get hR.2.1 ht (by have := hI.2.2.1; omega)) ⟨18, _, _, _, rfl, (.inl hR.2.1.1)⟩ rfl rfl (Nat.le_of_ble_eq_true rfl) (Nat.le_of_ble_eq_true rfl) (Nat.le_of_ble_eq_true rfl) (by first | exact Nat.le_of_ble_eq_true rfl | omega) (by first | exact Nat.le_of_ble_eq_true rfl | omega) ?_
  refine PRk ?_
  refine V_ckS F dX3_leg_10 q906 ⟨4, _, _, _, rfl, (.inl hx)⟩ ?_
  refine V_astore_n (i := 3) F dX3_leg_13 rfl (Nat.le_of_ble_eq_true rfl) (Nat.le_of_ble_eq_true rfl) ?_
  refine V_aload_n (i := 3) F dX3_leg_14 rfl rfl ?_
  refine V_getn F dX3_leg_15 fc_X3_43_X5 (.inl hx) rfl ?_
  refine V_iload_n (i := 2) F dX3_leg_18 rfl rfl ?_
  refine V_ialdG F dX3_leg_19 (.inl (hA 0 (by decide))) (by omega) (by decide) (h0 k (by omega)) ?_
  refine V_istore (i := 4) F dX3_leg_20 (Nat.le_of_ble_eq_true rfl) (Nat.le_of_ble_eq_true rfl) ?_
  refine V_aload_n (i := 3) F dX3_leg_22 rfl rfl ?_
  refine V_getn F dX3_leg_23 fc_X3_43_X5 (.inl hx) rfl ?_
  refine V_iload_n (i := 2) F dX3_leg_26 rfl rfl ?_
  refine V_iconst (v := nI 1) F dX3_leg_27 rfl ?_
  refine V_iaddN F dX3_leg_28 ?_
  refine V_ialdG F dX3_leg_29 (.inl (hA 0 (by decide))) (by omega) (by decide) (h0 (k + 1) (by omega)) ?_
  refine V_istore (i := 5) F dX3_leg_30 (Nat.le_of_ble_eq_true rfl) (Nat.le_of_ble_eq_true rfl) ?_
  refine V_new F dX3_leg_32 nw_X3_47 (by first | exact Nat.le_of_ble_eq_true rfl | omega) (by first | exact Nat.le_of_ble_eq_true rfl | omega) ?_
  intro o hfo hbo
  have p1 : h tt = some (.inr (3, [.ref (tl)])) := hR.1
  have p2 : h tl = some (.inr (18, [.int (nI (g 1)), .ref (ta), .int (nI (g 1))])) := hR.2.1.1
  have p3 : h ((A t 0)) = some (.inl (G.2.1 0, 8, .inl (fun i => nI ((f 0) i)))) := (hA 0 (by decide))
  have p4 : h ((A t 1)) = some (.inl (G.2.1 0, 8, .inl (fun i => nI ((f 1) i)))) := (hA 1 (by decide))
  have p5 : h ((A t 2)) = some (.inl (G.2.1 0, 8, .inl (fun i => nI ((f 2) i)))) := (hA 2 (by decide))
  have p6 : h ((A t 3)) = some (.inl (G.2.1 0, 8, .inl (fun i => nI ((f 3) i)))) := (hA 3 (by decide))
  have p7 : h ((A t 4)) = some (.inl (G.2.1 0, 8, .inl (fun i => nI ((f 4) i)))) := (hA 4 (by decide))
  refine V_dup F dX3_leg_35 rfl ?_
  refine V_iload_n (i := 1) F dX3_leg_36 rfl rfl ?_
  refine V_iload_n (i := 2) F dX3_leg_37 rfl rfl ?_
  refine V_iload (i := 4) F dX3_leg_38 rfl ?_
  refine V_iload (i := 5) F dX3_leg_40 rfl ?_
  refine V_aload_n (i := 3) F dX3_leg_42 rfl rfl ?_
  refine V_iload_n (i := 2) F dX3_leg_43 rfl rfl ?_
  refine V_callV (st := [.int (nI (plG g t (k + 1))), .int (nI (plG g t k)), .int (nI (k)), .int (nI (t)), .ref (o), .ref (o)]) (nn := 1) F dX3_leg_44 lk_X3_49 (ct_TR_departure ((hR.2.2 t ht).fr0 ((Fr.rf (M := nM) (h := h)).nw (x := .inr (5, [.int 0, .int 0, .int 0, .int 0, .int 0, .int 0])) hfo)) hs8 (by omega)) ⟨4, _, _, _, rfl, (.inl ((hset_ne (ne_nw hx hfo)).trans hx))⟩ rfl rfl (Nat.le_of_ble_eq_true rfl) (Nat.le_of_ble_eq_true rfl) (Nat.le_of_ble_eq_true rfl) (by first | exact Nat.le_of_ble_eq_true rfl | omega) (by first | exact Nat.le_of_ble_eq_true rfl | omega) ?_
  refine PRk ?_
  refine V_aload_n (i := 3) F dX3_leg_47 rfl rfl ?_
  refine V_iload_n (i := 2) F dX3_leg_48 rfl rfl ?_
  refine V_iconst (v := nI 1) F dX3_leg_49 rfl ?_
  refine V_iaddN F dX3_leg_50 ?_
  refine V_callV (st := [.int (nI (LvG g t k)), .int (nI (plG g t (k + 1))), .int (nI (plG g t k)), .int (nI (k)), .int (nI (t)), .ref (o), .ref (o)]) (nn := 1) F dX3_leg_51 lk_X3_53 (ct_TR_arrival ((hR.2.2 t ht).fr0 ((Fr.rf (M := nM) (h := h)).nw (x := .inr (5, [.int 0, .int 0, .int 0, .int 0, .int 0, .int 0])) hfo)) hs8 (by omega) (by omega)) ⟨4, _, _, _, rfl, (.inl ((hset_ne (ne_nw hx hfo)).trans hx))⟩ rfl rfl (Nat.le_of_ble_eq_true rfl) (Nat.le_of_ble_eq_true rfl) (Nat.le_of_ble_eq_true rfl) (by first | exact Nat.le_of_ble_eq_true rfl | omega) (by first | exact Nat.le_of_ble_eq_true rfl | omega) ?_
  refine PRk ?_
  refine V_callIN (st := [.ref (o)]) (nn := 6) F dX3_leg_54 lk_X3_56 q918 rfl (ct_Leg_init (hset_self (e := .inr (5, [.int 0, .int 0, .int 0, .int 0, .int 0, .int 0])))) rfl rfl (Nat.le_of_ble_eq_true rfl) (Nat.le_of_ble_eq_true rfl) (Nat.le_of_ble_eq_true rfl) (by first | exact Nat.le_of_ble_eq_true rfl | omega) (by first | exact Nat.le_of_ble_eq_true rfl | omega) ?_
  rintro _ hY8 ⟨rfl, hc10, hx9⟩
  have p11 := hx9.get ((hset_ne (ne_nw p1 hfo)).trans p1) (ne_nw p1 hfo) rfl
  have p12 := hx9.get ((hset_ne (ne_nw p2 hfo)).trans p2) (ne_nw p2 hfo) rfl
  have p13 := hx9.get ((hset_ne (ne_nw hx hfo)).trans hx) (ne_nw hx hfo) rfl
  have p14 := hx9.get ((hset_ne (ne_nw p3 hfo)).trans p3) (ne_nw p3 hfo) rfl
  have p15 := hx9.get ((hset_ne (ne_nw p4 hfo)).trans p4) (ne_nw p4 hfo) rfl
  have p16 := hx9.get ((hset_ne (ne_nw p5 hfo)).trans p5) (ne_nw p5 hfo) rfl
  have p17 := hx9.get ((hset_ne (ne_nw p6 hfo)).trans p6) (ne_nw p6 hfo) rfl
  have p18 := hx9.get ((hset_ne (ne_nw p7 hfo)).trans p7) (ne_nw p7 hfo) rfl
  have f19 : Fr nM h hY8 := ((Fr.rf (M := nM) (h := h)).nw (x := .inr (5, [.int 0, .int 0, .int 0, .int 0, .int 0, .int 0])) hfo).cal hx9 (Yo.m1 ((Fr.rf (M := nM) (h := h)).yo hfo))
  exact V_aret F dX3_leg_57 (Or.inl ⟨_, rfl⟩) (Or.inr ⟨_, rfl⟩) (by first | exact Nat.le_of_ble_eq_true rfl | omega) (by first | exact Nat.le_of_ble_eq_true rfl | omega) ⟨o, rfl, hfo, hc10, f19⟩
theorem ct_TI_init {G : GG} {l : Launch} {h : AH} {a tt : Nat} (ha : h a = some (.inr (9, [.int 0, .int 0, .null]))) : Ct G l yX11_init cX11_init 2 none 1 (0) (0) [.ref a, .ref tt] h (fun r h2 => r = none ∧ h2 a = some (.inr (9, [.int 0, .int 0, .ref tt])) ∧ Fr (m1 a) h h2) := by
  refine Ct.of (by decide) (Nat.le_of_ble_eq_true rfl) (cat1 rfl) (fun X hXl F HN => ?_)
  subst hXl
  refine V_aload_n (i := 0) F dX11_init_0 rfl rfl ?_
  refine V_aload_n (i := 1) F dX11_init_1 rfl rfl ?_
  refine V_putF F dX11_init_2 ff_X11_1_X11 ha HN rfl rfl (Nat.le_of_ble_eq_true rfl) ?_
  refine VV.heap (h' := (hset h (a) (.inr (9, [.int (0), .int (0), .ref (tt)])))) rfl ?_
  refine V_aload_n (i := 0) F dX11_init_5 rfl rfl ?_
  refine V_objInit F dX11_init_6 q446 q180 q181 (Nat.le_of_ble_eq_true rfl) (Nat.le_of_ble_eq_true rfl) ?_
  exact V_vret F dX11_init_9 (by first | exact Nat.le_of_ble_eq_true rfl | omega) (by first | exact Nat.le_of_ble_eq_true rfl | omega) ⟨rfl, (hset_self (e := .inr (9, [.int (0), .int (0), .ref (tt)]))), ((Fr.rf (M := m1 a) (h := h)).put (x := .inr (9, [.int (0), .int (0), .ref (tt)])) ha rfl rfl (Or.inl rfl))⟩
theorem ct_TT_iterator {G : GG} {l : Launch} {h : AH} {tt : Nat} (g : Nat → Nat)  : Ct G l yX3_iterator cX3_iterator 1 (some (.object "java/util/Iterator")) 2 (1) (3) [.ref tt] h (fun r h2 => ∃ q, r = some (.ref q) ∧ h q = none ∧ ITL h2 q tt g (lgL g) ∧ Fr nM h h2) := by
  refine Ct.of (by decide) (Nat.le_of_ble_eq_true rfl) (cat1 rfl) (fun X hXl F HN => ?_)
  subst hXl
  refine V_new F dX3_iterator_0 nw_X3_59 (by first | exact Nat.le_of_ble_eq_true rfl | omega) (by first | exact Nat.le_of_ble_eq_true rfl | omega) ?_
  intro o hfo hbo
  refine V_dup F dX3_iterator_3 rfl ?_
  refine V_aload_n (i := 0) F dX3_iterator_4 rfl rfl ?_
  refine V_callI (st := [.ref (o)]) (nn := 1) F dX3_iterator_5 lk_X3_61 (ct_TI_init (hset_self (e := .inr (9, [.int 0, .int 0, .null])))) rfl rfl (Nat.le_of_ble_eq_true rfl) (Nat.le_of_ble_eq_true rfl) (Nat.le_of_ble_eq_true rfl) (by first | exact Nat.le_of_ble_eq_true rfl | omega) (by first | exact Nat.le_of_ble_eq_true rfl | omega) ?_
  rintro _ h2 ⟨rfl, hc, hx⟩
  have f1 : Fr nM h h2 := ((Fr.rf (M := nM) (h := h)).nw (x := .inr (9, [.int 0, .int 0, .null])) hfo).cal hx (Yo.m1 ((Fr.rf (M := nM) (h := h)).yo hfo))
  exact V_aret F dX3_iterator_8 (Or.inl ⟨_, rfl⟩) (Or.inr ⟨_, rfl⟩) (by first | exact Nat.le_of_ble_eq_true rfl | omega) (by first | exact Nat.le_of_ble_eq_true rfl | omega) ⟨o, rfl, hfo, ⟨0, 0, hc, by decide, by by_cases z : 0 < g 1; exact Or.inl ⟨z, (rmL_0 z).symm⟩; exact Or.inr ⟨by omega, by unfold lgL; rw [show g 1 = 0 by omega]; rfl⟩⟩, f1⟩
theorem ct_TI_hasNext {G : GG} {l : Launch} {h : AH} {tt tl ta : Nat} {x : Nat → Nat} {A : Nat → Nat → Nat} {g : Nat → Nat} {it : Nat} {rest : List (Nat × Nat)}  (hR : RWr G h (tt, tl, ta, x, A) g) (hI : GW g) (hI2 : ITL h it tt g rest) : Ct G l yX11_hasNext cX11_hasNext 1 (some .boolean) 3 (0) (0) [.ref it] h (fun r h2 => r = some (.int (b2 (0 < rest.length))) ∧ ITN h2 it tt g rest ∧ Fr (m1 it) h h2) := by
  refine Ct.of (by decide) (Nat.le_of_ble_eq_true rfl) (cat1 rfl) (fun X hXl F HN => ?_)
  subst hXl
  obtain ⟨t0, k0, hit0, hk0, hst0⟩ := hI2
  have loop_0 : ∀ (nn : Nat) (t k : Nat) (hh : AH), g 1 - t < nn → k ≤ 8 → hh it = some (.inr (9, [.int (nI t), .int (nI k), .ref tt])) → (t < g 1 ∧ rest = rmL g t k) ∨ (t = g 1 ∧ rest = []) → Fr (m1 it) h hh → VV G X 1 ((EQ G X (0) (0) (fun r h2 => r = some (.int (b2 (0 < rest.length))) ∧ ITN h2 it tt g rest ∧ Fr (m1 it) h h2))) hh (0) (0) [some (.ref (it))] [] 0 := by
    intro nn
    induction nn with
    | zero => intro t k hh hm hk8 hc hst hF; exact absurd hm (by omega)
    | succ nn ih_0 =>
      intro t k hh hm hk8 hc hst hF
      have hRc := hR.fr1 hF hit0 (by decide)
      have ht9 : t ≤ g 1 := by omega
      refine V_aload_n (i := 0) F dX11_hasNext_0 rfl rfl ?_
      refine V_getf F dX11_hasNext_1 fc_X11_13_X11 (.inl hc) rfl ?_
      refine V_aload_n (i := 0) F dX11_hasNext_4 rfl rfl ?_
      refine V_getf F dX11_hasNext_5 fc_X11_1_X11 (.inl hc) rfl ?_
      refine V_getn F dX11_hasNext_8 fc_X11_17_X3 (.inl hRc.1) rfl ?_
      refine V_callF (st := [.int (nI (t))]) (nn := 0) F dX11_hasNext_11 ⟨lw_F q468 q388 q390 q111 q392, ⟨q386, List.mem_append_left _ q385, q391, q389, q387⟩, (by decide +kernel), (by decide +kernel)⟩ (ct_AL_size hRc.2.1) ⟨18, _, _, _, rfl, (.inl hRc.2.1.1)⟩ rfl rfl (Nat.le_of_ble_eq_true rfl) (Nat.le_of_ble_eq_true rfl) (Nat.le_of_ble_eq_true rfl) (by first | exact Nat.le_of_ble_eq_true rfl | omega) (by first | exact Nat.le_of_ble_eq_true rfl | omega) ?_
      refine PRk ?_
      refine V_icmp_geN (tgt := 66) F dX11_hasNext_16 (by decide) (by have := hI.2.2.1; omega) (by have := hI.2.2.1; omega) (fun c_16 => ?_) (fun c_16 => ?_)
      · refine V_aload_n (i := 0) F dX11_hasNext_66 rfl rfl ?_
        refine V_getf F dX11_hasNext_67 fc_X11_13_X11 (.inl hc) rfl ?_
        refine V_aload_n (i := 0) F dX11_hasNext_70 rfl rfl ?_
        refine V_getf F dX11_hasNext_71 fc_X11_1_X11 (.inl hc) rfl ?_
        refine V_getn F dX11_hasNext_74 fc_X11_17_X3 (.inl hRc.1) rfl ?_
        refine V_callF (st := [.int (nI (t))]) (nn := 0) F dX11_hasNext_77 ⟨lw_F q468 q388 q390 q111 q392, ⟨q386, List.mem_append_left _ q385, q391, q389, q387⟩, (by decide +kernel), (by decide +kernel)⟩ (ct_AL_size hRc.2.1) ⟨18, _, _, _, rfl, (.inl hRc.2.1.1)⟩ rfl rfl (Nat.le_of_ble_eq_true rfl) (Nat.le_of_ble_eq_true rfl) (Nat.le_of_ble_eq_true rfl) (by first | exact Nat.le_of_ble_eq_true rfl | omega) (by first | exact Nat.le_of_ble_eq_true rfl | omega) ?_
        refine PRk ?_
        refine V_icmp_geN (tgt := 89) F dX11_hasNext_82 (by decide) (by have := hI.2.2.1; omega) (by have := hI.2.2.1; omega) (fun c_82 => ?_) (fun c_82 => absurd c_82 (by omega))
        refine V_iconst (v := nI 0) F dX11_hasNext_89 rfl ?_
        have hcN : hh it = some (.inr (9, [.int (nI (t)), .int (nI (k)), .ref (tt)])) := hc
        have hfz := hF
        obtain ⟨ht, he⟩ : t = g 1 ∧ rest = [] := hst.resolve_left (fun q => by omega)
        exact V_iret F dX11_hasNext_90 rfl (by first | exact Nat.le_of_ble_eq_true rfl | omega) (by first | exact Nat.le_of_ble_eq_true rfl | omega) ⟨by rw [b2_f (by rw [he]; exact Nat.lt_irrefl 0)]; rfl, ⟨t, k, hcN, hk8, Or.inr ⟨ht, he⟩⟩, hfz⟩
      · have ht : t < g 1 := by omega
        refine V_aload_n (i := 0) F dX11_hasNext_19 rfl rfl ?_
        refine V_getf F dX11_hasNext_20 fc_X11_29_X11 (.inl hc) rfl ?_
        refine V_aload_n (i := 0) F dX11_hasNext_23 rfl rfl ?_
        refine V_getf F dX11_hasNext_24 fc_X11_1_X11 (.inl hc) rfl ?_
        refine V_getn F dX11_hasNext_27 fc_X11_17_X3 (.inl hRc.1) rfl ?_
        refine V_aload_n (i := 0) F dX11_hasNext_30 rfl rfl ?_
        refine V_getf F dX11_hasNext_31 fc_X11_13_X11 (.inl hc) rfl ?_
        refine V_callF (st := [.int (nI (k))]) (nn := 1) F dX11_hasNext_34 ⟨lw_F q470 q473 q475 q111 q477, ⟨q472, List.mem_append_left _ q471, q476, q474, q387⟩, (by decide +kernel), (by decide +kernel)⟩ (ct_AL_get hRc.2.1 ht (by have := hI.2.2.1; omega)) ⟨18, _, _, _, rfl, (.inl hRc.2.1.1)⟩ rfl rfl (Nat.le_of_ble_eq_true rfl) (Nat.le_of_ble_eq_true rfl) (Nat.le_of_ble_eq_true rfl) (by first | exact Nat.le_of_ble_eq_true rfl | omega) (by first | exact Nat.le_of_ble_eq_true rfl | omega) ?_
        refine PRk ?_
        refine V_ckS F dX11_hasNext_39 q815 ⟨4, _, _, _, rfl, (.inl (hRc.2.2 t ht).1)⟩ ?_
        refine V_callV (st := [.int (nI (k))]) (nn := 0) F dX11_hasNext_42 lk_X11_38 (ct_TR_legs (hRc.2.2 t ht) (hI.st ht).1) ⟨4, _, _, _, rfl, (.inl (hRc.2.2 t ht).1)⟩ rfl rfl (Nat.le_of_ble_eq_true rfl) (Nat.le_of_ble_eq_true rfl) (Nat.le_of_ble_eq_true rfl) (by first | exact Nat.le_of_ble_eq_true rfl | omega) (by first | exact Nat.le_of_ble_eq_true rfl | omega) ?_
        refine PRk ?_
        refine V_icmp_ltN (tgt := 66) F dX11_hasNext_45 (by decide) (by omega) (by have := (hI.st ht).2; omega) (fun c_45 => ?_) (fun c_45 => ?_)
        · refine V_aload_n (i := 0) F dX11_hasNext_66 rfl rfl ?_
          refine V_getf F dX11_hasNext_67 fc_X11_13_X11 (.inl hc) rfl ?_
          refine V_aload_n (i := 0) F dX11_hasNext_70 rfl rfl ?_
          refine V_getf F dX11_hasNext_71 fc_X11_1_X11 (.inl hc) rfl ?_
          refine V_getn F dX11_hasNext_74 fc_X11_17_X3 (.inl hRc.1) rfl ?_
          refine V_callF (st := [.int (nI (t))]) (nn := 0) F dX11_hasNext_77 ⟨lw_F q468 q388 q390 q111 q392, ⟨q386, List.mem_append_left _ q385, q391, q389, q387⟩, (by decide +kernel), (by decide +kernel)⟩ (ct_AL_size hRc.2.1) ⟨18, _, _, _, rfl, (.inl hRc.2.1.1)⟩ rfl rfl (Nat.le_of_ble_eq_true rfl) (Nat.le_of_ble_eq_true rfl) (Nat.le_of_ble_eq_true rfl) (by first | exact Nat.le_of_ble_eq_true rfl | omega) (by first | exact Nat.le_of_ble_eq_true rfl | omega) ?_
          refine PRk ?_
          refine V_icmp_geN (tgt := 89) F dX11_hasNext_82 (by decide) (by have := hI.2.2.1; omega) (by have := hI.2.2.1; omega) (fun c_82 => absurd c_82 (by omega)) (fun c_82 => ?_)
          refine V_iconst (v := nI 1) F dX11_hasNext_85 rfl ?_
          refine V_goto (tgt := 90) F dX11_hasNext_86 (by decide) ?_
          have hcN : hh it = some (.inr (9, [.int (nI (t)), .int (nI (k)), .ref (tt)])) := hc
          have hfz := hF
          obtain ⟨ht, he⟩ : t < g 1 ∧ rest = rmL g t k := hst.resolve_right (fun q => by omega)
          have hk9 : k < g (16 + 36 * t + 3) - 1 := by omega
          exact V_iret F dX11_hasNext_90 rfl (by first | exact Nat.le_of_ble_eq_true rfl | omega) (by first | exact Nat.le_of_ble_eq_true rfl | omega) ⟨by rw [b2_t (by rw [he, rmL_cons hk9]; exact Nat.succ_pos _)]; rfl, ⟨t, k, hcN, hk8, Or.inl ⟨ht, hk9, he⟩⟩, hfz⟩
        · refine V_aload_n (i := 0) F dX11_hasNext_48 rfl rfl ?_
          refine V_dup F dX11_hasNext_49 rfl ?_
          refine V_getf F dX11_hasNext_50 fc_X11_13_X11 (.inl hc) rfl ?_
          refine V_iconst (v := nI 1) F dX11_hasNext_53 rfl ?_
          refine V_iaddN F dX11_hasNext_54 ?_
          refine V_putf F dX11_hasNext_55 fp_X11_13_X11 hc rfl rfl (Nat.le_of_ble_eq_true rfl) ?_
          refine VV.heap (h' := (hset hh (it) (.inr (9, [.int (nI (t + 1)), .int (nI (k)), .ref (tt)])))) rfl ?_
          refine V_aload_n (i := 0) F dX11_hasNext_58 rfl rfl ?_
          refine V_iconst (v := nI 0) F dX11_hasNext_59 rfl ?_
          refine V_putf F dX11_hasNext_60 fp_X11_29_X11 (hset_self (e := .inr (9, [.int (nI (t + 1)), .int (nI (k)), .ref (tt)]))) rfl rfl (Nat.le_of_ble_eq_true rfl) ?_
          refine VV.heap (h' := (hset (hset hh (it) (.inr (9, [.int (nI (t + 1)), .int (nI (k)), .ref (tt)]))) (it) (.inr (9, [.int (nI (t + 1)), .int (nI (0)), .ref (tt)])))) rfl ?_
          refine V_goto (tgt := 0) F dX11_hasNext_63 (by decide) ?_
          refine VV.weak (L' := [some (.ref (it))]) (LW.c1 LW.nil) ?_
          have hcN : (hset (hset hh (it) (.inr (9, [.int (nI (t + 1)), .int (nI (k)), .ref (tt)]))) (it) (.inr (9, [.int (nI (t + 1)), .int (nI (0)), .ref (tt)]))) it = some (.inr (9, [.int (nI (t + 1)), .int (nI (0)), .ref (tt)])) := (hset_self (e := .inr (9, [.int (nI (t + 1)), .int (nI (0)), .ref (tt)])))
          refine ih_0 (t + 1) 0 _ (by omega) (by omega) hcN ?_ ((hF.put (x := .inr (9, [.int (nI (t + 1)), .int (nI (k)), .ref (tt)])) hc rfl rfl (Or.inl rfl)).put (x := .inr (9, [.int (nI (t + 1)), .int (nI (0)), .ref (tt)])) (hset_self (e := .inr (9, [.int (nI (t + 1)), .int (nI (k)), .ref (tt)]))) rfl rfl (Or.inl rfl))
          obtain ⟨ht, he⟩ : t < g 1 ∧ rest = rmL g t k := hst.resolve_right (fun q => by omega)
          by_cases z : t + 1 < g 1
          · exact Or.inl ⟨z, he.trans (rmL_next ht (by omega) z)⟩
          · exact Or.inr ⟨by omega, he.trans (rmL_end (by omega) (by omega))⟩
  refine VV.weak (L' := [some (.ref (it))]) (LW.c1 LW.nil) ?_
  exact loop_0 (g 1 - t0 + 1) t0 k0 h (by omega) hk0 hit0 hst0 Fr.rf
theorem ct_TI_next2 {G : GG} {l : Launch} {h : AH} {tt tl ta : Nat} {x : Nat → Nat} {A : Nat → Nat → Nat} {g : Nat → Nat} {it u v : Nat} {xs : List (Nat × Nat)}  (hR : RWr G h (tt, tl, ta, x, A) g) (hI : GW g) (hI2 : ITL h it tt g ((u, v) :: xs)) : Ct G l yX11_next_2 cX11_next_2 1 (some (.object "SleeperRailway$Leg")) 4 (1) (6) [.ref it] h (fun r h2 => ∃ q, r = some (.ref q) ∧ h q = none ∧ h2 q = some (LgE g u v) ∧ ITL h2 it tt g xs ∧ Fr (m1 it) h h2) := by
  refine Ct.of (by decide) (Nat.le_of_ble_eq_true rfl) (cat1 rfl) (fun X hXl F HN => ?_)
  subst hXl
  obtain ⟨t0, k0, hit0, hk0, hst0⟩ := id hI2
  have hs8 : ∀ t, t < g 1 → g (16 + 36 * t + 3) ≤ 8 := fun t ht => (hI.st ht).2
  refine V_aload_n (i := 0) F dX11_next_2_0 rfl rfl ?_
  refine V_callV (st := []) (nn := 0) F dX11_next_2_1 lk_X11_41 (ct_TI_hasNext hR hI hI2) hI2.isC rfl rfl (Nat.le_of_ble_eq_true rfl) (Nat.le_of_ble_eq_true rfl) (Nat.le_of_ble_eq_true rfl) (by first | exact Nat.le_of_ble_eq_true rfl | omega) (by first | exact Nat.le_of_ble_eq_true rfl | omega) ?_
  rintro _ h2 ⟨rfl, hN, hx2⟩
  have hRc := hR.fr1 hx2 hit0 (by decide)
  obtain ⟨hc, hu, hv, hxs⟩ := hN.hd; have hs8u := hs8 u hu
  refine V_if_neB (tgt := 15) F dX11_next_2_4 (by decide) (fun c_4 => ?_) (fun c_4 => absurd (Nat.succ_pos _) c_4)
  refine V_aload_n (i := 0) F dX11_next_2_15 rfl rfl ?_
  refine V_dup F dX11_next_2_16 rfl ?_
  refine V_getf F dX11_next_2_17 fc_X11_29_X11 (.inl hc) rfl ?_
  refine V_iconst (v := nI 1) F dX11_next_2_20 rfl ?_
  refine V_iaddN F dX11_next_2_21 ?_
  refine V_putf F dX11_next_2_22 fp_X11_29_X11 hc rfl rfl (Nat.le_of_ble_eq_true rfl) ?_
  refine VV.heap (h' := (hset h2 (it) (.inr (9, [.int (nI (u)), .int (nI (v + 1)), .ref (tt)])))) rfl ?_
  refine V_aload_n (i := 0) F dX11_next_2_25 rfl rfl ?_
  refine V_getf F dX11_next_2_26 fc_X11_1_X11 (.inl (hset_self (e := .inr (9, [.int (nI (u)), .int (nI (v + 1)), .ref (tt)])))) rfl ?_
  refine V_aload_n (i := 0) F dX11_next_2_29 rfl rfl ?_
  refine V_getf F dX11_next_2_30 fc_X11_13_X11 (.inl (hset_self (e := .inr (9, [.int (nI (u)), .int (nI (v + 1)), .ref (tt)])))) rfl ?_
  refine V_aload_n (i := 0) F dX11_next_2_33 rfl rfl ?_
  refine V_getf F dX11_next_2_34 fc_X11_29_X11 (.inl (hset_self (e := .inr (9, [.int (nI (u)), .int (nI (v + 1)), .ref (tt)])))) rfl ?_
  refine V_iconst (v := nI 1) F dX11_next_2_37 rfl ?_
  refine V_isubN F dX11_next_2_38 (by omega) ?_
  refine VV.stk (st' := [.int (nI (v)), .int (nI (u)), .ref (tt)]) rfl ?_
  refine V_callV (st := []) (nn := 2) F dX11_next_2_39 lk_X11_48 (ct_TT_leg (hRc.fr1 (Fr.rf.put hc rfl rfl (Or.inl rfl)) hc (by decide)) hI hu hv) ⟨3, _, _, _, rfl, (.inl ((hset_ne (ne_oo hRc.1 hc (by decide))).trans hRc.1))⟩ rfl rfl (Nat.le_of_ble_eq_true rfl) (Nat.le_of_ble_eq_true rfl) (Nat.le_of_ble_eq_true rfl) (by first | exact Nat.le_of_ble_eq_true rfl | omega) (by first | exact Nat.le_of_ble_eq_true rfl | omega) ?_
  rintro _ h3 ⟨q, rfl, hq0, hq, hx3⟩
  have hcit : (hset h2 (it) (.inr (9, [.int (nI (u)), .int (nI (v + 1)), .ref (tt)]))) it = some (.inr (9, [.int (nI (u)), .int (nI (v + 1)), .ref (tt)])) := (hset_self (e := .inr (9, [.int (nI (u)), .int (nI (v + 1)), .ref (tt)])))
  have hfr := (hx2.put (x := .inr (9, [.int (nI (u)), .int (nI (v + 1)), .ref (tt)])) hc rfl rfl (Or.inl rfl))
  exact V_aret F dX11_next_2_42 (Or.inl ⟨_, rfl⟩) (Or.inr ⟨_, rfl⟩) (by first | exact Nat.le_of_ble_eq_true rfl | omega) (by first | exact Nat.le_of_ble_eq_true rfl | omega) ⟨q, rfl, hfr.none hq0, hq, ⟨u, v + 1, hx3.get hcit id rfl, by omega, Or.inl ⟨hu, hxs⟩⟩, hfr.cal0 hx3⟩
theorem ct_TI_next {G : GG} {l : Launch} {h : AH} {tt tl ta : Nat} {x : Nat → Nat} {A : Nat → Nat → Nat} {g : Nat → Nat} {it u v : Nat} {xs : List (Nat × Nat)}  (hR : RWr G h (tt, tl, ta, x, A) g) (hI : GW g) (hI2 : ITL h it tt g ((u, v) :: xs)) : Ct G l yX11_next cX11_next 1 (some (.object "java/lang/Object")) 5 (1) (6) [.ref it] h (fun r h2 => ∃ q, r = some (.ref q) ∧ h q = none ∧ h2 q = some (LgE g u v) ∧ ITL h2 it tt g xs ∧ Fr (m1 it) h h2) := by
  refine Ct.of (by decide) (Nat.le_of_ble_eq_true rfl) (cat1 rfl) (fun X hXl F HN => ?_)
  subst hXl
  refine V_aload_n (i := 0) F dX11_next_0 rfl rfl ?_
  refine V_callV (st := []) (nn := 0) F dX11_next_1 lk_X11_52 (ct_TI_next2 hR hI hI2) hI2.isC rfl rfl (Nat.le_of_ble_eq_true rfl) (Nat.le_of_ble_eq_true rfl) (Nat.le_of_ble_eq_true rfl) (by first | exact Nat.le_of_ble_eq_true rfl | omega) (by first | exact Nat.le_of_ble_eq_true rfl | omega) ?_
  rintro _ h2 ⟨q, rfl, z1, z2, z3, z4⟩
  exact V_aret F dX11_next_4 (Or.inl ⟨_, rfl⟩) (Or.inr ⟨_, rfl⟩) (by first | exact Nat.le_of_ble_eq_true rfl | omega) (by first | exact Nat.le_of_ble_eq_true rfl | omega) ⟨q, rfl, z1, z2, z3, z4⟩
