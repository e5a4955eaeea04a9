theorem els_add {f : Nat → Nat} {n x : Nat} : (els (upo f n x) (n + 1)).Perm (x :: els f n) := by
  rw [els_succ, upo_s, show els (upo f n x) n = els f n from els_ext (fun a ha => upo_n (by omega))]
  exact List.perm_append_comm (l₂ := [x])
theorem ct_PQ_grow {G : GG} {l : Launch} {h : AH} {a ar mc n cap : Nat} {g : Nat → Option Nat} (ha : h a = some (.inr (31, [.ref ar, .int (nI n), .null, .int (nI mc)]))) (har : h ar = some (qA G cap g)) (ho : ∀ i, i < cap → ∀ y, g i = some y → isO G h y) (hc64 : cap < 64) : Ct G l yJ46_grow cJ46_grow 4 none 4 (1) (2 * cap + 2) [.ref a, .int (nI (cap + 1))] h (fun r h2 => r = none ∧ ∃ q c2 g2, h q = none ∧ bz G ≤ q ∧ h2 = hset (hset h q (qA G c2 g2)) a (.inr (31, [.ref q, .int (nI n), .null, .int (nI mc)])) ∧ cap < c2 ∧ c2 ≤ 2 * cap + 2 ∧ ∀ i, i < cap → g2 i = g i) := by
  refine Ct.of (by decide) (Nat.le_of_ble_eq_true rfl) (cat1 rfl) (fun X hXl F HN => ?_)
  subst hXl
  refine V_aload_n (i := 0) F dJ46_grow_0 rfl rfl ?_
  refine V_getf F dJ46_grow_1 fc_J46_17_J46 (.inl ha) rfl ?_
  refine V_alen (v := nI cap) F 6 dJ46_grow_4 rfl (.inl har) rfl ?_
  refine V_istore_n (i := 2) F dJ46_grow_5 rfl (Nat.le_of_ble_eq_true rfl) (Nat.le_of_ble_eq_true rfl) ?_
  refine V_iload_n (i := 2) F dJ46_grow_6 rfl rfl ?_
  refine V_iload_n (i := 1) F dJ46_grow_7 rfl rfl ?_
  refine V_iload_n (i := 2) F dJ46_grow_8 rfl rfl ?_
  refine V_isubN F dJ46_grow_9 (by omega) ?_
  refine V_iload_n (i := 2) F dJ46_grow_10 rfl rfl ?_
  refine V_bipush (v := nI 64) F dJ46_grow_11 rfl ?_
  refine V_icmp_geN (tgt := 22) F dJ46_grow_13 (by decide) (by omega) (by decide) (fun c_13 => absurd c_13 (by omega)) (fun c_13 => ?_)
  refine V_iload_n (i := 2) F dJ46_grow_16 rfl rfl ?_
  refine V_iconst (v := nI 2) F dJ46_grow_17 rfl ?_
  refine V_iaddN F dJ46_grow_18 ?_
  refine V_goto (tgt := 25) F dJ46_grow_19 (by decide) ?_
  refine V_callS (st := []) F dJ46_grow_25 lk_J46_80 (ct_newLength (by omega) (by omega)) rfl rfl (Nat.le_of_ble_eq_true rfl) (Nat.le_of_ble_eq_true rfl) (Nat.le_of_ble_eq_true rfl) (by first | exact Nat.le_of_ble_eq_true rfl | omega) (by first | exact Nat.le_of_ble_eq_true rfl | omega) ?_
  refine PRk ?_
  refine V_istore_n (i := 3) F dJ46_grow_28 rfl (Nat.le_of_ble_eq_true rfl) (Nat.le_of_ble_eq_true rfl) ?_
  refine V_aload_n (i := 0) F dJ46_grow_29 rfl rfl ?_
  refine V_aload_n (i := 0) F dJ46_grow_30 rfl rfl ?_
  refine V_getf F dJ46_grow_31 fc_J46_17_J46 (.inl ha) rfl ?_
  refine V_iload_n (i := 3) F dJ46_grow_34 rfl rfl ?_
  refine V_callS (st := [.ref (a)]) F dJ46_grow_35 lk_J46_86 (ct_copyOf2 (.inl har) (fun i hi y hy => ho i (by omega) y hy) (by omega) (by omega)) rfl rfl (Nat.le_of_ble_eq_true rfl) (Nat.le_of_ble_eq_true rfl) (Nat.le_of_ble_eq_true rfl) (by first | exact Nat.le_of_ble_eq_true rfl | omega) (by first | exact Nat.le_of_ble_eq_true rfl | omega) ?_
  rintro _ _ ⟨oc, rfl, hfoc, hboc, rfl⟩
  refine V_putf F dJ46_grow_38 fp_J46_17_J46 ((hset_ne (ne_nw ha hfoc)).trans ha) rfl rfl (Nat.le_of_ble_eq_true rfl) ?_
  refine VV.heap (h' := (hset (hset h oc (qA G (cap + max (((cap + 1)) - cap) (cap + 2)) (va_cpy g (fun _ => none) 0 0 (min cap (cap + max (((cap + 1)) - cap) (cap + 2)))))) (a) (.inr (31, [.ref (oc), .int (nI (n)), .null, .int (nI (mc))])))) rfl ?_
  exact V_vret F dJ46_grow_41 (by first | exact Nat.le_of_ble_eq_true rfl | omega) (by first | exact Nat.le_of_ble_eq_true rfl | omega) ⟨rfl, oc, _, _, hfoc, hboc, rfl, by omega, by omega, fun i hi => by unfold va_cpy; rw [if_pos (by omega)]; congr 1; omega⟩
theorem ct_PQ_offer {G : GG} {l : Launch} {h : AH} {a ar mc n cap x mL dC : Nat} {f : Nat → Nat} {D : String} {y : MethodName} {cc : ByteArray} (hQ : PQs G h a ar mc n cap f) (hx : isO G h x) (hn : n < 64) (hQC : ∀ ar' h', (ar' = ar ∨ h ar' = none) → Fr (m2 a ar) h h' → PQC G l h' ar' x (els (upo f n x) (n + 1)) D y cc mL dC) : Ct G l yJ46_offer cJ46_offer 3 (some .boolean) 7 (1) (2 * n + 2) [.ref a, .ref x] h (fun r h2 => r = some (.int (nI 1)) ∧ ∃ ar2 cap2 f2, PQs G h2 a ar2 (mc + 1) (n + 1) cap2 f2 ∧ (els f2 (n + 1)).Perm (x :: els f n) ∧ Fr (m2 a ar) h h2 ∧ (ar2 = ar ∨ h ar2 = none) ∧ (cap2 = cap ∨ cap2 ≤ 2 * n + 2)) := by
  refine Ct.of (by decide) (Nat.le_of_ble_eq_true rfl) (cat1 rfl) (fun X hXl F HN => ?_)
  subst hXl
  obtain ⟨h1, ho, hnc, hc0, hcap, g, har, hg⟩ := hQ
  have hog : ∀ i y, g i = some y → i < n → isO G h y := fun i y hy hi => by rw [hg i hi] at hy; cases hy; exact ho i hi
  refine V_aload_n (i := 1) F dJ46_offer_0 rfl rfl ?_
  refine V_ifnonnull (tgt := 12) F dJ46_offer_1 (by decide) ?_
  refine V_aload_n (i := 0) F dJ46_offer_12 rfl rfl ?_
  refine V_dup F dJ46_offer_13 rfl ?_
  refine V_getf F dJ46_offer_14 fc_J46_93_J46 (.inl h1) rfl ?_
  refine V_iconst (v := nI 1) F dJ46_offer_17 rfl ?_
  refine V_iaddN F dJ46_offer_18 ?_
  refine V_putf F dJ46_offer_19 fp_J46_93_J46 h1 rfl rfl (Nat.le_of_ble_eq_true rfl) ?_
  refine VV.heap (h' := (hset h (a) (.inr (31, [.ref (ar), .int (nI (n)), .null, .int (nI (mc + 1))])))) rfl ?_
  have p1 : (hset h (a) (.inr (31, [.ref (ar), .int (nI (n)), .null, .int (nI (mc + 1))]))) ar = some (qA G cap g) := ((hset_ne (ne_ao har h1)).trans har)
  have p2 : (hset h (a) (.inr (31, [.ref (ar), .int (nI (n)), .null, .int (nI (mc + 1))]))) a = some (.inr (31, [.ref (ar), .int (nI (n)), .null, .int (nI (mc + 1))])) := (hset_self (e := .inr (31, [.ref (ar), .int (nI (n)), .null, .int (nI (mc + 1))])))
  refine V_aload_n (i := 0) F dJ46_offer_22 rfl rfl ?_
  refine V_getf F dJ46_offer_23 fc_J46_58_J46 (.inl p2) rfl ?_
  refine V_istore_n (i := 2) F dJ46_offer_26 rfl (Nat.le_of_ble_eq_true rfl) (Nat.le_of_ble_eq_true rfl) ?_
  refine V_iload_n (i := 2) F dJ46_offer_27 rfl rfl ?_
  refine V_aload_n (i := 0) F dJ46_offer_28 rfl rfl ?_
  refine V_getf F dJ46_offer_29 fc_J46_17_J46 (.inl p2) rfl ?_
  refine V_alen (v := nI cap) F 6 dJ46_offer_32 rfl (.inl p1) rfl ?_
  refine V_icmp_ltN (tgt := 43) F dJ46_offer_33 (by decide) (by omega) (by omega) (fun c_33 => ?_) (fun c_33 => ?_)
  · have h9 : Fr (m2 a ar) h ((hset h (a) (.inr (31, [.ref (ar), .int (nI (n)), .null, .int (nI (mc + 1))])))) := ((Fr.rf (M := m2 a ar) (h := h)).put (x := .inr (31, [.ref (ar), .int (nI (n)), .null, .int (nI (mc + 1))])) h1 rfl rfl (Or.inl (Or.inl rfl)))
    have har9 : (hset h (a) (.inr (31, [.ref (ar), .int (nI (n)), .null, .int (nI (mc + 1))]))) ar = some (qA G cap g) := p1
    have ha9 : (hset h (a) (.inr (31, [.ref (ar), .int (nI (n)), .null, .int (nI (mc + 1))]))) a = some (.inr (31, [.ref (ar), .int (nI (n)), .null, .int (nI (mc + 1))])) := p2
    have hor9 : ar = ar ∨ h ar = none := Or.inl rfl
    have hyo9 : Yo (m2 a ar) h ar := Or.inl (Or.inr rfl)
    refine V_aload_n (i := 0) F dJ46_offer_43 rfl rfl ?_
    refine V_iload_n (i := 2) F dJ46_offer_44 rfl rfl ?_
    refine V_aload_n (i := 1) F dJ46_offer_45 rfl rfl ?_
    refine V_callV (st := []) F dJ46_offer_46 lk_J46_100 (ct_PQ_siftUp (f0 := f) (k0 := n) (x := x) (m := n + 1) ha9 (hQC _ _ hor9 h9) (by omega) (by omega) (by omega) har9 (fun i hi hne => hg i (by omega))) ⟨31, _, _, _, rfl, (.inl p2)⟩ rfl rfl (Nat.le_of_ble_eq_true rfl) (Nat.le_of_ble_eq_true rfl) (Nat.le_of_ble_eq_true rfl) (by first | exact Nat.le_of_ble_eq_true rfl | omega) (by first | exact Nat.le_of_ble_eq_true rfl | omega) ?_
    rintro _ h3 ⟨rfl, f2, g3, har3, hg3, hP3, hx3⟩
    have p3 := hx3.get p2 (ne_oa p2 har9) rfl
    have f4 : Fr (m2 a ar) h h3 := ((Fr.rf (M := m2 a ar) (h := h)).put (x := .inr (31, [.ref (ar), .int (nI (n)), .null, .int (nI (mc + 1))])) h1 rfl rfl (Or.inl (Or.inl rfl))).cal hx3 (Yo.m1 hyo9)
    refine V_aload_n (i := 0) F dJ46_offer_49 rfl rfl ?_
    refine V_iload_n (i := 2) F dJ46_offer_50 rfl rfl ?_
    refine V_iconst (v := nI 1) F dJ46_offer_51 rfl ?_
    refine V_iaddN F dJ46_offer_52 ?_
    refine V_putf F dJ46_offer_53 fp_J46_58_J46 p3 rfl rfl (Nat.le_of_ble_eq_true rfl) ?_
    refine VV.heap (h' := (hset h3 (a) (.inr (31, [.ref (ar), .int (nI (n + 1)), .null, .int (nI (mc + 1))])))) rfl ?_
    refine V_iconst (v := nI 1) F dJ46_offer_56 rfl ?_
    have hfz := (f4.put (x := .inr (31, [.ref (ar), .int (nI (n + 1)), .null, .int (nI (mc + 1))])) p3 rfl rfl (Or.inl (Or.inl rfl)))
    have pa : (hset h3 (a) (.inr (31, [.ref (ar), .int (nI (n + 1)), .null, .int (nI (mc + 1))]))) a = some (.inr (31, [.ref (ar), .int (nI (n + 1)), .null, .int (nI (mc + 1))])) := (hset_self (e := .inr (31, [.ref (ar), .int (nI (n + 1)), .null, .int (nI (mc + 1))])))
    have par : (hset h3 (a) (.inr (31, [.ref (ar), .int (nI (n + 1)), .null, .int (nI (mc + 1))]))) ar = some (qA G cap g3) := ((hset_ne (ne_ao har3 p3)).trans har3)
    have hPz := hP3.trans (els_add (f := f) (n := n) (x := x))
    have hoz : ∀ z, z ∈ els f2 (n + 1) → isO G h z := fun z hz => by
      rcases List.mem_cons.mp (hPz.subset hz) with rfl | q
      · exact hx
      · obtain ⟨i, hi, rfl⟩ := List.mem_map.mp q; exact ho i (List.mem_range.mp hi)
    exact V_iret F dJ46_offer_57 rfl (by first | exact Nat.le_of_ble_eq_true rfl | omega) (by first | exact Nat.le_of_ble_eq_true rfl | omega) ⟨rfl, ar, _, f2, ⟨pa, fun i hi => hfz.isO (hoz _ (els_mem hi)), by omega, by omega, by omega, g3, par, hg3⟩, hPz, hfz, hor9, Or.inl rfl⟩
  · have hcn : n = cap := by omega
    subst hcn
    refine V_aload_n (i := 0) F dJ46_offer_36 rfl rfl ?_
    refine V_iload_n (i := 2) F dJ46_offer_37 rfl rfl ?_
    refine V_iconst (v := nI 1) F dJ46_offer_38 rfl ?_
    refine V_iaddN F dJ46_offer_39 ?_
    have hfr8 : Fr (m2 a ar) h ((hset h (a) (.inr (31, [.ref (ar), .int (nI (n)), .null, .int (nI (mc + 1))])))) := ((Fr.rf (M := m2 a ar) (h := h)).put (x := .inr (31, [.ref (ar), .int (nI (n)), .null, .int (nI (mc + 1))])) h1 rfl rfl (Or.inl (Or.inl rfl)))
    have hp8 : (hset h (a) (.inr (31, [.ref (ar), .int (nI (n)), .null, .int (nI (mc + 1))]))) ar = some (qA G n g) := p1
    refine V_callV (st := []) F dJ46_offer_40 lk_J46_96 (ct_PQ_grow p2 p1 (fun i hi y hy => ((Fr.rf (M := m2 a ar) (h := h)).put (x := .inr (31, [.ref (ar), .int (nI (n)), .null, .int (nI (mc + 1))])) h1 rfl rfl (Or.inl (Or.inl rfl))).isO (hog i y hy hi)) (by omega)) ⟨31, _, _, _, rfl, (.inl p2)⟩ rfl rfl (Nat.le_of_ble_eq_true rfl) (Nat.le_of_ble_eq_true rfl) (Nat.le_of_ble_eq_true rfl) (by first | exact Nat.le_of_ble_eq_true rfl | omega) (by first | exact Nat.le_of_ble_eq_true rfl | omega) ?_
    rintro _ _ ⟨rfl, oc, c2, g2, hfoc, hboc, rfl, hc1, hc2, hg2⟩
    have p5 : (hset (hset h (a) (.inr (31, [.ref (ar), .int (nI (n)), .null, .int (nI (mc + 1))]))) oc (qA G c2 g2)) ar = some (qA G n g) := ((hset_ne (ne_nw p1 hfoc)).trans p1)
    have p6 : (hset (hset h (a) (.inr (31, [.ref (ar), .int (nI (n)), .null, .int (nI (mc + 1))]))) oc (qA G c2 g2)) a = some (.inr (31, [.ref (ar), .int (nI (n)), .null, .int (nI (mc + 1))])) := ((hset_ne (ne_nw p2 hfoc)).trans p2)
    have p7 : (hset (hset h (a) (.inr (31, [.ref (ar), .int (nI (n)), .null, .int (nI (mc + 1))]))) oc (qA G c2 g2)) oc = some (qA G c2 g2) := (hset_self (e := qA G c2 g2))
    have p8 : (hset (hset (hset h (a) (.inr (31, [.ref (ar), .int (nI (n)), .null, .int (nI (mc + 1))]))) oc (qA G c2 g2)) (a) (.inr (31, [.ref oc, .int (nI n), .null, .int (nI (mc + 1))]))) ar = some (qA G n g) := ((hset_ne (ne_ao p5 p6)).trans p5)
    have p9 : (hset (hset (hset h (a) (.inr (31, [.ref (ar), .int (nI (n)), .null, .int (nI (mc + 1))]))) oc (qA G c2 g2)) (a) (.inr (31, [.ref oc, .int (nI n), .null, .int (nI (mc + 1))]))) oc = some (qA G c2 g2) := ((hset_ne (Ne.symm (ne_nw p2 hfoc))).trans p7)
    have p10 : (hset (hset (hset h (a) (.inr (31, [.ref (ar), .int (nI (n)), .null, .int (nI (mc + 1))]))) oc (qA G c2 g2)) (a) (.inr (31, [.ref oc, .int (nI n), .null, .int (nI (mc + 1))]))) a = some (.inr (31, [.ref oc, .int (nI n), .null, .int (nI (mc + 1))])) := (hset_self (e := .inr (31, [.ref oc, .int (nI n), .null, .int (nI (mc + 1))])))
    have h9 : Fr (m2 a ar) h ((hset (hset (hset h (a) (.inr (31, [.ref (ar), .int (nI (n)), .null, .int (nI (mc + 1))]))) oc (qA G c2 g2)) (a) (.inr (31, [.ref oc, .int (nI n), .null, .int (nI (mc + 1))])))) := ((((Fr.rf (M := m2 a ar) (h := h)).put (x := .inr (31, [.ref (ar), .int (nI (n)), .null, .int (nI (mc + 1))])) h1 rfl rfl (Or.inl (Or.inl rfl))).nw (x := qA G c2 g2) hfoc).put (x := .inr (31, [.ref oc, .int (nI n), .null, .int (nI (mc + 1))])) p6 rfl rfl (Or.inl (Or.inl rfl)))
    have har9 : (hset (hset (hset h (a) (.inr (31, [.ref (ar), .int (nI (n)), .null, .int (nI (mc + 1))]))) oc (qA G c2 g2)) (a) (.inr (31, [.ref oc, .int (nI n), .null, .int (nI (mc + 1))]))) oc = some (qA G c2 g2) := p9
    have ha9 : (hset (hset (hset h (a) (.inr (31, [.ref (ar), .int (nI (n)), .null, .int (nI (mc + 1))]))) oc (qA G c2 g2)) (a) (.inr (31, [.ref oc, .int (nI n), .null, .int (nI (mc + 1))]))) a = some (.inr (31, [.ref oc, .int (nI n), .null, .int (nI (mc + 1))])) := p10
    have hor9 : oc = ar ∨ h oc = none := Or.inr (hfr8.none hfoc)
    have hyo9 : Yo (m2 a ar) h oc := Or.inr (hfr8.none hfoc)
    have hne9 : ar ≠ oc := ne_nw hp8 hfoc
    refine V_aload_n (i := 0) F dJ46_offer_43 rfl rfl ?_
    refine V_iload_n (i := 2) F dJ46_offer_44 rfl rfl ?_
    refine V_aload_n (i := 1) F dJ46_offer_45 rfl rfl ?_
    refine V_callV (st := []) F dJ46_offer_46 lk_J46_100 (ct_PQ_siftUp (f0 := f) (k0 := n) (x := x) (m := n + 1) ha9 (hQC _ _ hor9 h9) (by omega) (by omega) (by omega) har9 (fun i hi hne => (hg2 i (by omega)).trans (hg i (by omega)))) ⟨31, _, _, _, rfl, (.inl p10)⟩ rfl rfl (Nat.le_of_ble_eq_true rfl) (Nat.le_of_ble_eq_true rfl) (Nat.le_of_ble_eq_true rfl) (by first | exact Nat.le_of_ble_eq_true rfl | omega) (by first | exact Nat.le_of_ble_eq_true rfl | omega) ?_
    rintro _ h3 ⟨rfl, f2, g3, har3, hg3, hP3, hx3⟩
    have p11 := hx3.get p8 (fun z => hne9 z) rfl
    have p12 := hx3.get p10 (ne_oa p10 har9) rfl
    have f13 : Fr (m2 a ar) h h3 := ((((Fr.rf (M := m2 a ar) (h := h)).put (x := .inr (31, [.ref (ar), .int (nI (n)), .null, .int (nI (mc + 1))])) h1 rfl rfl (Or.inl (Or.inl rfl))).nw (x := qA G c2 g2) hfoc).put (x := .inr (31, [.ref oc, .int (nI n), .null, .int (nI (mc + 1))])) p6 rfl rfl (Or.inl (Or.inl rfl))).cal hx3 (Yo.m1 hyo9)
    refine V_aload_n (i := 0) F dJ46_offer_49 rfl rfl ?_
    refine V_iload_n (i := 2) F dJ46_offer_50 rfl rfl ?_
    refine V_iconst (v := nI 1) F dJ46_offer_51 rfl ?_
    refine V_iaddN F dJ46_offer_52 ?_
    refine V_putf F dJ46_offer_53 fp_J46_58_J46 p12 rfl rfl (Nat.le_of_ble_eq_true rfl) ?_
    refine VV.heap (h' := (hset h3 (a) (.inr (31, [.ref oc, .int (nI (n + 1)), .null, .int (nI (mc + 1))])))) rfl ?_
    refine V_iconst (v := nI 1) F dJ46_offer_56 rfl ?_
    have hfz := (f13.put (x := .inr (31, [.ref oc, .int (nI (n + 1)), .null, .int (nI (mc + 1))])) p12 rfl rfl (Or.inl (Or.inl rfl)))
    have pa : (hset h3 (a) (.inr (31, [.ref oc, .int (nI (n + 1)), .null, .int (nI (mc + 1))]))) a = some (.inr (31, [.ref oc, .int (nI (n + 1)), .null, .int (nI (mc + 1))])) := (hset_self (e := .inr (31, [.ref oc, .int (nI (n + 1)), .null, .int (nI (mc + 1))])))
    have par : (hset h3 (a) (.inr (31, [.ref oc, .int (nI (n + 1)), .null, .int (nI (mc + 1))]))) oc = some (qA G c2 g3) := ((hset_ne (Ne.symm (ne_nw p2 hfoc))).trans har3)
    have hPz := hP3.trans (els_add (f := f) (n := n) (x := x))
    have hoz : ∀ z, z ∈ els f2 (n + 1) → isO G h z := fun z hz => by
      rcases List.mem_cons.mp (hPz.subset hz) with rfl | q
      · exact hx
      · obtain ⟨i, hi, rfl⟩ := List.mem_map.mp q; exact ho i (List.mem_range.mp hi)
    exact V_iret F dJ46_offer_57 rfl (by first | exact Nat.le_of_ble_eq_true rfl | omega) (by first | exact Nat.le_of_ble_eq_true rfl | omega) ⟨rfl, oc, _, f2, ⟨pa, fun i hi => hfz.isO (hoz _ (els_mem hi)), by omega, by omega, by omega, g3, par, hg3⟩, hPz, hfz, hor9, Or.inr hc2⟩
theorem ct_PQ_add {G : GG} {l : Launch} {h : AH} {a ar mc n cap x mL dC : Nat} {f : Nat → Nat} {D : String} {y : MethodName} {cc : ByteArray} (hQ : PQs G h a ar mc n cap f) (hx : isO G h x) (hn : n < 64) (hQC : ∀ ar' h', (ar' = ar ∨ h ar' = none) → Fr (m2 a ar) h h' → PQC G l h' ar' x (els (upo f n x) (n + 1)) D y cc mL dC) : Ct G l yJ46_add cJ46_add 2 (some .boolean) 8 (1) (2 * n + 2) [.ref a, .ref x] h (fun r h2 => r = some (.int (nI 1)) ∧ ∃ ar2 cap2 f2, PQs G h2 a ar2 (mc + 1) (n + 1) cap2 f2 ∧ (els f2 (n + 1)).Perm (x :: els f n) ∧ Fr (m2 a ar) h h2 ∧ (ar2 = ar ∨ h ar2 = none) ∧ (cap2 = cap ∨ cap2 ≤ 2 * n + 2)) := by
  refine Ct.of (by decide) (Nat.le_of_ble_eq_true rfl) (cat1 rfl) (fun X hXl F HN => ?_)
  subst hXl
  refine V_aload_n (i := 0) F dJ46_add_0 rfl rfl ?_
  refine V_aload_n (i := 1) F dJ46_add_1 rfl rfl ?_
  refine V_callV (st := []) F dJ46_add_2 lk_J46_89 (ct_PQ_offer hQ hx hn hQC) ⟨31, _, _, _, rfl, (.inl hQ.1)⟩ rfl rfl (Nat.le_of_ble_eq_true rfl) (Nat.le_of_ble_eq_true rfl) (Nat.le_of_ble_eq_true rfl) (by first | exact Nat.le_of_ble_eq_true rfl | omega) (by first | exact Nat.le_of_ble_eq_true rfl | omega) ?_
  rintro _ h2 ⟨rfl, hz⟩
  exact V_iret F dJ46_add_5 rfl (by first | exact Nat.le_of_ble_eq_true rfl | omega) (by first | exact Nat.le_of_ble_eq_true rfl | omega) ⟨rfl, hz⟩
