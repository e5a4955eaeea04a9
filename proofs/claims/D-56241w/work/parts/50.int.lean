theorem ivk {x : Int32} (h1 : ¬ x < -128) (h2 : ¬ 127 < x) : ∃ k, k < 256 ∧ x + 128 = nI k ∧ nI k - 128 = x := by
  have a1 := Int32.not_lt.mp h1
  have a2 := Int32.not_lt.mp h2
  have b1 : -128 ≤ x.toInt := Int32.le_iff_toInt_le.mp a1
  have b2 : x.toInt ≤ 127 := Int32.le_iff_toInt_le.mp a2
  have e : x + 128 = nI (x.toInt + 128).toNat := by
    apply Int32.toInt_inj.mp
    rw [nI_toInt (by omega), Int32.toInt_add]
    show (x.toInt + 128).bmod _ = _
    rw [Int.bmod_eq_of_le (by omega) (by omega)]
    omega
  refine ⟨(x.toInt + 128).toNat, by omega, e, ?_⟩
  rw [← e]
  exact Int32.add_sub_cancel x 128
/-- comparing two ints -/
def cmI (x y : Int32) : Int32 := if x < y then -1 else if x = y then 0 else 1
theorem cmI_lt {x y : Int32} : cmI x y < 0 ↔ x < y := by
  unfold cmI
  by_cases h : x < y
  · rw [if_pos h]; exact ⟨fun _ => h, fun _ => by decide⟩
  · rw [if_neg h]
    by_cases h2 : x = y
    · rw [if_pos h2]; exact ⟨fun z => absurd z (by decide), fun z => absurd z h⟩
    · rw [if_neg h2]; exact ⟨fun z => absurd z (by decide), fun z => absurd z h⟩
theorem cmI_eq {x y : Int32} : cmI x y = 0 ↔ x = y := by
  unfold cmI
  by_cases h : x < y
  · rw [if_pos h]; exact ⟨fun z => absurd z (by decide), fun z => by rw [z] at h; exact (Int32.lt_irrefl h).elim⟩
  · rw [if_neg h]
    by_cases h2 : x = y
    · rw [if_pos h2]; exact ⟨fun _ => h2, fun _ => rfl⟩
    · rw [if_neg h2]; exact ⟨fun z => absurd z (by decide), fun z => absurd z h2⟩
/-- an Integer of this value -/
def IV (G : GG) (h : AH) (a : Nat) (v : Int32) : Prop := rd G h a (.inr (27, [.int v]))

theorem ct_J21_init {G : GG} {l : Launch} {h : AH} {a : Nat}  : Ct G l yJ21_init cJ21_init 1 none 1 (0) (0) [.ref a] h (PV h) := by
  refine Ct.of (by decide) (Nat.le_of_ble_eq_true rfl) (cat1 rfl) (fun X hXl F HN => ?_)
  subst hXl
  refine V_aload_n (i := 0) F dJ21_init_0 rfl rfl ?_
  refine V_objInit F dJ21_init_1 q2084 q180 q181 (Nat.le_of_ble_eq_true rfl) (Nat.le_of_ble_eq_true rfl) ?_
  exact V_vret F dJ21_init_4 (by first | exact Nat.le_of_ble_eq_true rfl | omega) (by first | exact Nat.le_of_ble_eq_true rfl | omega) ⟨rfl, rfl⟩
theorem ct_intValue {G : GG} {l : Launch} {h : AH} {a : Nat} {x : Int32} (ha : IV G h a x) : Ct G l yJ22_intValue cJ22_intValue 1 (some .int) 0 (0) (0) [.ref a] h (PR (.int x) h) := by
  refine Ct.of (by decide) (Nat.le_of_ble_eq_true rfl) (cat1 rfl) (fun X hXl F HN => ?_)
  subst hXl
  refine V_aload_n (i := 0) F dJ22_intValue_0 rfl rfl ?_
  refine V_getf F dJ22_intValue_1 fc_J22_205_J22 ha rfl ?_
  exact V_iret F dJ22_intValue_4 rfl (by first | exact Nat.le_of_ble_eq_true rfl | omega) (by first | exact Nat.le_of_ble_eq_true rfl | omega) ⟨rfl, rfl⟩
theorem ct_I_compare {G : GG} {l : Launch} {h : AH} {x y : Int32}  : Ct G l yJ22_compare cJ22_compare 2 (some .int) 0 (0) (0) [.int x, .int y] h (PR (.int (cmI x y)) h) := by
  refine Ct.of (by decide) (Nat.le_of_ble_eq_true rfl) (cat1 rfl) (fun X hXl F HN => ?_)
  subst hXl
  refine V_iload_n (i := 0) F dJ22_compare_0 rfl rfl ?_
  refine V_iload_n (i := 1) F dJ22_compare_1 rfl rfl ?_
  refine V_icmp_ge (tgt := 9) F dJ22_compare_2 (by decide) (fun c_2 => ?_) (fun c_2 => ?_)
  · refine V_iload_n (i := 0) F dJ22_compare_9 rfl rfl ?_
    refine V_iload_n (i := 1) F dJ22_compare_10 rfl rfl ?_
    refine V_icmp_ne (tgt := 18) F dJ22_compare_11 (by decide) (fun c_11 => ?_) (fun c_11 => ?_)
    · refine V_iconst (v := nI 1) F dJ22_compare_18 rfl ?_
      exact V_iret F dJ22_compare_19 rfl (by first | exact Nat.le_of_ble_eq_true rfl | omega) (by first | exact Nat.le_of_ble_eq_true rfl | omega) ⟨by unfold cmI; rw [if_neg (Int32.not_lt.mpr c_2), if_neg c_11]; rfl, rfl⟩
    · refine V_iconst (v := nI 0) F dJ22_compare_14 rfl ?_
      refine V_goto (tgt := 19) F dJ22_compare_15 (by decide) ?_
      exact V_iret F dJ22_compare_19 rfl (by first | exact Nat.le_of_ble_eq_true rfl | omega) (by first | exact Nat.le_of_ble_eq_true rfl | omega) ⟨by unfold cmI; rw [if_neg (Int32.not_lt.mpr c_2), if_pos c_11]; rfl, rfl⟩
  · refine V_iconst (v := -1) F dJ22_compare_5 rfl ?_
    refine V_goto (tgt := 19) F dJ22_compare_6 (by decide) ?_
    exact V_iret F dJ22_compare_19 rfl (by first | exact Nat.le_of_ble_eq_true rfl | omega) (by first | exact Nat.le_of_ble_eq_true rfl | omega) ⟨by unfold cmI; rw [if_pos (Int32.not_le.mp c_2)], rfl⟩
theorem ct_I_compareTo2 {G : GG} {l : Launch} {h : AH} {a b : Nat} {x y : Int32} (ha : IV G h a x) (hb : IV G h b y) : Ct G l yJ22_compareTo_2 cJ22_compareTo_2 2 (some .int) 1 (0) (0) [.ref a, .ref b] h (PR (.int (cmI x y)) h) := by
  refine Ct.of (by decide) (Nat.le_of_ble_eq_true rfl) (cat1 rfl) (fun X hXl F HN => ?_)
  subst hXl
  refine V_aload_n (i := 0) F dJ22_compareTo_2_0 rfl rfl ?_
  refine V_getf F dJ22_compareTo_2_1 fc_J22_205_J22 ha rfl ?_
  refine V_aload_n (i := 1) F dJ22_compareTo_2_4 rfl rfl ?_
  refine V_getf F dJ22_compareTo_2_5 fc_J22_205_J22 hb rfl ?_
  refine V_callS (st := []) (nn := 2) F dJ22_compareTo_2_8 lk_J22_259 (ct_I_compare) rfl rfl (Nat.le_of_ble_eq_true rfl) (Nat.le_of_ble_eq_true rfl) (Nat.le_of_ble_eq_true rfl) (by first | exact Nat.le_of_ble_eq_true rfl | omega) (by first | exact Nat.le_of_ble_eq_true rfl | omega) ?_
  refine PRk ?_
  exact V_iret F dJ22_compareTo_2_11 rfl (by first | exact Nat.le_of_ble_eq_true rfl | omega) (by first | exact Nat.le_of_ble_eq_true rfl | omega) ⟨rfl, rfl⟩
theorem ct_I_compareTo {G : GG} {l : Launch} {h : AH} {a b : Nat} {x y : Int32} (ha : IV G h a x) (hb : IV G h b y) : Ct G l yJ22_compareTo cJ22_compareTo 2 (some .int) 2 (0) (0) [.ref a, .ref b] h (PR (.int (cmI x y)) h) := by
  refine Ct.of (by decide) (Nat.le_of_ble_eq_true rfl) (cat1 rfl) (fun X hXl F HN => ?_)
  subst hXl
  refine V_aload_n (i := 0) F dJ22_compareTo_0 rfl rfl ?_
  refine V_aload_n (i := 1) F dJ22_compareTo_1 rfl rfl ?_
  refine V_ckS F dJ22_compareTo_2 q1570 ⟨27, _, _, _, rfl, hb⟩ ?_
  refine V_callV (st := []) (nn := 1) F dJ22_compareTo_5 lk_J22_284 (ct_I_compareTo2 ha hb) ⟨27, _, _, _, rfl, ha⟩ rfl rfl (Nat.le_of_ble_eq_true rfl) (Nat.le_of_ble_eq_true rfl) (Nat.le_of_ble_eq_true rfl) (by first | exact Nat.le_of_ble_eq_true rfl | omega) (by first | exact Nat.le_of_ble_eq_true rfl | omega) ?_
  refine PRk ?_
  exact V_iret F dJ22_compareTo_8 rfl (by first | exact Nat.le_of_ble_eq_true rfl | omega) (by first | exact Nat.le_of_ble_eq_true rfl | omega) ⟨rfl, rfl⟩
theorem ct_I_init {G : GG} {l : Launch} {h : AH} {a : Nat} {x : Int32} (ha : h a = some (.inr (27, [.int 0]))) : Ct G l yJ22_init cJ22_init 2 none 2 (0) (0) [.ref a, .int x] h (fun r h2 => r = none ∧ h2 a = some (.inr (27, [.int x])) ∧ Fr (m1 a) h h2) := by
  refine Ct.of (by decide) (Nat.le_of_ble_eq_true rfl) (cat1 rfl) (fun X hXl F HN => ?_)
  subst hXl
  refine V_aload_n (i := 0) F dJ22_init_0 rfl rfl ?_
  refine V_callI (st := []) (nn := 0) F dJ22_init_1 lk_J22_202 (ct_J21_init) rfl rfl (Nat.le_of_ble_eq_true rfl) (Nat.le_of_ble_eq_true rfl) (Nat.le_of_ble_eq_true rfl) (by first | exact Nat.le_of_ble_eq_true rfl | omega) (by first | exact Nat.le_of_ble_eq_true rfl | omega) ?_
  refine PVk ?_
  refine V_aload_n (i := 0) F dJ22_init_4 rfl rfl ?_
  refine V_iload_n (i := 1) F dJ22_init_5 rfl rfl ?_
  refine V_putF F dJ22_init_6 ff_J22_205_J22 ha HN rfl rfl (Nat.le_of_ble_eq_true rfl) ?_
  refine VV.heap (h' := (hset h (a) (.inr (27, [.int (x)])))) rfl ?_
  exact V_vret F dJ22_init_9 (by first | exact Nat.le_of_ble_eq_true rfl | omega) (by first | exact Nat.le_of_ble_eq_true rfl | omega) ⟨rfl, (hset_self (e := .inr (27, [.int (x)]))), ((Fr.rf (M := m1 a) (h := h)).put (x := .inr (27, [.int (x)])) ha rfl rfl (Or.inl rfl))⟩
theorem ct_I_valueOf {G : GG} {l : Launch} {h : AH} {x : Int32}  : Ct G l yJ22_valueOf cJ22_valueOf 1 (some (.object "java/lang/Integer")) 3 (1) (1) [.int x] h (fun r h2 => ∃ q, r = some (.ref q) ∧ IV G h2 q x ∧ Fr nM h h2) := by
  refine Ct.of (by decide) (Nat.le_of_ble_eq_true rfl) (cat1 rfl) (fun X hXl F HN => ?_)
  subst hXl
  refine V_iload_n (i := 0) F dJ22_valueOf_0 rfl rfl ?_
  refine V_bipush (v := -128) F dJ22_valueOf_1 rfl ?_
  refine V_icmp_lt (tgt := 23) F dJ22_valueOf_3 (by decide) (fun c_3 => ?_) (fun c_3 => ?_)
  · refine V_new F dJ22_valueOf_23 nw_J22_1 (by first | exact Nat.le_of_ble_eq_true rfl | omega) (by first | exact Nat.le_of_ble_eq_true rfl | omega) ?_
    intro o1 hfo1 hbo1
    refine V_dup F dJ22_valueOf_26 rfl ?_
    refine V_iload_n (i := 0) F dJ22_valueOf_27 rfl rfl ?_
    refine V_callI (st := [.ref (o1)]) (nn := 1) F dJ22_valueOf_28 lk_J22_199 (ct_I_init (x := x) (hset_self (e := .inr (27, [.int 0])))) rfl rfl (Nat.le_of_ble_eq_true rfl) (Nat.le_of_ble_eq_true rfl) (Nat.le_of_ble_eq_true rfl) (by first | exact Nat.le_of_ble_eq_true rfl | omega) (by first | exact Nat.le_of_ble_eq_true rfl | omega) ?_
    rintro _ h2 ⟨rfl, hi2, hx2⟩
    have hfz : Fr nM h h2 := ((Fr.rf (M := nM) (h := h)).nw (x := .inr (27, [.int 0])) hfo1).cal hx2 (Yo.m1 ((Fr.rf (M := nM) (h := h)).yo hfo1))
    exact V_aret F dJ22_valueOf_31 (Or.inl ⟨_, rfl⟩) (Or.inr ⟨_, rfl⟩) (by first | exact Nat.le_of_ble_eq_true rfl | omega) (by first | exact Nat.le_of_ble_eq_true rfl | omega) ⟨o1, rfl, Or.inl hi2, hfz⟩
  · refine V_iload_n (i := 0) F dJ22_valueOf_6 rfl rfl ?_
    refine V_gets F dJ22_valueOf_7 (List.mem_of_getElem? (i := 0) rfl) q2073 ?_
    refine VV.stk (st' := [.int (nI (127)), .int (x)]) rfl ?_
    refine V_icmp_gt (tgt := 23) F dJ22_valueOf_10 (by decide) (fun c_10 => ?_) (fun c_10 => ?_)
    · refine V_new F dJ22_valueOf_23 nw_J22_1 (by first | exact Nat.le_of_ble_eq_true rfl | omega) (by first | exact Nat.le_of_ble_eq_true rfl | omega) ?_
      intro o2 hfo2 hbo2
      refine V_dup F dJ22_valueOf_26 rfl ?_
      refine V_iload_n (i := 0) F dJ22_valueOf_27 rfl rfl ?_
      refine V_callI (st := [.ref (o2)]) (nn := 1) F dJ22_valueOf_28 lk_J22_199 (ct_I_init (x := x) (hset_self (e := .inr (27, [.int 0])))) rfl rfl (Nat.le_of_ble_eq_true rfl) (Nat.le_of_ble_eq_true rfl) (Nat.le_of_ble_eq_true rfl) (by first | exact Nat.le_of_ble_eq_true rfl | omega) (by first | exact Nat.le_of_ble_eq_true rfl | omega) ?_
      rintro _ h2 ⟨rfl, hi2, hx2⟩
      have hfz : Fr nM h h2 := ((Fr.rf (M := nM) (h := h)).nw (x := .inr (27, [.int 0])) hfo2).cal hx2 (Yo.m1 ((Fr.rf (M := nM) (h := h)).yo hfo2))
      exact V_aret F dJ22_valueOf_31 (Or.inl ⟨_, rfl⟩) (Or.inr ⟨_, rfl⟩) (by first | exact Nat.le_of_ble_eq_true rfl | omega) (by first | exact Nat.le_of_ble_eq_true rfl | omega) ⟨o2, rfl, Or.inl hi2, hfz⟩
    · refine V_gets F dJ22_valueOf_13 (List.mem_of_getElem? (i := 1) rfl) q2075 ?_
      refine V_iload_n (i := 0) F dJ22_valueOf_16 rfl rfl ?_
      refine V_sipush (v := nI 128) F dJ22_valueOf_17 rfl ?_
      refine V_iadd F dJ22_valueOf_20 ?_
      obtain ⟨k, hk, ek, ev⟩ := ivk c_3 c_10
      refine VV.stk (st' := [.int (nI (k)), .ref (ad G 3)]) (by rw [show (nI 128 : Int32) = 128 from rfl, ek]) ?_
      refine V_aaldT F dJ22_valueOf_21 F.cache hk (by omega) (w := .ref (ad G (100 + k))) rfl ?_
      exact V_aret F dJ22_valueOf_22 (Or.inl ⟨_, rfl⟩) (Or.inr ⟨_, rfl⟩) (by first | exact Nat.le_of_ble_eq_true rfl | omega) (by first | exact Nat.le_of_ble_eq_true rfl | omega) ⟨_, rfl, Or.inr (by have := F.gb.2.2.2.2.2.1 k hk; rw [ev] at this; exact this), Fr.rf⟩
theorem lkCI : LkF RJ10 107 "java/lang/Integer" ⟨"java/lang/Comparable", "compareTo", "(Ljava/lang/Object;)I"⟩ yJ22_compareTo cJ22_compareTo 2 (some .int) 1 := ⟨lw_F q2117 q1565 q1567 q128 q1569, ⟨q1536, List.mem_append_left _ q1535, q1568, q1566, q1564⟩, (by decide +kernel), (by decide +kernel)⟩
theorem cmp_int {G : GG} {l : Launch} {h : AH} {k n pos : Nat} {fd : Bool} {K : Nat → Nat} {v : Int32} {kv : Nat → Int32} (hk : IV G h k v) (hK : ∀ i, i < n → IV G h (K i) (kv i)) (hpos : pos ≤ n) (hfd : fd = true → pos < n ∧ kv pos = v) (hlt : ∀ i, i < n → i < pos → kv i < v) (hge : ∀ i, i < n → pos ≤ i → ¬ (fd = true ∧ i = pos) → v < kv i) : CMP G l h k n pos fd K "java/lang/Integer" yJ22_compareTo cJ22_compareTo 2 2 := by
  refine ⟨lkCI, ⟨27, _, _, _, rfl, hk⟩, q1564, by decide, by decide, hpos, fun q => (hfd q).1, fun i hi => ⟨_, ct_I_compareTo hk (hK i hi), ?_, ?_⟩⟩
  · rw [cmI_lt]
    refine ⟨fun q => ⟨?_, fun z => ?_⟩, fun q => hge i hi q.1 q.2⟩
    · by_cases c : pos ≤ i
      · exact c
      · exact (Int32.lt_irrefl (Int32.lt_trans q (hlt i hi (by omega)))).elim
    · rw [z.2, (hfd z.1).2] at q; exact Int32.lt_irrefl q
  · rw [cmI_eq]
    refine ⟨fun q => ?_, fun q => by rw [q.2, (hfd q.1).2]⟩
    by_cases c : pos ≤ i
    · by_cases e : fd = true ∧ i = pos
      · exact e
      · have := hge i hi c e; rw [q] at this; exact (Int32.lt_irrefl this).elim
    · have := hlt i hi (by omega); rw [q] at this; exact (Int32.lt_irrefl this).elim
theorem ckk_int {G : GG} {l : Launch} {h : AH} {k : Nat} {v : Int32} (hk : IV G h k v) : CKK G l h k "java/lang/Integer" yJ22_compareTo cJ22_compareTo 2 2 :=
  ⟨lkCI, ⟨27, _, _, _, rfl, hk⟩, q1564, by decide, by decide, _, ct_I_compareTo hk hk⟩
