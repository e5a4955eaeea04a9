set_option maxRecDepth 100000
/-- an ArrayList at a, its array at ar, its n elements f 0 .. f (n - 1) -/
def ALs (G : GG) (h : AH) (a ar mc n : Nat) (f : Nat → Nat) : Prop := h a = some (.inr (18, [.int (nI mc), .ref ar, .int (nI n)])) ∧ (∀ i, i < n → isO G h (f i)) ∧ ∃ cap g, rd G h ar (qA G cap g) ∧ (0 < cap → h ar = some (qA G cap g)) ∧ n ≤ cap ∧ cap ≤ 2 * n + 10 ∧ (0 < cap ∨ ar = ad G 1) ∧ ∀ i, i < n → g i = some (f i)
/-- an ArrayList's iterator at it, over the list at a, with i elements told -/
def ITR (h : AH) (it a i mc : Nat) : Prop := ∃ lr : Int32, h it = some (.inr (26, [.int (nI i), .int lr, .int (nI mc), .ref a]))
theorem ITR.fr {M : Nat → Prop} {h h2 : AH} {it a i mc : Nat} (hI : ITR h it a i mc) (hx : Fr M h h2) (h1 : ¬ M it) : ITR h2 it a i mc := hI.imp (fun lr q => hx.get q h1 rfl)
theorem ALs.fr {G : GG} {M : Nat → Prop} {h h2 : AH} {a ar mc n : Nat} {f : Nat → Nat} (hA : ALs G h a ar mc n f) (hx : Fr M h h2) (h1 : ¬ M a) (h3 : ∀ e, h ar = some e → ¬ M ar) : ALs G h2 a ar mc n f := by
  obtain ⟨p, o, cap, g, q, w, z⟩ := hA
  exact ⟨hx.get p h1 rfl, fun i hi => hx.isO (o i hi), cap, g, hx.rd q (h3 _) rfl, fun hc => hx.get (w hc) (h3 _ (w hc)) rfl, z⟩
theorem ALs.ext {G : GG} {h : AH} {a ar mc n : Nat} {f f2 : Nat → Nat} (hA : ALs G h a ar mc n f) (he : ∀ i, i < n → f2 i = f i) : ALs G h a ar mc n f2 := by
  obtain ⟨p, o, cap, g, q, w, z1, z2, z3, z4⟩ := hA
  exact ⟨p, fun i hi => by rw [he i hi]; exact o i hi, cap, g, q, w, z1, z2, z3, fun i hi => by rw [he i hi]; exact z4 i hi⟩

theorem ct_newLength {G : GG} {l : Launch} {h : AH} {o m p : Nat} (hm : 0 < m) (hb : o + max m p < 2000000000) : Ct G l yJ17_newLength cJ17_newLength 4 (some .int) 1 (0) (0) [.int (nI o), .int (nI m), .int (nI p)] h (PR (.int (nI (o + max m p))) h) := by
  refine Ct.of (by decide) (Nat.le_of_ble_eq_true rfl) (cat1 rfl) (fun X hXl F HN => ?_)
  subst hXl
  refine V_iload_n (i := 0) F dJ17_newLength_0 rfl rfl ?_
  refine V_iload_n (i := 1) F dJ17_newLength_1 rfl rfl ?_
  refine V_iload_n (i := 2) F dJ17_newLength_2 rfl rfl ?_
  refine V_mmaxN (a := m) (b := p) F dJ17_newLength_3 q579 (by omega) (by omega) (Nat.le_of_ble_eq_true rfl) (Nat.le_of_ble_eq_true rfl) (by first | exact Nat.le_of_ble_eq_true rfl | omega) (by first | exact Nat.le_of_ble_eq_true rfl | omega) ?_
  refine V_iaddN F dJ17_newLength_6 ?_
  refine V_istore_n (i := 3) F dJ17_newLength_7 rfl (Nat.le_of_ble_eq_true rfl) (Nat.le_of_ble_eq_true rfl) ?_
  refine V_iconst (v := nI 0) F dJ17_newLength_8 rfl ?_
  refine V_iload_n (i := 3) F dJ17_newLength_9 rfl rfl ?_
  refine V_icmp_geN (tgt := 21) F dJ17_newLength_10 (by decide) (by decide) (by omega) (fun c_10 => absurd hb (by omega)) (fun c_10 => ?_)
  refine V_iload_n (i := 3) F dJ17_newLength_13 rfl rfl ?_
  refine V_ldc (v := nI 2147483639) F dJ17_newLength_14 q582 ?_
  refine V_icmp_gtN (tgt := 21) F dJ17_newLength_16 (by decide) (by omega) (by decide) (fun c_16 => absurd hb (by omega)) (fun c_16 => ?_)
  refine V_iload_n (i := 3) F dJ17_newLength_19 rfl rfl ?_
  exact V_iret F dJ17_newLength_20 rfl (by first | exact Nat.le_of_ble_eq_true rfl | omega) (by first | exact Nat.le_of_ble_eq_true rfl | omega) ⟨rfl, rfl⟩
theorem ct_J11_checkIndex {G : GG} {l : Launch} {h : AH} {k n : Nat} (hk : k < n) (hn : n < 2 ^ 31) : Ct G l yJ11_checkIndex cJ11_checkIndex 2 (some .int) 1 (0) (0) [.int (nI k), .int (nI n)] h (PR (.int (nI k)) h) := by
  refine Ct.of (by decide) (Nat.le_of_ble_eq_true rfl) (cat1 rfl) (fun X hXl F HN => ?_)
  subst hXl
  refine V_iload_n (i := 0) F dJ11_checkIndex_0 rfl rfl ?_
  refine V_iload_n (i := 1) F dJ11_checkIndex_1 rfl rfl ?_
  refine V_null F dJ11_checkIndex_2 ?_
  refine V_callS (st := []) F dJ11_checkIndex_3 lk_J11_105 (ct_J12_checkIndex (o := none) hk hn) rfl rfl (Nat.le_of_ble_eq_true rfl) (Nat.le_of_ble_eq_true rfl) (Nat.le_of_ble_eq_true rfl) (by first | exact Nat.le_of_ble_eq_true rfl | omega) (by first | exact Nat.le_of_ble_eq_true rfl | omega) ?_
  refine PRk ?_
  exact V_iret F dJ11_checkIndex_6 rfl (by first | exact Nat.le_of_ble_eq_true rfl | omega) (by first | exact Nat.le_of_ble_eq_true rfl | omega) ⟨rfl, rfl⟩
theorem ct_requireNonNull {G : GG} {l : Launch} {h : AH} {a : Nat}  : Ct G l yJ11_requireNonNull cJ11_requireNonNull 1 (some (.object "java/lang/Object")) 0 (0) (0) [.ref a] h (PR (.ref a) h) := by
  refine Ct.of (by decide) (Nat.le_of_ble_eq_true rfl) (cat1 rfl) (fun X hXl F HN => ?_)
  subst hXl
  refine V_aload_n (i := 0) F dJ11_requireNonNull_0 rfl rfl ?_
  refine V_ifnonnull (tgt := 12) F dJ11_requireNonNull_1 (by decide) ?_
  refine V_aload_n (i := 0) F dJ11_requireNonNull_12 rfl rfl ?_
  exact V_aret F dJ11_requireNonNull_13 (Or.inl ⟨_, rfl⟩) (Or.inr ⟨_, rfl⟩) (by first | exact Nat.le_of_ble_eq_true rfl | omega) (by first | exact Nat.le_of_ble_eq_true rfl | omega) ⟨rfl, rfl⟩
theorem ct_copyOf3 {G : GG} {l : Launch} {h : AH} {a c n : Nat} {g : Nat → Option Nat} (ha : rd G h a (qA G c g)) (ho : ∀ i, i < min c n → ∀ y, g i = some y → isO G h y) (hn : n < 100000) (hc : c < 2 ^ 31) : Ct G l yJ19_copyOf_3 cJ19_copyOf_3 4 (some (.array (.object "java/lang/Object"))) 2 (1) (n) [.ref a, .int (nI n), .ref (ad G 10)] h (fun r h2 => ∃ q, r = some (.ref q) ∧ h q = none ∧ bz G ≤ q ∧ h2 = hset h q (qA G n (va_cpy g (fun _ => none) 0 0 (min c n)))) := by
  refine Ct.of (by decide) (Nat.le_of_ble_eq_true rfl) (cat1 rfl) (fun X hXl F HN => ?_)
  subst hXl
  refine V_aload_n (i := 2) F dJ19_copyOf_3_0 rfl rfl ?_
  refine V_ldcM F dJ19_copyOf_3_1 q1201 (List.mem_of_getElem? (i := 0) rfl) ?_
  refine V_acmp_ne (rx := some (ad G 10)) (ry := some (ad G 10)) (tgt := 13) F dJ19_copyOf_3_3 (by decide) (fun c_3 => absurd rfl c_3) (fun c_3 => ?_)
  refine V_iload_n (i := 1) F dJ19_copyOf_3_6 rfl rfl ?_
  refine V_newaQ F dJ19_copyOf_3_7 q1203 hn (by first | exact Nat.le_of_ble_eq_true rfl | omega) (by first | exact Nat.le_of_ble_eq_true rfl | omega) ?_
  intro o hfo hbo
  refine V_goto (tgt := 24) F dJ19_copyOf_3_10 (by decide) ?_
  refine V_astore_n (i := 3) F dJ19_copyOf_3_24 rfl (Nat.le_of_ble_eq_true rfl) (Nat.le_of_ble_eq_true rfl) ?_
  refine V_aload_n (i := 0) F dJ19_copyOf_3_25 rfl rfl ?_
  refine V_iconst (v := nI 0) F dJ19_copyOf_3_26 rfl ?_
  refine V_aload_n (i := 3) F dJ19_copyOf_3_27 rfl rfl ?_
  refine V_iconst (v := nI 0) F dJ19_copyOf_3_28 rfl ?_
  refine V_aload_n (i := 0) F dJ19_copyOf_3_29 rfl rfl ?_
  refine V_alen (v := nI c) F 6 dJ19_copyOf_3_30 rfl (ha.nw hfo) rfl ?_
  refine V_iload_n (i := 1) F dJ19_copyOf_3_31 rfl rfl ?_
  refine V_mminN (a := c) (b := n) F dJ19_copyOf_3_32 q597 hc (Nat.lt_trans hn (by decide)) (Nat.le_of_ble_eq_true rfl) (Nat.le_of_ble_eq_true rfl) (by first | exact Nat.le_of_ble_eq_true rfl | omega) (by first | exact Nat.le_of_ble_eq_true rfl | omega) ?_
  refine V_copyq F dJ19_copyOf_3_35 q600 (ha.nw hfo) (hset_self (e := qA G n (fun _ => none))) (by omega) (by omega) hc (by omega) (fun i hi y hy => ?_) (Nat.le_of_ble_eq_true rfl) (Nat.le_of_ble_eq_true rfl) ?_
  · rw [Nat.zero_add] at hy
    exact (Fr.rf.nw hfo (M := nM)).isO (ho i (by omega) y hy)
  refine V_aload_n (i := 3) F dJ19_copyOf_3_38 rfl rfl ?_
  exact V_aret F dJ19_copyOf_3_39 (Or.inr ⟨_, rfl⟩) (Or.inr ⟨_, rfl⟩) (by first | exact Nat.le_of_ble_eq_true rfl | omega) (by first | exact Nat.le_of_ble_eq_true rfl | omega) ⟨o, rfl, hfo, hbo, hset_hset⟩
theorem ct_copyOf2 {G : GG} {l : Launch} {h : AH} {a c n : Nat} {g : Nat → Option Nat} (ha : rd G h a (qA G c g)) (ho : ∀ i, i < min c n → ∀ y, g i = some y → isO G h y) (hn : n < 100000) (hc : c < 2 ^ 31) : Ct G l yJ19_copyOf_2 cJ19_copyOf_2 2 (some (.array (.object "java/lang/Object"))) 3 (1) (n) [.ref a, .int (nI n)] h (fun r h2 => ∃ q, r = some (.ref q) ∧ h q = none ∧ bz G ≤ q ∧ h2 = hset h q (qA G n (va_cpy g (fun _ => none) 0 0 (min c n)))) := by
  refine Ct.of (by decide) (Nat.le_of_ble_eq_true rfl) (cat1 rfl) (fun X hXl F HN => ?_)
  subst hXl
  refine V_aload_n (i := 0) F dJ19_copyOf_2_0 rfl rfl ?_
  refine V_iload_n (i := 1) F dJ19_copyOf_2_1 rfl rfl ?_
  refine V_aload_n (i := 0) F dJ19_copyOf_2_2 rfl rfl ?_
  refine V_getCq F dJ19_copyOf_2_3 q1197 ha (Nat.le_of_ble_eq_true rfl) (Nat.le_of_ble_eq_true rfl) ?_
  refine V_callS (st := []) F dJ19_copyOf_2_6 lk_J19_300 (ct_copyOf3 ha ho hn hc) rfl rfl (Nat.le_of_ble_eq_true rfl) (Nat.le_of_ble_eq_true rfl) (Nat.le_of_ble_eq_true rfl) (by first | exact Nat.le_of_ble_eq_true rfl | omega) (by first | exact Nat.le_of_ble_eq_true rfl | omega) ?_
  rintro _ _ ⟨oc, rfl, hfoc, hboc, rfl⟩
  exact V_aret F dJ19_copyOf_2_9 (Or.inr ⟨_, rfl⟩) (Or.inr ⟨_, rfl⟩) (by first | exact Nat.le_of_ble_eq_true rfl | omega) (by first | exact Nat.le_of_ble_eq_true rfl | omega) ⟨oc, rfl, hfoc, hboc, rfl⟩
theorem ct_AL_size {G : GG} {l : Launch} {h : AH} {a ar mc n : Nat} {f : Nat → Nat} (hA : ALs G h a ar mc n f) : Ct G l yJ8_size cJ8_size 1 (some .int) 0 (0) (0) [.ref a] h (PR (.int (nI n)) h) := by
  refine Ct.of (by decide) (Nat.le_of_ble_eq_true rfl) (cat1 rfl) (fun X hXl F HN => ?_)
  subst hXl
  refine V_aload_n (i := 0) F dJ8_size_0 rfl rfl ?_
  refine V_getf F dJ8_size_1 fc_J8_48_J8 (.inl hA.1) rfl ?_
  exact V_iret F dJ8_size_4 rfl (by first | exact Nat.le_of_ble_eq_true rfl | omega) (by first | exact Nat.le_of_ble_eq_true rfl | omega) ⟨rfl, rfl⟩
theorem ct_J0_init {G : GG} {l : Launch} {h : AH} {a : Nat}  : Ct G l yJ0_init cJ0_init 1 none 1 (0) (0) [.ref a] h (PV h) := by
  refine Ct.of (by decide) (Nat.le_of_ble_eq_true rfl) (cat1 rfl) (fun X hXl F HN => ?_)
  subst hXl
  refine V_aload_n (i := 0) F dJ0_init_0 rfl rfl ?_
  refine V_objInit F dJ0_init_1 q196 q180 q181 (Nat.le_of_ble_eq_true rfl) (Nat.le_of_ble_eq_true rfl) ?_
  exact V_vret F dJ0_init_4 (by first | exact Nat.le_of_ble_eq_true rfl | omega) (by first | exact Nat.le_of_ble_eq_true rfl | omega) ⟨rfl, rfl⟩
theorem ct_J1_init_J8 {G : GG} {l : Launch} {h : AH} {a : Nat} (ha : h a = some (.inr (18, [.int 0, .null, .int 0]))) : Ct G l yJ1_init cJ1_init 1 none 2 (0) (0) [.ref a] h (PV (hset h a (.inr (18, [.int (nI 0), .null, .int 0])))) := by
  refine Ct.of (by decide) (Nat.le_of_ble_eq_true rfl) (cat1 rfl) (fun X hXl F HN => ?_)
  subst hXl
  refine V_aload_n (i := 0) F dJ1_init_0 rfl rfl ?_
  refine V_callI (st := []) F dJ1_init_1 lk_J1_1 (ct_J0_init) rfl rfl (Nat.le_of_ble_eq_true rfl) (Nat.le_of_ble_eq_true rfl) (Nat.le_of_ble_eq_true rfl) (by first | exact Nat.le_of_ble_eq_true rfl | omega) (by first | exact Nat.le_of_ble_eq_true rfl | omega) ?_
  refine PVk ?_
  refine V_aload_n (i := 0) F dJ1_init_4 rfl rfl ?_
  refine V_iconst (v := nI 0) F dJ1_init_5 rfl ?_
  refine V_putf F dJ1_init_6 fp_J1_7_J8 ha rfl rfl (Nat.le_of_ble_eq_true rfl) ?_
  refine VV.heap (h' := (hset h (a) (.inr (18, ([.int 0, .null, .int 0]).set 0 (.int (nI (0))))))) rfl ?_
  exact V_vret F dJ1_init_9 (by first | exact Nat.le_of_ble_eq_true rfl | omega) (by first | exact Nat.le_of_ble_eq_true rfl | omega) ⟨rfl, rfl⟩
theorem ct_AL_init {G : GG} {l : Launch} {h : AH} {a : Nat} (f : Nat → Nat) (ha : h a = some (.inr (18, [.int 0, .null, .int 0]))) : Ct G l yJ8_init cJ8_init 1 none 3 (0) (0) [.ref a] h (fun r h2 => r = none ∧ ALs G h2 a (ad G 1) 0 0 f ∧ Fr (m1 a) h h2) := by
  refine Ct.of (by decide) (Nat.le_of_ble_eq_true rfl) (cat1 rfl) (fun X hXl F HN => ?_)
  subst hXl
  refine V_aload_n (i := 0) F dJ8_init_0 rfl rfl ?_
  refine V_callI (st := []) F dJ8_init_1 lk_J8_1 (ct_J1_init_J8 ha) rfl rfl (Nat.le_of_ble_eq_true rfl) (Nat.le_of_ble_eq_true rfl) (Nat.le_of_ble_eq_true rfl) (by first | exact Nat.le_of_ble_eq_true rfl | omega) (by first | exact Nat.le_of_ble_eq_true rfl | omega) ?_
  rintro _ _ ⟨rfl, rfl⟩
  refine V_aload_n (i := 0) F dJ8_init_4 rfl rfl ?_
  refine V_gets F dJ8_init_5 (List.mem_of_getElem? (i := 4) rfl) q264 ?_
  refine V_putf F dJ8_init_8 fp_J8_9_J8 (hset_self (e := .inr (18, [.int (nI 0), .null, .int 0]))) rfl rfl (Nat.le_of_ble_eq_true rfl) ?_
  refine VV.heap (h' := (hset (hset h (a) (.inr (18, [.int (nI 0), .null, .int 0]))) (a) (.inr (18, ([.int (nI 0), .null, .int 0]).set 1 (.ref (ad G 1)))))) rfl ?_
  exact V_vret F dJ8_init_11 (by first | exact Nat.le_of_ble_eq_true rfl | omega) (by first | exact Nat.le_of_ble_eq_true rfl | omega) ⟨rfl, ⟨(hset_self (e := .inr (18, ([.int (nI 0), .null, .int 0]).set 1 (.ref (ad G 1))))), fun i hi => absurd hi (Nat.not_lt_zero i), 0, fun _ => none, F.b1, fun hc => absurd hc (Nat.lt_irrefl 0), Nat.le_refl 0, by decide, Or.inr rfl, fun i hi => absurd hi (Nat.not_lt_zero i)⟩, (((Fr.rf (M := m1 a) (h := h)).put (x := .inr (18, [.int (nI 0), .null, .int 0])) ha rfl rfl (Or.inl rfl)).put (x := .inr (18, ([.int (nI 0), .null, .int 0]).set 1 (.ref (ad G 1)))) (hset_self (e := .inr (18, [.int (nI 0), .null, .int 0]))) rfl rfl (Or.inl rfl))⟩
theorem ct_AL_grow2 {G : GG} {l : Launch} {h : AH} {a ar mc n : Nat} {g : Nat → Option Nat} (ha : h a = some (.inr (18, [.int (nI mc), .ref ar, .int (nI n)]))) (hr : rd G h ar (qA G n g)) (h0 : 0 < n ∨ ar = ad G 1) (ho : ∀ i, i < n → ∀ y, g i = some y → isO G h y) (hn : n < 2000) : Ct G l yJ8_grow_2 cJ8_grow_2 4 (some (.array (.object "java/lang/Object"))) 4 (1) (2 * n + 10) [.ref a, .int (nI (n + 1))] h (fun r h2 => ∃ q c2 g2, r = some (.ref q) ∧ h q = none ∧ bz G ≤ q ∧ h2 = hset (hset h q (qA G c2 g2)) a (.inr (18, [.int (nI mc), .ref q, .int (nI n)])) ∧ n + 1 ≤ c2 ∧ c2 ≤ 2 * n + 10 ∧ ∀ i, i < n → g2 i = g i) := by
  refine Ct.of (by decide) (Nat.le_of_ble_eq_true rfl) (cat1 rfl) (fun X hXl F HN => ?_)
  subst hXl
  refine V_aload_n (i := 0) F dJ8_grow_2_0 rfl rfl ?_
  refine V_getf F dJ8_grow_2_1 fc_J8_9_J8 (.inl ha) rfl ?_
  refine V_alen (v := nI n) F 6 dJ8_grow_2_4 rfl hr rfl ?_
  refine V_istore_n (i := 2) F dJ8_grow_2_5 rfl (Nat.le_of_ble_eq_true rfl) (Nat.le_of_ble_eq_true rfl) ?_
  refine V_iload_n (i := 2) F dJ8_grow_2_6 rfl rfl ?_
  refine V_if_gtN (tgt := 20) F dJ8_grow_2_7 (by decide) (by omega) (fun c7 => ?_) (fun c7 => ?_)
  · refine V_iload_n (i := 2) F dJ8_grow_2_20 rfl rfl ?_
    refine V_iload_n (i := 1) F dJ8_grow_2_21 rfl rfl ?_
    refine V_iload_n (i := 2) F dJ8_grow_2_22 rfl rfl ?_
    refine V_isubN F dJ8_grow_2_23 (by omega) ?_
    refine V_iload_n (i := 2) F dJ8_grow_2_24 rfl rfl ?_
    refine V_iconst (v := nI 1) F dJ8_grow_2_25 rfl ?_
    refine V_ishrN F dJ8_grow_2_26 (by decide) (by omega) ?_
    refine V_callS (st := []) F dJ8_grow_2_27 lk_J8_73 (ct_newLength (by omega) (by omega)) rfl rfl (Nat.le_of_ble_eq_true rfl) (Nat.le_of_ble_eq_true rfl) (Nat.le_of_ble_eq_true rfl) (by first | exact Nat.le_of_ble_eq_true rfl | omega) (by first | exact Nat.le_of_ble_eq_true rfl | omega) ?_
    refine PRk ?_
    refine V_istore_n (i := 3) F dJ8_grow_2_30 rfl (Nat.le_of_ble_eq_true rfl) (Nat.le_of_ble_eq_true rfl) ?_
    refine V_aload_n (i := 0) F dJ8_grow_2_31 rfl rfl ?_
    refine V_aload_n (i := 0) F dJ8_grow_2_32 rfl rfl ?_
    refine V_getf F dJ8_grow_2_33 fc_J8_9_J8 (.inl ha) rfl ?_
    refine V_iload_n (i := 3) F dJ8_grow_2_36 rfl rfl ?_
    refine V_callS (st := [.ref (a)]) F dJ8_grow_2_37 lk_J8_66 (ct_copyOf2 hr (fun i hi => ho i (by omega)) (by omega) (by omega)) rfl rfl (Nat.le_of_ble_eq_true rfl) (Nat.le_of_ble_eq_true rfl) (Nat.le_of_ble_eq_true rfl) (by first | exact Nat.le_of_ble_eq_true rfl | omega) (by first | exact Nat.le_of_ble_eq_true rfl | omega) ?_
    rintro _ _ ⟨oc, rfl, hfoc, hboc, rfl⟩
    refine V_dup_x1 F dJ8_grow_2_40 rfl rfl ?_
    refine V_putf F dJ8_grow_2_41 fp_J8_9_J8 ((hset_ne (ne_nw ha hfoc)).trans ha) rfl rfl (Nat.le_of_ble_eq_true rfl) ?_
    refine VV.heap (h' := (hset (hset h oc (qA G (n + max ((n + 1) - n) (n / 2 ^ 1)) (va_cpy g (fun _ => none) 0 0 (min n (n + max ((n + 1) - n) (n / 2 ^ 1)))))) (a) (.inr (18, [.int (nI (mc)), .ref (oc), .int (nI (n))])))) rfl ?_
    exact V_aret F dJ8_grow_2_44 (Or.inr ⟨_, rfl⟩) (Or.inr ⟨_, rfl⟩) (by first | exact Nat.le_of_ble_eq_true rfl | omega) (by first | exact Nat.le_of_ble_eq_true rfl | omega) ⟨oc, _, _, rfl, hfoc, hboc, rfl, by omega, by omega, fun i hi => by unfold va_cpy; rw [if_pos (by omega)]; congr 1; omega⟩
  · refine V_aload_n (i := 0) F dJ8_grow_2_10 rfl rfl ?_
    refine V_getf F dJ8_grow_2_11 fc_J8_9_J8 (.inl ha) rfl ?_
    refine V_gets F dJ8_grow_2_14 (List.mem_of_getElem? (i := 4) rfl) q264 ?_
    refine V_acmp_eq (rx := some (ar)) (ry := some (ad G 1)) (tgt := 45) F dJ8_grow_2_17 (by decide) (fun c_17 => ?_) (fun c_17 => absurd (h0.elim (fun z => absurd z (by omega)) (fun z => by rw [z])) c_17)
    refine V_aload_n (i := 0) F dJ8_grow_2_45 rfl rfl ?_
    refine V_bipush (v := nI 10) F dJ8_grow_2_46 rfl ?_
    refine V_iload_n (i := 1) F dJ8_grow_2_48 rfl rfl ?_
    refine V_mmaxN (a := 10) (b := (n + 1)) F dJ8_grow_2_49 q1204 (by decide) (by omega) (Nat.le_of_ble_eq_true rfl) (Nat.le_of_ble_eq_true rfl) (by first | exact Nat.le_of_ble_eq_true rfl | omega) (by first | exact Nat.le_of_ble_eq_true rfl | omega) ?_
    refine V_newaQ F dJ8_grow_2_52 q1205 (by omega) (by first | exact Nat.le_of_ble_eq_true rfl | omega) (by first | exact Nat.le_of_ble_eq_true rfl | omega) ?_
    intro oc hfoc hboc
    refine V_dup_x1 F dJ8_grow_2_55 rfl rfl ?_
    refine V_putf F dJ8_grow_2_56 fp_J8_9_J8 ((hset_ne (ne_nw ha hfoc)).trans ha) rfl rfl (Nat.le_of_ble_eq_true rfl) ?_
    refine VV.heap (h' := (hset (hset h oc (qA G (max 10 (n + 1)) (fun _ => none))) (a) (.inr (18, [.int (nI (mc)), .ref (oc), .int (nI (n))])))) rfl ?_
    exact V_aret F dJ8_grow_2_59 (Or.inr ⟨_, rfl⟩) (Or.inr ⟨_, rfl⟩) (by first | exact Nat.le_of_ble_eq_true rfl | omega) (by first | exact Nat.le_of_ble_eq_true rfl | omega) ⟨oc, _, _, rfl, hfoc, hboc, rfl, by omega, by omega, fun i hi => absurd hi (by omega)⟩
theorem ct_AL_grow {G : GG} {l : Launch} {h : AH} {a ar mc n : Nat} {g : Nat → Option Nat} (ha : h a = some (.inr (18, [.int (nI mc), .ref ar, .int (nI n)]))) (hr : rd G h ar (qA G n g)) (h0 : 0 < n ∨ ar = ad G 1) (ho : ∀ i, i < n → ∀ y, g i = some y → isO G h y) (hn : n < 2000) : Ct G l yJ8_grow cJ8_grow 1 (some (.array (.object "java/lang/Object"))) 5 (1) (2 * n + 10) [.ref a] h (fun r h2 => ∃ q c2 g2, r = some (.ref q) ∧ h q = none ∧ bz G ≤ q ∧ h2 = hset (hset h q (qA G c2 g2)) a (.inr (18, [.int (nI mc), .ref q, .int (nI n)])) ∧ n + 1 ≤ c2 ∧ c2 ≤ 2 * n + 10 ∧ ∀ i, i < n → g2 i = g i) := by
  refine Ct.of (by decide) (Nat.le_of_ble_eq_true rfl) (cat1 rfl) (fun X hXl F HN => ?_)
  subst hXl
  refine V_aload_n (i := 0) F dJ8_grow_0 rfl rfl ?_
  refine V_aload_n (i := 0) F dJ8_grow_1 rfl rfl ?_
  refine V_getf F dJ8_grow_2 fc_J8_48_J8 (.inl ha) rfl ?_
  refine V_iconst (v := nI 1) F dJ8_grow_5 rfl ?_
  refine V_iaddN F dJ8_grow_6 ?_
  refine V_callV (st := []) F dJ8_grow_7 lk_J8_69 (ct_AL_grow2 ha hr h0 ho hn) ⟨18, _, _, _, rfl, (.inl ha)⟩ rfl rfl (Nat.le_of_ble_eq_true rfl) (Nat.le_of_ble_eq_true rfl) (Nat.le_of_ble_eq_true rfl) (by first | exact Nat.le_of_ble_eq_true rfl | omega) (by first | exact Nat.le_of_ble_eq_true rfl | omega) ?_
  rintro _ _ ⟨og, c2, g2, rfl, hfog, hbog, rfl, hc1, hc2, hg2⟩
  exact V_aret F dJ8_grow_10 (Or.inr ⟨_, rfl⟩) (Or.inr ⟨_, rfl⟩) (by first | exact Nat.le_of_ble_eq_true rfl | omega) (by first | exact Nat.le_of_ble_eq_true rfl | omega) ⟨og, _, _, rfl, hfog, hbog, rfl, hc1, hc2, hg2⟩
theorem ct_AL_add2 {G : GG} {l : Launch} {h : AH} {a ar mc n : Nat} {x cap : Nat} {g : Nat → Option Nat} {f : Nat → Nat} (hp : h a = some (.inr (18, [.int (nI mc), .ref ar, .int (nI n)]))) (hr : rd G h ar (qA G cap g)) (hw : 0 < cap → h ar = some (qA G cap g)) (hnc : n ≤ cap) (hc2n : cap ≤ 2 * n + 10) (h0 : 0 < cap ∨ ar = ad G 1) (hg : ∀ i, i < n → g i = some (f i)) (ho : ∀ i, i < n → isO G h (f i)) (hx : isO G h x) (hn : n < 2000) : Ct G l yJ8_add_2 cJ8_add_2 4 none 6 (1) (2 * n + 10) [.ref a, .ref x, .ref ar, .int (nI n)] h (fun r h2 => r = none ∧ ∃ ar2, ALs G h2 a ar2 mc (n + 1) (up f n x) ∧ Fr (m2 a ar) h h2 ∧ (ar2 = ar ∨ (h ar2 = none ∧ bz G ≤ ar2))) := by
  refine Ct.of (by decide) (Nat.le_of_ble_eq_true rfl) (cat1 rfl) (fun X hXl F HN => ?_)
  subst hXl
  refine V_iload_n (i := 3) F dJ8_add_2_0 rfl rfl ?_
  refine V_aload_n (i := 2) F dJ8_add_2_1 rfl rfl ?_
  refine V_alen (v := nI cap) F 6 dJ8_add_2_2 rfl hr rfl ?_
  refine V_icmp_neN (tgt := 11) F dJ8_add_2_3 (by decide) (by omega) (by omega) (fun c_3 => ?_) (fun c_3 => ?_)
  · refine V_aload_n (i := 2) F dJ8_add_2_11 rfl rfl ?_
    refine V_iload_n (i := 3) F dJ8_add_2_12 rfl rfl ?_
    refine V_aload_n (i := 1) F dJ8_add_2_13 rfl rfl ?_
    refine V_aastON F dJ8_add_2_14 (hw (by omega)) ((Fr.rf (M := m2 a ar) (h := h)).isO hx) (by omega) (by omega) ?_
    refine V_aload_n (i := 0) F dJ8_add_2_15 rfl rfl ?_
    refine V_iload_n (i := 3) F dJ8_add_2_16 rfl rfl ?_
    refine V_iconst (v := nI 1) F dJ8_add_2_17 rfl ?_
    refine V_iaddN F dJ8_add_2_18 ?_
    refine V_putf F dJ8_add_2_19 fp_J8_48_J8 ((hset_ne (ne_oa hp (hw (by omega)))).trans hp) rfl rfl (Nat.le_of_ble_eq_true rfl) ?_
    refine VV.heap (h' := (hset (hset h (ar) (qA G cap ((upq g n (some x))))) (a) (.inr (18, [.int (nI (mc)), .ref (ar), .int (nI (n + 1))])))) rfl ?_
    have hfr := (((Fr.rf (M := m2 a ar) (h := h)).put (x := qA G cap ((upq g n (some x)))) (hw (by omega)) ⟨rfl, rfl⟩ rfl (Or.inl (Or.inr rfl))).put (x := .inr (18, [.int (nI (mc)), .ref (ar), .int (nI (n + 1))])) ((hset_ne (ne_oa hp (hw (by omega)))).trans hp) rfl rfl (Or.inl (Or.inl rfl)))
    refine V_vret F dJ8_add_2_22 (by first | exact Nat.le_of_ble_eq_true rfl | omega) (by first | exact Nat.le_of_ble_eq_true rfl | omega) ⟨rfl, ar, ⟨(hset_self (e := .inr (18, [.int (nI (mc)), .ref (ar), .int (nI (n + 1))]))), fun i hi => ?_, cap, _, (.inl ((hset_ne (ne_ao (hset_self (e := qA G cap ((upq g n (some x))))) ((hset_ne (ne_oa hp (hw (by omega)))).trans hp))).trans (hset_self (e := qA G cap ((upq g n (some x))))))), fun _ => ((hset_ne (ne_ao (hset_self (e := qA G cap ((upq g n (some x))))) ((hset_ne (ne_oa hp (hw (by omega)))).trans hp))).trans (hset_self (e := qA G cap ((upq g n (some x)))))), by omega, by omega, Or.inl (by omega), fun i hi => ?_⟩, hfr, Or.inl rfl⟩
    · by_cases hin : i = n
      · rw [hin, up_s]; exact hfr.isO hx
      · rw [up_n hin]; exact hfr.isO (ho i (by omega))
    · by_cases hin : i = n
      · rw [hin, upq_s, up_s]
      · rw [upq_n hin, up_n hin]; exact hg i (by omega)
  · subst c_3
    refine V_aload_n (i := 0) F dJ8_add_2_6 rfl rfl ?_
    refine V_callV (st := []) F dJ8_add_2_7 lk_J8_129 (ct_AL_grow hp hr h0 (fun i hi y hy => by rw [hg i hi] at hy; cases hy; exact ho i hi) hn) ⟨18, _, _, _, rfl, (.inl hp)⟩ rfl rfl (Nat.le_of_ble_eq_true rfl) (Nat.le_of_ble_eq_true rfl) (Nat.le_of_ble_eq_true rfl) (by first | exact Nat.le_of_ble_eq_true rfl | omega) (by first | exact Nat.le_of_ble_eq_true rfl | omega) ?_
    rintro _ _ ⟨og, c2, g2, rfl, hfog, hbog, rfl, hc1, hc2, hg2⟩
    refine V_astore_n (i := 2) F dJ8_add_2_10 rfl (Nat.le_of_ble_eq_true rfl) (Nat.le_of_ble_eq_true rfl) ?_
    refine V_aload_n (i := 2) F dJ8_add_2_11 rfl rfl ?_
    refine V_iload_n (i := 3) F dJ8_add_2_12 rfl rfl ?_
    refine V_aload_n (i := 1) F dJ8_add_2_13 rfl rfl ?_
    refine V_aastON F dJ8_add_2_14 ((hset_ne (Ne.symm (ne_nw hp hfog))).trans (hset_self (e := qA G c2 g2))) ((((Fr.rf (M := m2 a ar) (h := h)).nw (x := qA G c2 g2) hfog).put (x := .inr (18, [.int (nI (mc)), .ref og, .int (nI (n))])) ((hset_ne (ne_nw hp hfog)).trans hp) rfl rfl (Or.inl (Or.inl rfl))).isO hx) (by omega) (by omega) ?_
    refine V_aload_n (i := 0) F dJ8_add_2_15 rfl rfl ?_
    refine V_iload_n (i := 3) F dJ8_add_2_16 rfl rfl ?_
    refine V_iconst (v := nI 1) F dJ8_add_2_17 rfl ?_
    refine V_iaddN F dJ8_add_2_18 ?_
    refine V_putf F dJ8_add_2_19 fp_J8_48_J8 ((hset_ne (ne_nw hp hfog)).trans (hset_self (e := .inr (18, [.int (nI (mc)), .ref og, .int (nI (n))])))) rfl rfl (Nat.le_of_ble_eq_true rfl) ?_
    refine VV.heap (h' := (hset (hset (hset (hset h og (qA G c2 g2)) (a) (.inr (18, [.int (nI (mc)), .ref og, .int (nI (n))]))) (og) (qA G c2 ((upq g2 n (some x))))) (a) (.inr (18, [.int (nI (mc)), .ref og, .int (nI (n + 1))])))) rfl ?_
    have hfr := (((((Fr.rf (M := m2 a ar) (h := h)).nw (x := qA G c2 g2) hfog).put (x := .inr (18, [.int (nI (mc)), .ref og, .int (nI (n))])) ((hset_ne (ne_nw hp hfog)).trans hp) rfl rfl (Or.inl (Or.inl rfl))).put (x := qA G c2 ((upq g2 n (some x)))) ((hset_ne (Ne.symm (ne_nw hp hfog))).trans (hset_self (e := qA G c2 g2))) ⟨rfl, rfl⟩ rfl ((Fr.rf (M := m2 a ar) (h := h)).yo hfog)).put (x := .inr (18, [.int (nI (mc)), .ref og, .int (nI (n + 1))])) ((hset_ne (ne_nw hp hfog)).trans (hset_self (e := .inr (18, [.int (nI (mc)), .ref og, .int (nI (n))])))) rfl rfl (Or.inl (Or.inl rfl)))
    refine V_vret F dJ8_add_2_22 (by first | exact Nat.le_of_ble_eq_true rfl | omega) (by first | exact Nat.le_of_ble_eq_true rfl | omega) ⟨rfl, og, ⟨(hset_self (e := .inr (18, [.int (nI (mc)), .ref og, .int (nI (n + 1))]))), fun i hi => ?_, c2, _, (.inl ((hset_ne (Ne.symm (ne_nw hp hfog))).trans (hset_self (e := qA G c2 ((upq g2 n (some x))))))), fun _ => ((hset_ne (Ne.symm (ne_nw hp hfog))).trans (hset_self (e := qA G c2 ((upq g2 n (some x)))))), by omega, by omega, Or.inl (by omega), fun i hi => ?_⟩, hfr, Or.inr ⟨hfog, hbog⟩⟩
    · by_cases hin : i = n
      · rw [hin, up_s]; exact hfr.isO hx
      · rw [up_n hin]; exact hfr.isO (ho i (by omega))
    · by_cases hin : i = n
      · rw [hin, upq_s, up_s]
      · rw [upq_n hin, up_n hin]; exact (fun i hi => (hg2 i hi).trans (hg i hi)) i (by omega)
theorem ct_AL_add {G : GG} {l : Launch} {h : AH} {a ar mc n : Nat} {x : Nat} {f : Nat → Nat} (hA : ALs G h a ar mc n f) (hx : isO G h x) (hn : n < 2000) : Ct G l yJ8_add cJ8_add 2 (some .boolean) 7 (1) (2 * n + 10) [.ref a, .ref x] h (fun r h2 => r = some (.int (nI 1)) ∧ ∃ ar2, ALs G h2 a ar2 (mc + 1) (n + 1) (up f n x) ∧ Fr (m2 a ar) h h2 ∧ (ar2 = ar ∨ (h ar2 = none ∧ bz G ≤ ar2))) := by
  refine Ct.of (by decide) (Nat.le_of_ble_eq_true rfl) (cat1 rfl) (fun X hXl F HN => ?_)
  subst hXl
  obtain ⟨cap, g, h0r, hw, z1, z2, z3, z4⟩ := hA.2.2
  refine V_aload_n (i := 0) F dJ8_add_0 rfl rfl ?_
  refine V_dup F dJ8_add_1 rfl ?_
  refine V_getf F dJ8_add_2 fc_J8_63_J8 (.inl hA.1) rfl ?_
  refine V_iconst (v := nI 1) F dJ8_add_5 rfl ?_
  refine V_iaddN F dJ8_add_6 ?_
  refine V_putf F dJ8_add_7 fp_J8_63_J8 hA.1 rfl rfl (Nat.le_of_ble_eq_true rfl) ?_
  refine VV.heap (h' := (hset h (a) (.inr (18, [.int (nI (mc + 1)), .ref (ar), .int (nI (n))])))) rfl ?_
  have hff := ((Fr.rf (M := m2 a ar) (h := h)).put (x := .inr (18, [.int (nI (mc + 1)), .ref (ar), .int (nI (n))])) hA.1 rfl rfl (Or.inl (Or.inl rfl)))
  refine V_aload_n (i := 0) F dJ8_add_10 rfl rfl ?_
  refine V_aload_n (i := 1) F dJ8_add_11 rfl rfl ?_
  refine V_aload_n (i := 0) F dJ8_add_12 rfl rfl ?_
  refine V_getf F dJ8_add_13 fc_J8_9_J8 (.inl (hset_self (e := .inr (18, [.int (nI (mc + 1)), .ref (ar), .int (nI (n))])))) rfl ?_
  refine V_aload_n (i := 0) F dJ8_add_16 rfl rfl ?_
  refine V_getf F dJ8_add_17 fc_J8_48_J8 (.inl (hset_self (e := .inr (18, [.int (nI (mc + 1)), .ref (ar), .int (nI (n))])))) rfl ?_
  refine V_callV (st := []) F dJ8_add_20 lk_J8_131 (ct_AL_add2 (hset_self (e := .inr (18, [.int (nI (mc + 1)), .ref (ar), .int (nI (n))]))) (h0r.put (fun q => ne_ao q hA.1)) (fun hc => (hset_ne (ne_ao (hw hc) hA.1)).trans (hw hc)) z1 z2 z3 z4 (fun i hi => hff.isO (hA.2.1 i hi)) (hff.isO hx) hn) ⟨18, _, _, _, rfl, (.inl (hset_self (e := .inr (18, [.int (nI (mc + 1)), .ref (ar), .int (nI (n))]))))⟩ rfl rfl (Nat.le_of_ble_eq_true rfl) (Nat.le_of_ble_eq_true rfl) (Nat.le_of_ble_eq_true rfl) (by first | exact Nat.le_of_ble_eq_true rfl | omega) (by first | exact Nat.le_of_ble_eq_true rfl | omega) ?_
  rintro _ h2 ⟨rfl, ar2, hB, hx2, har⟩
  have hfr := ((Fr.rf (M := m2 a ar) (h := h)).put (x := .inr (18, [.int (nI (mc + 1)), .ref (ar), .int (nI (n))])) hA.1 rfl rfl (Or.inl (Or.inl rfl))).cal hx2 (fun b q => Or.inl q)
  refine V_iconst (v := nI 1) F dJ8_add_23 rfl ?_
  exact V_iret F dJ8_add_24 rfl (by first | exact Nat.le_of_ble_eq_true rfl | omega) (by first | exact Nat.le_of_ble_eq_true rfl | omega) ⟨rfl, ar2, hB, hfr, har.imp id (fun q => ⟨hff.none q.1, q.2⟩)⟩
theorem ct_AL_ed {G : GG} {l : Launch} {h : AH} {a ar mc n : Nat} {k : Nat} {f : Nat → Nat} (hA : ALs G h a ar mc n f) (hk : k < n) (hn : n < 2000) : Ct G l yJ8_elementData cJ8_elementData 2 (some (.object "java/lang/Object")) 0 (0) (0) [.ref a, .int (nI k)] h (PR (.ref (f k)) h) := by
  refine Ct.of (by decide) (Nat.le_of_ble_eq_true rfl) (cat1 rfl) (fun X hXl F HN => ?_)
  subst hXl
  obtain ⟨cap, g, h0r, hw, z1, z2, z3, z4⟩ := hA.2.2
  refine V_aload_n (i := 0) F dJ8_elementData_0 rfl rfl ?_
  refine V_getf F dJ8_elementData_1 fc_J8_9_J8 (.inl hA.1) rfl ?_
  refine V_iload_n (i := 1) F dJ8_elementData_4 rfl rfl ?_
  refine V_aaldN F 6 dJ8_elementData_5 rfl h0r (by omega) (by omega) (w := .ref (f k)) (by rw [z4 k hk]; rfl) ?_
  exact V_aret F dJ8_elementData_6 (Or.inl ⟨_, rfl⟩) (Or.inr ⟨_, rfl⟩) (by first | exact Nat.le_of_ble_eq_true rfl | omega) (by first | exact Nat.le_of_ble_eq_true rfl | omega) ⟨rfl, rfl⟩
theorem ct_AL_get {G : GG} {l : Launch} {h : AH} {a ar mc n : Nat} {k : Nat} {f : Nat → Nat} (hA : ALs G h a ar mc n f) (hk : k < n) (hn : n < 2000) : Ct G l yJ8_get cJ8_get 2 (some (.object "java/lang/Object")) 2 (0) (0) [.ref a, .int (nI k)] h (PR (.ref (f k)) h) := by
  refine Ct.of (by decide) (Nat.le_of_ble_eq_true rfl) (cat1 rfl) (fun X hXl F HN => ?_)
  subst hXl
  refine V_iload_n (i := 1) F dJ8_get_0 rfl rfl ?_
  refine V_aload_n (i := 0) F dJ8_get_1 rfl rfl ?_
  refine V_getf F dJ8_get_2 fc_J8_48_J8 (.inl hA.1) rfl ?_
  refine V_callS (st := []) F dJ8_get_5 lk_J8_118 (ct_J11_checkIndex hk (by omega)) rfl rfl (Nat.le_of_ble_eq_true rfl) (Nat.le_of_ble_eq_true rfl) (Nat.le_of_ble_eq_true rfl) (by first | exact Nat.le_of_ble_eq_true rfl | omega) (by first | exact Nat.le_of_ble_eq_true rfl | omega) ?_
  refine PRk ?_
  refine V_pop F dJ8_get_8 rfl ?_
  refine V_aload_n (i := 0) F dJ8_get_9 rfl rfl ?_
  refine V_iload_n (i := 1) F dJ8_get_10 rfl rfl ?_
  refine V_callV (st := []) F dJ8_get_11 lk_J8_123 (ct_AL_ed hA hk hn) ⟨18, _, _, _, rfl, (.inl hA.1)⟩ rfl rfl (Nat.le_of_ble_eq_true rfl) (Nat.le_of_ble_eq_true rfl) (Nat.le_of_ble_eq_true rfl) (by first | exact Nat.le_of_ble_eq_true rfl | omega) (by first | exact Nat.le_of_ble_eq_true rfl | omega) ?_
  refine PRk ?_
  exact V_aret F dJ8_get_14 (Or.inl ⟨_, rfl⟩) (Or.inr ⟨_, rfl⟩) (by first | exact Nat.le_of_ble_eq_true rfl | omega) (by first | exact Nat.le_of_ble_eq_true rfl | omega) ⟨rfl, rfl⟩
theorem ct_Itr_init {G : GG} {l : Launch} {h : AH} {a ar mc n : Nat} {t : Nat} {f : Nat → Nat} (hA : ALs G h a ar mc n f) (ht : h t = some (.inr (26, [.int 0, .int 0, .int 0, .null]))) : Ct G l yJ26_init cJ26_init 2 none 1 (0) (0) [.ref t, .ref a] h (fun r h2 => r = none ∧ ITR h2 t a 0 mc ∧ Fr (m1 t) h h2) := by
  refine Ct.of (by decide) (Nat.le_of_ble_eq_true rfl) (cat1 rfl) (fun X hXl F HN => ?_)
  subst hXl
  refine V_aload_n (i := 0) F dJ26_init_0 rfl rfl ?_
  refine V_aload_n (i := 1) F dJ26_init_1 rfl rfl ?_
  refine V_putF F dJ26_init_2 ff_J26_1_J26 ht HN rfl rfl (Nat.le_of_ble_eq_true rfl) ?_
  refine VV.heap (h' := (hset h (t) (.inr (26, [.int (0), .int (0), .int (0), .ref (a)])))) rfl ?_
  refine V_aload_n (i := 0) F dJ26_init_5 rfl rfl ?_
  refine V_objInit F dJ26_init_6 q1336 q180 q181 (Nat.le_of_ble_eq_true rfl) (Nat.le_of_ble_eq_true rfl) ?_
  refine V_aload_n (i := 0) F dJ26_init_9 rfl rfl ?_
  refine V_iconst (v := -1) F dJ26_init_10 rfl ?_
  refine V_putf F dJ26_init_11 fp_J26_13_J26 (hset_self (e := .inr (26, [.int (0), .int (0), .int (0), .ref (a)]))) rfl rfl (Nat.le_of_ble_eq_true rfl) ?_
  refine VV.heap (h' := (hset (hset h (t) (.inr (26, [.int (0), .int (0), .int (0), .ref (a)]))) (t) (.inr (26, [.int (0), .int (-1), .int (0), .ref (a)])))) rfl ?_
  refine V_aload_n (i := 0) F dJ26_init_14 rfl rfl ?_
  refine V_aload_n (i := 0) F dJ26_init_15 rfl rfl ?_
  refine V_getf F dJ26_init_16 fc_J26_1_J26 (.inl (hset_self (e := .inr (26, [.int (0), .int (-1), .int (0), .ref (a)])))) rfl ?_
  refine V_getf F dJ26_init_19 fc_J26_17_J8 (.inl ((hset_ne (ne_oo ((hset_ne (ne_oo hA.1 ht (by decide))).trans hA.1) (hset_self (e := .inr (26, [.int (0), .int (0), .int (0), .ref (a)]))) (by decide))).trans ((hset_ne (ne_oo hA.1 ht (by decide))).trans hA.1))) rfl ?_
  refine V_putf F dJ26_init_22 fp_J26_22_J26 (hset_self (e := .inr (26, [.int (0), .int (-1), .int (0), .ref (a)]))) rfl rfl (Nat.le_of_ble_eq_true rfl) ?_
  refine VV.heap (h' := (hset (hset (hset h (t) (.inr (26, [.int (0), .int (0), .int (0), .ref (a)]))) (t) (.inr (26, [.int (0), .int (-1), .int (0), .ref (a)]))) (t) (.inr (26, [.int (0), .int (-1), .int (nI (mc)), .ref (a)])))) rfl ?_
  exact V_vret F dJ26_init_25 (by first | exact Nat.le_of_ble_eq_true rfl | omega) (by first | exact Nat.le_of_ble_eq_true rfl | omega) ⟨rfl, ⟨-1, (hset_self (e := .inr (26, [.int (0), .int (-1), .int (nI (mc)), .ref (a)])))⟩, ((((Fr.rf (M := m1 t) (h := h)).put (x := .inr (26, [.int (0), .int (0), .int (0), .ref (a)])) ht rfl rfl (Or.inl rfl)).put (x := .inr (26, [.int (0), .int (-1), .int (0), .ref (a)])) (hset_self (e := .inr (26, [.int (0), .int (0), .int (0), .ref (a)]))) rfl rfl (Or.inl rfl)).put (x := .inr (26, [.int (0), .int (-1), .int (nI (mc)), .ref (a)])) (hset_self (e := .inr (26, [.int (0), .int (-1), .int (0), .ref (a)]))) rfl rfl (Or.inl rfl))⟩
theorem ct_AL_iterator {G : GG} {l : Launch} {h : AH} {a ar mc n : Nat} {f : Nat → Nat} (hA : ALs G h a ar mc n f) : Ct G l yJ8_iterator cJ8_iterator 1 (some (.object "java/util/Iterator")) 2 (1) (4) [.ref a] h (fun r h2 => ∃ q, r = some (.ref q) ∧ h q = none ∧ bz G ≤ q ∧ ITR h2 q a 0 mc ∧ Fr nM h h2) := by
  refine Ct.of (by decide) (Nat.le_of_ble_eq_true rfl) (cat1 rfl) (fun X hXl F HN => ?_)
  subst hXl
  refine V_new F dJ8_iterator_0 nw_J8_267 (by first | exact Nat.le_of_ble_eq_true rfl | omega) (by first | exact Nat.le_of_ble_eq_true rfl | omega) ?_
  intro t hft hbt
  have p1 : h a = some (.inr (18, [.int (nI (mc)), .ref (ar), .int (nI (n))])) := hA.1
  refine V_dup F dJ8_iterator_3 rfl ?_
  refine V_aload_n (i := 0) F dJ8_iterator_4 rfl rfl ?_
  refine V_callI (st := [.ref (t)]) F dJ8_iterator_5 lk_J8_269 (ct_Itr_init (hA.fr (Fr.rf.nw hft (M := nM)) id (fun _ _ => id)) (hset_self (e := .inr (26, [.int 0, .int 0, .int 0, .null])))) rfl rfl (Nat.le_of_ble_eq_true rfl) (Nat.le_of_ble_eq_true rfl) (Nat.le_of_ble_eq_true rfl) (by first | exact Nat.le_of_ble_eq_true rfl | omega) (by first | exact Nat.le_of_ble_eq_true rfl | omega) ?_
  rintro _ h2 ⟨rfl, hI, hx⟩
  have p2 := hx.get ((hset_ne (ne_nw p1 hft)).trans p1) (ne_nw p1 hft) rfl
  have f3 : Fr nM h h2 := ((Fr.rf (M := nM) (h := h)).nw (x := .inr (26, [.int 0, .int 0, .int 0, .null])) hft).cal hx (Yo.m1 ((Fr.rf (M := nM) (h := h)).yo hft))
  exact V_aret F dJ8_iterator_8 (Or.inl ⟨_, rfl⟩) (Or.inr ⟨_, rfl⟩) (by first | exact Nat.le_of_ble_eq_true rfl | omega) (by first | exact Nat.le_of_ble_eq_true rfl | omega) ⟨t, rfl, hft, hbt, hI, f3⟩
theorem ct_Itr_hasNext {G : GG} {l : Launch} {h : AH} {a ar mc n : Nat} {t i : Nat} {f : Nat → Nat} (hA : ALs G h a ar mc n f) (hI : ITR h t a i mc) (hn : n < 2000) (hi : i ≤ n) : Ct G l yJ26_hasNext cJ26_hasNext 1 (some .boolean) 0 (0) (0) [.ref t] h (PR (.int (b2 (i < n))) h) := by
  refine Ct.of (by decide) (Nat.le_of_ble_eq_true rfl) (cat1 rfl) (fun X hXl F HN => ?_)
  subst hXl
  obtain ⟨lr, ht⟩ := hI
  refine V_aload_n (i := 0) F dJ26_hasNext_0 rfl rfl ?_
  refine V_getf F dJ26_hasNext_1 fc_J26_25_J26 (.inl ht) rfl ?_
  refine V_aload_n (i := 0) F dJ26_hasNext_4 rfl rfl ?_
  refine V_getf F dJ26_hasNext_5 fc_J26_1_J26 (.inl ht) rfl ?_
  refine V_getn F dJ26_hasNext_8 fc_J26_28_J8 (.inl hA.1) rfl ?_
  refine V_icmp_eqN (tgt := 18) F dJ26_hasNext_11 (by decide) (by omega) (by omega) (fun c_11 => ?_) (fun c_11 => ?_)
  · refine V_iconst (v := nI 0) F dJ26_hasNext_18 rfl ?_
    exact V_iret F dJ26_hasNext_19 rfl (by first | exact Nat.le_of_ble_eq_true rfl | omega) (by first | exact Nat.le_of_ble_eq_true rfl | omega) ⟨by rw [b2_f (by omega)]; rfl, rfl⟩
  · refine V_iconst (v := nI 1) F dJ26_hasNext_14 rfl ?_
    refine V_goto (tgt := 19) F dJ26_hasNext_15 (by decide) ?_
    exact V_iret F dJ26_hasNext_19 rfl (by first | exact Nat.le_of_ble_eq_true rfl | omega) (by first | exact Nat.le_of_ble_eq_true rfl | omega) ⟨by rw [b2_t (by omega)]; rfl, rfl⟩
theorem ct_Itr_check {G : GG} {l : Launch} {h : AH} {a ar mc n : Nat} {t i : Nat} {f : Nat → Nat} (hA : ALs G h a ar mc n f) (hI : ITR h t a i mc) (hn : n < 2000) (hmc : mc < 2 ^ 31) : Ct G l yJ26_checkForComodification cJ26_checkForComodification 1 none 0 (0) (0) [.ref t] h (PV h) := by
  refine Ct.of (by decide) (Nat.le_of_ble_eq_true rfl) (cat1 rfl) (fun X hXl F HN => ?_)
  subst hXl
  obtain ⟨lr, ht⟩ := hI
  refine V_aload_n (i := 0) F dJ26_checkForComodification_0 rfl rfl ?_
  refine V_getf F dJ26_checkForComodification_1 fc_J26_1_J26 (.inl ht) rfl ?_
  refine V_getf F dJ26_checkForComodification_4 fc_J26_17_J8 (.inl hA.1) rfl ?_
  refine V_aload_n (i := 0) F dJ26_checkForComodification_7 rfl rfl ?_
  refine V_getf F dJ26_checkForComodification_8 fc_J26_22_J26 (.inl ht) rfl ?_
  refine V_icmp_eqN (tgt := 22) F dJ26_checkForComodification_11 (by decide) hmc hmc (fun c_11 => ?_) (fun c_11 => absurd rfl c_11)
  exact V_vret F dJ26_checkForComodification_22 (by first | exact Nat.le_of_ble_eq_true rfl | omega) (by first | exact Nat.le_of_ble_eq_true rfl | omega) ⟨rfl, rfl⟩
theorem ct_Itr_next {G : GG} {l : Launch} {h : AH} {a ar mc n : Nat} {t i : Nat} {f : Nat → Nat} (hA : ALs G h a ar mc n f) (hI : ITR h t a i mc) (hn : n < 2000) (hmc : mc < 2 ^ 31) (hi : i < n) : Ct G l yJ26_next cJ26_next 3 (some (.object "java/lang/Object")) 1 (0) (0) [.ref t] h (fun r h2 => r = some (.ref (f i)) ∧ ITR h2 t a (i + 1) mc ∧ Fr (m1 t) h h2) := by
  refine Ct.of (by decide) (Nat.le_of_ble_eq_true rfl) (cat1 rfl) (fun X hXl F HN => ?_)
  subst hXl
  obtain ⟨lr, ht⟩ := id hI
  obtain ⟨cap, g, h0r, hw, z1, z2, z3, z4⟩ := hA.2.2
  refine V_aload_n (i := 0) F dJ26_next_0 rfl rfl ?_
  refine V_callV (st := []) F dJ26_next_1 lk_J26_31 (ct_Itr_check hA hI hn hmc) ⟨26, _, _, _, rfl, (.inl ht)⟩ rfl rfl (Nat.le_of_ble_eq_true rfl) (Nat.le_of_ble_eq_true rfl) (Nat.le_of_ble_eq_true rfl) (by first | exact Nat.le_of_ble_eq_true rfl | omega) (by first | exact Nat.le_of_ble_eq_true rfl | omega) ?_
  refine PVk ?_
  refine V_aload_n (i := 0) F dJ26_next_4 rfl rfl ?_
  refine V_getf F dJ26_next_5 fc_J26_25_J26 (.inl ht) rfl ?_
  refine V_istore_n (i := 1) F dJ26_next_8 rfl (Nat.le_of_ble_eq_true rfl) (Nat.le_of_ble_eq_true rfl) ?_
  refine V_iload_n (i := 1) F dJ26_next_9 rfl rfl ?_
  refine V_aload_n (i := 0) F dJ26_next_10 rfl rfl ?_
  refine V_getf F dJ26_next_11 fc_J26_1_J26 (.inl ht) rfl ?_
  refine V_getn F dJ26_next_14 fc_J26_28_J8 (.inl hA.1) rfl ?_
  refine V_icmp_ltN (tgt := 28) F dJ26_next_17 (by decide) (by omega) (by omega) (fun c_17 => ?_) (fun c_17 => absurd hi (by omega))
  refine V_aload_n (i := 0) F dJ26_next_28 rfl rfl ?_
  refine V_getf F dJ26_next_29 fc_J26_1_J26 (.inl ht) rfl ?_
  refine V_getf F dJ26_next_32 fc_J26_37_J8 (.inl hA.1) rfl ?_
  refine V_astore_n (i := 2) F dJ26_next_35 rfl (Nat.le_of_ble_eq_true rfl) (Nat.le_of_ble_eq_true rfl) ?_
  refine V_iload_n (i := 1) F dJ26_next_36 rfl rfl ?_
  refine V_aload_n (i := 2) F dJ26_next_37 rfl rfl ?_
  refine V_alen (v := nI cap) F 6 dJ26_next_38 rfl h0r rfl ?_
  refine V_icmp_ltN (tgt := 50) F dJ26_next_39 (by decide) (by omega) (by omega) (fun c_39 => ?_) (fun c_39 => absurd z1 (by omega))
  refine V_aload_n (i := 0) F dJ26_next_50 rfl rfl ?_
  refine V_iload_n (i := 1) F dJ26_next_51 rfl rfl ?_
  refine V_iconst (v := nI 1) F dJ26_next_52 rfl ?_
  refine V_iaddN F dJ26_next_53 ?_
  refine V_putf F dJ26_next_54 fp_J26_25_J26 ht rfl rfl (Nat.le_of_ble_eq_true rfl) ?_
  refine VV.heap (h' := (hset h (t) (.inr (26, [.int (nI (i + 1)), .int (lr), .int (nI (mc)), .ref (a)])))) rfl ?_
  refine V_aload_n (i := 2) F dJ26_next_57 rfl rfl ?_
  refine V_aload_n (i := 0) F dJ26_next_58 rfl rfl ?_
  refine V_iload_n (i := 1) F dJ26_next_59 rfl rfl ?_
  refine V_dup_x1 F dJ26_next_60 rfl rfl ?_
  refine V_putf F dJ26_next_61 fp_J26_13_J26 (hset_self (e := .inr (26, [.int (nI (i + 1)), .int (lr), .int (nI (mc)), .ref (a)]))) rfl rfl (Nat.le_of_ble_eq_true rfl) ?_
  refine VV.heap (h' := (hset (hset h (t) (.inr (26, [.int (nI (i + 1)), .int (lr), .int (nI (mc)), .ref (a)]))) (t) (.inr (26, [.int (nI (i + 1)), .int (nI (i)), .int (nI (mc)), .ref (a)])))) rfl ?_
  refine V_aaldN F 6 dJ26_next_64 rfl ((h0r.put (fun q => (ne_ao q ht))).put (fun q => (ne_ao q (hset_self (e := .inr (26, [.int (nI (i + 1)), .int (lr), .int (nI (mc)), .ref (a)])))))) (by omega) (by omega) (w := .ref (f i)) (by rw [z4 i hi]; rfl) ?_
  exact V_aret F dJ26_next_65 (Or.inl ⟨_, rfl⟩) (Or.inr ⟨_, rfl⟩) (by first | exact Nat.le_of_ble_eq_true rfl | omega) (by first | exact Nat.le_of_ble_eq_true rfl | omega) ⟨rfl, ⟨_, (hset_self (e := .inr (26, [.int (nI (i + 1)), .int (nI (i)), .int (nI (mc)), .ref (a)])))⟩, (((Fr.rf (M := m1 t) (h := h)).put (x := .inr (26, [.int (nI (i + 1)), .int (lr), .int (nI (mc)), .ref (a)])) ht rfl rfl (Or.inl rfl)).put (x := .inr (26, [.int (nI (i + 1)), .int (nI (i)), .int (nI (mc)), .ref (a)])) (hset_self (e := .inr (26, [.int (nI (i + 1)), .int (lr), .int (nI (mc)), .ref (a)]))) rfl rfl (Or.inl rfl))⟩
