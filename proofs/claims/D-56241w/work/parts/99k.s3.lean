set_option maxRecDepth 100000
/-! ===== String: hashCode, equals, contains ===== -/
theorem strH_take {l : List Nat} {i : Nat} (h : i < l.length) : strH (l.take (i + 1)) = 31 * strH (l.take i) + nI (l.getD i 0) := by
  unfold strH
  rw [List.take_succ, List.foldl_append, List.getElem?_eq_getElem h, List.getD_eq_getElem?_getD, List.getElem?_eq_getElem h]
  rfl
theorem lk01 {n : Nat} (h : 2 ≤ n) (h2 : n < 2 ^ 31) : Op.lookupswitch.offset [(0, 26), (1, 30)] 40 (nI n).toInt = 40 := by
  rw [nI_toInt h2, Op.lookupswitch.offset_cons, if_neg (by omega), Op.lookupswitch.offset_cons, if_neg (by omega), Op.lookupswitch.offset_nil]
/-- only a text's own cell -/
def mS (h : AH) (a : Nat) : Nat → Prop := fun z => z = a ∧ ∃ fs, h a = some (.inr (22, fs))
theorem Fr.mS' {h h2 : AH} {a : Nat} (hx : Fr (mS h a) h h2) : Fr nM h h2 ∨ ∃ fs, h a = some (.inr (22, fs)) ∧ Fr (m1 a) h h2 := by
  by_cases q : ∃ fs, h a = some (.inr (22, fs))
  · obtain ⟨fs, hf⟩ := q
    exact Or.inr ⟨fs, hf, hx.mono (fun _ z => z.1)⟩
  · exact Or.inl (hx.mono (fun _ z => q z.2))
def matW (l1 l2 : List Nat) (k : Nat) : Prop := k + l2.length ≤ l1.length ∧ ∀ j, j < l2.length → l1.getD (k + j) 0 = l2.getD j 0
/-- l2 stands in l1 -/
def subW (l1 l2 : List Nat) : Prop := ∃ k, matW l1 l2 k
def subB (l1 l2 : List Nat) : Bool := (List.range (l1.length + 1)).any fun k => decide (k + l2.length ≤ l1.length) && (List.range l2.length).all fun j => l1.getD (k + j) 0 == l2.getD j 0
theorem subB_iff {l1 l2 : List Nat} : subB l1 l2 = true ↔ subW l1 l2 := by
  unfold subB subW matW
  simp only [List.any_eq_true, List.mem_range, Bool.and_eq_true, decide_eq_true_eq, List.all_eq_true, beq_iff_eq]
  constructor
  · rintro ⟨k, _, h1, h2⟩; exact ⟨k, h1, h2⟩
  · rintro ⟨k, h1, h2⟩; exact ⟨k, by omega, h1, h2⟩
theorem matW.no0 {l1 l2 : List Nat} {k : Nat} (hl : 0 < l2.length) (h : ¬ l1.getD k 0 = l2.getD 0 0) : ¬ matW l1 l2 k := fun m => h (m.2 0 hl)
theorem noM_step {l1 l2 : List Nat} {i : Nat} (h : ∀ k, k < i → ¬ matW l1 l2 k) (h2 : ¬ matW l1 l2 i) : ∀ k, k < i + 1 → ¬ matW l1 l2 k := by
  intro k hk
  by_cases q : k = i
  · subst q; exact h2
  · exact h k (by omega)
theorem noM_end {l1 l2 : List Nat} {i : Nat} (h : ∀ k, k < i → ¬ matW l1 l2 k) (h12 : l2.length ≤ l1.length) (hi : l1.length - l2.length < i) : ¬ subW l1 l2 := fun ⟨k, m⟩ => h k (by have := m.1; omega) m
theorem noM_big {l1 l2 : List Nat} {i : Nat} (h12 : l2.length ≤ l1.length) (hi : l1.length - l2.length < i) : ¬ matW l1 l2 i := fun m => by have := m.1; omega
/-- a text whose hash is kept in it -/
def STH (G : GG) (h : AH) (a : Nat) (l : List Nat) : Prop := ∃ (v : Nat) (hs hz : Int32) (c : Nat → Nat), rd G h a (.inr (22, [.ref v, .int (nI 0), .int hs, .int hz])) ∧ rd G h v (byA G l.length c) ∧ by8 c ∧ begW c l ∧ asc l ∧ l.length ≤ 200 ∧ hs ≠ 0 ∧ hs = strH l
theorem STH.str {G : GG} {h : AH} {a : Nat} {l : List Nat} (hS : STH G h a l) : STR G h a l := by
  obtain ⟨v, hs, hz, c, q1, q2, q3, q4, q5, q6, q7⟩ := hS
  exact ⟨v, hs, hz, c, q1, q2, q3, q4, q5, q6, Or.inl q7⟩
theorem STH.fr {G : GG} {M : Nat → Prop} {h h2 : AH} {a : Nat} {l : List Nat} (hS : STH G h a l) (hx : Fr M h h2) (h1 : offK M h (kO 22)) (h3 : ∀ v n c, h v = some (byA G n c) → n = l.length → ¬ M v) : STH G h2 a l := by
  obtain ⟨v, hs, hz, c, q1, q2, q⟩ := hS
  exact ⟨v, hs, hz, c, hx.rd q1 (fun q => h1.o q) rfl, hx.rd q2 (fun q => h3 v _ c q rfl) rfl, q⟩
theorem Gstr.sth {G : GG} {tx : String} {a : Nat} {h : AH} (hG : Gstr G tx a) (ha : asc (txl tx)) (hl : (txl tx).length ≤ 200) (hn : strH (txl tx) ≠ 0) : STH G h a (txl tx) := by
  obtain ⟨v, hz, h1, h2, h3⟩ := hG
  refine ⟨v, strH (txl tx), hz, fun j => (txl tx).getD j 0, Or.inr h1, Or.inr h2, fun j => ?_, fun i _ => rfl, ha, hl, hn, rfl⟩
  by_cases hj : j < (txl tx).length
  · exact Nat.lt_trans (ha _ (getD_mem hj)) (by decide)
  · show (txl tx).getD j 0 < 256; rw [List.getD_eq_getElem?_getD, List.getElem?_eq_none (Nat.not_lt.mp hj)]; decide

theorem ct_STR_len {G : GG} {l : Launch} {h : AH} {a : Nat} {l0 : List Nat}  (hS : STR G h a l0) : Ct G l yJ6_length cJ6_length 1 (some .int) 1 0 0 [.ref a] h (PR (.int (nI l0.length)) h) := by
  obtain ⟨v, ha, hz, c, q1, q2, q3, q4, q5, q6, q7⟩ := id hS
  exact ct_J6_length q1 q2 q3 (by omega)
theorem ct_STR_at {G : GG} {l : Launch} {h : AH} {a : Nat} {l0 : List Nat} {k : Nat} (hS : STR G h a l0) (hk : k < l0.length) : Ct G l yJ6_charAt cJ6_charAt 2 (some .char) 3 0 0 [.ref a, .int (nI k)] h (PR (.int (nI (l0.getD k 0))) h) := by
  obtain ⟨v, ha, hz, c, q1, q2, q3, q4, q5, q6, q7⟩ := id hS
  rw [← q4 k hk]
  exact ct_J6_charAt q1 q2 q3 (by omega) hk
theorem ct_J20_equals {G : GG} {l : Launch} {h : AH} {v1 v2 : Nat} {l0 : List Nat} {c1 c2 : Nat → Nat}  (p1 : rd G h v1 (byA G l0.length c1)) (p2 : rd G h v2 (byA G l0.length c2)) (b1 : begW c1 l0) (b2 : begW c2 l0) (ha0 : asc l0) (hn : l0.length < 1000) : Ct G l yJ20_equals cJ20_equals 3 (some .boolean) 0 (0) (0) [.ref v1, .ref v2] h (PR (.int (nI 1)) h) := by
  refine Ct.of (by decide) (Nat.le_of_ble_eq_true rfl) (cat1 rfl) (fun X hXl F HN => ?_)
  subst hXl
  refine V_aload_n (i := 0) F dJ20_equals_0 rfl rfl ?_
  refine V_alen (v := nI l0.length) F 5 dJ20_equals_1 rfl p1 rfl ?_
  refine V_aload_n (i := 1) F dJ20_equals_2 rfl rfl ?_
  refine V_alen (v := nI l0.length) F 5 dJ20_equals_3 rfl p2 rfl ?_
  refine V_icmp_neN (tgt := 34) F dJ20_equals_4 (by decide) (by omega) (by omega) (fun c_4 => absurd c_4 (fun z => z rfl)) (fun c_4 => ?_)
  refine V_iconst (v := nI 0) F dJ20_equals_7 rfl ?_
  refine V_istore_n (i := 2) F dJ20_equals_8 rfl (Nat.le_of_ble_eq_true rfl) (Nat.le_of_ble_eq_true rfl) ?_
  have loop_9 : ∀ (nn : Nat) (i : Nat), l0.length + 1 - i < nn → i ≤ l0.length → VV G X 3 ((EQ G X (0) (0) (PR (.int (nI 1)) h))) h (0) (0) [some (.ref (v1)), some (.ref (v2)), some (.int (nI (i)))] [] 9 := by
    intro nn
    induction nn with
    | zero => intro i hm hi; exact absurd hm (by omega)
    | succ nn ih_9 =>
      intro i hm hi
      refine V_iload_n (i := 2) F dJ20_equals_9 rfl rfl ?_
      refine V_aload_n (i := 0) F dJ20_equals_10 rfl rfl ?_
      refine V_alen (v := nI l0.length) F 5 dJ20_equals_11 rfl p1 rfl ?_
      refine V_icmp_geN (tgt := 32) F dJ20_equals_12 (by decide) (by omega) (by omega) (fun c_12 => ?_) (fun c_12 => ?_)
      · refine V_iconst (v := nI 1) F dJ20_equals_32 rfl ?_
        exact V_iret F dJ20_equals_33 rfl (by first | exact Nat.le_of_ble_eq_true rfl | omega) (by first | exact Nat.le_of_ble_eq_true rfl | omega) ⟨rfl, rfl⟩
      · refine V_aload_n (i := 0) F dJ20_equals_15 rfl rfl ?_
        refine V_iload_n (i := 2) F dJ20_equals_16 rfl rfl ?_
        refine V_baldS F dJ20_equals_17 p1 (by omega) (by omega) (b1 i (by omega)) (asc.getD ha0 (by omega)) ?_
        refine V_aload_n (i := 1) F dJ20_equals_18 rfl rfl ?_
        refine V_iload_n (i := 2) F dJ20_equals_19 rfl rfl ?_
        refine V_baldS F dJ20_equals_20 p2 (by omega) (by omega) (b2 i (by omega)) (asc.getD ha0 (by omega)) ?_
        refine V_icmp_eqN (tgt := 26) F dJ20_equals_21 (by decide) (by have := asc.getD ha0 (show i < l0.length by omega); omega) (by have := asc.getD ha0 (show i < l0.length by omega); omega) (fun c_21 => ?_) (fun c_21 => absurd c_21 (fun z => z rfl))
        refine V_iinc (i := 2) (v := nI (i + 1)) F dJ20_equals_26 rfl (nI_add (i) 1) (Nat.le_of_ble_eq_true rfl) ?_
        refine V_goto (tgt := 9) F dJ20_equals_29 (by decide) ?_
        exact ih_9 (i + 1) (by omega) (by omega)
  refine VV.weak (L' := [some (.ref (v1)), some (.ref (v2)), some (.int (nI (0)))]) (LW.c1 (LW.c1 (LW.c1 LW.nil))) ?_
  exact loop_9 (l0.length + 2) 0 (by omega) (Nat.zero_le _)
theorem ct_J6_equals {G : GG} {l : Launch} {h : AH} {a b : Nat} {l0 : List Nat}  (hS : STR G h a l0) (hS2 : STR G h b l0) : Ct G l yJ6_equals cJ6_equals 3 (some .boolean) 1 (0) (0) [.ref a, .ref b] h (PR (.int (nI 1)) h) := by
  refine Ct.of (by decide) (Nat.le_of_ble_eq_true rfl) (cat1 rfl) (fun X hXl F HN => ?_)
  subst hXl
  obtain ⟨v, ha, hz, c, q1, q2, q3, q4, q5, q6, q7⟩ := id hS
  obtain ⟨v2, ha2, hz2, c2, p1, p2, p3, p4, p5, p6, p7⟩ := id hS2
  refine V_aload_n (i := 0) F dJ6_equals_0 rfl rfl ?_
  refine V_aload_n (i := 1) F dJ6_equals_1 rfl rfl ?_
  refine V_acmp_ne (rx := some (a)) (ry := some (b)) (tgt := 7) F dJ6_equals_2 (by decide) (fun c_2 => ?_) (fun c_2 => ?_)
  · refine V_aload_n (i := 1) F dJ6_equals_7 rfl rfl ?_
    refine V_instS F dJ6_equals_8 q1584 ⟨22, _, _, _, rfl, p1⟩ ?_
    refine VV.stk (st' := [.int (nI (1))]) rfl ?_
    refine V_if_eqN (tgt := 54) F dJ6_equals_11 (by decide) (by omega) (fun c_11 => absurd c_11 (by decide)) (fun c_11 => ?_)
    refine V_aload_n (i := 1) F dJ6_equals_14 rfl rfl ?_
    refine V_ckS F dJ6_equals_15 q1584 ⟨22, _, _, _, rfl, p1⟩ ?_
    refine V_astore_n (i := 2) F dJ6_equals_18 rfl (Nat.le_of_ble_eq_true rfl) (Nat.le_of_ble_eq_true rfl) ?_
    refine V_gets F dJ6_equals_19 (List.mem_of_getElem? (i := 2) rfl) q642 ?_
    refine VV.stk (st' := [.int (nI (1))]) rfl ?_
    refine V_if_eqN (tgt := 36) F dJ6_equals_22 (by decide) (by omega) (fun c_22 => absurd c_22 (by decide)) (fun c_22 => ?_)
    refine V_aload_n (i := 0) F dJ6_equals_25 rfl rfl ?_
    refine V_getf F dJ6_equals_26 fc_J6_15_J6 q1 rfl ?_
    refine V_aload_n (i := 2) F dJ6_equals_29 rfl rfl ?_
    refine V_getf F dJ6_equals_30 fc_J6_15_J6 p1 rfl ?_
    refine V_icmp_neN (tgt := 54) F dJ6_equals_33 (by decide) (by decide) (by decide) (fun c_33 => absurd c_33 (fun z => z rfl)) (fun c_33 => ?_)
    refine V_aload_n (i := 0) F dJ6_equals_36 rfl rfl ?_
    refine V_getf F dJ6_equals_37 fc_J6_9_J6 q1 rfl ?_
    refine V_aload_n (i := 2) F dJ6_equals_40 rfl rfl ?_
    refine V_getf F dJ6_equals_41 fc_J6_9_J6 p1 rfl ?_
    refine V_callS (st := []) (nn := 2) F dJ6_equals_44 lk_J6_541 (ct_J20_equals q2 p2 q4 p4 q5 (by omega)) rfl rfl (Nat.le_of_ble_eq_true rfl) (Nat.le_of_ble_eq_true rfl) (Nat.le_of_ble_eq_true rfl) (by omega) (by omega) ?_
    refine PRk ?_
    refine V_if_eqN (tgt := 54) F dJ6_equals_47 (by decide) (by omega) (fun c_47 => absurd c_47 (by decide)) (fun c_47 => ?_)
    refine V_iconst (v := nI 1) F dJ6_equals_50 rfl ?_
    refine V_goto (tgt := 55) F dJ6_equals_51 (by decide) ?_
    exact V_iret F dJ6_equals_55 rfl (by first | exact Nat.le_of_ble_eq_true rfl | omega) (by first | exact Nat.le_of_ble_eq_true rfl | omega) ⟨rfl, rfl⟩
  · refine V_iconst (v := nI 1) F dJ6_equals_5 rfl ?_
    exact V_iret F dJ6_equals_6 rfl (by first | exact Nat.le_of_ble_eq_true rfl | omega) (by first | exact Nat.le_of_ble_eq_true rfl | omega) ⟨rfl, rfl⟩
theorem ct_J17_signedHashCode {G : GG} {l : Launch} {h : AH} {v : Nat} {l0 : List Nat} {c : Nat → Nat}  (q2 : rd G h v (byA G l0.length c)) (q4 : begW c l0) (q5 : asc l0) (hn : l0.length < 1000) : Ct G l yJ17_signedHashCode cJ17_signedHashCode 6 (some .int) 0 (0) (0) [.int (0), .ref v, .int (nI 0), .int (nI l0.length)] h (PR (.int (strH l0)) h) := by
  refine Ct.of (by decide) (Nat.le_of_ble_eq_true rfl) (cat1 rfl) (fun X hXl F HN => ?_)
  subst hXl
  refine V_iload_n (i := 2) F dJ17_signedHashCode_0 rfl rfl ?_
  refine V_iload_n (i := 3) F dJ17_signedHashCode_1 rfl rfl ?_
  refine V_iaddN F dJ17_signedHashCode_2 ?_
  refine V_istore (i := 4) F dJ17_signedHashCode_3 (Nat.le_of_ble_eq_true rfl) (Nat.le_of_ble_eq_true rfl) ?_
  refine V_iload_n (i := 2) F dJ17_signedHashCode_5 rfl rfl ?_
  refine V_istore (i := 5) F dJ17_signedHashCode_6 (Nat.le_of_ble_eq_true rfl) (Nat.le_of_ble_eq_true rfl) ?_
  have loop_8 : ∀ (nn : Nat) (i : Nat), l0.length + 1 - i < nn → i ≤ l0.length → VV G X 6 ((EQ G X (0) (0) (PR (.int (strH l0)) h))) h (0) (0) [some (.int (strH (l0.take i))), some (.ref (v)), some (.int (nI (0))), some (.int (nI (l0.length))), some (.int (nI (0 + l0.length))), some (.int (nI (i)))] [] 8 := by
    intro nn
    induction nn with
    | zero => intro i hm hi; exact absurd hm (by omega)
    | succ nn ih_8 =>
      intro i hm hi
      refine V_iload (i := 5) F dJ17_signedHashCode_8 rfl ?_
      refine V_iload (i := 4) F dJ17_signedHashCode_10 rfl ?_
      refine V_icmp_geN (tgt := 35) F dJ17_signedHashCode_12 (by decide) (by omega) (by omega) (fun c_12 => ?_) (fun c_12 => ?_)
      · refine V_iload_n (i := 0) F dJ17_signedHashCode_35 rfl rfl ?_
        have ei : i = l0.length := by omega
        subst ei
        exact V_iret F dJ17_signedHashCode_36 rfl (by first | exact Nat.le_of_ble_eq_true rfl | omega) (by first | exact Nat.le_of_ble_eq_true rfl | omega) ⟨by rw [List.take_length], rfl⟩
      · refine V_bipush (v := nI 31) F dJ17_signedHashCode_15 rfl ?_
        refine V_iload_n (i := 0) F dJ17_signedHashCode_17 rfl rfl ?_
        refine V_imul F dJ17_signedHashCode_18 ?_
        refine V_aload_n (i := 1) F dJ17_signedHashCode_19 rfl rfl ?_
        refine V_iload (i := 5) F dJ17_signedHashCode_20 rfl ?_
        refine V_baldS F dJ17_signedHashCode_22 q2 (by omega) (by omega) (q4 i (by omega)) (asc.getD q5 (by omega)) ?_
        refine V_sipush (v := nI 255) F dJ17_signedHashCode_23 rfl ?_
        refine V_iandN255 F dJ17_signedHashCode_26 (asc.getD q5 (by omega)) ?_
        refine V_iadd F dJ17_signedHashCode_27 ?_
        refine V_istore_n (i := 0) F dJ17_signedHashCode_28 rfl (Nat.le_of_ble_eq_true rfl) (Nat.le_of_ble_eq_true rfl) ?_
        refine V_iinc (i := 5) (v := nI (i + 1)) F dJ17_signedHashCode_29 rfl (nI_add (i) 1) (Nat.le_of_ble_eq_true rfl) ?_
        refine V_goto (tgt := 8) F dJ17_signedHashCode_32 (by decide) ?_
        refine VV.loc (L' := [some (.int (strH (l0.take (i + 1)))), some (.ref (v)), some (.int (nI (0))), some (.int (nI (l0.length))), some (.int (nI (0 + l0.length))), some (.int (nI (i + 1)))]) (by rw [strH_take (by omega)]; rfl) ?_
        exact ih_8 (i + 1) (by omega) (by omega)
  refine VV.weak (L' := [some (.int (0)), some (.ref (v)), some (.int (nI (0))), some (.int (nI (l0.length))), some (.int (nI (0 + l0.length))), some (.int (nI (0)))]) (LW.c1 (LW.c1 (LW.c1 (LW.c1 (LW.c1 (LW.c1 LW.nil)))))) ?_
  exact loop_8 (l0.length + 2) 0 (by omega) (Nat.zero_le _)
theorem ct_J17_vectorizedHashCode {G : GG} {l : Launch} {h : AH} {v : Nat} {l0 : List Nat} {c : Nat → Nat}  (q2 : rd G h v (byA G l0.length c)) (q4 : begW c l0) (q5 : asc l0) (hn : l0.length < 1000) : Ct G l yJ17_vectorizedHashCode cJ17_vectorizedHashCode 5 (some .int) 1 (0) (0) [.ref v, .int (nI 0), .int (nI l0.length), .int (0), .int (nI 4)] h (PR (.int (strH l0)) h) := by
  refine Ct.of (by decide) (Nat.le_of_ble_eq_true rfl) (cat1 rfl) (fun X hXl F HN => ?_)
  subst hXl
  refine V_iload (i := 4) F dJ17_vectorizedHashCode_0 rfl ?_
  refine V_tableIn (tgt := 44) (off := 42) F dJ17_vectorizedHashCode_2 (by decide) (by decide) (by decide +kernel) (by decide) ?_
  refine V_iload_n (i := 3) F dJ17_vectorizedHashCode_44 rfl rfl ?_
  refine V_aload_n (i := 0) F dJ17_vectorizedHashCode_45 rfl rfl ?_
  refine V_ckB F dJ17_vectorizedHashCode_46 q2374 q2 ?_
  refine V_iload_n (i := 1) F dJ17_vectorizedHashCode_49 rfl rfl ?_
  refine V_iload_n (i := 2) F dJ17_vectorizedHashCode_50 rfl rfl ?_
  refine V_callS (st := []) (nn := 4) F dJ17_vectorizedHashCode_51 lk_J17_62 (ct_J17_signedHashCode q2 q4 q5 hn) rfl rfl (Nat.le_of_ble_eq_true rfl) (Nat.le_of_ble_eq_true rfl) (Nat.le_of_ble_eq_true rfl) (by omega) (by omega) ?_
  refine PRk ?_
  refine V_goto (tgt := 157) F dJ17_vectorizedHashCode_54 (by decide) ?_
  exact V_iret F dJ17_vectorizedHashCode_157 rfl (by first | exact Nat.le_of_ble_eq_true rfl | omega) (by first | exact Nat.le_of_ble_eq_true rfl | omega) ⟨rfl, rfl⟩
theorem ct_J20_hashCode {G : GG} {l : Launch} {h : AH} {v : Nat} {l0 : List Nat} {c : Nat → Nat}  (q2 : rd G h v (byA G l0.length c)) (q4 : begW c l0) (q5 : asc l0) (h2 : 2 ≤ l0.length) (hn : l0.length < 1000) : Ct G l yJ20_hashCode cJ20_hashCode 1 (some .int) 2 (0) (0) [.ref v] h (PR (.int (strH l0)) h) := by
  refine Ct.of (by decide) (Nat.le_of_ble_eq_true rfl) (cat1 rfl) (fun X hXl F HN => ?_)
  subst hXl
  refine V_aload_n (i := 0) F dJ20_hashCode_0 rfl rfl ?_
  refine V_alen (v := nI l0.length) F 5 dJ20_hashCode_1 rfl q2 rfl ?_
  refine V_lookup (tgt := 42) F dJ20_hashCode_2 (by decide) (lk01 h2 (by omega)) (by decide) ?_
  refine V_aload_n (i := 0) F dJ20_hashCode_42 rfl rfl ?_
  refine V_iconst (v := nI 0) F dJ20_hashCode_43 rfl ?_
  refine V_aload_n (i := 0) F dJ20_hashCode_44 rfl rfl ?_
  refine V_alen (v := nI l0.length) F 5 dJ20_hashCode_45 rfl q2 rfl ?_
  refine V_iconst (v := nI 0) F dJ20_hashCode_46 rfl ?_
  refine VV.stk (st' := [.int (0), .int (nI (l0.length)), .int (nI (0)), .ref (v)]) rfl ?_
  refine V_iconst (v := nI 4) F dJ20_hashCode_47 rfl ?_
  refine V_callS (st := []) (nn := 5) F dJ20_hashCode_48 lk_J20_84 (ct_J17_vectorizedHashCode q2 q4 q5 hn) rfl rfl (Nat.le_of_ble_eq_true rfl) (Nat.le_of_ble_eq_true rfl) (Nat.le_of_ble_eq_true rfl) (by omega) (by omega) ?_
  refine PRk ?_
  exact V_iret F dJ20_hashCode_51 rfl (by first | exact Nat.le_of_ble_eq_true rfl | omega) (by first | exact Nat.le_of_ble_eq_true rfl | omega) ⟨rfl, rfl⟩
theorem ct_J6_hashCode {G : GG} {l : Launch} {h : AH} {a : Nat} {l0 : List Nat}  (hS : STR G h a l0) (hn : strH l0 ≠ 0) (h2 : 2 ≤ l0.length) : Ct G l yJ6_hashCode cJ6_hashCode 2 (some .int) 3 (0) (0) [.ref a] h (fun r h2 => r = some (.int (strH l0)) ∧ STH G h2 a l0 ∧ Fr (mS h a) h h2) := by
  refine Ct.of (by decide) (Nat.le_of_ble_eq_true rfl) (cat1 rfl) (fun X hXl F HN => ?_)
  subst hXl
  obtain ⟨v, ha, hz, c, q1, q2, q3, q4, q5, q6, q7⟩ := id hS
  rcases q7 with ⟨q7, rfl⟩ | ⟨rfl, rfl, q8⟩ | q7
  · refine V_aload_n (i := 0) F dJ6_hashCode_0 rfl rfl ?_
    refine V_getf F dJ6_hashCode_1 fc_J6_19_J6 q1 rfl ?_
    refine V_istore_n (i := 1) F dJ6_hashCode_4 rfl (Nat.le_of_ble_eq_true rfl) (Nat.le_of_ble_eq_true rfl) ?_
    refine V_iload_n (i := 1) F dJ6_hashCode_5 rfl rfl ?_
    refine V_if_ne (tgt := 58) F dJ6_hashCode_6 (by decide) (fun c_6 => ?_) (fun c_6 => absurd c_6 q7)
    refine V_iload_n (i := 1) F dJ6_hashCode_58 rfl rfl ?_
    exact V_iret F dJ6_hashCode_59 rfl (by first | exact Nat.le_of_ble_eq_true rfl | omega) (by first | exact Nat.le_of_ble_eq_true rfl | omega) ⟨rfl, ⟨v, _, hz, c, q1, q2, q3, q4, q5, q6, q7, rfl⟩, Fr.rf⟩
  · refine V_aload_n (i := 0) F dJ6_hashCode_0 rfl rfl ?_
    refine V_getf F dJ6_hashCode_1 fc_J6_19_J6 (.inl q8) rfl ?_
    refine V_istore_n (i := 1) F dJ6_hashCode_4 rfl (Nat.le_of_ble_eq_true rfl) (Nat.le_of_ble_eq_true rfl) ?_
    refine V_iload_n (i := 1) F dJ6_hashCode_5 rfl rfl ?_
    refine V_if_ne (tgt := 58) F dJ6_hashCode_6 (by decide) (fun c_6 => absurd c_6 (fun z => z rfl)) (fun c_6 => ?_)
    refine V_aload_n (i := 0) F dJ6_hashCode_9 rfl rfl ?_
    refine V_getf F dJ6_hashCode_10 fc_J6_23_J6 (.inl q8) rfl ?_
    refine V_if_ne (tgt := 58) F dJ6_hashCode_13 (by decide) (fun c_13 => absurd c_13 (fun z => z rfl)) (fun c_13 => ?_)
    refine V_aload_n (i := 0) F dJ6_hashCode_16 rfl rfl ?_
    refine V_callV (st := []) (nn := 0) F dJ6_hashCode_17 lk_J6_492 (ct_J6_isLatin1 q1 q2 q3 (by omega)) ⟨22, _, _, _, rfl, (.inl q8)⟩ rfl rfl (Nat.le_of_ble_eq_true rfl) (Nat.le_of_ble_eq_true rfl) (Nat.le_of_ble_eq_true rfl) (by omega) (by omega) ?_
    refine PRk ?_
    refine V_if_eqN (tgt := 33) F dJ6_hashCode_20 (by decide) (by omega) (fun c_20 => absurd c_20 (by decide)) (fun c_20 => ?_)
    refine V_aload_n (i := 0) F dJ6_hashCode_23 rfl rfl ?_
    refine V_getf F dJ6_hashCode_24 fc_J6_9_J6 (.inl q8) rfl ?_
    refine V_callS (st := []) (nn := 1) F dJ6_hashCode_27 lk_J6_628 (ct_J20_hashCode q2 q4 q5 h2 (by omega)) rfl rfl (Nat.le_of_ble_eq_true rfl) (Nat.le_of_ble_eq_true rfl) (Nat.le_of_ble_eq_true rfl) (by omega) (by omega) ?_
    refine PRk ?_
    refine V_goto (tgt := 40) F dJ6_hashCode_30 (by decide) ?_
    refine V_istore_n (i := 1) F dJ6_hashCode_40 rfl (Nat.le_of_ble_eq_true rfl) (Nat.le_of_ble_eq_true rfl) ?_
    refine V_iload_n (i := 1) F dJ6_hashCode_41 rfl rfl ?_
    refine V_if_ne (tgt := 53) F dJ6_hashCode_42 (by decide) (fun c_42 => ?_) (fun c_42 => absurd c_42 hn)
    refine V_aload_n (i := 0) F dJ6_hashCode_53 rfl rfl ?_
    refine V_iload_n (i := 1) F dJ6_hashCode_54 rfl rfl ?_
    refine V_putf F dJ6_hashCode_55 fp_J6_19_J6 q8 rfl rfl (Nat.le_of_ble_eq_true rfl) ?_
    refine VV.heap (h' := (hset h (a) (.inr (22, [.ref (v), .int (nI (0)), .int (strH l0), .int (0)])))) rfl ?_
    refine V_iload_n (i := 1) F dJ6_hashCode_58 rfl rfl ?_
    have qa : (hset h (a) (.inr (22, [.ref (v), .int (nI (0)), .int (strH l0), .int (0)]))) a = some (.inr (22, [.ref (v), .int (nI (0)), .int (strH l0), .int (0)])) := (hset_self (e := .inr (22, [.ref (v), .int (nI (0)), .int (strH l0), .int (0)])))
    have qf := ((Fr.rf (M := mS h a) (h := h)).put (x := .inr (22, [.ref (v), .int (nI (0)), .int (strH l0), .int (0)])) q8 rfl rfl (Or.inl ⟨rfl, _, q8⟩))
    have qv : rd G (hset h (a) (.inr (22, [.ref (v), .int (nI (0)), .int (strH l0), .int (0)]))) v (byA G l0.length c) := (q2.put2 (q2.elim (fun z => Or.inr (ne_ao z q8)) Or.inl))
    exact V_iret F dJ6_hashCode_59 rfl (by first | exact Nat.le_of_ble_eq_true rfl | omega) (by first | exact Nat.le_of_ble_eq_true rfl | omega) ⟨rfl, ⟨v, strH l0, _, c, Or.inl qa, qv, q3, q4, q5, q6, hn, rfl⟩, qf⟩
  · exact absurd q7 hn
theorem ct_J6_hashH {G : GG} {l : Launch} {h : AH} {a : Nat} {l0 : List Nat}  (hS : STH G h a l0) : Ct G l yJ6_hashCode cJ6_hashCode 2 (some .int) 0 (0) (0) [.ref a] h (PR (.int (strH l0)) h) := by
  refine Ct.of (by decide) (Nat.le_of_ble_eq_true rfl) (cat1 rfl) (fun X hXl F HN => ?_)
  subst hXl
  obtain ⟨v, ha, hz, c, q1, q2, q3, q4, q5, q6, q7, rfl⟩ := id hS
  refine V_aload_n (i := 0) F dJ6_hashCode_0 rfl rfl ?_
  refine V_getf F dJ6_hashCode_1 fc_J6_19_J6 q1 rfl ?_
  refine V_istore_n (i := 1) F dJ6_hashCode_4 rfl (Nat.le_of_ble_eq_true rfl) (Nat.le_of_ble_eq_true rfl) ?_
  refine V_iload_n (i := 1) F dJ6_hashCode_5 rfl rfl ?_
  refine V_if_ne (tgt := 58) F dJ6_hashCode_6 (by decide) (fun c_6 => ?_) (fun c_6 => absurd c_6 q7)
  refine V_iload_n (i := 1) F dJ6_hashCode_58 rfl rfl ?_
  exact V_iret F dJ6_hashCode_59 rfl (by first | exact Nat.le_of_ble_eq_true rfl | omega) (by first | exact Nat.le_of_ble_eq_true rfl | omega) ⟨rfl, rfl⟩
theorem ct_J6_toString {G : GG} {l : Launch} {h : AH} {a : Nat}   : Ct G l yJ6_toString cJ6_toString 1 (some (.object "java/lang/String")) 0 (0) (0) [.ref a] h (PR (.ref a) h) := by
  refine Ct.of (by decide) (Nat.le_of_ble_eq_true rfl) (cat1 rfl) (fun X hXl F HN => ?_)
  subst hXl
  refine V_aload_n (i := 0) F dJ6_toString_0 rfl rfl ?_
  exact V_aret F dJ6_toString_1 (Or.inl ⟨_, rfl⟩) (Or.inr ⟨_, rfl⟩) (by first | exact Nat.le_of_ble_eq_true rfl | omega) (by first | exact Nat.le_of_ble_eq_true rfl | omega) ⟨rfl, rfl⟩
theorem nI_ge0 {n : Nat} (h : n < 2 ^ 31) : (0 : Int32) ≤ nI n := by
  rw [Int32.le_iff_toInt_le, nI_toInt h]
  exact Int.natCast_nonneg n
theorem ct_J20_indexOf2 {G : GG} {l : Launch} {h : AH} {v1 v2 : Nat} {l1 l2 : List Nat} {c1 c2 : Nat → Nat}  (p1 : rd G h v1 (byA G l1.length c1)) (p2 : rd G h v2 (byA G l2.length c2)) (b1 : begW c1 l1) (b2 : begW c2 l2) (a1 : asc l1) (a2 : asc l2) (hn : l1.length < 1000) (hl0 : 0 < l2.length) (h12 : l2.length ≤ l1.length) : Ct G l yJ20_indexOf_2 cJ20_indexOf_2 11 (some .int) 0 (0) (0) [.ref v1, .int (nI l1.length), .ref v2, .int (nI l2.length), .int (nI 0)] h (fun r h2 => h = h2 ∧ ∃ v : Int32, r = some (.int v) ∧ (0 ≤ v ↔ subW l1 l2)) := by
  refine Ct.of (by decide) (Nat.le_of_ble_eq_true rfl) (cat1 rfl) (fun X hXl F HN => ?_)
  subst hXl
  refine V_aload_n (i := 2) F dJ20_indexOf_2_0 rfl rfl ?_
  refine V_iconst (v := nI 0) F dJ20_indexOf_2_1 rfl ?_
  refine V_baldS F dJ20_indexOf_2_2 p2 hl0 (by omega) (b2 0 hl0) (asc.getD a2 hl0) ?_
  refine V_istore (i := 5) F dJ20_indexOf_2_3 (Nat.le_of_ble_eq_true rfl) (Nat.le_of_ble_eq_true rfl) ?_
  refine V_iload_n (i := 1) F dJ20_indexOf_2_5 rfl rfl ?_
  refine V_iload_n (i := 3) F dJ20_indexOf_2_6 rfl rfl ?_
  refine V_isubN F dJ20_indexOf_2_7 h12 ?_
  refine V_istore (i := 6) F dJ20_indexOf_2_8 (Nat.le_of_ble_eq_true rfl) (Nat.le_of_ble_eq_true rfl) ?_
  refine V_iload (i := 4) F dJ20_indexOf_2_10 rfl ?_
  refine V_istore (i := 7) F dJ20_indexOf_2_12 (Nat.le_of_ble_eq_true rfl) (Nat.le_of_ble_eq_true rfl) ?_
  have loop_14 : ∀ (nn : Nat) (i : Nat), l1.length + 3 - i < nn → i ≤ l1.length - l2.length + 2 → (∀ k, k < i → ¬ matW l1 l2 k) → VV G X 11 ((EQ G X (0) (0) (fun r h2 => h = h2 ∧ ∃ v : Int32, r = some (.int v) ∧ (0 ≤ v ↔ subW l1 l2)))) h (0) (0) [some (.ref (v1)), some (.int (nI (l1.length))), some (.ref (v2)), some (.int (nI (l2.length))), some (.int (nI (0))), some (.int (nI (l2.getD 0 0))), some (.int (nI (l1.length - l2.length))), some (.int (nI (i))), none, none, none] [] 14 := by
    intro nn
    induction nn with
    | zero => intro i hm hix hno; exact absurd hm (by omega)
    | succ nn ih_14 =>
      intro i hm hix hno
      refine V_iload (i := 7) F dJ20_indexOf_2_14 rfl ?_
      refine V_iload (i := 6) F dJ20_indexOf_2_16 rfl ?_
      refine V_icmp_gtN (tgt := 119) F dJ20_indexOf_2_18 (by decide) (by omega) (by omega) (fun c_18 => ?_) (fun c_18 => ?_)
      · refine V_iconst (v := -1) F dJ20_indexOf_2_119 rfl ?_
        exact V_iret F dJ20_indexOf_2_120 rfl (by first | exact Nat.le_of_ble_eq_true rfl | omega) (by first | exact Nat.le_of_ble_eq_true rfl | omega) ⟨rfl, -1, rfl, fun z => absurd z (by decide), fun z => absurd z (noM_end hno h12 (by omega))⟩
      · refine V_aload_n (i := 0) F dJ20_indexOf_2_21 rfl rfl ?_
        refine V_iload (i := 7) F dJ20_indexOf_2_22 rfl ?_
        refine V_baldS F dJ20_indexOf_2_24 p1 (by omega) (by omega) (b1 _ (by omega)) (asc.getD a1 (by omega)) ?_
        refine V_iload (i := 5) F dJ20_indexOf_2_25 rfl ?_
        refine V_icmp_eqN (tgt := 52) F dJ20_indexOf_2_27 (by decide) (by have := asc.getD a1 (show i < l1.length by omega); omega) (by have := asc.getD a2 hl0; omega) (fun c_27 => ?_) (fun c_27 => ?_)
        · refine V_iload (i := 7) F dJ20_indexOf_2_52 rfl ?_
          refine V_iload (i := 6) F dJ20_indexOf_2_54 rfl ?_
          refine V_icmp_gtN (tgt := 113) F dJ20_indexOf_2_56 (by decide) (by omega) (by omega) (fun c_56 => absurd c_56 (by omega)) (fun c_56 => ?_)
          refine V_iload (i := 7) F dJ20_indexOf_2_59 rfl ?_
          refine V_iconst (v := nI 1) F dJ20_indexOf_2_61 rfl ?_
          refine V_iaddN F dJ20_indexOf_2_62 ?_
          refine V_istore (i := 8) F dJ20_indexOf_2_63 (Nat.le_of_ble_eq_true rfl) (Nat.le_of_ble_eq_true rfl) ?_
          refine V_iload (i := 8) F dJ20_indexOf_2_65 rfl ?_
          refine V_iload_n (i := 3) F dJ20_indexOf_2_67 rfl rfl ?_
          refine V_iaddN F dJ20_indexOf_2_68 ?_
          refine V_iconst (v := nI 1) F dJ20_indexOf_2_69 rfl ?_
          refine V_isubN F dJ20_indexOf_2_70 (by omega) ?_
          refine V_istore (i := 9) F dJ20_indexOf_2_71 (Nat.le_of_ble_eq_true rfl) (Nat.le_of_ble_eq_true rfl) ?_
          refine V_iconst (v := nI 1) F dJ20_indexOf_2_73 rfl ?_
          refine V_istore (i := 10) F dJ20_indexOf_2_74 (Nat.le_of_ble_eq_true rfl) (Nat.le_of_ble_eq_true rfl) ?_
          have loop_76 : ∀ (nn : Nat) (j : Nat), l2.length + 1 - j < nn → 1 ≤ j → j ≤ l2.length → (∀ k, k < j → l1.getD (i + k) 0 = l2.getD k 0) → VV G X 11 ((EQ G X (0) (0) (fun r h2 => h = h2 ∧ ∃ v : Int32, r = some (.int v) ∧ (0 ≤ v ↔ subW l1 l2)))) h (0) (0) [some (.ref (v1)), some (.int (nI (l1.length))), some (.ref (v2)), some (.int (nI (l2.length))), some (.int (nI (0))), some (.int (nI (l2.getD 0 0))), some (.int (nI (l1.length - l2.length))), some (.int (nI (i))), some (.int (nI (i + j))), some (.int (nI (((i + 1) + l2.length) - 1))), some (.int (nI (j)))] [] 76 := by
            intro nn
            induction nn with
            | zero => intro j hm3 h1j hjl hmt; exact absurd hm3 (by omega)
            | succ nn ih_76 =>
              intro j hm3 h1j hjl hmt
              refine V_iload (i := 8) F dJ20_indexOf_2_76 rfl ?_
              refine V_iload (i := 9) F dJ20_indexOf_2_78 rfl ?_
              refine V_icmp_geN (tgt := 103) F dJ20_indexOf_2_80 (by decide) (by omega) (by omega) (fun c_80 => ?_) (fun c_80 => ?_)
              · refine V_iload (i := 8) F dJ20_indexOf_2_103 rfl ?_
                refine V_iload (i := 9) F dJ20_indexOf_2_105 rfl ?_
                refine V_icmp_neN (tgt := 113) F dJ20_indexOf_2_107 (by decide) (by omega) (by omega) (fun c_107 => absurd c_107 (by omega)) (fun c_107 => ?_)
                refine V_iload (i := 7) F dJ20_indexOf_2_110 rfl ?_
                exact V_iret F dJ20_indexOf_2_112 rfl (by first | exact Nat.le_of_ble_eq_true rfl | omega) (by first | exact Nat.le_of_ble_eq_true rfl | omega) ⟨rfl, _, rfl, fun _ => ⟨i, by omega, fun k hk => hmt k (by omega)⟩, fun _ => nI_ge0 (by omega)⟩
              · refine V_aload_n (i := 0) F dJ20_indexOf_2_83 rfl rfl ?_
                refine V_iload (i := 8) F dJ20_indexOf_2_84 rfl ?_
                refine V_baldS F dJ20_indexOf_2_86 p1 (by omega) (by omega) (b1 _ (by omega)) (asc.getD a1 (by omega)) ?_
                refine V_aload_n (i := 2) F dJ20_indexOf_2_87 rfl rfl ?_
                refine V_iload (i := 10) F dJ20_indexOf_2_88 rfl ?_
                refine V_baldS F dJ20_indexOf_2_90 p2 (by omega) (by omega) (b2 _ (by omega)) (asc.getD a2 (by omega)) ?_
                have HXJ : i + j < l1.length := by omega
                refine V_icmp_neN (tgt := 103) F dJ20_indexOf_2_91 (by decide) (by have := asc.getD a1 (show _ < l1.length from HXJ); omega) (by have := asc.getD a2 (show j < l2.length by omega); omega) (fun c_91 => ?_) (fun c_91 => ?_)
                · refine V_iload (i := 8) F dJ20_indexOf_2_103 rfl ?_
                  refine V_iload (i := 9) F dJ20_indexOf_2_105 rfl ?_
                  refine V_icmp_neN (tgt := 113) F dJ20_indexOf_2_107 (by decide) (by omega) (by omega) (fun c_107 => ?_) (fun c_107 => absurd c_107 (by omega))
                  refine V_iinc (i := 7) (v := nI (i + 1)) F dJ20_indexOf_2_113 rfl (nI_add (i) 1) (Nat.le_of_ble_eq_true rfl) ?_
                  refine V_goto (tgt := 14) F dJ20_indexOf_2_116 (by decide) ?_
                  refine VV.weak (L' := [some (.ref (v1)), some (.int (nI (l1.length))), some (.ref (v2)), some (.int (nI (l2.length))), some (.int (nI (0))), some (.int (nI (l2.getD 0 0))), some (.int (nI (l1.length - l2.length))), some (.int (nI (i + 1))), none, none, none]) (LW.c1 (LW.c1 (LW.c1 (LW.c1 (LW.c1 (LW.c1 (LW.c1 (LW.c1 (LW.c0 (LW.c0 (LW.c0 LW.nil))))))))))) ?_
                  exact ih_14 (i + 1) (by omega) (by omega) (noM_step hno (fun m => c_91 (m.2 j (by omega))))
                · refine V_iinc (i := 8) (v := nI (i + j + 1)) F dJ20_indexOf_2_94 rfl (nI_add (i + j) 1) (Nat.le_of_ble_eq_true rfl) ?_
                  refine V_iinc (i := 10) (v := nI (j + 1)) F dJ20_indexOf_2_97 rfl (nI_add (j) 1) (Nat.le_of_ble_eq_true rfl) ?_
                  refine V_goto (tgt := 76) F dJ20_indexOf_2_100 (by decide) ?_
                  exact ih_76 (j + 1) (by omega) (by omega) (by omega) (fun k hk => by
                    by_cases q : k = j
                    · subst q; exact c_91
                    · exact hmt k (by omega))
          refine VV.weak (L' := [some (.ref (v1)), some (.int (nI (l1.length))), some (.ref (v2)), some (.int (nI (l2.length))), some (.int (nI (0))), some (.int (nI (l2.getD 0 0))), some (.int (nI (l1.length - l2.length))), some (.int (nI (i))), some (.int (nI (i + 1))), some (.int (nI (((i + 1) + l2.length) - 1))), some (.int (nI (1)))]) (LW.c1 (LW.c1 (LW.c1 (LW.c1 (LW.c1 (LW.c1 (LW.c1 (LW.c1 (LW.c1 (LW.c1 (LW.c1 LW.nil))))))))))) ?_
          exact loop_76 (l2.length + 2) 1 (by omega) (Nat.le_refl _) (by omega) (fun k hk => by
            have e : k = 0 := by omega
            subst e; exact c_27)
        · have loop_30 : ∀ (nn : Nat) (i2 : Nat), l1.length + 3 - i2 < nn → i ≤ i2 → i2 ≤ l1.length - l2.length → (∀ k, k ≤ i2 → ¬ matW l1 l2 k) → VV G X 11 ((EQ G X (0) (0) (fun r h2 => h = h2 ∧ ∃ v : Int32, r = some (.int v) ∧ (0 ≤ v ↔ subW l1 l2)))) h (0) (0) [some (.ref (v1)), some (.int (nI (l1.length))), some (.ref (v2)), some (.int (nI (l2.length))), some (.int (nI (0))), some (.int (nI (l2.getD 0 0))), some (.int (nI (l1.length - l2.length))), some (.int (nI (i2))), none, none, none] [] 30 := by
            intro nn
            induction nn with
            | zero => intro i2 hm2 hii hmx hno2; exact absurd hm2 (by omega)
            | succ nn ih_30 =>
              intro i2 hm2 hii hmx hno2
              refine V_iinc (i := 7) (v := nI (i2 + 1)) F dJ20_indexOf_2_30 rfl (nI_add (i2) 1) (Nat.le_of_ble_eq_true rfl) ?_
              refine V_iload (i := 7) F dJ20_indexOf_2_33 rfl ?_
              refine V_iload (i := 6) F dJ20_indexOf_2_35 rfl ?_
              refine V_icmp_gtN (tgt := 52) F dJ20_indexOf_2_37 (by decide) (by omega) (by omega) (fun c_37 => ?_) (fun c_37 => ?_)
              · refine V_iload (i := 7) F dJ20_indexOf_2_52 rfl ?_
                refine V_iload (i := 6) F dJ20_indexOf_2_54 rfl ?_
                refine V_icmp_gtN (tgt := 113) F dJ20_indexOf_2_56 (by decide) (by omega) (by omega) (fun c_56 => ?_) (fun c_56 => absurd c_56 (by omega))
                refine V_iinc (i := 7) (v := nI (i2 + 1 + 1)) F dJ20_indexOf_2_113 rfl (nI_add (i2 + 1) 1) (Nat.le_of_ble_eq_true rfl) ?_
                refine V_goto (tgt := 14) F dJ20_indexOf_2_116 (by decide) ?_
                refine VV.weak (L' := [some (.ref (v1)), some (.int (nI (l1.length))), some (.ref (v2)), some (.int (nI (l2.length))), some (.int (nI (0))), some (.int (nI (l2.getD 0 0))), some (.int (nI (l1.length - l2.length))), some (.int (nI (i2 + 1 + 1))), none, none, none]) (LW.c1 (LW.c1 (LW.c1 (LW.c1 (LW.c1 (LW.c1 (LW.c1 (LW.c1 (LW.c0 (LW.c0 (LW.c0 LW.nil))))))))))) ?_
                exact ih_14 (i2 + 1 + 1) (by omega) (by omega) (noM_step (fun k hk => hno2 k (by omega)) (noM_big h12 (by omega)))
              · refine V_aload_n (i := 0) F dJ20_indexOf_2_40 rfl rfl ?_
                refine V_iload (i := 7) F dJ20_indexOf_2_41 rfl ?_
                refine V_baldS F dJ20_indexOf_2_43 p1 (by omega) (by omega) (b1 _ (by omega)) (asc.getD a1 (by omega)) ?_
                refine V_iload (i := 5) F dJ20_indexOf_2_44 rfl ?_
                refine V_icmp_eqN (tgt := 52) F dJ20_indexOf_2_46 (by decide) (by have := asc.getD a1 (show i2 + 1 < l1.length by omega); omega) (by have := asc.getD a2 hl0; omega) (fun c_46 => ?_) (fun c_46 => ?_)
                · refine V_iload (i := 7) F dJ20_indexOf_2_52 rfl ?_
                  refine V_iload (i := 6) F dJ20_indexOf_2_54 rfl ?_
                  refine V_icmp_gtN (tgt := 113) F dJ20_indexOf_2_56 (by decide) (by omega) (by omega) (fun c_56 => absurd c_56 (by omega)) (fun c_56 => ?_)
                  refine V_iload (i := 7) F dJ20_indexOf_2_59 rfl ?_
                  refine V_iconst (v := nI 1) F dJ20_indexOf_2_61 rfl ?_
                  refine V_iaddN F dJ20_indexOf_2_62 ?_
                  refine V_istore (i := 8) F dJ20_indexOf_2_63 (Nat.le_of_ble_eq_true rfl) (Nat.le_of_ble_eq_true rfl) ?_
                  refine V_iload (i := 8) F dJ20_indexOf_2_65 rfl ?_
                  refine V_iload_n (i := 3) F dJ20_indexOf_2_67 rfl rfl ?_
                  refine V_iaddN F dJ20_indexOf_2_68 ?_
                  refine V_iconst (v := nI 1) F dJ20_indexOf_2_69 rfl ?_
                  refine V_isubN F dJ20_indexOf_2_70 (by omega) ?_
                  refine V_istore (i := 9) F dJ20_indexOf_2_71 (Nat.le_of_ble_eq_true rfl) (Nat.le_of_ble_eq_true rfl) ?_
                  refine V_iconst (v := nI 1) F dJ20_indexOf_2_73 rfl ?_
                  refine V_istore (i := 10) F dJ20_indexOf_2_74 (Nat.le_of_ble_eq_true rfl) (Nat.le_of_ble_eq_true rfl) ?_
                  have loop_76 : ∀ (nn : Nat) (j : Nat), l2.length + 1 - j < nn → 1 ≤ j → j ≤ l2.length → (∀ k, k < j → l1.getD (i2 + 1 + k) 0 = l2.getD k 0) → VV G X 11 ((EQ G X (0) (0) (fun r h2 => h = h2 ∧ ∃ v : Int32, r = some (.int v) ∧ (0 ≤ v ↔ subW l1 l2)))) h (0) (0) [some (.ref (v1)), some (.int (nI (l1.length))), some (.ref (v2)), some (.int (nI (l2.length))), some (.int (nI (0))), some (.int (nI (l2.getD 0 0))), some (.int (nI (l1.length - l2.length))), some (.int (nI (i2 + 1))), some (.int (nI (i2 + 1 + j))), some (.int (nI ((((i2 + 1) + 1) + l2.length) - 1))), some (.int (nI (j)))] [] 76 := by
                    intro nn
                    induction nn with
                    | zero => intro j hm3 h1j hjl hmt; exact absurd hm3 (by omega)
                    | succ nn ih_76 =>
                      intro j hm3 h1j hjl hmt
                      refine V_iload (i := 8) F dJ20_indexOf_2_76 rfl ?_
                      refine V_iload (i := 9) F dJ20_indexOf_2_78 rfl ?_
                      refine V_icmp_geN (tgt := 103) F dJ20_indexOf_2_80 (by decide) (by omega) (by omega) (fun c_80 => ?_) (fun c_80 => ?_)
                      · refine V_iload (i := 8) F dJ20_indexOf_2_103 rfl ?_
                        refine V_iload (i := 9) F dJ20_indexOf_2_105 rfl ?_
                        refine V_icmp_neN (tgt := 113) F dJ20_indexOf_2_107 (by decide) (by omega) (by omega) (fun c_107 => absurd c_107 (by omega)) (fun c_107 => ?_)
                        refine V_iload (i := 7) F dJ20_indexOf_2_110 rfl ?_
                        exact V_iret F dJ20_indexOf_2_112 rfl (by first | exact Nat.le_of_ble_eq_true rfl | omega) (by first | exact Nat.le_of_ble_eq_true rfl | omega) ⟨rfl, _, rfl, fun _ => ⟨i2 + 1, by omega, fun k hk => hmt k (by omega)⟩, fun _ => nI_ge0 (by omega)⟩
                      · refine V_aload_n (i := 0) F dJ20_indexOf_2_83 rfl rfl ?_
                        refine V_iload (i := 8) F dJ20_indexOf_2_84 rfl ?_
                        refine V_baldS F dJ20_indexOf_2_86 p1 (by omega) (by omega) (b1 _ (by omega)) (asc.getD a1 (by omega)) ?_
                        refine V_aload_n (i := 2) F dJ20_indexOf_2_87 rfl rfl ?_
                        refine V_iload (i := 10) F dJ20_indexOf_2_88 rfl ?_
                        refine V_baldS F dJ20_indexOf_2_90 p2 (by omega) (by omega) (b2 _ (by omega)) (asc.getD a2 (by omega)) ?_
                        have HXJ : i2 + 1 + j < l1.length := by omega
                        refine V_icmp_neN (tgt := 103) F dJ20_indexOf_2_91 (by decide) (by have := asc.getD a1 (show _ < l1.length from HXJ); omega) (by have := asc.getD a2 (show j < l2.length by omega); omega) (fun c_91 => ?_) (fun c_91 => ?_)
                        · refine V_iload (i := 8) F dJ20_indexOf_2_103 rfl ?_
                          refine V_iload (i := 9) F dJ20_indexOf_2_105 rfl ?_
                          refine V_icmp_neN (tgt := 113) F dJ20_indexOf_2_107 (by decide) (by omega) (by omega) (fun c_107 => ?_) (fun c_107 => absurd c_107 (by omega))
                          refine V_iinc (i := 7) (v := nI (i2 + 1 + 1)) F dJ20_indexOf_2_113 rfl (nI_add (i2 + 1) 1) (Nat.le_of_ble_eq_true rfl) ?_
                          refine V_goto (tgt := 14) F dJ20_indexOf_2_116 (by decide) ?_
                          refine VV.weak (L' := [some (.ref (v1)), some (.int (nI (l1.length))), some (.ref (v2)), some (.int (nI (l2.length))), some (.int (nI (0))), some (.int (nI (l2.getD 0 0))), some (.int (nI (l1.length - l2.length))), some (.int (nI (i2 + 1 + 1))), none, none, none]) (LW.c1 (LW.c1 (LW.c1 (LW.c1 (LW.c1 (LW.c1 (LW.c1 (LW.c1 (LW.c0 (LW.c0 (LW.c0 LW.nil))))))))))) ?_
                          exact ih_14 (i2 + 1 + 1) (by omega) (by omega) (noM_step (fun k hk => hno2 k (by omega)) (fun m => c_91 (m.2 j (by omega))))
                        · refine V_iinc (i := 8) (v := nI (i2 + 1 + j + 1)) F dJ20_indexOf_2_94 rfl (nI_add (i2 + 1 + j) 1) (Nat.le_of_ble_eq_true rfl) ?_
                          refine V_iinc (i := 10) (v := nI (j + 1)) F dJ20_indexOf_2_97 rfl (nI_add (j) 1) (Nat.le_of_ble_eq_true rfl) ?_
                          refine V_goto (tgt := 76) F dJ20_indexOf_2_100 (by decide) ?_
                          exact ih_76 (j + 1) (by omega) (by omega) (by omega) (fun k hk => by
                            by_cases q : k = j
                            · subst q; exact c_91
                            · exact hmt k (by omega))
                  refine VV.weak (L' := [some (.ref (v1)), some (.int (nI (l1.length))), some (.ref (v2)), some (.int (nI (l2.length))), some (.int (nI (0))), some (.int (nI (l2.getD 0 0))), some (.int (nI (l1.length - l2.length))), some (.int (nI (i2 + 1))), some (.int (nI ((i2 + 1) + 1))), some (.int (nI ((((i2 + 1) + 1) + l2.length) - 1))), some (.int (nI (1)))]) (LW.c1 (LW.c1 (LW.c1 (LW.c1 (LW.c1 (LW.c1 (LW.c1 (LW.c1 (LW.c1 (LW.c1 (LW.c1 LW.nil))))))))))) ?_
                  exact loop_76 (l2.length + 2) 1 (by omega) (Nat.le_refl _) (by omega) (fun k hk => by
                    have e : k = 0 := by omega
                    subst e; exact c_46)
                · refine V_goto (tgt := 30) F dJ20_indexOf_2_49 (by decide) ?_
                  refine VV.weak (L' := [some (.ref (v1)), some (.int (nI (l1.length))), some (.ref (v2)), some (.int (nI (l2.length))), some (.int (nI (0))), some (.int (nI (l2.getD 0 0))), some (.int (nI (l1.length - l2.length))), some (.int (nI (i2 + 1))), none, none, none]) (LW.c1 (LW.c1 (LW.c1 (LW.c1 (LW.c1 (LW.c1 (LW.c1 (LW.c1 (LW.c0 (LW.c0 (LW.c0 LW.nil))))))))))) ?_
                  exact ih_30 (i2 + 1) (by omega) (by omega) (by omega) (fun k hk => by
                    by_cases q : k = i2 + 1
                    · subst q; exact matW.no0 hl0 c_46
                    · exact hno2 k (by omega))
          refine VV.weak (L' := [some (.ref (v1)), some (.int (nI (l1.length))), some (.ref (v2)), some (.int (nI (l2.length))), some (.int (nI (0))), some (.int (nI (l2.getD 0 0))), some (.int (nI (l1.length - l2.length))), some (.int (nI (i))), none, none, none]) (LW.c1 (LW.c1 (LW.c1 (LW.c1 (LW.c1 (LW.c1 (LW.c1 (LW.c1 (LW.c0 (LW.c0 (LW.c0 LW.nil))))))))))) ?_
          exact loop_30 (l1.length + 4) i (by omega) (Nat.le_refl _) (by omega) (fun k hk => by
            by_cases q : k = i
            · subst q; exact matW.no0 hl0 c_27
            · exact hno k (by omega))
  refine VV.weak (L' := [some (.ref (v1)), some (.int (nI (l1.length))), some (.ref (v2)), some (.int (nI (l2.length))), some (.int (nI (0))), some (.int (nI (l2.getD 0 0))), some (.int (nI (l1.length - l2.length))), some (.int (nI (0))), none, none, none]) (LW.c1 (LW.c1 (LW.c1 (LW.c1 (LW.c1 (LW.c1 (LW.c1 (LW.c1 (LW.c0 (LW.c0 (LW.c0 LW.nil))))))))))) ?_
  exact loop_14 (l1.length + 4) 0 (by omega) (by omega) (fun k hk => absurd hk (Nat.not_lt_zero k))
theorem ct_J20_indexOf {G : GG} {l : Launch} {h : AH} {v1 v2 : Nat} {l1 l2 : List Nat} {c1 c2 : Nat → Nat}  (p1 : rd G h v1 (byA G l1.length c1)) (p2 : rd G h v2 (byA G l2.length c2)) (b1 : begW c1 l1) (b2 : begW c2 l2) (a1 : asc l1) (a2 : asc l2) (hn : l1.length < 1000) (hl0 : 0 < l2.length) (h12 : l2.length ≤ l1.length) : Ct G l yJ20_indexOf cJ20_indexOf 2 (some .int) 1 (0) (0) [.ref v1, .ref v2] h (fun r h2 => h = h2 ∧ ∃ v : Int32, r = some (.int v) ∧ (0 ≤ v ↔ subW l1 l2)) := by
  refine Ct.of (by decide) (Nat.le_of_ble_eq_true rfl) (cat1 rfl) (fun X hXl F HN => ?_)
  subst hXl
  refine V_aload_n (i := 1) F dJ20_indexOf_0 rfl rfl ?_
  refine V_alen (v := nI l2.length) F 5 dJ20_indexOf_1 rfl p2 rfl ?_
  refine V_if_neN (tgt := 7) F dJ20_indexOf_2 (by decide) (by omega) (fun c_2 => ?_) (fun c_2 => absurd c_2 (by omega))
  refine V_aload_n (i := 0) F dJ20_indexOf_7 rfl rfl ?_
  refine V_alen (v := nI l1.length) F 5 dJ20_indexOf_8 rfl p1 rfl ?_
  refine V_if_neN (tgt := 14) F dJ20_indexOf_9 (by decide) (by omega) (fun c_9 => ?_) (fun c_9 => absurd c_9 (by omega))
  refine V_aload_n (i := 0) F dJ20_indexOf_14 rfl rfl ?_
  refine V_aload_n (i := 0) F dJ20_indexOf_15 rfl rfl ?_
  refine V_alen (v := nI l1.length) F 5 dJ20_indexOf_16 rfl p1 rfl ?_
  refine V_aload_n (i := 1) F dJ20_indexOf_17 rfl rfl ?_
  refine V_aload_n (i := 1) F dJ20_indexOf_18 rfl rfl ?_
  refine V_alen (v := nI l2.length) F 5 dJ20_indexOf_19 rfl p2 rfl ?_
  refine V_iconst (v := nI 0) F dJ20_indexOf_20 rfl ?_
  refine V_callS (st := []) (nn := 5) F dJ20_indexOf_21 lk_J20_99 (ct_J20_indexOf2 p1 p2 b1 b2 a1 a2 hn hl0 h12) rfl rfl (Nat.le_of_ble_eq_true rfl) (Nat.le_of_ble_eq_true rfl) (Nat.le_of_ble_eq_true rfl) (by omega) (by omega) ?_
  rintro _ _ ⟨rfl, v9, rfl, hv9⟩
  exact V_iret F dJ20_indexOf_24 rfl (by first | exact Nat.le_of_ble_eq_true rfl | omega) (by first | exact Nat.le_of_ble_eq_true rfl | omega) ⟨rfl, v9, rfl, hv9⟩
theorem ct_J6_indexOf {G : GG} {l : Launch} {h : AH} {a b : Nat} {l1 l2 : List Nat}  (hS : STR G h a l1) (hS2 : STR G h b l2) (hl0 : 0 < l2.length) (h12 : l2.length ≤ l1.length) : Ct G l yJ6_indexOf cJ6_indexOf 3 (some .int) 2 (0) (0) [.ref a, .ref b] h (fun r h2 => h = h2 ∧ ∃ v : Int32, r = some (.int v) ∧ (0 ≤ v ↔ subW l1 l2)) := by
  refine Ct.of (by decide) (Nat.le_of_ble_eq_true rfl) (cat1 rfl) (fun X hXl F HN => ?_)
  subst hXl
  obtain ⟨v1, ha, hz, c1, q1, q2, q3, q4, q5, q6, q7⟩ := id hS
  obtain ⟨v2, ha2, hz2, c2, p1, p2, p3, p4, p5, p6, p7⟩ := id hS2
  refine V_aload_n (i := 0) F dJ6_indexOf_0 rfl rfl ?_
  refine V_callV (st := []) (nn := 0) F dJ6_indexOf_1 lk_J6_335 (ct_J6_coder q1 q2 q3 (by omega)) ⟨22, _, _, _, rfl, q1⟩ rfl rfl (Nat.le_of_ble_eq_true rfl) (Nat.le_of_ble_eq_true rfl) (Nat.le_of_ble_eq_true rfl) (by omega) (by omega) ?_
  refine PRk ?_
  refine V_istore_n (i := 2) F dJ6_indexOf_4 rfl (Nat.le_of_ble_eq_true rfl) (Nat.le_of_ble_eq_true rfl) ?_
  refine V_iload_n (i := 2) F dJ6_indexOf_5 rfl rfl ?_
  refine V_aload_n (i := 1) F dJ6_indexOf_6 rfl rfl ?_
  refine V_callV (st := [.int (nI (0))]) (nn := 0) F dJ6_indexOf_7 lk_J6_335 (ct_J6_coder p1 p2 p3 (by omega)) ⟨22, _, _, _, rfl, p1⟩ rfl rfl (Nat.le_of_ble_eq_true rfl) (Nat.le_of_ble_eq_true rfl) (Nat.le_of_ble_eq_true rfl) (by omega) (by omega) ?_
  refine PRk ?_
  refine V_icmp_neN (tgt := 46) F dJ6_indexOf_10 (by decide) (by decide) (by decide) (fun c_10 => absurd c_10 (fun z => z rfl)) (fun c_10 => ?_)
  refine V_aload_n (i := 0) F dJ6_indexOf_13 rfl rfl ?_
  refine V_callV (st := []) (nn := 0) F dJ6_indexOf_14 lk_J6_492 (ct_J6_isLatin1 q1 q2 q3 (by omega)) ⟨22, _, _, _, rfl, q1⟩ rfl rfl (Nat.le_of_ble_eq_true rfl) (Nat.le_of_ble_eq_true rfl) (Nat.le_of_ble_eq_true rfl) (by omega) (by omega) ?_
  refine PRk ?_
  refine V_if_eqN (tgt := 34) F dJ6_indexOf_17 (by decide) (by omega) (fun c_17 => absurd c_17 (by decide)) (fun c_17 => ?_)
  refine V_aload_n (i := 0) F dJ6_indexOf_20 rfl rfl ?_
  refine V_getf F dJ6_indexOf_21 fc_J6_9_J6 q1 rfl ?_
  refine V_aload_n (i := 1) F dJ6_indexOf_24 rfl rfl ?_
  refine V_getf F dJ6_indexOf_25 fc_J6_9_J6 p1 rfl ?_
  refine V_callS (st := []) (nn := 2) F dJ6_indexOf_28 lk_J6_647 (ct_J20_indexOf q2 p2 q4 p4 q5 p5 (by omega) hl0 h12) rfl rfl (Nat.le_of_ble_eq_true rfl) (Nat.le_of_ble_eq_true rfl) (Nat.le_of_ble_eq_true rfl) (by omega) (by omega) ?_
  rintro _ _ ⟨rfl, v9, rfl, hv9⟩
  refine V_goto (tgt := 45) F dJ6_indexOf_31 (by decide) ?_
  exact V_iret F dJ6_indexOf_45 rfl (by first | exact Nat.le_of_ble_eq_true rfl | omega) (by first | exact Nat.le_of_ble_eq_true rfl | omega) ⟨rfl, v9, rfl, hv9⟩
theorem ct_J6_contains {G : GG} {l : Launch} {h : AH} {a b : Nat} {l1 l2 : List Nat}  (hS : STR G h a l1) (hS2 : STR G h b l2) (hl0 : 0 < l2.length) (h12 : l2.length ≤ l1.length) : Ct G l yJ6_contains cJ6_contains 2 (some .boolean) 3 (0) (0) [.ref a, .ref b] h (PR (.int (b2 (subB l1 l2 = true))) h) := by
  refine Ct.of (by decide) (Nat.le_of_ble_eq_true rfl) (cat1 rfl) (fun X hXl F HN => ?_)
  subst hXl
  refine V_aload_n (i := 0) F dJ6_contains_0 rfl rfl ?_
  refine V_aload_n (i := 1) F dJ6_contains_1 rfl rfl ?_
  refine V_callF (st := [.ref (a)]) (nn := 0) F dJ6_contains_2 ⟨lw_F q3531 q3535 q3516 q108 q3517, ⟨q3533, List.mem_append_left _ q3532, q3537, q3536, q3534⟩, (by decide +kernel), (by decide +kernel)⟩ (ct_J6_toString) hS2.isC rfl rfl (Nat.le_of_ble_eq_true rfl) (Nat.le_of_ble_eq_true rfl) (Nat.le_of_ble_eq_true rfl) (by omega) (by omega) ?_
  refine PRk ?_
  refine V_callV (st := []) (nn := 1) F dJ6_contains_7 lk_J6_711 (ct_J6_indexOf hS hS2 hl0 h12) hS.isC rfl rfl (Nat.le_of_ble_eq_true rfl) (Nat.le_of_ble_eq_true rfl) (Nat.le_of_ble_eq_true rfl) (by omega) (by omega) ?_
  rintro _ _ ⟨rfl, v9, rfl, hv9⟩
  refine V_if_lt (tgt := 17) F dJ6_contains_10 (by decide) (fun c_10 => ?_) (fun c_10 => ?_)
  · refine V_iconst (v := nI 0) F dJ6_contains_17 rfl ?_
    exact V_iret F dJ6_contains_18 rfl (by first | exact Nat.le_of_ble_eq_true rfl | omega) (by first | exact Nat.le_of_ble_eq_true rfl | omega) ⟨by rw [b2_f (fun z => absurd (Int32.lt_of_lt_of_le c_10 (hv9.mpr (subB_iff.mp z))) (Int32.lt_irrefl))] <;> rfl, rfl⟩
  · refine V_iconst (v := nI 1) F dJ6_contains_13 rfl ?_
    refine V_goto (tgt := 18) F dJ6_contains_14 (by decide) ?_
    exact V_iret F dJ6_contains_18 rfl (by first | exact Nat.le_of_ble_eq_true rfl | omega) (by first | exact Nat.le_of_ble_eq_true rfl | omega) ⟨by rw [b2_t (subB_iff.mpr (hv9.mp (Int32.not_lt.mp c_10)))] <;> rfl, rfl⟩
theorem ct_J6_valueOf {G : GG} {l : Launch} {h : AH} {s b N : Nat} {l0 : List Nat}  (hS : SBs G h s b N l0) (hl2 : l0.length ≤ 200) : Ct G l yJ6_valueOf cJ6_valueOf 1 (some (.object "java/lang/String")) 6 (2) (210) [.ref s] h (fun r h2 => ∃ o, r = some (.ref o) ∧ h o = none ∧ STR G h2 o l0 ∧ (∃ v, h v = none ∧ ∃ hs hz c, h2 o = some (.inr (22, [.ref v, .int (nI 0), .int hs, .int hz])) ∧ h2 v = some (byA G l0.length c) ∧ by8 c ∧ begW c l0) ∧ Fr nM h h2) := by
  refine Ct.of (by decide) (Nat.le_of_ble_eq_true rfl) (cat1 rfl) (fun X hXl F HN => ?_)
  subst hXl
  refine V_aload_n (i := 0) F dJ6_valueOf_0 rfl rfl ?_
  refine V_ifnonnull (tgt := 10) F dJ6_valueOf_1 (by decide) ?_
  refine V_aload_n (i := 0) F dJ6_valueOf_10 rfl rfl ?_
  refine V_callU (st := []) (nn := 0) F dJ6_valueOf_11 ⟨lw_U q3467 q3469 q3518 q704 q107 q706, q3466, (by decide +kernel)⟩ (ct_J5_toString hS hl2) hS.isC rfl rfl (Nat.le_of_ble_eq_true rfl) (Nat.le_of_ble_eq_true rfl) (Nat.le_of_ble_eq_true rfl) (by omega) (by omega) ?_
  rintro _ h2 ⟨o, rfl, ho, hS2, hv2, hx2⟩
  exact V_aret F dJ6_valueOf_14 (Or.inl ⟨_, rfl⟩) (Or.inr ⟨_, rfl⟩) (by first | exact Nat.le_of_ble_eq_true rfl | omega) (by first | exact Nat.le_of_ble_eq_true rfl | omega) ⟨o, rfl, ho, hS2, hv2, hx2⟩
theorem ct_J5_appendO {G : GG} {l : Launch} {h : AH} {s b N : Nat} {l0 : List Nat} {t bt Nt : Nat} {lt : List Nat}  (hS : SBs G h s b N l0) (hT : SBs G h t bt Nt lt) (hl2 : lt.length ≤ 200) (hm : l0.length + lt.length ≤ 100) : Ct G l yJ5_append_4 cJ5_append_4 2 (some (.object "java/lang/StringBuilder")) 7 (2 + 1) (210 + 202) [.ref s, .ref t] h (fun r h2 => r = some (.ref s) ∧ ∃ b2 N2, SBs G h2 s b2 N2 (l0 ++ lt) ∧ (b2 = b ∧ N2 = N ∨ h b2 = none) ∧ Fr (m2 s b) h h2) := by
  refine Ct.of (by decide) (Nat.le_of_ble_eq_true rfl) (cat1 rfl) (fun X hXl F HN => ?_)
  subst hXl
  refine V_aload_n (i := 0) F dJ5_append_4_0 rfl rfl ?_
  refine V_aload_n (i := 1) F dJ5_append_4_1 rfl rfl ?_
  refine V_callS (st := [.ref (s)]) (nn := 1) F dJ5_append_4_2 lk_J5_17 (ct_J6_valueOf hT hl2) rfl rfl (Nat.le_of_ble_eq_true rfl) (Nat.le_of_ble_eq_true rfl) (Nat.le_of_ble_eq_true rfl) (by omega) (by omega) ?_
  rintro _ h2 ⟨o, rfl, ho, hS2, hv2, hx2⟩
  refine V_callV (st := []) (nn := 1) F dJ5_append_4_5 lk_J5_23 (ct_J5_append (hS.fr0 hx2) hS2 hm) (hS.fr0 hx2).isC rfl rfl (Nat.le_of_ble_eq_true rfl) (Nat.le_of_ble_eq_true rfl) (Nat.le_of_ble_eq_true rfl) (by omega) (by omega) ?_
  rintro _ h3 ⟨rfl, b3, N3, hS3, hbb, hx3⟩
  exact V_aret F dJ5_append_4_8 (Or.inl ⟨_, rfl⟩) (Or.inr ⟨_, rfl⟩) (by first | exact Nat.le_of_ble_eq_true rfl | omega) (by first | exact Nat.le_of_ble_eq_true rfl | omega) ⟨rfl, b3, N3, hS3, hbb.imp id hx2.none, (hx2.mono (fun _ z => z.elim)).cal hx3 (Yo.m2 (Or.inl (Or.inl rfl)) (Or.inl (Or.inr rfl)))⟩
