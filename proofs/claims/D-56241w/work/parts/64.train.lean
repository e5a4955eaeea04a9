theorem ct_Event_cmp2 {G : GG} {l : Launch} {h : AH} {a b p q ut uk ua vt vk va : Nat} {u2 u3 u4 v2 v3 v4 : Int32} (ha : h a = some (.inr (12, [.ref p]))) (hb : h b = some (.inr (12, [.ref q]))) (hp : h p = some (.inr (5, [.int (nI ut), .int (nI uk), .int u2, .int u3, .int u4, .int (nI ua)]))) (hq : h q = some (.inr (5, [.int (nI vt), .int (nI vk), .int v2, .int v3, .int v4, .int (nI va)]))) : Ct G l yX15_compareTo_2 cX15_compareTo_2 3 (some .int) 1 (0) (0) [.ref a, .ref b] h (PR (.int (if (nI ua : Int32) - nI va = 0 then nI (8 * ut + uk) - nI (8 * vt + vk) else nI ua - nI va)) h) := by
  refine Ct.of (by decide) (Nat.le_of_ble_eq_true rfl) (cat1 rfl) (fun X hXl F HN => ?_)
  subst hXl
  refine V_aload_n (i := 0) F dX15_compareTo_2_0 rfl rfl ?_
  refine V_getf F dX15_compareTo_2_1 fc_X15_7_X15 (.inl ha) rfl ?_
  refine V_callV (st := []) F dX15_compareTo_2_4 lk_X15_13 (ct_Leg_arrival hp) ⟨5, _, _, _, rfl, (.inl hp)⟩ rfl rfl (Nat.le_of_ble_eq_true rfl) (Nat.le_of_ble_eq_true rfl) (Nat.le_of_ble_eq_true rfl) (by first | exact Nat.le_of_ble_eq_true rfl | omega) (by first | exact Nat.le_of_ble_eq_true rfl | omega) ?_
  refine PRk ?_
  refine V_aload_n (i := 1) F dX15_compareTo_2_7 rfl rfl ?_
  refine V_getf F dX15_compareTo_2_8 fc_X15_7_X15 (.inl hb) rfl ?_
  refine V_callV (st := [.int (nI (ua))]) F dX15_compareTo_2_11 lk_X15_13 (ct_Leg_arrival hq) ⟨5, _, _, _, rfl, (.inl hq)⟩ rfl rfl (Nat.le_of_ble_eq_true rfl) (Nat.le_of_ble_eq_true rfl) (Nat.le_of_ble_eq_true rfl) (by first | exact Nat.le_of_ble_eq_true rfl | omega) (by first | exact Nat.le_of_ble_eq_true rfl | omega) ?_
  refine PRk ?_
  refine V_isub F dX15_compareTo_2_14 ?_
  refine V_istore_n (i := 2) F dX15_compareTo_2_15 rfl (Nat.le_of_ble_eq_true rfl) (Nat.le_of_ble_eq_true rfl) ?_
  refine V_iload_n (i := 2) F dX15_compareTo_2_16 rfl rfl ?_
  refine V_if_ne (tgt := 38) F dX15_compareTo_2_17 (by decide) (fun cb => ?_) (fun cb => ?_)
  · refine V_iload_n (i := 2) F dX15_compareTo_2_38 rfl rfl ?_
    refine V_iret F dX15_compareTo_2_39 rfl (by first | exact Nat.le_of_ble_eq_true rfl | omega) (by first | exact Nat.le_of_ble_eq_true rfl | omega) ⟨?_, rfl⟩
    first | rw [if_pos cb] | rw [if_neg cb]
  · refine V_aload_n (i := 0) F dX15_compareTo_2_20 rfl rfl ?_
    refine V_getf F dX15_compareTo_2_21 fc_X15_7_X15 (.inl ha) rfl ?_
    refine V_callV (st := []) F dX15_compareTo_2_24 lk_X15_19 (ct_Leg_hash hp) ⟨5, _, _, _, rfl, (.inl hp)⟩ rfl rfl (Nat.le_of_ble_eq_true rfl) (Nat.le_of_ble_eq_true rfl) (Nat.le_of_ble_eq_true rfl) (by first | exact Nat.le_of_ble_eq_true rfl | omega) (by first | exact Nat.le_of_ble_eq_true rfl | omega) ?_
    refine PRk ?_
    refine V_aload_n (i := 1) F dX15_compareTo_2_27 rfl rfl ?_
    refine V_getf F dX15_compareTo_2_28 fc_X15_7_X15 (.inl hb) rfl ?_
    refine V_callV (st := [.int (nI (8 * ut + uk))]) F dX15_compareTo_2_31 lk_X15_19 (ct_Leg_hash hq) ⟨5, _, _, _, rfl, (.inl hq)⟩ rfl rfl (Nat.le_of_ble_eq_true rfl) (Nat.le_of_ble_eq_true rfl) (Nat.le_of_ble_eq_true rfl) (by first | exact Nat.le_of_ble_eq_true rfl | omega) (by first | exact Nat.le_of_ble_eq_true rfl | omega) ?_
    refine PRk ?_
    refine V_isub F dX15_compareTo_2_34 ?_
    refine V_goto (tgt := 39) F dX15_compareTo_2_35 (by decide) ?_
    refine V_iret F dX15_compareTo_2_39 rfl (by first | exact Nat.le_of_ble_eq_true rfl | omega) (by first | exact Nat.le_of_ble_eq_true rfl | omega) ⟨?_, rfl⟩
    first | rw [if_pos cb] | rw [if_neg cb]
theorem ct_Event_cmp {G : GG} {l : Launch} {h : AH} {a b p q ut uk ua vt vk va : Nat} {u2 u3 u4 v2 v3 v4 : Int32} (ha : h a = some (.inr (12, [.ref p]))) (hb : h b = some (.inr (12, [.ref q]))) (hp : h p = some (.inr (5, [.int (nI ut), .int (nI uk), .int u2, .int u3, .int u4, .int (nI ua)]))) (hq : h q = some (.inr (5, [.int (nI vt), .int (nI vk), .int v2, .int v3, .int v4, .int (nI va)]))) : Ct G l yX15_compareTo cX15_compareTo 2 (some .int) 2 (0) (0) [.ref a, .ref b] h (PR (.int (if (nI ua : Int32) - nI va = 0 then nI (8 * ut + uk) - nI (8 * vt + vk) else nI ua - nI va)) h) := by
  refine Ct.of (by decide) (Nat.le_of_ble_eq_true rfl) (cat1 rfl) (fun X hXl F HN => ?_)
  subst hXl
  refine V_aload_n (i := 0) F dX15_compareTo_0 rfl rfl ?_
  refine V_aload_n (i := 1) F dX15_compareTo_1 rfl rfl ?_
  refine V_ckS F dX15_compareTo_2 q1543 ⟨12, _, _, _, rfl, (.inl hb)⟩ ?_
  refine V_callV (st := []) F dX15_compareTo_5 lk_X15_22 (ct_Event_cmp2 ha hb hp hq) ⟨12, _, _, _, rfl, (.inl ha)⟩ rfl rfl (Nat.le_of_ble_eq_true rfl) (Nat.le_of_ble_eq_true rfl) (Nat.le_of_ble_eq_true rfl) (by first | exact Nat.le_of_ble_eq_true rfl | omega) (by first | exact Nat.le_of_ble_eq_true rfl | omega) ?_
  refine PRk ?_
  exact V_iret F dX15_compareTo_8 rfl (by first | exact Nat.le_of_ble_eq_true rfl | omega) (by first | exact Nat.le_of_ble_eq_true rfl | omega) ⟨rfl, rfl⟩
theorem ct_Suitcase_cmp2 {G : GG} {l : Launch} {h : AH} {a b i j x y : Nat} {u1 u2 v1 v2 : Int32} (ha : h a = some (.inr (8, [.int (nI i), .int u1, .int u2, .int (nI x)]))) (hb : h b = some (.inr (8, [.int (nI j), .int v1, .int v2, .int (nI y)]))) (hx : x < 2 ^ 31) (hy : y < 2 ^ 31) : Ct G l yX10_compareTo_2 cX10_compareTo_2 2 (some .int) 0 (0) (0) [.ref a, .ref b] h (PR (.int (if x = y then nI i - nI j else nI x - nI y)) h) := by
  refine Ct.of (by decide) (Nat.le_of_ble_eq_true rfl) (cat1 rfl) (fun X hXl F HN => ?_)
  subst hXl
  refine V_aload_n (i := 0) F dX10_compareTo_2_0 rfl rfl ?_
  refine V_getf F dX10_compareTo_2_1 fc_X10_19_X10 (.inl ha) rfl ?_
  refine V_aload_n (i := 1) F dX10_compareTo_2_4 rfl rfl ?_
  refine V_getf F dX10_compareTo_2_5 fc_X10_19_X10 (.inl hb) rfl ?_
  refine V_icmp_neN (tgt := 23) F dX10_compareTo_2_8 (by decide) hx hy (fun cb => ?_) (fun cb => ?_)
  · refine V_aload_n (i := 0) F dX10_compareTo_2_23 rfl rfl ?_
    refine V_getf F dX10_compareTo_2_24 fc_X10_19_X10 (.inl ha) rfl ?_
    refine V_aload_n (i := 1) F dX10_compareTo_2_27 rfl rfl ?_
    refine V_getf F dX10_compareTo_2_28 fc_X10_19_X10 (.inl hb) rfl ?_
    refine V_isub F dX10_compareTo_2_31 ?_
    refine V_iret F dX10_compareTo_2_32 rfl (by first | exact Nat.le_of_ble_eq_true rfl | omega) (by first | exact Nat.le_of_ble_eq_true rfl | omega) ⟨?_, rfl⟩
    first | rw [if_pos cb] | rw [if_neg cb]
  · refine V_aload_n (i := 0) F dX10_compareTo_2_11 rfl rfl ?_
    refine V_getf F dX10_compareTo_2_12 fc_X10_7_X10 (.inl ha) rfl ?_
    refine V_aload_n (i := 1) F dX10_compareTo_2_15 rfl rfl ?_
    refine V_getf F dX10_compareTo_2_16 fc_X10_7_X10 (.inl hb) rfl ?_
    refine V_isub F dX10_compareTo_2_19 ?_
    refine V_goto (tgt := 32) F dX10_compareTo_2_20 (by decide) ?_
    refine V_iret F dX10_compareTo_2_32 rfl (by first | exact Nat.le_of_ble_eq_true rfl | omega) (by first | exact Nat.le_of_ble_eq_true rfl | omega) ⟨?_, rfl⟩
    first | rw [if_pos cb] | rw [if_neg cb]
theorem ct_Suitcase_cmp {G : GG} {l : Launch} {h : AH} {a b i j x y : Nat} {u1 u2 v1 v2 : Int32} (ha : h a = some (.inr (8, [.int (nI i), .int u1, .int u2, .int (nI x)]))) (hb : h b = some (.inr (8, [.int (nI j), .int v1, .int v2, .int (nI y)]))) (hx : x < 2 ^ 31) (hy : y < 2 ^ 31) : Ct G l yX10_compareTo cX10_compareTo 2 (some .int) 1 (0) (0) [.ref a, .ref b] h (PR (.int (if x = y then nI i - nI j else nI x - nI y)) h) := by
  refine Ct.of (by decide) (Nat.le_of_ble_eq_true rfl) (cat1 rfl) (fun X hXl F HN => ?_)
  subst hXl
  refine V_aload_n (i := 0) F dX10_compareTo_0 rfl rfl ?_
  refine V_aload_n (i := 1) F dX10_compareTo_1 rfl rfl ?_
  refine V_ckS F dX10_compareTo_2 q1559 ⟨8, _, _, _, rfl, (.inl hb)⟩ ?_
  refine V_callV (st := []) F dX10_compareTo_5 lk_X10_42 (ct_Suitcase_cmp2 ha hb hx hy) ⟨8, _, _, _, rfl, (.inl ha)⟩ rfl rfl (Nat.le_of_ble_eq_true rfl) (Nat.le_of_ble_eq_true rfl) (Nat.le_of_ble_eq_true rfl) (by first | exact Nat.le_of_ble_eq_true rfl | omega) (by first | exact Nat.le_of_ble_eq_true rfl | omega) ?_
  refine PRk ?_
  exact V_iret F dX10_compareTo_8 rfl (by first | exact Nat.le_of_ble_eq_true rfl | omega) (by first | exact Nat.le_of_ble_eq_true rfl | omega) ⟨rfl, rfl⟩
theorem ct_TR_legs {G : GG} {l : Launch} {h : AH} {x t : Nat} {A : Nat → Nat} {g : Nat → Nat}  (hT : TRs G h x A g t) (hs : 1 ≤ g (16 + 36 * t + 3)) : Ct G l yX5_legs cX5_legs 1 (some .int) 0 (0) (0) [.ref x] h (PR (.int (nI (g (16 + 36 * t + 3) - 1))) h) := by
  refine Ct.of (by decide) (Nat.le_of_ble_eq_true rfl) (cat1 rfl) (fun X hXl F HN => ?_)
  subst hXl
  refine V_aload_n (i := 0) F dX5_legs_0 rfl rfl ?_
  refine V_getf F dX5_legs_1 fc_X5_17_X5 (.inl hT.1) rfl ?_
  refine V_iconst (v := nI 1) F dX5_legs_4 rfl ?_
  refine V_isubN F dX5_legs_5 hs ?_
  exact V_iret F dX5_legs_6 rfl (by first | exact Nat.le_of_ble_eq_true rfl | omega) (by first | exact Nat.le_of_ble_eq_true rfl | omega) ⟨rfl, rfl⟩
theorem ct_TR_hasStop {G : GG} {l : Launch} {h : AH} {x t : Nat} {A : Nat → Nat} {g : Nat → Nat} {p : Int32}  (hT : TRs G h x A g t) (hb : g (16 + 36 * t + 3) < 2 ^ 31) : Ct G l yX5_hasStop cX5_hasStop 2 (some .boolean) 1 (0) (0) [.ref x, .int p] h (PR (.int (b2 (iR p (g (16 + 36 * t + 3))))) h) := by
  refine Ct.of (by decide) (Nat.le_of_ble_eq_true rfl) (cat1 rfl) (fun X hXl F HN => ?_)
  subst hXl
  refine V_iload_n (i := 1) F dX5_hasStop_0 rfl rfl ?_
  refine V_iconst (v := nI 0) F dX5_hasStop_1 rfl ?_
  refine V_aload_n (i := 0) F dX5_hasStop_2 rfl rfl ?_
  refine V_getf F dX5_hasStop_3 fc_X5_17_X5 (.inl hT.1) rfl ?_
  refine V_iconst (v := nI 1) F dX5_hasStop_6 rfl ?_
  refine V_isub F dX5_hasStop_7 ?_
  refine V_callSN (st := []) F dX5_hasStop_8 lk_X5_45 q1796 (ct_isBetween) rfl rfl (Nat.le_of_ble_eq_true rfl) (Nat.le_of_ble_eq_true rfl) (Nat.le_of_ble_eq_true rfl) (by first | exact Nat.le_of_ble_eq_true rfl | omega) (by first | exact Nat.le_of_ble_eq_true rfl | omega) ?_
  refine PRk ?_
  exact V_iret F dX5_hasStop_11 nar_b2 (by first | exact Nat.le_of_ble_eq_true rfl | omega) (by first | exact Nat.le_of_ble_eq_true rfl | omega) ⟨by rw [b2_c (iR_in hb)], rfl⟩
theorem ct_TR_hasLeg {G : GG} {l : Launch} {h : AH} {x t : Nat} {A : Nat → Nat} {g : Nat → Nat} {p : Int32}  (hT : TRs G h x A g t) (hb : g (16 + 36 * t + 3) < 2 ^ 31) : Ct G l yX5_hasLeg cX5_hasLeg 2 (some .boolean) 1 (0) (0) [.ref x, .int p] h (PR (.int (b2 (iR p (g (16 + 36 * t + 3) - 1)))) h) := by
  refine Ct.of (by decide) (Nat.le_of_ble_eq_true rfl) (cat1 rfl) (fun X hXl F HN => ?_)
  subst hXl
  refine V_iload_n (i := 1) F dX5_hasLeg_0 rfl rfl ?_
  refine V_iconst (v := nI 0) F dX5_hasLeg_1 rfl ?_
  refine V_aload_n (i := 0) F dX5_hasLeg_2 rfl rfl ?_
  refine V_getf F dX5_hasLeg_3 fc_X5_17_X5 (.inl hT.1) rfl ?_
  refine V_iconst (v := nI 2) F dX5_hasLeg_6 rfl ?_
  refine V_isub F dX5_hasLeg_7 ?_
  refine V_callSN (st := []) F dX5_hasLeg_8 lk_X5_45 q1796 (ct_isBetween) rfl rfl (Nat.le_of_ble_eq_true rfl) (Nat.le_of_ble_eq_true rfl) (Nat.le_of_ble_eq_true rfl) (by first | exact Nat.le_of_ble_eq_true rfl | omega) (by first | exact Nat.le_of_ble_eq_true rfl | omega) ?_
  refine PRk ?_
  exact V_iret F dX5_hasLeg_11 nar_b2 (by first | exact Nat.le_of_ble_eq_true rfl | omega) (by first | exact Nat.le_of_ble_eq_true rfl | omega) ⟨by rw [b2_c (iR_in2 hb)], rfl⟩
theorem ct_TR_arrival {G : GG} {l : Launch} {h : AH} {x t : Nat} {A : Nat → Nat} {g : Nat → Nat} {k : Nat}  (hT : TRs G h x A g t) (hs8 : g (16 + 36 * t + 3) ≤ 8) (hk0 : 0 < k) (hk : k < g (16 + 36 * t + 3)) : Ct G l yX5_arrival cX5_arrival 2 (some .int) 0 (0) (0) [.ref x, .int (nI k)] h (PR (.int (nI (CmG g t k))) h) := by
  refine Ct.of (by decide) (Nat.le_of_ble_eq_true rfl) (cat1 rfl) (fun X hXl F HN => ?_)
  subst hXl
  obtain ⟨hx, f, hA, h0, h1, h2, h3, h4⟩ := hT
  refine V_aload_n (i := 0) F dX5_arrival_0 rfl rfl ?_
  refine V_getf F dX5_arrival_1 fc_X5_29_X5 (.inl hx) rfl ?_
  refine V_iload_n (i := 1) F dX5_arrival_4 rfl rfl ?_
  refine V_ialdG F dX5_arrival_5 (.inl (hA 1 (by decide))) (by omega) (by decide) (h1 k hk0 hk) ?_
  refine V_aload_n (i := 0) F dX5_arrival_6 rfl rfl ?_
  refine V_getf F dX5_arrival_7 fc_X5_42_X5 (.inl hx) rfl ?_
  refine V_iaddN F dX5_arrival_10 ?_
  exact V_iret F dX5_arrival_11 rfl (by first | exact Nat.le_of_ble_eq_true rfl | omega) (by first | exact Nat.le_of_ble_eq_true rfl | omega) ⟨by rw [CmG_av], rfl⟩
theorem ct_TR_departure {G : GG} {l : Launch} {h : AH} {x t : Nat} {A : Nat → Nat} {g : Nat → Nat} {k : Nat}  (hT : TRs G h x A g t) (hs8 : g (16 + 36 * t + 3) ≤ 8) (hk : k < g (16 + 36 * t + 3)) : Ct G l yX5_departure cX5_departure 2 (some .int) 0 (0) (0) [.ref x, .int (nI k)] h (PR (.int (nI (LvG g t k))) h) := by
  refine Ct.of (by decide) (Nat.le_of_ble_eq_true rfl) (cat1 rfl) (fun X hXl F HN => ?_)
  subst hXl
  obtain ⟨hx, f, hA, h0, h1, h2, h3, h4⟩ := hT
  refine V_aload_n (i := 0) F dX5_departure_0 rfl rfl ?_
  refine V_getf F dX5_departure_1 fc_X5_14_X5 (.inl hx) rfl ?_
  refine V_iload_n (i := 1) F dX5_departure_4 rfl rfl ?_
  refine V_ialdG F dX5_departure_5 (.inl (hA 2 (by decide))) (by omega) (by decide) (h2 k hk) ?_
  refine V_aload_n (i := 0) F dX5_departure_6 rfl rfl ?_
  refine V_getf F dX5_departure_7 fc_X5_42_X5 (.inl hx) rfl ?_
  refine V_iaddN F dX5_departure_10 ?_
  exact V_iret F dX5_departure_11 rfl (by first | exact Nat.le_of_ble_eq_true rfl | omega) (by first | exact Nat.le_of_ble_eq_true rfl | omega) ⟨by rw [LvG_dp], rfl⟩
theorem ct_TR_load {G : GG} {l : Launch} {h : AH} {x t : Nat} {A : Nat → Nat} {g : Nat → Nat} {k : Nat}  (hT : TRs G h x A g t) (hk : k < 8) : Ct G l yX5_load cX5_load 2 (some .int) 0 (0) (0) [.ref x, .int (nI k)] h (PR (.int (nI (ldG g t k))) h) := by
  refine Ct.of (by decide) (Nat.le_of_ble_eq_true rfl) (cat1 rfl) (fun X hXl F HN => ?_)
  subst hXl
  obtain ⟨hx, f, hA, h0, h1, h2, h3, h4⟩ := hT
  refine V_aload_n (i := 0) F dX5_load_0 rfl rfl ?_
  refine V_getf F dX5_load_1 fc_X5_32_X5 (.inl hx) rfl ?_
  refine V_iload_n (i := 1) F dX5_load_4 rfl rfl ?_
  refine V_ialdG F dX5_load_5 (.inl (hA 3 (by decide))) (by omega) (by decide) (h3 k hk) ?_
  refine V_aload_n (i := 0) F dX5_load_6 rfl rfl ?_
  refine V_getf F dX5_load_7 fc_X5_35_X5 (.inl hx) rfl ?_
  refine V_iload_n (i := 1) F dX5_load_10 rfl rfl ?_
  refine V_ialdG F dX5_load_11 (.inl (hA 4 (by decide))) (by omega) (by decide) (h4 k hk) ?_
  refine V_iaddN F dX5_load_12 ?_
  exact V_iret F dX5_load_13 rfl (by first | exact Nat.le_of_ble_eq_true rfl | omega) (by first | exact Nat.le_of_ble_eq_true rfl | omega) ⟨by rw [Nat.add_comm], rfl⟩
theorem ct_TR_isFull {G : GG} {l : Launch} {h : AH} {x t : Nat} {A : Nat → Nat} {g : Nat → Nat} {k : Nat}  (hT : TRs G h x A g t) (hk : k < 8) (hn3 : g 3 ≤ 10) (hB : GB g) : Ct G l yX5_isFull cX5_isFull 2 (some .boolean) 1 (0) (0) [.ref x, .int (nI k)] h (PR (.int (b2 (ldG g t k = g (16 + 36 * t + 0)))) h) := by
  refine Ct.of (by decide) (Nat.le_of_ble_eq_true rfl) (cat1 rfl) (fun X hXl F HN => ?_)
  subst hXl
  refine V_aload_n (i := 0) F dX5_isFull_0 rfl rfl ?_
  refine V_iload_n (i := 1) F dX5_isFull_1 rfl rfl ?_
  refine V_callV (st := []) F dX5_isFull_2 lk_X5_49 (ct_TR_load hT hk) ⟨4, _, _, _, rfl, (.inl hT.1)⟩ rfl rfl (Nat.le_of_ble_eq_true rfl) (Nat.le_of_ble_eq_true rfl) (Nat.le_of_ble_eq_true rfl) (by first | exact Nat.le_of_ble_eq_true rfl | omega) (by first | exact Nat.le_of_ble_eq_true rfl | omega) ?_
  refine PRk ?_
  refine V_aload_n (i := 0) F dX5_isFull_5 rfl rfl ?_
  refine V_getf F dX5_isFull_6 fc_X5_26_X5 (.inl hT.1) rfl ?_
  refine V_icmp_neN (tgt := 16) F dX5_isFull_9 (by decide) (ldG_31 hn3 hB) (Nat.lt_trans (hB _) (by decide)) (fun c_9 => ?_) (fun c_9 => ?_)
  · refine V_iconst (v := nI 0) F dX5_isFull_16 rfl ?_
    exact V_iret F dX5_isFull_17 rfl (by first | exact Nat.le_of_ble_eq_true rfl | omega) (by first | exact Nat.le_of_ble_eq_true rfl | omega) ⟨by rw [b2_f (by omega)]; rfl, rfl⟩
  · refine V_iconst (v := nI 1) F dX5_isFull_12 rfl ?_
    refine V_goto (tgt := 17) F dX5_isFull_13 (by decide) ?_
    exact V_iret F dX5_isFull_17 rfl (by first | exact Nat.le_of_ble_eq_true rfl | omega) (by first | exact Nat.le_of_ble_eq_true rfl | omega) ⟨by rw [b2_t (by omega)]; rfl, rfl⟩
