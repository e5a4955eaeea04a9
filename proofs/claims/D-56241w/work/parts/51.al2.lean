theorem ins_arr {f : Nat → Nat} {g : Nat → Option Nat} {k n x : Nat} (hg : ∀ i, i < n → g i = some (f i)) (hk : k ≤ n) (i : Nat) (hi : i < n + 1) : upq (va_cpy g g k (k + 1) (n - k)) k (some x) i = some (insF f k x i) := by
  by_cases h1 : i = k
  · rw [h1, upq_s, insF_p]
  · rw [upq_n h1]
    unfold va_cpy insF cl
    by_cases h2 : i < k
    · rw [if_neg (by omega), if_neg h1, if_pos h2, hg i (by omega)]
    · rw [if_pos (by omega), if_neg h1, if_neg h2, show k + (i - (k + 1)) = i - 1 by omega, hg _ (by omega)]

theorem ct_AL_rca {G : GG} {l : Launch} {h : AH} {a ar mc n : Nat} {k : Nat} {f : Nat → Nat} (hA : ALs G h a ar mc n f) (hk : k ≤ n) (hn : n < 2000) : Ct G l yJ8_rangeCheckForAdd cJ8_rangeCheckForAdd 2 none 0 (0) (0) [.ref a, .int (nI k)] h (PV h) := by
  refine Ct.of (by decide) (Nat.le_of_ble_eq_true rfl) (cat1 rfl) (fun X hXl F HN => ?_)
  subst hXl
  refine V_iload_n (i := 1) F dJ8_rangeCheckForAdd_0 rfl rfl ?_
  refine V_aload_n (i := 0) F dJ8_rangeCheckForAdd_1 rfl rfl ?_
  refine V_getf F dJ8_rangeCheckForAdd_2 fc_J8_48_J8 (.inl hA.1) rfl ?_
  refine V_icmp_gtN (tgt := 12) F dJ8_rangeCheckForAdd_5 (by decide) (by omega) (by omega) (fun c_5 => absurd c_5 (by omega)) (fun c_5 => ?_)
  refine V_iload_n (i := 1) F dJ8_rangeCheckForAdd_8 rfl rfl ?_
  refine V_if_geN (tgt := 25) F dJ8_rangeCheckForAdd_9 (by decide) (by omega) ?_
  exact V_vret F dJ8_rangeCheckForAdd_25 (by first | exact Nat.le_of_ble_eq_true rfl | omega) (by first | exact Nat.le_of_ble_eq_true rfl | omega) ⟨rfl, rfl⟩
theorem ct_AL_addAt {G : GG} {l : Launch} {h : AH} {a ar mc n : Nat} {k x : Nat} {f : Nat → Nat} (hA : ALs G h a ar mc n f) (hk : k ≤ n) (hx : isO G h x) (hn : n < 2000) : Ct G l yJ8_add_3 cJ8_add_3 5 none 6 (1) (2 * n + 10) [.ref a, .int (nI k), .ref x] h (fun r h2 => r = none ∧ ∃ ar2, ALs G h2 a ar2 (mc + 1) (n + 1) (insF f k x) ∧ Fr (m2 a ar) h h2 ∧ (ar2 = ar ∨ (h ar2 = none ∧ bz G ≤ ar2))) := by
  refine Ct.of (by decide) (Nat.le_of_ble_eq_true rfl) (cat1 rfl) (fun X hXl F HN => ?_)
  subst hXl
  obtain ⟨cap, g, h0r, hw, z1, z2, z3, z4⟩ := hA.2.2
  refine V_aload_n (i := 0) F dJ8_add_3_0 rfl rfl ?_
  refine V_iload_n (i := 1) F dJ8_add_3_1 rfl rfl ?_
  refine V_callV (st := []) F dJ8_add_3_2 lk_J8_135 (ct_AL_rca hA hk hn) ⟨18, _, _, _, rfl, (.inl hA.1)⟩ rfl rfl (Nat.le_of_ble_eq_true rfl) (Nat.le_of_ble_eq_true rfl) (Nat.le_of_ble_eq_true rfl) (by first | exact Nat.le_of_ble_eq_true rfl | omega) (by first | exact Nat.le_of_ble_eq_true rfl | omega) ?_
  refine PVk ?_
  refine V_aload_n (i := 0) F dJ8_add_3_5 rfl rfl ?_
  refine V_dup F dJ8_add_3_6 rfl ?_
  refine V_getf F dJ8_add_3_7 fc_J8_63_J8 (.inl hA.1) rfl ?_
  refine V_iconst (v := nI 1) F dJ8_add_3_10 rfl ?_
  refine V_iaddN F dJ8_add_3_11 ?_
  refine V_putf F dJ8_add_3_12 fp_J8_63_J8 hA.1 rfl rfl (Nat.le_of_ble_eq_true rfl) ?_
  refine VV.heap (h' := (hset h (a) (.inr (18, [.int (nI (mc + 1)), .ref (ar), .int (nI (n))])))) rfl ?_
  refine V_aload_n (i := 0) F dJ8_add_3_15 rfl rfl ?_
  refine V_getf F dJ8_add_3_16 fc_J8_48_J8 (.inl (hset_self (e := .inr (18, [.int (nI (mc + 1)), .ref (ar), .int (nI (n))])))) rfl ?_
  refine V_dup F dJ8_add_3_19 rfl ?_
  refine V_istore_n (i := 3) F dJ8_add_3_20 rfl (Nat.le_of_ble_eq_true rfl) (Nat.le_of_ble_eq_true rfl) ?_
  refine V_aload_n (i := 0) F dJ8_add_3_21 rfl rfl ?_
  refine V_getf F dJ8_add_3_22 fc_J8_9_J8 (.inl (hset_self (e := .inr (18, [.int (nI (mc + 1)), .ref (ar), .int (nI (n))])))) rfl ?_
  refine V_dup F dJ8_add_3_25 rfl ?_
  refine V_astore (i := 4) F dJ8_add_3_26 (Nat.le_of_ble_eq_true rfl) (Nat.le_of_ble_eq_true rfl) ?_
  refine V_alen (v := nI cap) F 6 dJ8_add_3_28 rfl (h0r.put (fun q => (ne_ao q hA.1))) rfl ?_
  refine V_icmp_neN (tgt := 38) F dJ8_add_3_29 (by decide) (by omega) (by omega) (fun c_29 => ?_) (fun c_29 => ?_)
  · have p1 : (hset h (a) (.inr (18, [.int (nI (mc + 1)), .ref (ar), .int (nI (n))]))) ar = some (qA G cap g) := ((hset_ne (ne_ao (hw (by omega)) hA.1)).trans (hw (by omega)))
    have p2 : (hset h (a) (.inr (18, [.int (nI (mc + 1)), .ref (ar), .int (nI (n))]))) a = some (.inr (18, [.int (nI (mc + 1)), .ref (ar), .int (nI (n))])) := (hset_self (e := .inr (18, [.int (nI (mc + 1)), .ref (ar), .int (nI (n))])))
    refine V_aload (i := 4) F dJ8_add_3_38 rfl ?_
    refine V_iload_n (i := 1) F dJ8_add_3_40 rfl rfl ?_
    refine V_aload (i := 4) F dJ8_add_3_41 rfl ?_
    refine V_iload_n (i := 1) F dJ8_add_3_43 rfl rfl ?_
    refine V_iconst (v := nI 1) F dJ8_add_3_44 rfl ?_
    refine V_iaddN F dJ8_add_3_45 ?_
    refine V_iload_n (i := 3) F dJ8_add_3_46 rfl rfl ?_
    refine V_iload_n (i := 1) F dJ8_add_3_47 rfl rfl ?_
    refine V_isubN F dJ8_add_3_48 (by omega) ?_
    have hff := ((Fr.rf (M := m2 a ar) (h := h)).put (x := .inr (18, [.int (nI (mc + 1)), .ref (ar), .int (nI (n))])) hA.1 rfl rfl (Or.inl (Or.inl rfl)))
    refine V_copyq F dJ8_add_3_49 q1832 (.inl p1) p1 (by omega) (by omega) (by omega) (by omega) (fun i hi y hy => ?_) (Nat.le_of_ble_eq_true rfl) (Nat.le_of_ble_eq_true rfl) ?_
    · rw [z4 _ (by omega)] at hy
      cases hy
      exact hff.isO (hA.2.1 _ (by omega))
    have p3 : (hset (hset h (a) (.inr (18, [.int (nI (mc + 1)), .ref (ar), .int (nI (n))]))) (ar) (qA G cap (va_cpy g g k (k + 1) (n - k)))) a = some (.inr (18, [.int (nI (mc + 1)), .ref (ar), .int (nI (n))])) := ((hset_ne (ne_oa p2 p1)).trans p2)
    have p4 : (hset (hset h (a) (.inr (18, [.int (nI (mc + 1)), .ref (ar), .int (nI (n))]))) (ar) (qA G cap (va_cpy g g k (k + 1) (n - k)))) ar = some (qA G cap (va_cpy g g k (k + 1) (n - k))) := (hset_self (e := qA G cap (va_cpy g g k (k + 1) (n - k))))
    refine V_aload (i := 4) F dJ8_add_3_52 rfl ?_
    refine V_iload_n (i := 1) F dJ8_add_3_54 rfl rfl ?_
    refine V_aload_n (i := 2) F dJ8_add_3_55 rfl rfl ?_
    refine V_aastON F dJ8_add_3_56 p4 ((((Fr.rf (M := m2 a ar) (h := h)).put (x := .inr (18, [.int (nI (mc + 1)), .ref (ar), .int (nI (n))])) hA.1 rfl rfl (Or.inl (Or.inl rfl))).put (x := qA G cap (va_cpy g g k (k + 1) (n - k))) p1 ⟨rfl, rfl⟩ rfl (Or.inl (Or.inr rfl))).isO hx) (by omega) (by omega) ?_
    have p5 : (hset (hset (hset h (a) (.inr (18, [.int (nI (mc + 1)), .ref (ar), .int (nI (n))]))) (ar) (qA G cap (va_cpy g g k (k + 1) (n - k)))) (ar) (qA G cap ((upq (va_cpy g g k (k + 1) (n - k)) k (some x))))) a = some (.inr (18, [.int (nI (mc + 1)), .ref (ar), .int (nI (n))])) := ((hset_ne (ne_oa p3 p4)).trans p3)
    have p6 : (hset (hset (hset h (a) (.inr (18, [.int (nI (mc + 1)), .ref (ar), .int (nI (n))]))) (ar) (qA G cap (va_cpy g g k (k + 1) (n - k)))) (ar) (qA G cap ((upq (va_cpy g g k (k + 1) (n - k)) k (some x))))) ar = some (qA G cap ((upq (va_cpy g g k (k + 1) (n - k)) k (some x)))) := (hset_self (e := qA G cap ((upq (va_cpy g g k (k + 1) (n - k)) k (some x)))))
    refine V_aload_n (i := 0) F dJ8_add_3_57 rfl rfl ?_
    refine V_iload_n (i := 3) F dJ8_add_3_58 rfl rfl ?_
    refine V_iconst (v := nI 1) F dJ8_add_3_59 rfl ?_
    refine V_iaddN F dJ8_add_3_60 ?_
    refine V_putf F dJ8_add_3_61 fp_J8_48_J8 p5 rfl rfl (Nat.le_of_ble_eq_true rfl) ?_
    refine VV.heap (h' := (hset (hset (hset (hset h (a) (.inr (18, [.int (nI (mc + 1)), .ref (ar), .int (nI (n))]))) (ar) (qA G cap (va_cpy g g k (k + 1) (n - k)))) (ar) (qA G cap ((upq (va_cpy g g k (k + 1) (n - k)) k (some x))))) (a) (.inr (18, [.int (nI (mc + 1)), .ref (ar), .int (nI (n + 1))])))) rfl ?_
    have hfr := (((((Fr.rf (M := m2 a ar) (h := h)).put (x := .inr (18, [.int (nI (mc + 1)), .ref (ar), .int (nI (n))])) hA.1 rfl rfl (Or.inl (Or.inl rfl))).put (x := qA G cap (va_cpy g g k (k + 1) (n - k))) p1 ⟨rfl, rfl⟩ rfl (Or.inl (Or.inr rfl))).put (x := qA G cap ((upq (va_cpy g g k (k + 1) (n - k)) k (some x)))) p4 ⟨rfl, rfl⟩ rfl (Or.inl (Or.inr rfl))).put (x := .inr (18, [.int (nI (mc + 1)), .ref (ar), .int (nI (n + 1))])) p5 rfl rfl (Or.inl (Or.inl rfl)))
    refine V_vret F dJ8_add_3_64 (by first | exact Nat.le_of_ble_eq_true rfl | omega) (by first | exact Nat.le_of_ble_eq_true rfl | omega) ⟨rfl, ar, ⟨(hset_self (e := .inr (18, [.int (nI (mc + 1)), .ref (ar), .int (nI (n + 1))]))), fun i hi => ?_, cap, _, (.inl ((hset_ne (ne_ao p6 p5)).trans p6)), fun _ => ((hset_ne (ne_ao p6 p5)).trans p6), by omega, by omega, Or.inl (by omega), fun i hi => ins_arr z4 hk i hi⟩, hfr, Or.inl rfl⟩
    rcases sk_cases hi (by omega : k < n + 1) with rfl | ⟨j, hj, rfl⟩
    · rw [insF_p]; exact hfr.isO hx
    · rw [insF_s]; exact hfr.isO (hA.2.1 j hj)
  · subst c_29
    refine V_aload_n (i := 0) F dJ8_add_3_32 rfl rfl ?_
    have hf33 := ((Fr.rf (M := m2 a ar) (h := h)).put (x := .inr (18, [.int (nI (mc + 1)), .ref (ar), .int (nI (n))])) hA.1 rfl rfl (Or.inl (Or.inl rfl)))
    refine V_callV (st := []) F dJ8_add_3_33 lk_J8_129 (ct_AL_grow (hset_self (e := .inr (18, [.int (nI (mc + 1)), .ref (ar), .int (nI (n))]))) (h0r.put (fun q => (ne_ao q hA.1))) z3 (fun i hi y hy => by rw [z4 i hi] at hy; cases hy; exact hf33.isO (hA.2.1 i hi)) hn) ⟨18, _, _, _, rfl, (.inl (hset_self (e := .inr (18, [.int (nI (mc + 1)), .ref (ar), .int (nI (n))]))))⟩ rfl rfl (Nat.le_of_ble_eq_true rfl) (Nat.le_of_ble_eq_true rfl) (Nat.le_of_ble_eq_true rfl) (by first | exact Nat.le_of_ble_eq_true rfl | omega) (by first | exact Nat.le_of_ble_eq_true rfl | omega) ?_
    rintro _ _ ⟨og, c2, g2, rfl, hfog, hbog, rfl, hc1, hc2, hg2⟩
    have p7 : rd G ((hset h (a) (.inr (18, [.int (nI (mc + 1)), .ref (ar), .int (nI (n))])))) ar (qA G n g) := (h0r.put (fun q => (ne_ao q hA.1)))
    have p8 : (hset h (a) (.inr (18, [.int (nI (mc + 1)), .ref (ar), .int (nI (n))]))) a = some (.inr (18, [.int (nI (mc + 1)), .ref (ar), .int (nI (n))])) := (hset_self (e := .inr (18, [.int (nI (mc + 1)), .ref (ar), .int (nI (n))])))
    refine V_astore (i := 4) F dJ8_add_3_36 (Nat.le_of_ble_eq_true rfl) (Nat.le_of_ble_eq_true rfl) ?_
    have p9 : rd G ((hset (hset (hset h (a) (.inr (18, [.int (nI (mc + 1)), .ref (ar), .int (nI (n))]))) og (qA G c2 g2)) (a) (.inr (18, [.int (nI (mc + 1)), .ref og, .int (nI (n))])))) ar (qA G n g) := ((p7.nw hfog).put (fun q => (ne_ao q ((hset_ne (ne_nw p8 hfog)).trans p8))))
    have p10 : (hset (hset (hset h (a) (.inr (18, [.int (nI (mc + 1)), .ref (ar), .int (nI (n))]))) og (qA G c2 g2)) (a) (.inr (18, [.int (nI (mc + 1)), .ref og, .int (nI (n))]))) og = some (qA G c2 g2) := ((hset_ne (Ne.symm (ne_nw p8 hfog))).trans (hset_self (e := qA G c2 g2)))
    have p11 : (hset (hset (hset h (a) (.inr (18, [.int (nI (mc + 1)), .ref (ar), .int (nI (n))]))) og (qA G c2 g2)) (a) (.inr (18, [.int (nI (mc + 1)), .ref og, .int (nI (n))]))) a = some (.inr (18, [.int (nI (mc + 1)), .ref og, .int (nI (n))])) := (hset_self (e := .inr (18, [.int (nI (mc + 1)), .ref og, .int (nI (n))])))
    refine V_aload (i := 4) F dJ8_add_3_38 rfl ?_
    refine V_iload_n (i := 1) F dJ8_add_3_40 rfl rfl ?_
    refine V_aload (i := 4) F dJ8_add_3_41 rfl ?_
    refine V_iload_n (i := 1) F dJ8_add_3_43 rfl rfl ?_
    refine V_iconst (v := nI 1) F dJ8_add_3_44 rfl ?_
    refine V_iaddN F dJ8_add_3_45 ?_
    refine V_iload_n (i := 3) F dJ8_add_3_46 rfl rfl ?_
    refine V_iload_n (i := 1) F dJ8_add_3_47 rfl rfl ?_
    refine V_isubN F dJ8_add_3_48 (by omega) ?_
    have hff := ((((Fr.rf (M := m2 a ar) (h := h)).put (x := .inr (18, [.int (nI (mc + 1)), .ref (ar), .int (nI (n))])) hA.1 rfl rfl (Or.inl (Or.inl rfl))).nw (x := qA G c2 g2) hfog).put (x := .inr (18, [.int (nI (mc + 1)), .ref og, .int (nI (n))])) ((hset_ne (ne_nw p8 hfog)).trans p8) rfl rfl (Or.inl (Or.inl rfl)))
    refine V_copyq F dJ8_add_3_49 q1832 (.inl p10) p10 (by omega) (by omega) (by omega) (by omega) (fun i hi y hy => ?_) (Nat.le_of_ble_eq_true rfl) (Nat.le_of_ble_eq_true rfl) ?_
    · rw [(hg2 _ (by omega)).trans (z4 _ (by omega))] at hy
      cases hy
      exact hff.isO (hA.2.1 _ (by omega))
    have p12 : rd G ((hset (hset (hset (hset h (a) (.inr (18, [.int (nI (mc + 1)), .ref (ar), .int (nI (n))]))) og (qA G c2 g2)) (a) (.inr (18, [.int (nI (mc + 1)), .ref og, .int (nI (n))]))) (og) (qA G c2 (va_cpy g2 g2 k (k + 1) (n - k))))) ar (qA G n g) := (p9.put2 (p7.nen hfog))
    have p13 : (hset (hset (hset (hset h (a) (.inr (18, [.int (nI (mc + 1)), .ref (ar), .int (nI (n))]))) og (qA G c2 g2)) (a) (.inr (18, [.int (nI (mc + 1)), .ref og, .int (nI (n))]))) (og) (qA G c2 (va_cpy g2 g2 k (k + 1) (n - k)))) a = some (.inr (18, [.int (nI (mc + 1)), .ref og, .int (nI (n))])) := ((hset_ne (ne_nw p8 hfog)).trans p11)
    have p14 : (hset (hset (hset (hset h (a) (.inr (18, [.int (nI (mc + 1)), .ref (ar), .int (nI (n))]))) og (qA G c2 g2)) (a) (.inr (18, [.int (nI (mc + 1)), .ref og, .int (nI (n))]))) (og) (qA G c2 (va_cpy g2 g2 k (k + 1) (n - k)))) og = some (qA G c2 (va_cpy g2 g2 k (k + 1) (n - k))) := (hset_self (e := qA G c2 (va_cpy g2 g2 k (k + 1) (n - k))))
    refine V_aload (i := 4) F dJ8_add_3_52 rfl ?_
    refine V_iload_n (i := 1) F dJ8_add_3_54 rfl rfl ?_
    refine V_aload_n (i := 2) F dJ8_add_3_55 rfl rfl ?_
    refine V_aastON F dJ8_add_3_56 p14 ((((((Fr.rf (M := m2 a ar) (h := h)).put (x := .inr (18, [.int (nI (mc + 1)), .ref (ar), .int (nI (n))])) hA.1 rfl rfl (Or.inl (Or.inl rfl))).nw (x := qA G c2 g2) hfog).put (x := .inr (18, [.int (nI (mc + 1)), .ref og, .int (nI (n))])) ((hset_ne (ne_nw p8 hfog)).trans p8) rfl rfl (Or.inl (Or.inl rfl))).put (x := qA G c2 (va_cpy g2 g2 k (k + 1) (n - k))) p10 ⟨rfl, rfl⟩ rfl (((Fr.rf (M := m2 a ar) (h := h)).put (x := .inr (18, [.int (nI (mc + 1)), .ref (ar), .int (nI (n))])) hA.1 rfl rfl (Or.inl (Or.inl rfl))).yo hfog)).isO hx) (by omega) (by omega) ?_
    have p15 : rd G ((hset (hset (hset (hset (hset h (a) (.inr (18, [.int (nI (mc + 1)), .ref (ar), .int (nI (n))]))) og (qA G c2 g2)) (a) (.inr (18, [.int (nI (mc + 1)), .ref og, .int (nI (n))]))) (og) (qA G c2 (va_cpy g2 g2 k (k + 1) (n - k)))) (og) (qA G c2 ((upq (va_cpy g2 g2 k (k + 1) (n - k)) k (some x)))))) ar (qA G n g) := (p12.put2 (p7.nen hfog))
    have p16 : (hset (hset (hset (hset (hset h (a) (.inr (18, [.int (nI (mc + 1)), .ref (ar), .int (nI (n))]))) og (qA G c2 g2)) (a) (.inr (18, [.int (nI (mc + 1)), .ref og, .int (nI (n))]))) (og) (qA G c2 (va_cpy g2 g2 k (k + 1) (n - k)))) (og) (qA G c2 ((upq (va_cpy g2 g2 k (k + 1) (n - k)) k (some x))))) a = some (.inr (18, [.int (nI (mc + 1)), .ref og, .int (nI (n))])) := ((hset_ne (ne_nw p8 hfog)).trans p13)
    have p17 : (hset (hset (hset (hset (hset h (a) (.inr (18, [.int (nI (mc + 1)), .ref (ar), .int (nI (n))]))) og (qA G c2 g2)) (a) (.inr (18, [.int (nI (mc + 1)), .ref og, .int (nI (n))]))) (og) (qA G c2 (va_cpy g2 g2 k (k + 1) (n - k)))) (og) (qA G c2 ((upq (va_cpy g2 g2 k (k + 1) (n - k)) k (some x))))) og = some (qA G c2 ((upq (va_cpy g2 g2 k (k + 1) (n - k)) k (some x)))) := (hset_self (e := qA G c2 ((upq (va_cpy g2 g2 k (k + 1) (n - k)) k (some x)))))
    refine V_aload_n (i := 0) F dJ8_add_3_57 rfl rfl ?_
    refine V_iload_n (i := 3) F dJ8_add_3_58 rfl rfl ?_
    refine V_iconst (v := nI 1) F dJ8_add_3_59 rfl ?_
    refine V_iaddN F dJ8_add_3_60 ?_
    refine V_putf F dJ8_add_3_61 fp_J8_48_J8 p16 rfl rfl (Nat.le_of_ble_eq_true rfl) ?_
    refine VV.heap (h' := (hset (hset (hset (hset (hset (hset h (a) (.inr (18, [.int (nI (mc + 1)), .ref (ar), .int (nI (n))]))) og (qA G c2 g2)) (a) (.inr (18, [.int (nI (mc + 1)), .ref og, .int (nI (n))]))) (og) (qA G c2 (va_cpy g2 g2 k (k + 1) (n - k)))) (og) (qA G c2 ((upq (va_cpy g2 g2 k (k + 1) (n - k)) k (some x))))) (a) (.inr (18, [.int (nI (mc + 1)), .ref og, .int (nI (n + 1))])))) rfl ?_
    have hfr := (((((((Fr.rf (M := m2 a ar) (h := h)).put (x := .inr (18, [.int (nI (mc + 1)), .ref (ar), .int (nI (n))])) hA.1 rfl rfl (Or.inl (Or.inl rfl))).nw (x := qA G c2 g2) hfog).put (x := .inr (18, [.int (nI (mc + 1)), .ref og, .int (nI (n))])) ((hset_ne (ne_nw p8 hfog)).trans p8) rfl rfl (Or.inl (Or.inl rfl))).put (x := qA G c2 (va_cpy g2 g2 k (k + 1) (n - k))) p10 ⟨rfl, rfl⟩ rfl (((Fr.rf (M := m2 a ar) (h := h)).put (x := .inr (18, [.int (nI (mc + 1)), .ref (ar), .int (nI (n))])) hA.1 rfl rfl (Or.inl (Or.inl rfl))).yo hfog)).put (x := qA G c2 ((upq (va_cpy g2 g2 k (k + 1) (n - k)) k (some x)))) p14 ⟨rfl, rfl⟩ rfl (((Fr.rf (M := m2 a ar) (h := h)).put (x := .inr (18, [.int (nI (mc + 1)), .ref (ar), .int (nI (n))])) hA.1 rfl rfl (Or.inl (Or.inl rfl))).yo hfog)).put (x := .inr (18, [.int (nI (mc + 1)), .ref og, .int (nI (n + 1))])) p16 rfl rfl (Or.inl (Or.inl rfl)))
    refine V_vret F dJ8_add_3_64 (by first | exact Nat.le_of_ble_eq_true rfl | omega) (by first | exact Nat.le_of_ble_eq_true rfl | omega) ⟨rfl, og, ⟨(hset_self (e := .inr (18, [.int (nI (mc + 1)), .ref og, .int (nI (n + 1))]))), fun i hi => ?_, c2, _, (.inl ((hset_ne (Ne.symm (ne_nw p8 hfog))).trans p17)), fun _ => ((hset_ne (Ne.symm (ne_nw p8 hfog))).trans p17), by omega, by omega, Or.inl (by omega), fun i hi => ins_arr (fun i hi => (hg2 i hi).trans (z4 i hi)) hk i hi⟩, hfr, Or.inr ⟨hf33.none hfog, hbog⟩⟩
    rcases sk_cases hi (by omega : k < n + 1) with rfl | ⟨j, hj, rfl⟩
    · rw [insF_p]; exact hfr.isO hx
    · rw [insF_s]; exact hfr.isO (hA.2.1 j hj)
