theorem ct_J1_init_J3 {G : GG} {l : Launch} {h : AH} {a : Nat} (ha : h a = some (.inr (19, [.int 0, .int 0, .null, .null]))) : Ct G l yJ1_init cJ1_init 1 none 2 (0) (0) [.ref a] h (PV (hset h a (.inr (19, [.int (nI 0), .int 0, .null, .null])))) := by
  refine Ct.of (by decide) (Nat.le_of_ble_eq_true rfl) (cat1 rfl) (fun X hXl F HN => ?_)
  subst hXl
  refine V_aload_n (i := 0) F dJ1_init_0 rfl rfl ?_
  refine V_callI (st := []) F dJ1_init_1 lk_J1_1 (ct_J0_init) rfl rfl (Nat.le_of_ble_eq_true rfl) (Nat.le_of_ble_eq_true rfl) (Nat.le_of_ble_eq_true rfl) (by first | exact Nat.le_of_ble_eq_true rfl | omega) (by first | exact Nat.le_of_ble_eq_true rfl | omega) ?_
  refine PVk ?_
  refine V_aload_n (i := 0) F dJ1_init_4 rfl rfl ?_
  refine V_iconst (v := nI 0) F dJ1_init_5 rfl ?_
  refine V_putf F dJ1_init_6 fp_J1_7_J3 ha rfl rfl (Nat.le_of_ble_eq_true rfl) ?_
  refine VV.heap (h' := (hset h (a) (.inr (19, [.int (nI (0)), .int 0, .null, .null])))) rfl ?_
  exact V_vret F dJ1_init_9 (by first | exact Nat.le_of_ble_eq_true rfl | omega) (by first | exact Nat.le_of_ble_eq_true rfl | omega) ⟨rfl, rfl⟩
theorem ct_J2_init_J3 {G : GG} {l : Launch} {h : AH} {a : Nat} (ha : h a = some (.inr (19, [.int 0, .int 0, .null, .null]))) : Ct G l yJ2_init cJ2_init 1 none 3 (0) (0) [.ref a] h (PV (hset h a (.inr (19, [.int (nI 0), .int 0, .null, .null])))) := by
  refine Ct.of (by decide) (Nat.le_of_ble_eq_true rfl) (cat1 rfl) (fun X hXl F HN => ?_)
  subst hXl
  refine V_aload_n (i := 0) F dJ2_init_0 rfl rfl ?_
  refine V_callI (st := []) F dJ2_init_1 lk_J2_1 (ct_J1_init_J3 ha) rfl rfl (Nat.le_of_ble_eq_true rfl) (Nat.le_of_ble_eq_true rfl) (Nat.le_of_ble_eq_true rfl) (by first | exact Nat.le_of_ble_eq_true rfl | omega) (by first | exact Nat.le_of_ble_eq_true rfl | omega) ?_
  rintro _ _ ⟨rfl, rfl⟩
  exact V_vret F dJ2_init_4 (by first | exact Nat.le_of_ble_eq_true rfl | omega) (by first | exact Nat.le_of_ble_eq_true rfl | omega) ⟨rfl, rfl⟩
theorem ct_LL_init {G : GG} {l : Launch} {h : AH} {a : Nat} (A V : Nat → Nat) (ha : h a = some (.inr (19, [.int 0, .int 0, .null, .null]))) : Ct G l yJ3_init cJ3_init 1 none 4 (0) (0) [.ref a] h (fun r h2 => r = none ∧ LLs h2 a 0 0 A V ∧ Fr (m1 a) h h2) := by
  refine Ct.of (by decide) (Nat.le_of_ble_eq_true rfl) (cat1 rfl) (fun X hXl F HN => ?_)
  subst hXl
  refine V_aload_n (i := 0) F dJ3_init_0 rfl rfl ?_
  refine V_callI (st := []) F dJ3_init_1 lk_J3_1 (ct_J2_init_J3 ha) rfl rfl (Nat.le_of_ble_eq_true rfl) (Nat.le_of_ble_eq_true rfl) (Nat.le_of_ble_eq_true rfl) (by first | exact Nat.le_of_ble_eq_true rfl | omega) (by first | exact Nat.le_of_ble_eq_true rfl | omega) ?_
  rintro _ _ ⟨rfl, rfl⟩
  refine V_aload_n (i := 0) F dJ3_init_4 rfl rfl ?_
  refine V_iconst (v := nI 0) F dJ3_init_5 rfl ?_
  refine V_putf F dJ3_init_6 fp_J3_7_J3 (hset_self (e := .inr (19, [.int (nI 0), .int 0, .null, .null]))) rfl rfl (Nat.le_of_ble_eq_true rfl) ?_
  refine VV.heap (h' := (hset (hset h (a) (.inr (19, [.int (nI 0), .int 0, .null, .null]))) (a) (.inr (19, [.int (nI 0), .int (nI (0)), .null, .null])))) rfl ?_
  exact V_vret F dJ3_init_9 (by first | exact Nat.le_of_ble_eq_true rfl | omega) (by first | exact Nat.le_of_ble_eq_true rfl | omega) ⟨rfl, ⟨(hset_self (e := .inr (19, [.int (nI 0), .int (nI (0)), .null, .null]))), fun i j hi => absurd hi (Nat.not_lt_zero i), fun i hi => absurd hi (Nat.not_lt_zero i)⟩, (((Fr.rf (M := m1 a) (h := h)).put (x := .inr (19, [.int (nI 0), .int 0, .null, .null])) ha rfl rfl (Or.inl rfl)).put (x := .inr (19, [.int (nI 0), .int (nI (0)), .null, .null])) (hset_self (e := .inr (19, [.int (nI 0), .int 0, .null, .null]))) rfl rfl (Or.inl rfl))⟩
theorem ct_LL_isEmpty {G : GG} {l : Launch} {h : AH} {a mc n : Nat} {A V : Nat → Nat}  (hL : LLs h a mc n A V) (hn : n < 2 ^ 31) : Ct G l yJ0_isEmpty cJ0_isEmpty 1 (some .boolean) 1 (0) (0) [.ref a] h (PR (.int (b2 (n = 0))) h) := by
  refine Ct.of (by decide) (Nat.le_of_ble_eq_true rfl) (cat1 rfl) (fun X hXl F HN => ?_)
  subst hXl
  refine V_aload_n (i := 0) F dJ0_isEmpty_0 rfl rfl ?_
  refine V_callU (st := []) F dJ0_isEmpty_1 ⟨lw_U q1763 q4215 q4217 q396 q105 q398, q828, (by decide +kernel)⟩ (ct_LL_size hL) ⟨19, _, _, _, rfl, (.inl hL.1)⟩ rfl rfl (Nat.le_of_ble_eq_true rfl) (Nat.le_of_ble_eq_true rfl) (Nat.le_of_ble_eq_true rfl) (by first | exact Nat.le_of_ble_eq_true rfl | omega) (by first | exact Nat.le_of_ble_eq_true rfl | omega) ?_
  refine PRk ?_
  refine V_if_neN (tgt := 11) F dJ0_isEmpty_4 (by decide) hn (fun c_4 => ?_) (fun c_4 => ?_)
  · refine V_iconst (v := nI 0) F dJ0_isEmpty_11 rfl ?_
    exact V_iret F dJ0_isEmpty_12 rfl (by first | exact Nat.le_of_ble_eq_true rfl | omega) (by first | exact Nat.le_of_ble_eq_true rfl | omega) ⟨by rw [b2_f (by omega)]; rfl, rfl⟩
  · refine V_iconst (v := nI 1) F dJ0_isEmpty_7 rfl ?_
    refine V_goto (tgt := 12) F dJ0_isEmpty_8 (by decide) ?_
    exact V_iret F dJ0_isEmpty_12 rfl (by first | exact Nat.le_of_ble_eq_true rfl | omega) (by first | exact Nat.le_of_ble_eq_true rfl | omega) ⟨by rw [b2_t (by omega)]; rfl, rfl⟩
theorem ct_LL_clear {G : GG} {l : Launch} {h : AH} {a mc n : Nat} {A V : Nat → Nat}  (hL : LLs h a mc n A V) : Ct G l yJ3_clear cJ3_clear 3 none 0 (0) (0) [.ref a] h (fun r h2 => r = none ∧ LLs h2 a (mc + 1) 0 A V ∧ Fr (mT a n A) h h2) := by
  refine Ct.of (by decide) (Nat.le_of_ble_eq_true rfl) (cat1 rfl) (fun X hXl F HN => ?_)
  subst hXl
  have hN := hL.2.2
  have loop : ∀ (nn j : Nat) (hh : AH), n - j < nn → j ≤ n → hh a = some (.inr (19, [.int (nI mc), .int (nI n), va_rf (if 0 < n then some (A 0) else none), va_rf (if 0 < n then some (A (n - 1)) else none)])) → (∀ i, j ≤ i → i < n → hh (A i) = some (.inr (20, [.ref (V i), va_rf (nx2 A n i), va_rf (pv2 A i)]))) → Fr (mT a n A) h hh → VV G X 3 (EQ G X 0 0 (fun r h2 => r = none ∧ LLs h2 a (mc + 1) 0 A V ∧ Fr (mT a n A) h h2)) hh 0 0 [some (.ref a), some (va_rf (if j < n then some (A j) else none)), none] [] 5 := by
    intro nn
    induction nn with
    | zero => intro j hh hm; exact absurd hm (by omega)
    | succ nn ih =>
      intro j hh hm hj ha hM hF
      by_cases c : j < n
      · have hz := hM j (Nat.le_refl j) c
        refine VV.loc (L' := [some (.ref (a)), some (.ref (A j)), none]) (by rw [if_pos c]; rfl) ?_
        refine V_aload_n (i := 1) F dJ3_clear_5 rfl rfl ?_
        refine V_ifnull F dJ3_clear_6 ?_
        refine V_aload_n (i := 1) F dJ3_clear_9 rfl rfl ?_
        refine V_getf F dJ3_clear_10 fc_J3_36_J24 (.inl hz) rfl ?_
        refine V_astore_nQ (i := 2) F dJ3_clear_13 rfl (Nat.le_of_ble_eq_true rfl) (Nat.le_of_ble_eq_true rfl) ?_
        refine V_aload_n (i := 1) F dJ3_clear_14 rfl rfl ?_
        refine V_null F dJ3_clear_15 ?_
        refine V_putf F dJ3_clear_16 fp_J3_39_J24 hz rfl rfl (Nat.le_of_ble_eq_true rfl) ?_
        refine VV.heap (h' := (hset hh (A j) (.inr (20, [.null, va_rf (nx2 A n j), va_rf (pv2 A j)])))) rfl ?_
        have p1 : (hset hh (A j) (.inr (20, [.null, va_rf (nx2 A n j), va_rf (pv2 A j)]))) a = some (.inr (19, [.int (nI mc), .int (nI n), va_rf (if 0 < n then some (A 0) else none), va_rf (if 0 < n then some (A (n - 1)) else none)])) := ((hset_ne (ne_oo ha hz (by decide))).trans ha)
        have p2 : (hset hh (A j) (.inr (20, [.null, va_rf (nx2 A n j), va_rf (pv2 A j)]))) (A j) = some (.inr (20, [.null, va_rf (nx2 A n j), va_rf (pv2 A j)])) := (hset_self (e := .inr (20, [.null, va_rf (nx2 A n j), va_rf (pv2 A j)])))
        refine V_aload_n (i := 1) F dJ3_clear_19 rfl rfl ?_
        refine V_null F dJ3_clear_20 ?_
        refine V_putf F dJ3_clear_21 fp_J3_36_J24 p2 rfl rfl (Nat.le_of_ble_eq_true rfl) ?_
        refine VV.heap (h' := (hset (hset hh (A j) (.inr (20, [.null, va_rf (nx2 A n j), va_rf (pv2 A j)]))) (A j) (.inr (20, [.null, .null, va_rf (pv2 A j)])))) rfl ?_
        have p3 : (hset (hset hh (A j) (.inr (20, [.null, va_rf (nx2 A n j), va_rf (pv2 A j)]))) (A j) (.inr (20, [.null, .null, va_rf (pv2 A j)]))) a = some (.inr (19, [.int (nI mc), .int (nI n), va_rf (if 0 < n then some (A 0) else none), va_rf (if 0 < n then some (A (n - 1)) else none)])) := ((hset_ne (ne_oo p1 p2 (by decide))).trans p1)
        have p4 : (hset (hset hh (A j) (.inr (20, [.null, va_rf (nx2 A n j), va_rf (pv2 A j)]))) (A j) (.inr (20, [.null, .null, va_rf (pv2 A j)]))) (A j) = some (.inr (20, [.null, .null, va_rf (pv2 A j)])) := (hset_self (e := .inr (20, [.null, .null, va_rf (pv2 A j)])))
        refine V_aload_n (i := 1) F dJ3_clear_24 rfl rfl ?_
        refine V_null F dJ3_clear_25 ?_
        refine V_putf F dJ3_clear_26 fp_J3_30_J24 p4 rfl rfl (Nat.le_of_ble_eq_true rfl) ?_
        refine VV.heap (h' := (hset (hset (hset hh (A j) (.inr (20, [.null, va_rf (nx2 A n j), va_rf (pv2 A j)]))) (A j) (.inr (20, [.null, .null, va_rf (pv2 A j)]))) (A j) (.inr (20, [.null, .null, .null])))) rfl ?_
        refine V_aload_nQ (i := 2) F dJ3_clear_29 rfl rfl ?_
        refine V_astore_nQ (i := 1) F dJ3_clear_30 rfl (Nat.le_of_ble_eq_true rfl) (Nat.le_of_ble_eq_true rfl) ?_
        refine V_goto (tgt := 5) F dJ3_clear_31 (by decide) ?_
        refine VV.weak (L' := [some (.ref (a)), some (va_rf (nx2 A n j)), none]) (LW.c1 (LW.c1 (LW.c0 LW.nil))) ?_
        refine VV.loc (L' := [some (.ref (a)), some (va_rf (if j + 1 < n then some (A (j + 1)) else none)), none]) rfl ?_
        have pa : (hset (hset (hset hh (A j) (.inr (20, [.null, va_rf (nx2 A n j), va_rf (pv2 A j)]))) (A j) (.inr (20, [.null, .null, va_rf (pv2 A j)]))) (A j) (.inr (20, [.null, .null, .null]))) a = some (.inr (19, [.int (nI mc), .int (nI n), va_rf (if 0 < n then some (A 0) else none), va_rf (if 0 < n then some (A (n - 1)) else none)])) := ((hset_ne (ne_oo p3 p4 (by decide))).trans p3)
        refine ih (j + 1) _ (by omega) (by omega) pa (fun i hi hn => ?_) (((hF.put (x := .inr (20, [.null, va_rf (nx2 A n j), va_rf (pv2 A j)])) hz rfl rfl (Or.inl (Or.inr ⟨j, c, rfl⟩))).put (x := .inr (20, [.null, .null, va_rf (pv2 A j)])) p2 rfl rfl (Or.inl (Or.inr ⟨j, c, rfl⟩))).put (x := .inr (20, [.null, .null, .null])) p4 rfl rfl (Or.inl (Or.inr ⟨j, c, rfl⟩)))
        have e : A i ≠ A j := fun z => by have := hL.2.1 i j hn c z; omega
        simp only [hset, if_neg e]
        exact hM i (by omega) hn
      · refine VV.loc (L' := [some (.ref (a)), some (.null), none]) (by rw [if_neg c]; rfl) ?_
        refine V_aload_nN (i := 1) F dJ3_clear_5 rfl rfl ?_
        refine V_ifnullN (tgt := 34) F dJ3_clear_6 (by decide) ?_
        refine V_aload_n (i := 0) F dJ3_clear_34 rfl rfl ?_
        refine V_aload_n (i := 0) F dJ3_clear_35 rfl rfl ?_
        refine V_null F dJ3_clear_36 ?_
        refine V_dup_x1 F dJ3_clear_37 rfl rfl ?_
        refine V_putf F dJ3_clear_38 fp_J3_27_J3 ha rfl rfl (Nat.le_of_ble_eq_true rfl) ?_
        refine VV.heap (h' := (hset hh (a) (.inr (19, [.int (nI mc), .int (nI n), va_rf (if 0 < n then some (A 0) else none), .null])))) rfl ?_
        refine V_putf F dJ3_clear_41 fp_J3_18_J3 (hset_self (e := .inr (19, [.int (nI mc), .int (nI n), va_rf (if 0 < n then some (A 0) else none), .null]))) rfl rfl (Nat.le_of_ble_eq_true rfl) ?_
        refine VV.heap (h' := (hset (hset hh (a) (.inr (19, [.int (nI mc), .int (nI n), va_rf (if 0 < n then some (A 0) else none), .null]))) (a) (.inr (19, [.int (nI mc), .int (nI n), .null, .null])))) rfl ?_
        have p1 : (hset (hset hh (a) (.inr (19, [.int (nI mc), .int (nI n), va_rf (if 0 < n then some (A 0) else none), .null]))) (a) (.inr (19, [.int (nI mc), .int (nI n), .null, .null]))) a = some (.inr (19, [.int (nI mc), .int (nI n), .null, .null])) := (hset_self (e := .inr (19, [.int (nI mc), .int (nI n), .null, .null])))
        refine V_aload_n (i := 0) F dJ3_clear_44 rfl rfl ?_
        refine V_iconst (v := nI 0) F dJ3_clear_45 rfl ?_
        refine V_putf F dJ3_clear_46 fp_J3_7_J3 p1 rfl rfl (Nat.le_of_ble_eq_true rfl) ?_
        refine VV.heap (h' := (hset (hset (hset hh (a) (.inr (19, [.int (nI mc), .int (nI n), va_rf (if 0 < n then some (A 0) else none), .null]))) (a) (.inr (19, [.int (nI mc), .int (nI n), .null, .null]))) (a) (.inr (19, [.int (nI mc), .int (nI (0)), .null, .null])))) rfl ?_
        have p2 : (hset (hset (hset hh (a) (.inr (19, [.int (nI mc), .int (nI n), va_rf (if 0 < n then some (A 0) else none), .null]))) (a) (.inr (19, [.int (nI mc), .int (nI n), .null, .null]))) (a) (.inr (19, [.int (nI mc), .int (nI (0)), .null, .null]))) a = some (.inr (19, [.int (nI mc), .int (nI (0)), .null, .null])) := (hset_self (e := .inr (19, [.int (nI mc), .int (nI (0)), .null, .null])))
        refine V_aload_n (i := 0) F dJ3_clear_49 rfl rfl ?_
        refine V_dup F dJ3_clear_50 rfl ?_
        refine V_getf F dJ3_clear_51 fc_J3_33_J3 (.inl p2) rfl ?_
        refine V_iconst (v := nI 1) F dJ3_clear_54 rfl ?_
        refine V_iaddN F dJ3_clear_55 ?_
        refine V_putf F dJ3_clear_56 fp_J3_33_J3 p2 rfl rfl (Nat.le_of_ble_eq_true rfl) ?_
        refine VV.heap (h' := (hset (hset (hset (hset hh (a) (.inr (19, [.int (nI mc), .int (nI n), va_rf (if 0 < n then some (A 0) else none), .null]))) (a) (.inr (19, [.int (nI mc), .int (nI n), .null, .null]))) (a) (.inr (19, [.int (nI mc), .int (nI (0)), .null, .null]))) (a) (.inr (19, [.int (nI (mc + 1)), .int (nI (0)), .null, .null])))) rfl ?_
        exact V_vret F dJ3_clear_59 (by first | exact Nat.le_of_ble_eq_true rfl | omega) (by first | exact Nat.le_of_ble_eq_true rfl | omega) ⟨rfl, ⟨(hset_self (e := .inr (19, [.int (nI (mc + 1)), .int (nI (0)), .null, .null]))), fun i j hi => absurd hi (Nat.not_lt_zero i), fun i hi => absurd hi (Nat.not_lt_zero i)⟩, ((((hF.put (x := .inr (19, [.int (nI mc), .int (nI n), va_rf (if 0 < n then some (A 0) else none), .null])) ha rfl rfl (Or.inl (Or.inl rfl))).put (x := .inr (19, [.int (nI mc), .int (nI n), .null, .null])) (hset_self (e := .inr (19, [.int (nI mc), .int (nI n), va_rf (if 0 < n then some (A 0) else none), .null]))) rfl rfl (Or.inl (Or.inl rfl))).put (x := .inr (19, [.int (nI mc), .int (nI (0)), .null, .null])) p1 rfl rfl (Or.inl (Or.inl rfl))).put (x := .inr (19, [.int (nI (mc + 1)), .int (nI (0)), .null, .null])) p2 rfl rfl (Or.inl (Or.inl rfl)))⟩
  refine V_aload_n (i := 0) F dJ3_clear_0 rfl rfl ?_
  refine V_getf F dJ3_clear_1 fc_J3_18_J3 (.inl hL.1) rfl ?_
  refine V_astore_nQ (i := 1) F dJ3_clear_4 rfl (Nat.le_of_ble_eq_true rfl) (Nat.le_of_ble_eq_true rfl) ?_
  exact loop (n + 1) 0 h (by omega) (Nat.zero_le n) hL.1 (fun i _ hi => hN i hi) Fr.rf
