/-- a PriorityQueue without comparator at a, its array at ar: n elements f 0 .. (their order is not told) -/
def PQs (G : GG) (h : AH) (a ar mc n cap : Nat) (f : Nat → Nat) : Prop := h a = some (.inr (31, [.ref ar, .int (nI n), .null, .int (nI mc)])) ∧ (∀ i, i < n → isO G h (f i)) ∧ n ≤ cap ∧ 0 < cap ∧ cap < 100000 ∧ ∃ g, h ar = some (qA G cap g) ∧ ∀ i, i < n → g i = some (f i)

theorem ct_J45_init {G : GG} {l : Launch} {h : AH} {a : Nat}  : Ct G l yJ45_init cJ45_init 1 none 2 (0) (0) [.ref a] h (PV h) := by
  refine Ct.of (by decide) (Nat.le_of_ble_eq_true rfl) (cat1 rfl) (fun X hXl F HN => ?_)
  subst hXl
  refine V_aload_n (i := 0) F dJ45_init_0 rfl rfl ?_
  refine V_callI (st := []) F dJ45_init_1 lk_J45_1 (ct_J0_init) rfl rfl (Nat.le_of_ble_eq_true rfl) (Nat.le_of_ble_eq_true rfl) (Nat.le_of_ble_eq_true rfl) (by first | exact Nat.le_of_ble_eq_true rfl | omega) (by first | exact Nat.le_of_ble_eq_true rfl | omega) ?_
  refine PVk ?_
  exact V_vret F dJ45_init_4 (by first | exact Nat.le_of_ble_eq_true rfl | omega) (by first | exact Nat.le_of_ble_eq_true rfl | omega) ⟨rfl, rfl⟩
theorem ct_PQ_init2 {G : GG} {l : Launch} {h : AH} {a : Nat} (f : Nat → Nat) (ha : h a = some (.inr (31, [.null, .int 0, .null, .int 0]))) : Ct G l yJ46_init_2 cJ46_init_2 3 none 3 (1) (11) [.ref a, .int (nI 11), .null] h (fun r h2 => r = none ∧ ∃ ar, h ar = none ∧ bz G ≤ ar ∧ PQs G h2 a ar 0 0 11 f ∧ Fr (m1 a) h h2) := by
  refine Ct.of (by decide) (Nat.le_of_ble_eq_true rfl) (cat1 rfl) (fun X hXl F HN => ?_)
  subst hXl
  refine V_aload_n (i := 0) F dJ46_init_2_0 rfl rfl ?_
  refine V_callI (st := []) F dJ46_init_2_1 lk_J46_7 (ct_J45_init) rfl rfl (Nat.le_of_ble_eq_true rfl) (Nat.le_of_ble_eq_true rfl) (Nat.le_of_ble_eq_true rfl) (by first | exact Nat.le_of_ble_eq_true rfl | omega) (by first | exact Nat.le_of_ble_eq_true rfl | omega) ?_
  refine PVk ?_
  refine V_iload_n (i := 1) F dJ46_init_2_4 rfl rfl ?_
  refine V_iconst (v := nI 1) F dJ46_init_2_5 rfl ?_
  refine V_icmp_geN (tgt := 17) F dJ46_init_2_6 (by decide) (by decide) (by decide) (fun c_6 => ?_) (fun c_6 => absurd c_6 (by decide))
  refine V_aload_n (i := 0) F dJ46_init_2_17 rfl rfl ?_
  refine V_iload_n (i := 1) F dJ46_init_2_18 rfl rfl ?_
  refine V_newaQ F dJ46_init_2_19 q1301 (by decide) (by first | exact Nat.le_of_ble_eq_true rfl | omega) (by first | exact Nat.le_of_ble_eq_true rfl | omega) ?_
  intro ar hfar hbar
  have p1 : (hset h ar (qA G 11 (fun _ => none))) a = some (.inr (31, [.null, .int (0), .null, .int (0)])) := ((hset_ne (ne_nw ha hfar)).trans ha)
  have p2 : (hset h ar (qA G 11 (fun _ => none))) ar = some (qA G 11 (fun _ => none)) := (hset_self (e := qA G 11 (fun _ => none)))
  refine V_putf F dJ46_init_2_22 fp_J46_17_J46 p1 rfl rfl (Nat.le_of_ble_eq_true rfl) ?_
  refine VV.heap (h' := (hset (hset h ar (qA G 11 (fun _ => none))) (a) (.inr (31, [.ref (ar), .int (0), .null, .int (0)])))) rfl ?_
  have p3 : (hset (hset h ar (qA G 11 (fun _ => none))) (a) (.inr (31, [.ref (ar), .int (0), .null, .int (0)]))) ar = some (qA G 11 (fun _ => none)) := ((hset_ne (Ne.symm (ne_nw ha hfar))).trans p2)
  have p4 : (hset (hset h ar (qA G 11 (fun _ => none))) (a) (.inr (31, [.ref (ar), .int (0), .null, .int (0)]))) a = some (.inr (31, [.ref (ar), .int (0), .null, .int (0)])) := (hset_self (e := .inr (31, [.ref (ar), .int (0), .null, .int (0)])))
  refine V_aload_n (i := 0) F dJ46_init_2_25 rfl rfl ?_
  refine V_aload_nN (i := 2) F dJ46_init_2_26 rfl rfl ?_
  refine V_putF F dJ46_init_2_27 ff_J46_21_J46 p4 HN rfl rfl (Nat.le_of_ble_eq_true rfl) ?_
  refine VV.heap (h' := (hset (hset (hset h ar (qA G 11 (fun _ => none))) (a) (.inr (31, [.ref (ar), .int (0), .null, .int (0)]))) (a) (.inr (31, [.ref (ar), .int (0), .null, .int (0)])))) rfl ?_
  have p5 : (hset (hset (hset h ar (qA G 11 (fun _ => none))) (a) (.inr (31, [.ref (ar), .int (0), .null, .int (0)]))) (a) (.inr (31, [.ref (ar), .int (0), .null, .int (0)]))) ar = some (qA G 11 (fun _ => none)) := ((hset_ne (Ne.symm (ne_nw ha hfar))).trans p3)
  have p6 : (hset (hset (hset h ar (qA G 11 (fun _ => none))) (a) (.inr (31, [.ref (ar), .int (0), .null, .int (0)]))) (a) (.inr (31, [.ref (ar), .int (0), .null, .int (0)]))) a = some (.inr (31, [.ref (ar), .int (0), .null, .int (0)])) := (hset_self (e := .inr (31, [.ref (ar), .int (0), .null, .int (0)])))
  have hfz := ((((Fr.rf (M := m1 a) (h := h)).nw (x := qA G 11 (fun _ => none)) hfar).put (x := .inr (31, [.ref (ar), .int (0), .null, .int (0)])) p1 rfl rfl (Or.inl rfl)).put (x := .inr (31, [.ref (ar), .int (0), .null, .int (0)])) p4 rfl rfl (Or.inl rfl))
  exact V_vret F dJ46_init_2_30 (by first | exact Nat.le_of_ble_eq_true rfl | omega) (by first | exact Nat.le_of_ble_eq_true rfl | omega) ⟨rfl, ar, hfar, hbar, ⟨p6, fun i hi => absurd hi (Nat.not_lt_zero i), Nat.zero_le _, by decide, by decide, _, p5, fun i hi => absurd hi (Nat.not_lt_zero i)⟩, hfz⟩
theorem ct_PQ_init {G : GG} {l : Launch} {h : AH} {a : Nat} (f : Nat → Nat) (ha : h a = some (.inr (31, [.null, .int 0, .null, .int 0]))) : Ct G l yJ46_init cJ46_init 1 none 4 (1) (11) [.ref a] h (fun r h2 => r = none ∧ ∃ ar, h ar = none ∧ bz G ≤ ar ∧ PQs G h2 a ar 0 0 11 f ∧ Fr (m1 a) h h2) := by
  refine Ct.of (by decide) (Nat.le_of_ble_eq_true rfl) (cat1 rfl) (fun X hXl F HN => ?_)
  subst hXl
  refine V_aload_n (i := 0) F dJ46_init_0 rfl rfl ?_
  refine V_bipush (v := nI 11) F dJ46_init_1 rfl ?_
  refine V_null F dJ46_init_3 ?_
  refine V_callI (st := []) F dJ46_init_4 lk_J46_3 (ct_PQ_init2 f ha) rfl rfl (Nat.le_of_ble_eq_true rfl) (Nat.le_of_ble_eq_true rfl) (Nat.le_of_ble_eq_true rfl) (by first | exact Nat.le_of_ble_eq_true rfl | omega) (by first | exact Nat.le_of_ble_eq_true rfl | omega) ?_
  rintro _ h2 ⟨rfl, ar, har, hba, hQ, hx⟩
  exact V_vret F dJ46_init_7 (by first | exact Nat.le_of_ble_eq_true rfl | omega) (by first | exact Nat.le_of_ble_eq_true rfl | omega) ⟨rfl, ar, har, hba, hQ, hx⟩
theorem ct_PQ_size {G : GG} {l : Launch} {h : AH} {a ar mc n cap : Nat} {f : Nat → Nat} (hQ : PQs G h a ar mc n cap f) : Ct G l yJ46_size cJ46_size 1 (some .int) 0 (0) (0) [.ref a] h (PR (.int (nI n)) h) := by
  refine Ct.of (by decide) (Nat.le_of_ble_eq_true rfl) (cat1 rfl) (fun X hXl F HN => ?_)
  subst hXl
  refine V_aload_n (i := 0) F dJ46_size_0 rfl rfl ?_
  refine V_getf F dJ46_size_1 fc_J46_58_J46 (.inl hQ.1) rfl ?_
  exact V_iret F dJ46_size_4 rfl (by first | exact Nat.le_of_ble_eq_true rfl | omega) (by first | exact Nat.le_of_ble_eq_true rfl | omega) ⟨rfl, rfl⟩
theorem ct_PQ_isEmpty {G : GG} {l : Launch} {h : AH} {a ar mc n cap : Nat} {f : Nat → Nat} (hQ : PQs G h a ar mc n cap f) (hn : n < 2 ^ 31) : Ct G l yJ0_isEmpty cJ0_isEmpty 1 (some .boolean) 1 (0) (0) [.ref a] h (PR (.int (b2 (n = 0))) h) := by
  refine Ct.of (by decide) (Nat.le_of_ble_eq_true rfl) (cat1 rfl) (fun X hXl F HN => ?_)
  subst hXl
  refine V_aload_n (i := 0) F dJ0_isEmpty_0 rfl rfl ?_
  refine V_callU (st := []) F dJ0_isEmpty_1 ⟨lw_U q1763 q4215 q4218 q1764 q165 q1765, q828, (by decide +kernel)⟩ (ct_PQ_size hQ) ⟨31, _, _, _, rfl, (.inl hQ.1)⟩ rfl rfl (Nat.le_of_ble_eq_true rfl) (Nat.le_of_ble_eq_true rfl) (Nat.le_of_ble_eq_true rfl) (by first | exact Nat.le_of_ble_eq_true rfl | omega) (by first | exact Nat.le_of_ble_eq_true rfl | omega) ?_
  refine PRk ?_
  refine V_if_neN (tgt := 11) F dJ0_isEmpty_4 (by decide) hn (fun c_4 => ?_) (fun c_4 => ?_)
  · refine V_iconst (v := nI 0) F dJ0_isEmpty_11 rfl ?_
    exact V_iret F dJ0_isEmpty_12 rfl (by first | exact Nat.le_of_ble_eq_true rfl | omega) (by first | exact Nat.le_of_ble_eq_true rfl | omega) ⟨by rw [b2_f (by omega)]; rfl, rfl⟩
  · refine V_iconst (v := nI 1) F dJ0_isEmpty_7 rfl ?_
    refine V_goto (tgt := 12) F dJ0_isEmpty_8 (by decide) ?_
    exact V_iret F dJ0_isEmpty_12 rfl (by first | exact Nat.le_of_ble_eq_true rfl | omega) (by first | exact Nat.le_of_ble_eq_true rfl | omega) ⟨by rw [b2_t (by omega)]; rfl, rfl⟩
