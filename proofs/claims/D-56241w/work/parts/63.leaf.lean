theorem isO_leg {G : GG} {h : AH} {a : Nat} {f : List Value} (ha : h a = some (.inr (5, f))) : isO G h a := ⟨_, ⟨5, _, _, _, rfl, .inl ha⟩, q4266⟩
theorem isO_train {G : GG} {h : AH} {a : Nat} {f : List Value} (ha : h a = some (.inr (4, f))) : isO G h a := ⟨_, ⟨4, _, _, _, rfl, .inl ha⟩, q4250⟩
theorem isO_suit {G : GG} {h : AH} {a : Nat} {f : List Value} (ha : h a = some (.inr (8, f))) : isO G h a := ⟨_, ⟨8, _, _, _, rfl, .inl ha⟩, q4264⟩
theorem isO_book {G : GG} {h : AH} {a : Nat} {f : List Value} (ha : h a = some (.inr (11, f))) : isO G h a := ⟨_, ⟨11, _, _, _, rfl, .inl ha⟩, q4269⟩
theorem isO_event {G : GG} {h : AH} {a : Nat} {f : List Value} (ha : h a = some (.inr (12, f))) : isO G h a := ⟨_, ⟨12, _, _, _, rfl, .inl ha⟩, q4274⟩
theorem isO_comm {G : GG} {h : AH} {a : Nat} {f : List Value} (ha : h a = some (.inr (6, f))) : isO G h a := ⟨_, ⟨6, _, _, _, rfl, .inl ha⟩, q4261⟩
theorem isO_int {G : GG} {h : AH} {a : Nat} {v : Int32} (ha : IV G h a v) : isO G h a := ⟨_, ⟨27, _, _, _, rfl, ha⟩, q4258⟩

theorem ct_J37_init {G : GG} {l : Launch} {h : AH} {a : Nat}  : Ct G l yJ37_init cJ37_init 1 none 1 (0) (0) [.ref a] h (PV h) := by
  refine Ct.of (by decide) (Nat.le_of_ble_eq_true rfl) (cat1 rfl) (fun X hXl F HN => ?_)
  subst hXl
  refine V_aload_n (i := 0) F dJ37_init_0 rfl rfl ?_
  refine V_objInit F dJ37_init_1 q923 q180 q181 (Nat.le_of_ble_eq_true rfl) (Nat.le_of_ble_eq_true rfl) ?_
  exact V_vret F dJ37_init_4 (by first | exact Nat.le_of_ble_eq_true rfl | omega) (by first | exact Nat.le_of_ble_eq_true rfl | omega) ⟨rfl, rfl⟩
theorem ct_Leg_train {G : GG} {l : Launch} {h : AH} {a : Nat} {v0 v1 v2 v3 v4 v5 : Int32} (ha : h a = some (.inr (5, [.int v0, .int v1, .int v2, .int v3, .int v4, .int v5]))) : Ct G l yX6_train cX6_train 1 (some .int) 0 (0) (0) [.ref a] h (PR (.int v0) h) := by
  refine Ct.of (by decide) (Nat.le_of_ble_eq_true rfl) (cat1 rfl) (fun X hXl F HN => ?_)
  subst hXl
  refine V_aload_n (i := 0) F dX6_train_0 rfl rfl ?_
  refine V_getf F dX6_train_1 fc_X6_9_X6 (.inl ha) rfl ?_
  exact V_iret F dX6_train_4 rfl (by first | exact Nat.le_of_ble_eq_true rfl | omega) (by first | exact Nat.le_of_ble_eq_true rfl | omega) ⟨rfl, rfl⟩
theorem ct_Leg_number {G : GG} {l : Launch} {h : AH} {a : Nat} {v0 v1 v2 v3 v4 v5 : Int32} (ha : h a = some (.inr (5, [.int v0, .int v1, .int v2, .int v3, .int v4, .int v5]))) : Ct G l yX6_number cX6_number 1 (some .int) 0 (0) (0) [.ref a] h (PR (.int v1) h) := by
  refine Ct.of (by decide) (Nat.le_of_ble_eq_true rfl) (cat1 rfl) (fun X hXl F HN => ?_)
  subst hXl
  refine V_aload_n (i := 0) F dX6_number_0 rfl rfl ?_
  refine V_getf F dX6_number_1 fc_X6_15_X6 (.inl ha) rfl ?_
  exact V_iret F dX6_number_4 rfl (by first | exact Nat.le_of_ble_eq_true rfl | omega) (by first | exact Nat.le_of_ble_eq_true rfl | omega) ⟨rfl, rfl⟩
theorem ct_Leg_from {G : GG} {l : Launch} {h : AH} {a : Nat} {v0 v1 v2 v3 v4 v5 : Int32} (ha : h a = some (.inr (5, [.int v0, .int v1, .int v2, .int v3, .int v4, .int v5]))) : Ct G l yX6_from cX6_from 1 (some .int) 0 (0) (0) [.ref a] h (PR (.int v2) h) := by
  refine Ct.of (by decide) (Nat.le_of_ble_eq_true rfl) (cat1 rfl) (fun X hXl F HN => ?_)
  subst hXl
  refine V_aload_n (i := 0) F dX6_from_0 rfl rfl ?_
  refine V_getf F dX6_from_1 fc_X6_18_X6 (.inl ha) rfl ?_
  exact V_iret F dX6_from_4 rfl (by first | exact Nat.le_of_ble_eq_true rfl | omega) (by first | exact Nat.le_of_ble_eq_true rfl | omega) ⟨rfl, rfl⟩
theorem ct_Leg_to {G : GG} {l : Launch} {h : AH} {a : Nat} {v0 v1 v2 v3 v4 v5 : Int32} (ha : h a = some (.inr (5, [.int v0, .int v1, .int v2, .int v3, .int v4, .int v5]))) : Ct G l yX6_to cX6_to 1 (some .int) 0 (0) (0) [.ref a] h (PR (.int v3) h) := by
  refine Ct.of (by decide) (Nat.le_of_ble_eq_true rfl) (cat1 rfl) (fun X hXl F HN => ?_)
  subst hXl
  refine V_aload_n (i := 0) F dX6_to_0 rfl rfl ?_
  refine V_getf F dX6_to_1 fc_X6_21_X6 (.inl ha) rfl ?_
  exact V_iret F dX6_to_4 rfl (by first | exact Nat.le_of_ble_eq_true rfl | omega) (by first | exact Nat.le_of_ble_eq_true rfl | omega) ⟨rfl, rfl⟩
theorem ct_Leg_departure {G : GG} {l : Launch} {h : AH} {a : Nat} {v0 v1 v2 v3 v4 v5 : Int32} (ha : h a = some (.inr (5, [.int v0, .int v1, .int v2, .int v3, .int v4, .int v5]))) : Ct G l yX6_departure cX6_departure 1 (some .int) 0 (0) (0) [.ref a] h (PR (.int v4) h) := by
  refine Ct.of (by decide) (Nat.le_of_ble_eq_true rfl) (cat1 rfl) (fun X hXl F HN => ?_)
  subst hXl
  refine V_aload_n (i := 0) F dX6_departure_0 rfl rfl ?_
  refine V_getf F dX6_departure_1 fc_X6_24_X6 (.inl ha) rfl ?_
  exact V_iret F dX6_departure_4 rfl (by first | exact Nat.le_of_ble_eq_true rfl | omega) (by first | exact Nat.le_of_ble_eq_true rfl | omega) ⟨rfl, rfl⟩
theorem ct_Leg_arrival {G : GG} {l : Launch} {h : AH} {a : Nat} {v0 v1 v2 v3 v4 v5 : Int32} (ha : h a = some (.inr (5, [.int v0, .int v1, .int v2, .int v3, .int v4, .int v5]))) : Ct G l yX6_arrival cX6_arrival 1 (some .int) 0 (0) (0) [.ref a] h (PR (.int v5) h) := by
  refine Ct.of (by decide) (Nat.le_of_ble_eq_true rfl) (cat1 rfl) (fun X hXl F HN => ?_)
  subst hXl
  refine V_aload_n (i := 0) F dX6_arrival_0 rfl rfl ?_
  refine V_getf F dX6_arrival_1 fc_X6_27_X6 (.inl ha) rfl ?_
  exact V_iret F dX6_arrival_4 rfl (by first | exact Nat.le_of_ble_eq_true rfl | omega) (by first | exact Nat.le_of_ble_eq_true rfl | omega) ⟨rfl, rfl⟩
theorem ct_Su_id {G : GG} {l : Launch} {h : AH} {a : Nat} {v0 v1 v2 v3 : Int32} (ha : h a = some (.inr (8, [.int v0, .int v1, .int v2, .int v3]))) : Ct G l yX10_id cX10_id 1 (some .int) 0 (0) (0) [.ref a] h (PR (.int v0) h) := by
  refine Ct.of (by decide) (Nat.le_of_ble_eq_true rfl) (cat1 rfl) (fun X hXl F HN => ?_)
  subst hXl
  refine V_aload_n (i := 0) F dX10_id_0 rfl rfl ?_
  refine V_getf F dX10_id_1 fc_X10_7_X10 (.inl ha) rfl ?_
  exact V_iret F dX10_id_4 rfl (by first | exact Nat.le_of_ble_eq_true rfl | omega) (by first | exact Nat.le_of_ble_eq_true rfl | omega) ⟨rfl, rfl⟩
theorem ct_Su_station {G : GG} {l : Launch} {h : AH} {a : Nat} {v0 v1 v2 v3 : Int32} (ha : h a = some (.inr (8, [.int v0, .int v1, .int v2, .int v3]))) : Ct G l yX10_station cX10_station 1 (some .int) 0 (0) (0) [.ref a] h (PR (.int v1) h) := by
  refine Ct.of (by decide) (Nat.le_of_ble_eq_true rfl) (cat1 rfl) (fun X hXl F HN => ?_)
  subst hXl
  refine V_aload_n (i := 0) F dX10_station_0 rfl rfl ?_
  refine V_getf F dX10_station_1 fc_X10_13_X10 (.inl ha) rfl ?_
  exact V_iret F dX10_station_4 rfl (by first | exact Nat.le_of_ble_eq_true rfl | omega) (by first | exact Nat.le_of_ble_eq_true rfl | omega) ⟨rfl, rfl⟩
theorem ct_Su_destination {G : GG} {l : Launch} {h : AH} {a : Nat} {v0 v1 v2 v3 : Int32} (ha : h a = some (.inr (8, [.int v0, .int v1, .int v2, .int v3]))) : Ct G l yX10_destination cX10_destination 1 (some .int) 0 (0) (0) [.ref a] h (PR (.int v2) h) := by
  refine Ct.of (by decide) (Nat.le_of_ble_eq_true rfl) (cat1 rfl) (fun X hXl F HN => ?_)
  subst hXl
  refine V_aload_n (i := 0) F dX10_destination_0 rfl rfl ?_
  refine V_getf F dX10_destination_1 fc_X10_16_X10 (.inl ha) rfl ?_
  exact V_iret F dX10_destination_4 rfl (by first | exact Nat.le_of_ble_eq_true rfl | omega) (by first | exact Nat.le_of_ble_eq_true rfl | omega) ⟨rfl, rfl⟩
theorem ct_Su_ready {G : GG} {l : Launch} {h : AH} {a : Nat} {v0 v1 v2 v3 : Int32} (ha : h a = some (.inr (8, [.int v0, .int v1, .int v2, .int v3]))) : Ct G l yX10_ready cX10_ready 1 (some .int) 0 (0) (0) [.ref a] h (PR (.int v3) h) := by
  refine Ct.of (by decide) (Nat.le_of_ble_eq_true rfl) (cat1 rfl) (fun X hXl F HN => ?_)
  subst hXl
  refine V_aload_n (i := 0) F dX10_ready_0 rfl rfl ?_
  refine V_getf F dX10_ready_1 fc_X10_19_X10 (.inl ha) rfl ?_
  exact V_iret F dX10_ready_4 rfl (by first | exact Nat.le_of_ble_eq_true rfl | omega) (by first | exact Nat.le_of_ble_eq_true rfl | omega) ⟨rfl, rfl⟩
theorem ct_Leg_init {G : GG} {l : Launch} {h : AH} {a : Nat} {x0 : Int32} {x1 : Int32} {x2 : Int32} {x3 : Int32} {x4 : Int32} {x5 : Int32} (ha : h a = some (.inr (5, [.int 0, .int 0, .int 0, .int 0, .int 0, .int 0]))) : Ct G l yX6_init cX6_init 7 none 2 (0) (0) [.ref a, .int (x0), .int (x1), .int (x2), .int (x3), .int (x4), .int (x5)] h (fun r h2 => r = none ∧ h2 a = some (.inr (5, [.int (x0), .int (x1), .int (x2), .int (x3), .int (x4), .int (x5)])) ∧ Fr (m1 a) h h2) := by
  refine Ct.of (by decide) (Nat.le_of_ble_eq_true rfl) (cat1 rfl) (fun X hXl F HN => ?_)
  subst hXl
  refine V_aload_n (i := 0) F dX6_init_0 rfl rfl ?_
  refine V_callI (st := []) F dX6_init_1 lk_X6_3 (ct_J37_init) rfl rfl (Nat.le_of_ble_eq_true rfl) (Nat.le_of_ble_eq_true rfl) (Nat.le_of_ble_eq_true rfl) (by first | exact Nat.le_of_ble_eq_true rfl | omega) (by first | exact Nat.le_of_ble_eq_true rfl | omega) ?_
  refine PVk ?_
  refine V_aload_n (i := 0) F dX6_init_4 rfl rfl ?_
  refine V_iload_n (i := 1) F dX6_init_5 rfl rfl ?_
  refine V_putF F dX6_init_6 ff_X6_9_X6 ha HN rfl rfl (Nat.le_of_ble_eq_true rfl) ?_
  refine VV.heap (h' := (hset h (a) (.inr (5, [.int (x0), .int (0), .int (0), .int (0), .int (0), .int (0)])))) rfl ?_
  refine V_aload_n (i := 0) F dX6_init_9 rfl rfl ?_
  refine V_iload_n (i := 2) F dX6_init_10 rfl rfl ?_
  refine V_putF F dX6_init_11 ff_X6_15_X6 (hset_self (e := .inr (5, [.int (x0), .int (0), .int (0), .int (0), .int (0), .int (0)]))) HN rfl rfl (Nat.le_of_ble_eq_true rfl) ?_
  refine VV.heap (h' := (hset (hset h (a) (.inr (5, [.int (x0), .int (0), .int (0), .int (0), .int (0), .int (0)]))) (a) (.inr (5, [.int (x0), .int (x1), .int (0), .int (0), .int (0), .int (0)])))) rfl ?_
  refine V_aload_n (i := 0) F dX6_init_14 rfl rfl ?_
  refine V_iload_n (i := 3) F dX6_init_15 rfl rfl ?_
  refine V_putF F dX6_init_16 ff_X6_18_X6 (hset_self (e := .inr (5, [.int (x0), .int (x1), .int (0), .int (0), .int (0), .int (0)]))) HN rfl rfl (Nat.le_of_ble_eq_true rfl) ?_
  refine VV.heap (h' := (hset (hset (hset h (a) (.inr (5, [.int (x0), .int (0), .int (0), .int (0), .int (0), .int (0)]))) (a) (.inr (5, [.int (x0), .int (x1), .int (0), .int (0), .int (0), .int (0)]))) (a) (.inr (5, [.int (x0), .int (x1), .int (x2), .int (0), .int (0), .int (0)])))) rfl ?_
  refine V_aload_n (i := 0) F dX6_init_19 rfl rfl ?_
  refine V_iload (i := 4) F dX6_init_20 rfl ?_
  refine V_putF F dX6_init_22 ff_X6_21_X6 (hset_self (e := .inr (5, [.int (x0), .int (x1), .int (x2), .int (0), .int (0), .int (0)]))) HN rfl rfl (Nat.le_of_ble_eq_true rfl) ?_
  refine VV.heap (h' := (hset (hset (hset (hset h (a) (.inr (5, [.int (x0), .int (0), .int (0), .int (0), .int (0), .int (0)]))) (a) (.inr (5, [.int (x0), .int (x1), .int (0), .int (0), .int (0), .int (0)]))) (a) (.inr (5, [.int (x0), .int (x1), .int (x2), .int (0), .int (0), .int (0)]))) (a) (.inr (5, [.int (x0), .int (x1), .int (x2), .int (x3), .int (0), .int (0)])))) rfl ?_
  refine V_aload_n (i := 0) F dX6_init_25 rfl rfl ?_
  refine V_iload (i := 5) F dX6_init_26 rfl ?_
  refine V_putF F dX6_init_28 ff_X6_24_X6 (hset_self (e := .inr (5, [.int (x0), .int (x1), .int (x2), .int (x3), .int (0), .int (0)]))) HN rfl rfl (Nat.le_of_ble_eq_true rfl) ?_
  refine VV.heap (h' := (hset (hset (hset (hset (hset h (a) (.inr (5, [.int (x0), .int (0), .int (0), .int (0), .int (0), .int (0)]))) (a) (.inr (5, [.int (x0), .int (x1), .int (0), .int (0), .int (0), .int (0)]))) (a) (.inr (5, [.int (x0), .int (x1), .int (x2), .int (0), .int (0), .int (0)]))) (a) (.inr (5, [.int (x0), .int (x1), .int (x2), .int (x3), .int (0), .int (0)]))) (a) (.inr (5, [.int (x0), .int (x1), .int (x2), .int (x3), .int (x4), .int (0)])))) rfl ?_
  refine V_aload_n (i := 0) F dX6_init_31 rfl rfl ?_
  refine V_iload (i := 6) F dX6_init_32 rfl ?_
  refine V_putF F dX6_init_34 ff_X6_27_X6 (hset_self (e := .inr (5, [.int (x0), .int (x1), .int (x2), .int (x3), .int (x4), .int (0)]))) HN rfl rfl (Nat.le_of_ble_eq_true rfl) ?_
  refine VV.heap (h' := (hset (hset (hset (hset (hset (hset h (a) (.inr (5, [.int (x0), .int (0), .int (0), .int (0), .int (0), .int (0)]))) (a) (.inr (5, [.int (x0), .int (x1), .int (0), .int (0), .int (0), .int (0)]))) (a) (.inr (5, [.int (x0), .int (x1), .int (x2), .int (0), .int (0), .int (0)]))) (a) (.inr (5, [.int (x0), .int (x1), .int (x2), .int (x3), .int (0), .int (0)]))) (a) (.inr (5, [.int (x0), .int (x1), .int (x2), .int (x3), .int (x4), .int (0)]))) (a) (.inr (5, [.int (x0), .int (x1), .int (x2), .int (x3), .int (x4), .int (x5)])))) rfl ?_
  exact V_vret F dX6_init_37 (by first | exact Nat.le_of_ble_eq_true rfl | omega) (by first | exact Nat.le_of_ble_eq_true rfl | omega) ⟨rfl, (hset_self (e := .inr (5, [.int (x0), .int (x1), .int (x2), .int (x3), .int (x4), .int (x5)]))), (((((((Fr.rf (M := m1 a) (h := h)).put (x := .inr (5, [.int (x0), .int (0), .int (0), .int (0), .int (0), .int (0)])) ha rfl rfl (Or.inl rfl)).put (x := .inr (5, [.int (x0), .int (x1), .int (0), .int (0), .int (0), .int (0)])) (hset_self (e := .inr (5, [.int (x0), .int (0), .int (0), .int (0), .int (0), .int (0)]))) rfl rfl (Or.inl rfl)).put (x := .inr (5, [.int (x0), .int (x1), .int (x2), .int (0), .int (0), .int (0)])) (hset_self (e := .inr (5, [.int (x0), .int (x1), .int (0), .int (0), .int (0), .int (0)]))) rfl rfl (Or.inl rfl)).put (x := .inr (5, [.int (x0), .int (x1), .int (x2), .int (x3), .int (0), .int (0)])) (hset_self (e := .inr (5, [.int (x0), .int (x1), .int (x2), .int (0), .int (0), .int (0)]))) rfl rfl (Or.inl rfl)).put (x := .inr (5, [.int (x0), .int (x1), .int (x2), .int (x3), .int (x4), .int (0)])) (hset_self (e := .inr (5, [.int (x0), .int (x1), .int (x2), .int (x3), .int (0), .int (0)]))) rfl rfl (Or.inl rfl)).put (x := .inr (5, [.int (x0), .int (x1), .int (x2), .int (x3), .int (x4), .int (x5)])) (hset_self (e := .inr (5, [.int (x0), .int (x1), .int (x2), .int (x3), .int (x4), .int (0)]))) rfl rfl (Or.inl rfl))⟩
theorem ct_Su_init {G : GG} {l : Launch} {h : AH} {a : Nat} {x0 : Int32} {x1 : Int32} {x2 : Int32} {x3 : Int32} (ha : h a = some (.inr (8, [.int 0, .int 0, .int 0, .int 0]))) : Ct G l yX10_init cX10_init 5 none 2 (0) (0) [.ref a, .int (x0), .int (x1), .int (x2), .int (x3)] h (fun r h2 => r = none ∧ h2 a = some (.inr (8, [.int (x0), .int (x1), .int (x2), .int (x3)])) ∧ Fr (m1 a) h h2) := by
  refine Ct.of (by decide) (Nat.le_of_ble_eq_true rfl) (cat1 rfl) (fun X hXl F HN => ?_)
  subst hXl
  refine V_aload_n (i := 0) F dX10_init_0 rfl rfl ?_
  refine V_callI (st := []) F dX10_init_1 lk_X10_1 (ct_J37_init) rfl rfl (Nat.le_of_ble_eq_true rfl) (Nat.le_of_ble_eq_true rfl) (Nat.le_of_ble_eq_true rfl) (by first | exact Nat.le_of_ble_eq_true rfl | omega) (by first | exact Nat.le_of_ble_eq_true rfl | omega) ?_
  refine PVk ?_
  refine V_aload_n (i := 0) F dX10_init_4 rfl rfl ?_
  refine V_iload_n (i := 1) F dX10_init_5 rfl rfl ?_
  refine V_putF F dX10_init_6 ff_X10_7_X10 ha HN rfl rfl (Nat.le_of_ble_eq_true rfl) ?_
  refine VV.heap (h' := (hset h (a) (.inr (8, [.int (x0), .int (0), .int (0), .int (0)])))) rfl ?_
  refine V_aload_n (i := 0) F dX10_init_9 rfl rfl ?_
  refine V_iload_n (i := 2) F dX10_init_10 rfl rfl ?_
  refine V_putF F dX10_init_11 ff_X10_13_X10 (hset_self (e := .inr (8, [.int (x0), .int (0), .int (0), .int (0)]))) HN rfl rfl (Nat.le_of_ble_eq_true rfl) ?_
  refine VV.heap (h' := (hset (hset h (a) (.inr (8, [.int (x0), .int (0), .int (0), .int (0)]))) (a) (.inr (8, [.int (x0), .int (x1), .int (0), .int (0)])))) rfl ?_
  refine V_aload_n (i := 0) F dX10_init_14 rfl rfl ?_
  refine V_iload_n (i := 3) F dX10_init_15 rfl rfl ?_
  refine V_putF F dX10_init_16 ff_X10_16_X10 (hset_self (e := .inr (8, [.int (x0), .int (x1), .int (0), .int (0)]))) HN rfl rfl (Nat.le_of_ble_eq_true rfl) ?_
  refine VV.heap (h' := (hset (hset (hset h (a) (.inr (8, [.int (x0), .int (0), .int (0), .int (0)]))) (a) (.inr (8, [.int (x0), .int (x1), .int (0), .int (0)]))) (a) (.inr (8, [.int (x0), .int (x1), .int (x2), .int (0)])))) rfl ?_
  refine V_aload_n (i := 0) F dX10_init_19 rfl rfl ?_
  refine V_iload (i := 4) F dX10_init_20 rfl ?_
  refine V_putF F dX10_init_22 ff_X10_19_X10 (hset_self (e := .inr (8, [.int (x0), .int (x1), .int (x2), .int (0)]))) HN rfl rfl (Nat.le_of_ble_eq_true rfl) ?_
  refine VV.heap (h' := (hset (hset (hset (hset h (a) (.inr (8, [.int (x0), .int (0), .int (0), .int (0)]))) (a) (.inr (8, [.int (x0), .int (x1), .int (0), .int (0)]))) (a) (.inr (8, [.int (x0), .int (x1), .int (x2), .int (0)]))) (a) (.inr (8, [.int (x0), .int (x1), .int (x2), .int (x3)])))) rfl ?_
  exact V_vret F dX10_init_25 (by first | exact Nat.le_of_ble_eq_true rfl | omega) (by first | exact Nat.le_of_ble_eq_true rfl | omega) ⟨rfl, (hset_self (e := .inr (8, [.int (x0), .int (x1), .int (x2), .int (x3)]))), (((((Fr.rf (M := m1 a) (h := h)).put (x := .inr (8, [.int (x0), .int (0), .int (0), .int (0)])) ha rfl rfl (Or.inl rfl)).put (x := .inr (8, [.int (x0), .int (x1), .int (0), .int (0)])) (hset_self (e := .inr (8, [.int (x0), .int (0), .int (0), .int (0)]))) rfl rfl (Or.inl rfl)).put (x := .inr (8, [.int (x0), .int (x1), .int (x2), .int (0)])) (hset_self (e := .inr (8, [.int (x0), .int (x1), .int (0), .int (0)]))) rfl rfl (Or.inl rfl)).put (x := .inr (8, [.int (x0), .int (x1), .int (x2), .int (x3)])) (hset_self (e := .inr (8, [.int (x0), .int (x1), .int (x2), .int (0)]))) rfl rfl (Or.inl rfl))⟩
theorem ct_Bo_init {G : GG} {l : Launch} {h : AH} {a : Nat} {x0 : Int32} {x1 : Int32} {x2 : Int32} {x3 : Int32} (ha : h a = some (.inr (11, [.int 0, .int 0, .int 0, .int 0]))) : Ct G l yX14_init cX14_init 5 none 1 (0) (0) [.ref a, .int (x0), .int (x1), .int (x2), .int (x3)] h (fun r h2 => r = none ∧ h2 a = some (.inr (11, [.int (x0), .int (x1), .int (x2), .int (x3)])) ∧ Fr (m1 a) h h2) := by
  refine Ct.of (by decide) (Nat.le_of_ble_eq_true rfl) (cat1 rfl) (fun X hXl F HN => ?_)
  subst hXl
  refine V_aload_n (i := 0) F dX14_init_0 rfl rfl ?_
  refine V_objInit F dX14_init_1 q2605 q180 q181 (Nat.le_of_ble_eq_true rfl) (Nat.le_of_ble_eq_true rfl) ?_
  refine V_aload_n (i := 0) F dX14_init_4 rfl rfl ?_
  refine V_iload_n (i := 1) F dX14_init_5 rfl rfl ?_
  refine V_putF F dX14_init_6 ff_X14_7_X14 ha HN rfl rfl (Nat.le_of_ble_eq_true rfl) ?_
  refine VV.heap (h' := (hset h (a) (.inr (11, [.int (x0), .int (0), .int (0), .int (0)])))) rfl ?_
  refine V_aload_n (i := 0) F dX14_init_9 rfl rfl ?_
  refine V_iload_n (i := 2) F dX14_init_10 rfl rfl ?_
  refine V_putF F dX14_init_11 ff_X14_13_X14 (hset_self (e := .inr (11, [.int (x0), .int (0), .int (0), .int (0)]))) HN rfl rfl (Nat.le_of_ble_eq_true rfl) ?_
  refine VV.heap (h' := (hset (hset h (a) (.inr (11, [.int (x0), .int (0), .int (0), .int (0)]))) (a) (.inr (11, [.int (x0), .int (x1), .int (0), .int (0)])))) rfl ?_
  refine V_aload_n (i := 0) F dX14_init_14 rfl rfl ?_
  refine V_iload_n (i := 3) F dX14_init_15 rfl rfl ?_
  refine V_putF F dX14_init_16 ff_X14_16_X14 (hset_self (e := .inr (11, [.int (x0), .int (x1), .int (0), .int (0)]))) HN rfl rfl (Nat.le_of_ble_eq_true rfl) ?_
  refine VV.heap (h' := (hset (hset (hset h (a) (.inr (11, [.int (x0), .int (0), .int (0), .int (0)]))) (a) (.inr (11, [.int (x0), .int (x1), .int (0), .int (0)]))) (a) (.inr (11, [.int (x0), .int (x1), .int (x2), .int (0)])))) rfl ?_
  refine V_aload_n (i := 0) F dX14_init_19 rfl rfl ?_
  refine V_iload (i := 4) F dX14_init_20 rfl ?_
  refine V_putF F dX14_init_22 ff_X14_19_X14 (hset_self (e := .inr (11, [.int (x0), .int (x1), .int (x2), .int (0)]))) HN rfl rfl (Nat.le_of_ble_eq_true rfl) ?_
  refine VV.heap (h' := (hset (hset (hset (hset h (a) (.inr (11, [.int (x0), .int (0), .int (0), .int (0)]))) (a) (.inr (11, [.int (x0), .int (x1), .int (0), .int (0)]))) (a) (.inr (11, [.int (x0), .int (x1), .int (x2), .int (0)]))) (a) (.inr (11, [.int (x0), .int (x1), .int (x2), .int (x3)])))) rfl ?_
  exact V_vret F dX14_init_25 (by first | exact Nat.le_of_ble_eq_true rfl | omega) (by first | exact Nat.le_of_ble_eq_true rfl | omega) ⟨rfl, (hset_self (e := .inr (11, [.int (x0), .int (x1), .int (x2), .int (x3)]))), (((((Fr.rf (M := m1 a) (h := h)).put (x := .inr (11, [.int (x0), .int (0), .int (0), .int (0)])) ha rfl rfl (Or.inl rfl)).put (x := .inr (11, [.int (x0), .int (x1), .int (0), .int (0)])) (hset_self (e := .inr (11, [.int (x0), .int (0), .int (0), .int (0)]))) rfl rfl (Or.inl rfl)).put (x := .inr (11, [.int (x0), .int (x1), .int (x2), .int (0)])) (hset_self (e := .inr (11, [.int (x0), .int (x1), .int (0), .int (0)]))) rfl rfl (Or.inl rfl)).put (x := .inr (11, [.int (x0), .int (x1), .int (x2), .int (x3)])) (hset_self (e := .inr (11, [.int (x0), .int (x1), .int (x2), .int (0)]))) rfl rfl (Or.inl rfl))⟩
theorem ct_Ev_init {G : GG} {l : Launch} {h : AH} {a : Nat} {x0 : Nat} (ha : h a = some (.inr (12, [.null]))) : Ct G l yX15_init cX15_init 2 none 1 (0) (0) [.ref a, .ref (x0)] h (fun r h2 => r = none ∧ h2 a = some (.inr (12, [.ref (x0)])) ∧ Fr (m1 a) h h2) := by
  refine Ct.of (by decide) (Nat.le_of_ble_eq_true rfl) (cat1 rfl) (fun X hXl F HN => ?_)
  subst hXl
  refine V_aload_n (i := 0) F dX15_init_0 rfl rfl ?_
  refine V_objInit F dX15_init_1 q1484 q180 q181 (Nat.le_of_ble_eq_true rfl) (Nat.le_of_ble_eq_true rfl) ?_
  refine V_aload_n (i := 0) F dX15_init_4 rfl rfl ?_
  refine V_aload_n (i := 1) F dX15_init_5 rfl rfl ?_
  refine V_putF F dX15_init_6 ff_X15_7_X15 ha HN rfl rfl (Nat.le_of_ble_eq_true rfl) ?_
  refine VV.heap (h' := (hset h (a) (.inr (12, [.ref (x0)])))) rfl ?_
  exact V_vret F dX15_init_9 (by first | exact Nat.le_of_ble_eq_true rfl | omega) (by first | exact Nat.le_of_ble_eq_true rfl | omega) ⟨rfl, (hset_self (e := .inr (12, [.ref (x0)]))), ((Fr.rf (M := m1 a) (h := h)).put (x := .inr (12, [.ref (x0)])) ha rfl rfl (Or.inl rfl))⟩
theorem ct_Co_init {G : GG} {l : Launch} {h : AH} {a : Nat} {x0 : Nat} {x1 : Nat} (ha : h a = some (.inr (6, [.null, .null]))) : Ct G l yX7_init cX7_init 3 none 1 (0) (0) [.ref a, .ref (x0), .ref (x1)] h (fun r h2 => r = none ∧ h2 a = some (.inr (6, [.ref (x0), .ref (x1)])) ∧ Fr (m1 a) h h2) := by
  refine Ct.of (by decide) (Nat.le_of_ble_eq_true rfl) (cat1 rfl) (fun X hXl F HN => ?_)
  subst hXl
  refine V_aload_n (i := 0) F dX7_init_0 rfl rfl ?_
  refine V_objInit F dX7_init_1 q2348 q180 q181 (Nat.le_of_ble_eq_true rfl) (Nat.le_of_ble_eq_true rfl) ?_
  refine V_aload_n (i := 0) F dX7_init_4 rfl rfl ?_
  refine V_aload_n (i := 1) F dX7_init_5 rfl rfl ?_
  refine V_putF F dX7_init_6 ff_X7_7_X7 ha HN rfl rfl (Nat.le_of_ble_eq_true rfl) ?_
  refine VV.heap (h' := (hset h (a) (.inr (6, [.ref (x0), .null])))) rfl ?_
  refine V_aload_n (i := 0) F dX7_init_9 rfl rfl ?_
  refine V_aload_n (i := 2) F dX7_init_10 rfl rfl ?_
  refine V_putF F dX7_init_11 ff_X7_13_X7 (hset_self (e := .inr (6, [.ref (x0), .null]))) HN rfl rfl (Nat.le_of_ble_eq_true rfl) ?_
  refine VV.heap (h' := (hset (hset h (a) (.inr (6, [.ref (x0), .null]))) (a) (.inr (6, [.ref (x0), .ref (x1)])))) rfl ?_
  exact V_vret F dX7_init_14 (by first | exact Nat.le_of_ble_eq_true rfl | omega) (by first | exact Nat.le_of_ble_eq_true rfl | omega) ⟨rfl, (hset_self (e := .inr (6, [.ref (x0), .ref (x1)]))), (((Fr.rf (M := m1 a) (h := h)).put (x := .inr (6, [.ref (x0), .null])) ha rfl rfl (Or.inl rfl)).put (x := .inr (6, [.ref (x0), .ref (x1)])) (hset_self (e := .inr (6, [.ref (x0), .null]))) rfl rfl (Or.inl rfl))⟩
theorem ct_BD_init {G : GG} {l : Launch} {h : AH} {a : Nat}  : Ct G l yX13_init cX13_init 1 none 1 (0) (0) [.ref a] h (PV h) := by
  refine Ct.of (by decide) (Nat.le_of_ble_eq_true rfl) (cat1 rfl) (fun X hXl F HN => ?_)
  subst hXl
  refine V_aload_n (i := 0) F dX13_init_0 rfl rfl ?_
  refine V_objInit F dX13_init_1 q1817 q180 q181 (Nat.le_of_ble_eq_true rfl) (Nat.le_of_ble_eq_true rfl) ?_
  exact V_vret F dX13_init_4 (by first | exact Nat.le_of_ble_eq_true rfl | omega) (by first | exact Nat.le_of_ble_eq_true rfl | omega) ⟨rfl, rfl⟩
theorem ct_Leg_hash {G : GG} {l : Launch} {h : AH} {a t k : Nat} {v2 v3 v4 v5 : Int32} (ha : h a = some (.inr (5, [.int (nI t), .int (nI k), .int v2, .int v3, .int v4, .int v5]))) : Ct G l yX6_hashCode cX6_hashCode 1 (some .int) 0 (0) (0) [.ref a] h (PR (.int (nI (8 * t + k))) h) := by
  refine Ct.of (by decide) (Nat.le_of_ble_eq_true rfl) (cat1 rfl) (fun X hXl F HN => ?_)
  subst hXl
  refine V_bipush (v := nI 8) F dX6_hashCode_0 rfl ?_
  refine V_aload_n (i := 0) F dX6_hashCode_2 rfl rfl ?_
  refine V_getf F dX6_hashCode_3 fc_X6_9_X6 (.inl ha) rfl ?_
  refine V_imulN F dX6_hashCode_6 ?_
  refine V_aload_n (i := 0) F dX6_hashCode_7 rfl rfl ?_
  refine V_getf F dX6_hashCode_8 fc_X6_15_X6 (.inl ha) rfl ?_
  refine V_iaddN F dX6_hashCode_11 ?_
  exact V_iret F dX6_hashCode_12 rfl (by first | exact Nat.le_of_ble_eq_true rfl | omega) (by first | exact Nat.le_of_ble_eq_true rfl | omega) ⟨rfl, rfl⟩
theorem ct_isBetween {G : GG} {l : Launch} {h : AH} {v lo hi : Int32}  : Ct G l yX1_isBetween cX1_isBetween 3 (some .boolean) 0 (0) (0) [.int v, .int lo, .int hi] h (PR (.int (b2 (lo ≤ v ∧ v ≤ hi))) h) := by
  refine Ct.of (by decide) (Nat.le_of_ble_eq_true rfl) (cat1 rfl) (fun X hXl F HN => ?_)
  subst hXl
  refine V_iload_n (i := 0) F dX1_isBetween_0 rfl rfl ?_
  refine V_iload_n (i := 1) F dX1_isBetween_1 rfl rfl ?_
  refine V_icmp_lt (tgt := 14) F dX1_isBetween_2 (by decide) (fun c_2 => ?_) (fun c_2 => ?_)
  · refine V_iconst (v := nI 0) F dX1_isBetween_14 rfl ?_
    exact V_iret F dX1_isBetween_15 rfl (by first | exact Nat.le_of_ble_eq_true rfl | omega) (by first | exact Nat.le_of_ble_eq_true rfl | omega) ⟨by rw [b2_f (fun q => absurd q.1 (by rw [le_toInt]; rw [lt_toInt] at c_2; omega))]; rfl, rfl⟩
  · refine V_iload_n (i := 0) F dX1_isBetween_5 rfl rfl ?_
    refine V_iload_n (i := 2) F dX1_isBetween_6 rfl rfl ?_
    refine V_icmp_gt (tgt := 14) F dX1_isBetween_7 (by decide) (fun c_7 => ?_) (fun c_7 => ?_)
    · refine V_iconst (v := nI 0) F dX1_isBetween_14 rfl ?_
      exact V_iret F dX1_isBetween_15 rfl (by first | exact Nat.le_of_ble_eq_true rfl | omega) (by first | exact Nat.le_of_ble_eq_true rfl | omega) ⟨by rw [b2_f (fun q => absurd q.2 (by rw [le_toInt]; rw [lt_toInt] at c_7; omega))]; rfl, rfl⟩
    · refine V_iconst (v := nI 1) F dX1_isBetween_10 rfl ?_
      refine V_goto (tgt := 15) F dX1_isBetween_11 (by decide) ?_
      exact V_iret F dX1_isBetween_15 rfl (by first | exact Nat.le_of_ble_eq_true rfl | omega) (by first | exact Nat.le_of_ble_eq_true rfl | omega) ⟨by rw [b2_t ⟨by rw [le_toInt]; rw [lt_toInt] at c_2; omega, by rw [le_toInt]; rw [lt_toInt] at c_7; omega⟩]; rfl, rfl⟩
theorem ct_Su_isThere {G : GG} {l : Launch} {h : AH} {a p q : Nat} {v0 v3 : Int32} (ha : h a = some (.inr (8, [.int v0, .int (nI p), .int (nI q), .int v3]))) (hp : p < 2 ^ 31) (hq : q < 2 ^ 31) : Ct G l yX10_isThere cX10_isThere 1 (some .boolean) 0 (0) (0) [.ref a] h (PR (.int (b2 (p = q))) h) := by
  refine Ct.of (by decide) (Nat.le_of_ble_eq_true rfl) (cat1 rfl) (fun X hXl F HN => ?_)
  subst hXl
  refine V_aload_n (i := 0) F dX10_isThere_0 rfl rfl ?_
  refine V_getf F dX10_isThere_1 fc_X10_13_X10 (.inl ha) rfl ?_
  refine V_aload_n (i := 0) F dX10_isThere_4 rfl rfl ?_
  refine V_getf F dX10_isThere_5 fc_X10_16_X10 (.inl ha) rfl ?_
  refine V_icmp_neN (tgt := 15) F dX10_isThere_8 (by decide) hp hq (fun c_8 => ?_) (fun c_8 => ?_)
  · refine V_iconst (v := nI 0) F dX10_isThere_15 rfl ?_
    exact V_iret F dX10_isThere_16 rfl (by first | exact Nat.le_of_ble_eq_true rfl | omega) (by first | exact Nat.le_of_ble_eq_true rfl | omega) ⟨by rw [b2_f (by omega)]; rfl, rfl⟩
  · refine V_iconst (v := nI 1) F dX10_isThere_11 rfl ?_
    refine V_goto (tgt := 16) F dX10_isThere_12 (by decide) ?_
    exact V_iret F dX10_isThere_16 rfl (by first | exact Nat.le_of_ble_eq_true rfl | omega) (by first | exact Nat.le_of_ble_eq_true rfl | omega) ⟨by rw [b2_t (by omega)]; rfl, rfl⟩
theorem ct_Bo_ahead {G : GG} {l : Launch} {h : AH} {a b i f j e : Nat} {v1 v3 u1 u3 : Int32} (ha : h a = some (.inr (11, [.int (nI i), .int v1, .int (nI f), .int v3]))) (hb : h b = some (.inr (11, [.int (nI j), .int u1, .int (nI e), .int u3]))) (hi : i < 2 ^ 31) (hf : f < 2 ^ 31) (hj : j < 2 ^ 31) (he : e < 2 ^ 31) : Ct G l yX14_isAheadOf cX14_isAheadOf 2 (some .boolean) 0 (0) (0) [.ref a, .ref b] h (PR (.int (b2 (f < e ∨ f = e ∧ i < j))) h) := by
  refine Ct.of (by decide) (Nat.le_of_ble_eq_true rfl) (cat1 rfl) (fun X hXl F HN => ?_)
  subst hXl
  refine V_aload_n (i := 0) F dX14_isAheadOf_0 rfl rfl ?_
  refine V_getf F dX14_isAheadOf_1 fc_X14_16_X14 (.inl ha) rfl ?_
  refine V_aload_n (i := 1) F dX14_isAheadOf_4 rfl rfl ?_
  refine V_getf F dX14_isAheadOf_5 fc_X14_16_X14 (.inl hb) rfl ?_
  refine V_icmp_ltN (tgt := 33) F dX14_isAheadOf_8 (by decide) (by omega) (by omega) (fun c_8 => ?_) (fun c_8 => ?_)
  · refine V_iconst (v := nI 1) F dX14_isAheadOf_33 rfl ?_
    refine V_goto (tgt := 38) F dX14_isAheadOf_34 (by decide) ?_
    exact V_iret F dX14_isAheadOf_38 rfl (by first | exact Nat.le_of_ble_eq_true rfl | omega) (by first | exact Nat.le_of_ble_eq_true rfl | omega) ⟨by rw [b2_t (by omega)]; rfl, rfl⟩
  · refine V_aload_n (i := 0) F dX14_isAheadOf_11 rfl rfl ?_
    refine V_getf F dX14_isAheadOf_12 fc_X14_16_X14 (.inl ha) rfl ?_
    refine V_aload_n (i := 1) F dX14_isAheadOf_15 rfl rfl ?_
    refine V_getf F dX14_isAheadOf_16 fc_X14_16_X14 (.inl hb) rfl ?_
    refine V_icmp_neN (tgt := 37) F dX14_isAheadOf_19 (by decide) (by omega) (by omega) (fun c_19 => ?_) (fun c_19 => ?_)
    · refine V_iconst (v := nI 0) F dX14_isAheadOf_37 rfl ?_
      exact V_iret F dX14_isAheadOf_38 rfl (by first | exact Nat.le_of_ble_eq_true rfl | omega) (by first | exact Nat.le_of_ble_eq_true rfl | omega) ⟨by rw [b2_f (by omega)]; rfl, rfl⟩
    · refine V_aload_n (i := 0) F dX14_isAheadOf_22 rfl rfl ?_
      refine V_getf F dX14_isAheadOf_23 fc_X14_7_X14 (.inl ha) rfl ?_
      refine V_aload_n (i := 1) F dX14_isAheadOf_26 rfl rfl ?_
      refine V_getf F dX14_isAheadOf_27 fc_X14_7_X14 (.inl hb) rfl ?_
      refine V_icmp_geN (tgt := 37) F dX14_isAheadOf_30 (by decide) (by omega) (by omega) (fun c_30 => ?_) (fun c_30 => ?_)
      · refine V_iconst (v := nI 0) F dX14_isAheadOf_37 rfl ?_
        exact V_iret F dX14_isAheadOf_38 rfl (by first | exact Nat.le_of_ble_eq_true rfl | omega) (by first | exact Nat.le_of_ble_eq_true rfl | omega) ⟨by rw [b2_f (by omega)]; rfl, rfl⟩
      · refine V_iconst (v := nI 1) F dX14_isAheadOf_33 rfl ?_
        refine V_goto (tgt := 38) F dX14_isAheadOf_34 (by decide) ?_
        exact V_iret F dX14_isAheadOf_38 rfl (by first | exact Nat.le_of_ble_eq_true rfl | omega) (by first | exact Nat.le_of_ble_eq_true rfl | omega) ⟨by rw [b2_t (by omega)]; rfl, rfl⟩
theorem ct_BD_compare {G : GG} {l : Launch} {h : AH} {o : Nat} {a b ut uk ud ua vt vk vd va : Nat} {u2 u3 v2 v3 : Int32} (ha : h a = some (.inr (5, [.int (nI ut), .int (nI uk), .int u2, .int u3, .int (nI ud), .int (nI ua)]))) (hb : h b = some (.inr (5, [.int (nI vt), .int (nI vk), .int v2, .int v3, .int (nI vd), .int (nI va)]))) (h1 : ud < 2 ^ 30) (h2 : vd < 2 ^ 30) : Ct G l yX13_compare_2 cX13_compare_2 3 (some .int) 1 (0) (0) [.ref o, .ref a, .ref b] h (fun r h2 => ∃ c : Int32, r = some (.int c) ∧ h2 = h ∧ (ud = vd → c = nI 8 * (nI ut - nI vt) + nI uk - nI vk) ∧ (ud ≠ vd → c = nI ud - nI vd)) := by
  refine Ct.of (by decide) (Nat.le_of_ble_eq_true rfl) (cat1 rfl) (fun X hXl F HN => ?_)
  subst hXl
  refine V_aload_n (i := 1) F dX13_compare_2_0 rfl rfl ?_
  refine V_callV (st := []) F dX13_compare_2_1 lk_X13_9 (ct_Leg_departure ha) ⟨5, _, _, _, rfl, (.inl ha)⟩ rfl rfl (Nat.le_of_ble_eq_true rfl) (Nat.le_of_ble_eq_true rfl) (Nat.le_of_ble_eq_true rfl) (by first | exact Nat.le_of_ble_eq_true rfl | omega) (by first | exact Nat.le_of_ble_eq_true rfl | omega) ?_
  refine PRk ?_
  refine V_aload_n (i := 2) F dX13_compare_2_4 rfl rfl ?_
  refine V_callV (st := [.int (nI (ud))]) F dX13_compare_2_5 lk_X13_9 (ct_Leg_departure hb) ⟨5, _, _, _, rfl, (.inl hb)⟩ rfl rfl (Nat.le_of_ble_eq_true rfl) (Nat.le_of_ble_eq_true rfl) (Nat.le_of_ble_eq_true rfl) (by first | exact Nat.le_of_ble_eq_true rfl | omega) (by first | exact Nat.le_of_ble_eq_true rfl | omega) ?_
  refine PRk ?_
  refine V_icmp_eqN (tgt := 21) F dX13_compare_2_8 (by decide) (by omega) (by omega) (fun c_8 => ?_) (fun c_8 => ?_)
  · refine V_bipush (v := nI 8) F dX13_compare_2_21 rfl ?_
    refine V_aload_n (i := 1) F dX13_compare_2_23 rfl rfl ?_
    refine V_callV (st := [.int (nI (8))]) F dX13_compare_2_24 lk_X13_15 (ct_Leg_train ha) ⟨5, _, _, _, rfl, (.inl ha)⟩ rfl rfl (Nat.le_of_ble_eq_true rfl) (Nat.le_of_ble_eq_true rfl) (Nat.le_of_ble_eq_true rfl) (by first | exact Nat.le_of_ble_eq_true rfl | omega) (by first | exact Nat.le_of_ble_eq_true rfl | omega) ?_
    refine PRk ?_
    refine V_aload_n (i := 2) F dX13_compare_2_27 rfl rfl ?_
    refine V_callV (st := [.int (nI (ut)), .int (nI (8))]) F dX13_compare_2_28 lk_X13_15 (ct_Leg_train hb) ⟨5, _, _, _, rfl, (.inl hb)⟩ rfl rfl (Nat.le_of_ble_eq_true rfl) (Nat.le_of_ble_eq_true rfl) (Nat.le_of_ble_eq_true rfl) (by first | exact Nat.le_of_ble_eq_true rfl | omega) (by first | exact Nat.le_of_ble_eq_true rfl | omega) ?_
    refine PRk ?_
    refine V_isub F dX13_compare_2_31 ?_
    refine V_imul F dX13_compare_2_32 ?_
    refine V_aload_n (i := 1) F dX13_compare_2_33 rfl rfl ?_
    refine V_callV (st := [.int (((nI (8))) * ((((nI (ut))) - ((nI (vt))))))]) F dX13_compare_2_34 lk_X13_18 (ct_Leg_number ha) ⟨5, _, _, _, rfl, (.inl ha)⟩ rfl rfl (Nat.le_of_ble_eq_true rfl) (Nat.le_of_ble_eq_true rfl) (Nat.le_of_ble_eq_true rfl) (by first | exact Nat.le_of_ble_eq_true rfl | omega) (by first | exact Nat.le_of_ble_eq_true rfl | omega) ?_
    refine PRk ?_
    refine V_iadd F dX13_compare_2_37 ?_
    refine V_aload_n (i := 2) F dX13_compare_2_38 rfl rfl ?_
    refine V_callV (st := [.int (((((nI (8))) * ((((nI (ut))) - ((nI (vt))))))) + ((nI (uk))))]) F dX13_compare_2_39 lk_X13_18 (ct_Leg_number hb) ⟨5, _, _, _, rfl, (.inl hb)⟩ rfl rfl (Nat.le_of_ble_eq_true rfl) (Nat.le_of_ble_eq_true rfl) (Nat.le_of_ble_eq_true rfl) (by first | exact Nat.le_of_ble_eq_true rfl | omega) (by first | exact Nat.le_of_ble_eq_true rfl | omega) ?_
    refine PRk ?_
    refine V_isub F dX13_compare_2_42 ?_
    exact V_iret F dX13_compare_2_43 rfl (by first | exact Nat.le_of_ble_eq_true rfl | omega) (by first | exact Nat.le_of_ble_eq_true rfl | omega) ⟨_, rfl, rfl, fun _ => rfl, fun z => absurd c_8 z⟩
  · refine V_aload_n (i := 1) F dX13_compare_2_11 rfl rfl ?_
    refine V_callV (st := []) F dX13_compare_2_12 lk_X13_9 (ct_Leg_departure ha) ⟨5, _, _, _, rfl, (.inl ha)⟩ rfl rfl (Nat.le_of_ble_eq_true rfl) (Nat.le_of_ble_eq_true rfl) (Nat.le_of_ble_eq_true rfl) (by first | exact Nat.le_of_ble_eq_true rfl | omega) (by first | exact Nat.le_of_ble_eq_true rfl | omega) ?_
    refine PRk ?_
    refine V_aload_n (i := 2) F dX13_compare_2_15 rfl rfl ?_
    refine V_callV (st := [.int (nI (ud))]) F dX13_compare_2_16 lk_X13_9 (ct_Leg_departure hb) ⟨5, _, _, _, rfl, (.inl hb)⟩ rfl rfl (Nat.le_of_ble_eq_true rfl) (Nat.le_of_ble_eq_true rfl) (Nat.le_of_ble_eq_true rfl) (by first | exact Nat.le_of_ble_eq_true rfl | omega) (by first | exact Nat.le_of_ble_eq_true rfl | omega) ?_
    refine PRk ?_
    refine V_isub F dX13_compare_2_19 ?_
    exact V_iret F dX13_compare_2_20 rfl (by first | exact Nat.le_of_ble_eq_true rfl | omega) (by first | exact Nat.le_of_ble_eq_true rfl | omega) ⟨_, rfl, rfl, fun z => absurd z c_8, fun _ => (rfl : _ = _)⟩
