/-- demand meets its contract -/
theorem dem_holds {G : GG} {l : Launch} (hl0 : l.stackTraces = false) : DEM G l := by
  intro v a h
  refine CtX.of (by decide) (Nat.le_of_ble_eq_true rfl) (cat1 rfl) (fun X hXl F HT => ?_)
  subst hXl
  refine V_iload_n (i := 0) F dX1_demand_0 rfl rfl ?_
  refine V_if_ne (tgt := 13) F dX1_demand_1 (by decide) (fun c => ?_) (fun c => ?_)
  · exact VV.rx (V_vret F dX1_demand_13 (Nat.zero_le _) (Nat.zero_le _) ⟨rfl, rfl, c⟩)
  · refine V_newF F dX1_demand_4 nw_X1_1 rfl (by decide) (by decide) ?_
    intro q hfq hbq
    refine VS_dup F dX1_demand_7 rfl ?_
    refine VS_aload_n (i := 1) F dX1_demand_8 rfl rfl ?_
    refine VS_callF (nn := 1) (As := [.ref a]) F dX1_demand_9 lk_X1_3 (ct_X9_init hl0 hfq hbq) (fun H hH => hH) rfl rfl (Nat.le_of_ble_eq_true rfl) (by decide) (by decide) (by decide) (by decide) ?_
    rintro _ _ ⟨rfl, rfl⟩
    refine V_athrow F dX1_demand_12 ⟨7, _, _, _, rfl, .inl hset_self⟩ ?_
    exact V_xout F (HT _) (by decide) (by decide) ⟨c, rfl, hfq, hset_self, Fr.rf.nw hfq⟩
