set_option maxRecDepth 100000
/-! ===== the law's wrappers ===== -/
abbrev eUO : String := "java/lang/UnsupportedOperationException"
abbrev lA (G : GG) (n : Nat) (f : Nat → Int64) : va_E := .inl (G.2.1 1, n, .inr (.inl f))
abbrev dA (G : GG) (n : Nat) (f : Nat → UInt64) : va_E := .inl (G.2.1 2, n, .inr (.inr (.inr (.inl f))))
theorem nc_eST_eAR : Cond.not (.castable "java/lang/IllegalStateException" "java/lang/IllegalArgumentException") ∈ flatC narrow_1 := by decide +kernel
theorem nc_eAR_eIX : Cond.not (.castable "java/lang/IllegalArgumentException" "java/lang/IndexOutOfBoundsException") ∈ flatC narrow_1 := by decide +kernel
theorem nc_eST_eIX : Cond.not (.castable "java/lang/IllegalStateException" "java/lang/IndexOutOfBoundsException") ∈ flatC narrow_1 := by decide +kernel
theorem nc_eIX_eEL : Cond.not (.castable "java/lang/IndexOutOfBoundsException" "java/util/NoSuchElementException") ∈ flatC narrow_1 := by decide +kernel
theorem nc_eUO_eEL : Cond.not (.castable "java/lang/UnsupportedOperationException" "java/util/NoSuchElementException") ∈ flatC narrow_1 := by decide +kernel
theorem nc_eST_eEL : Cond.not (.castable "java/lang/IllegalStateException" "java/util/NoSuchElementException") ∈ flatC narrow_1 := by decide +kernel
theorem nc_eUO_eIX : Cond.not (.castable "java/lang/UnsupportedOperationException" "java/lang/IndexOutOfBoundsException") ∈ flatC narrow_1 := by decide +kernel
theorem nc_eUO_eAR : Cond.not (.castable "java/lang/UnsupportedOperationException" "java/lang/IllegalArgumentException") ∈ flatC narrow_1 := by decide +kernel
theorem nc_eUO_eST : Cond.not (.castable "java/lang/UnsupportedOperationException" "java/lang/IllegalStateException") ∈ flatC narrow_1 := by decide +kernel
theorem nc_eEL_eIX : Cond.not (.castable "java/util/NoSuchElementException" "java/lang/IndexOutOfBoundsException") ∈ flatC narrow_1 := by decide +kernel
theorem nc_eEL_eAR : Cond.not (.castable "java/util/NoSuchElementException" "java/lang/IllegalArgumentException") ∈ flatC narrow_1 := by decide +kernel
theorem x0_addStation {G : GG} {l : Launch} {h : AH} {xo ao : Nat} {p0 : Int32} {Sok : Int32 → AH → Prop} {Sno : Nat → AH → Prop} {d mc ms : Nat} (hc : CtX G l yX1_addStation cX1_addStation 2 (some .int) d mc ms [.ref xo, .int p0] h (fun r0 h2 => ∃ y : Int32, r0 = some (.int y) ∧ Sok y h2) (fun E q h2 => (E = eAR ∧ Sno 1 h2) ∨ (E = eST ∧ Sno 2 h2))) (hx : isC G h xo "SleeperRailway") (hao : ∀ y h3, Sok y h3 → ∃ f, h3 ao = some (lA G 1 f)) : CtH G l yX0_addStation cX0_addStation 4 (some .int) [((0 : Nat), (9 : Nat), (12 : Nat), (13 : Nat)), ((0 : Nat), (9 : Nat), (15 : Nat), (15 : Nat))] (d + 1) mc ms [.ref xo, .int p0, .ref ao] h (fun r h2 => (∃ y h3 f, Sok y h3 ∧ h3 ao = some (lA G 1 f) ∧ r = some (.int (nI 0)) ∧ h2 = hset h3 ao (lA G 1 (vp_updL f 0 (y.toInt64)))) ∨ (∃ k, 0 < k ∧ k < 5 ∧ r = some (.int (nI k)) ∧ Sno k h2)) (fun _ _ _ => False) := by
  refine CtH.of (by decide) (Nat.le_of_ble_eq_true rfl) (cat1 rfl) (fun X hXl F HT => ?_)
  subst hXl
  refine V_aload_n (i := 2) F dX0_addStation_0 rfl rfl ?_
  refine V_iconst (v := nI 0) F dX0_addStation_1 rfl ?_
  refine V_aload_n (i := 0) F dX0_addStation_2 rfl rfl ?_
  refine V_iload_n (i := 1) F dX0_addStation_3 rfl rfl ?_
  refine V_xcV (st := [.int (nI 0), .ref ao]) (nn := 1) F dX0_addStation_4 lk_X0_7 hc hx rfl rfl (Nat.le_of_ble_eq_true rfl) (Nat.le_refl _) (Nat.le_of_ble_eq_true rfl) (Nat.le_of_eq (Nat.zero_add _)) (Nat.le_of_eq (Nat.zero_add _)) ?_ ?_
  · rintro _ h3 ⟨y, rfl, hS⟩
    obtain ⟨f, hf⟩ := hao y h3 hS
    refine V_i2l F dX0_addStation_7 ?_
    refine V_lastN F 1 dX0_addStation_8 rfl hf (by decide) (by decide) ?_
    refine V_goto (tgt := 18) F dX0_addStation_9 (by decide) ?_
    refine V_iconst (v := nI 0) F dX0_addStation_18 rfl ?_
    exact VV.rx (V_iret F dX0_addStation_19 rfl (Nat.le_of_eq (Nat.zero_add _)) (Nat.le_of_eq (Nat.zero_add _)) (Or.inl ⟨_, h3, f, hS, hf, rfl, rfl⟩))
  · intro E q h3 hp
    rcases hp with ⟨rfl, hno⟩ | ⟨rfl, hno⟩
    · refine V_xcatch F (name := "java/lang/IllegalArgumentException") [] ⟨0, 9, 12, 13⟩ [⟨0, 9, 15, 15⟩] (by rw [HT]; rfl) (fun z hz => by cases hz) (by decide) (by decide) q2257 q741 ?_
      refine V_astore_n (i := 3) F dX0_addStation_12 rfl (Nat.le_of_ble_eq_true rfl) (Nat.le_of_ble_eq_true rfl) ?_
      refine V_iconst (v := nI 1) F dX0_addStation_13 rfl ?_
      exact VV.rx (V_iret F dX0_addStation_14 rfl (Nat.le_of_eq (Nat.zero_add _)) (Nat.le_of_eq (Nat.zero_add _)) (Or.inr ⟨1, by decide, by decide, rfl, hno⟩))
    · refine V_xcatch F (name := "java/lang/IllegalStateException") [⟨0, 9, 12, 13⟩] ⟨0, 9, 15, 15⟩ [] (by rw [HT]; rfl) (fun z hz => by
        simp only [List.mem_cons, List.not_mem_nil, or_false] at hz
        rcases hz with rfl
        · exact Or.inr ⟨by decide, "java/lang/IllegalArgumentException", q2257, nc_eST_eAR⟩) (by decide) (by decide) q2258 q2658 ?_
      refine V_astore_n (i := 3) F dX0_addStation_15 rfl (Nat.le_of_ble_eq_true rfl) (Nat.le_of_ble_eq_true rfl) ?_
      refine V_iconst (v := nI 2) F dX0_addStation_16 rfl ?_
      exact VV.rx (V_iret F dX0_addStation_17 rfl (Nat.le_of_eq (Nat.zero_add _)) (Nat.le_of_eq (Nat.zero_add _)) (Or.inr ⟨2, by decide, by decide, rfl, hno⟩))
theorem x0_addTrain {G : GG} {l : Launch} {h : AH} {xo ao : Nat} {p0 : Int32} {p1 : Int32} {p2 : Int32} {Sok : Int32 → AH → Prop} {Sno : Nat → AH → Prop} {d mc ms : Nat} (hc : CtX G l yX1_addTrain cX1_addTrain 4 (some .int) d mc ms [.ref xo, .int p0, .int p1, .int p2] h (fun r0 h2 => ∃ y : Int32, r0 = some (.int y) ∧ Sok y h2) (fun E q h2 => (E = eIX ∧ Sno 1 h2) ∨ (E = eAR ∧ Sno 2 h2) ∨ (E = eST ∧ Sno 3 h2))) (hx : isC G h xo "SleeperRailway") (hao : ∀ y h3, Sok y h3 → ∃ f, h3 ao = some (lA G 1 f)) : CtH G l yX0_addTrain cX0_addTrain 6 (some .int) [((0 : Nat), (12 : Nat), (15 : Nat), (21 : Nat)), ((0 : Nat), (12 : Nat), (19 : Nat), (13 : Nat)), ((0 : Nat), (12 : Nat), (23 : Nat), (15 : Nat))] (d + 1) mc ms [.ref xo, .int p0, .int p1, .int p2, .ref ao] h (fun r h2 => (∃ y h3 f, Sok y h3 ∧ h3 ao = some (lA G 1 f) ∧ r = some (.int (nI 0)) ∧ h2 = hset h3 ao (lA G 1 (vp_updL f 0 (y.toInt64)))) ∨ (∃ k, 0 < k ∧ k < 5 ∧ r = some (.int (nI k)) ∧ Sno k h2)) (fun _ _ _ => False) := by
  refine CtH.of (by decide) (Nat.le_of_ble_eq_true rfl) (cat1 rfl) (fun X hXl F HT => ?_)
  subst hXl
  refine V_aload (i := 4) F dX0_addTrain_0 rfl ?_
  refine V_iconst (v := nI 0) F dX0_addTrain_2 rfl ?_
  refine V_aload_n (i := 0) F dX0_addTrain_3 rfl rfl ?_
  refine V_iload_n (i := 1) F dX0_addTrain_4 rfl rfl ?_
  refine V_iload_n (i := 2) F dX0_addTrain_5 rfl rfl ?_
  refine V_iload_n (i := 3) F dX0_addTrain_6 rfl rfl ?_
  refine V_xcV (st := [.int (nI 0), .ref ao]) (nn := 3) F dX0_addTrain_7 lk_X0_17 hc hx rfl rfl (Nat.le_of_ble_eq_true rfl) (Nat.le_refl _) (Nat.le_of_ble_eq_true rfl) (Nat.le_of_eq (Nat.zero_add _)) (Nat.le_of_eq (Nat.zero_add _)) ?_ ?_
  · rintro _ h3 ⟨y, rfl, hS⟩
    obtain ⟨f, hf⟩ := hao y h3 hS
    refine V_i2l F dX0_addTrain_10 ?_
    refine V_lastN F 1 dX0_addTrain_11 rfl hf (by decide) (by decide) ?_
    refine V_goto (tgt := 27) F dX0_addTrain_12 (by decide) ?_
    refine V_iconst (v := nI 0) F dX0_addTrain_27 rfl ?_
    exact VV.rx (V_iret F dX0_addTrain_28 rfl (Nat.le_of_eq (Nat.zero_add _)) (Nat.le_of_eq (Nat.zero_add _)) (Or.inl ⟨_, h3, f, hS, hf, rfl, rfl⟩))
  · intro E q h3 hp
    rcases hp with ⟨rfl, hno⟩ | ⟨rfl, hno⟩ | ⟨rfl, hno⟩
    · refine V_xcatch F (name := "java/lang/IndexOutOfBoundsException") [] ⟨0, 12, 15, 21⟩ [⟨0, 12, 19, 13⟩, ⟨0, 12, 23, 15⟩] (by rw [HT]; rfl) (fun z hz => by cases hz) (by decide) (by decide) q2714 q503 ?_
      refine V_astore (i := 5) F dX0_addTrain_15 (Nat.le_of_ble_eq_true rfl) (Nat.le_of_ble_eq_true rfl) ?_
      refine V_iconst (v := nI 1) F dX0_addTrain_17 rfl ?_
      exact VV.rx (V_iret F dX0_addTrain_18 rfl (Nat.le_of_eq (Nat.zero_add _)) (Nat.le_of_eq (Nat.zero_add _)) (Or.inr ⟨1, by decide, by decide, rfl, hno⟩))
    · refine V_xcatch F (name := "java/lang/IllegalArgumentException") [⟨0, 12, 15, 21⟩] ⟨0, 12, 19, 13⟩ [⟨0, 12, 23, 15⟩] (by rw [HT]; rfl) (fun z hz => by
        simp only [List.mem_cons, List.not_mem_nil, or_false] at hz
        rcases hz with rfl
        · exact Or.inr ⟨by decide, "java/lang/IndexOutOfBoundsException", q2714, nc_eAR_eIX⟩) (by decide) (by decide) q2257 q741 ?_
      refine V_astore (i := 5) F dX0_addTrain_19 (Nat.le_of_ble_eq_true rfl) (Nat.le_of_ble_eq_true rfl) ?_
      refine V_iconst (v := nI 2) F dX0_addTrain_21 rfl ?_
      exact VV.rx (V_iret F dX0_addTrain_22 rfl (Nat.le_of_eq (Nat.zero_add _)) (Nat.le_of_eq (Nat.zero_add _)) (Or.inr ⟨2, by decide, by decide, rfl, hno⟩))
    · refine V_xcatch F (name := "java/lang/IllegalStateException") [⟨0, 12, 15, 21⟩, ⟨0, 12, 19, 13⟩] ⟨0, 12, 23, 15⟩ [] (by rw [HT]; rfl) (fun z hz => by
        simp only [List.mem_cons, List.not_mem_nil, or_false] at hz
        rcases hz with rfl | rfl
        · exact Or.inr ⟨by decide, "java/lang/IndexOutOfBoundsException", q2714, nc_eST_eIX⟩
        · exact Or.inr ⟨by decide, "java/lang/IllegalArgumentException", q2257, nc_eST_eAR⟩) (by decide) (by decide) q2258 q2658 ?_
      refine V_astore (i := 5) F dX0_addTrain_23 (Nat.le_of_ble_eq_true rfl) (Nat.le_of_ble_eq_true rfl) ?_
      refine V_iconst (v := nI 3) F dX0_addTrain_25 rfl ?_
      exact VV.rx (V_iret F dX0_addTrain_26 rfl (Nat.le_of_eq (Nat.zero_add _)) (Nat.le_of_eq (Nat.zero_add _)) (Or.inr ⟨3, by decide, by decide, rfl, hno⟩))
theorem x0_extendTrain {G : GG} {l : Launch} {h : AH} {xo ao : Nat} {p0 : Int32} {p1 : Int32} {p2 : Int32} {p3 : Int32} {Sok : Int32 → AH → Prop} {Sno : Nat → AH → Prop} {d mc ms : Nat} (hc : CtX G l yX1_extendTrain cX1_extendTrain 5 (some .int) d mc ms [.ref xo, .int p0, .int p1, .int p2, .int p3] h (fun r0 h2 => ∃ y : Int32, r0 = some (.int y) ∧ Sok y h2) (fun E q h2 => (E = eIX ∧ Sno 1 h2) ∨ (E = eAR ∧ Sno 2 h2) ∨ (E = eST ∧ Sno 3 h2))) (hx : isC G h xo "SleeperRailway") (hao : ∀ y h3, Sok y h3 → ∃ f, h3 ao = some (lA G 1 f)) : CtH G l yX0_extendTrain cX0_extendTrain 7 (some .int) [((0 : Nat), (14 : Nat), (17 : Nat), (21 : Nat)), ((0 : Nat), (14 : Nat), (21 : Nat), (13 : Nat)), ((0 : Nat), (14 : Nat), (25 : Nat), (15 : Nat))] (d + 1) mc ms [.ref xo, .int p0, .int p1, .int p2, .int p3, .ref ao] h (fun r h2 => (∃ y h3 f, Sok y h3 ∧ h3 ao = some (lA G 1 f) ∧ r = some (.int (nI 0)) ∧ h2 = hset h3 ao (lA G 1 (vp_updL f 0 (y.toInt64)))) ∨ (∃ k, 0 < k ∧ k < 5 ∧ r = some (.int (nI k)) ∧ Sno k h2)) (fun _ _ _ => False) := by
  refine CtH.of (by decide) (Nat.le_of_ble_eq_true rfl) (cat1 rfl) (fun X hXl F HT => ?_)
  subst hXl
  refine V_aload (i := 5) F dX0_extendTrain_0 rfl ?_
  refine V_iconst (v := nI 0) F dX0_extendTrain_2 rfl ?_
  refine V_aload_n (i := 0) F dX0_extendTrain_3 rfl rfl ?_
  refine V_iload_n (i := 1) F dX0_extendTrain_4 rfl rfl ?_
  refine V_iload_n (i := 2) F dX0_extendTrain_5 rfl rfl ?_
  refine V_iload_n (i := 3) F dX0_extendTrain_6 rfl rfl ?_
  refine V_iload (i := 4) F dX0_extendTrain_7 rfl ?_
  refine V_xcV (st := [.int (nI 0), .ref ao]) (nn := 4) F dX0_extendTrain_9 lk_X0_23 hc hx rfl rfl (Nat.le_of_ble_eq_true rfl) (Nat.le_refl _) (Nat.le_of_ble_eq_true rfl) (Nat.le_of_eq (Nat.zero_add _)) (Nat.le_of_eq (Nat.zero_add _)) ?_ ?_
  · rintro _ h3 ⟨y, rfl, hS⟩
    obtain ⟨f, hf⟩ := hao y h3 hS
    refine V_i2l F dX0_extendTrain_12 ?_
    refine V_lastN F 1 dX0_extendTrain_13 rfl hf (by decide) (by decide) ?_
    refine V_goto (tgt := 29) F dX0_extendTrain_14 (by decide) ?_
    refine V_iconst (v := nI 0) F dX0_extendTrain_29 rfl ?_
    exact VV.rx (V_iret F dX0_extendTrain_30 rfl (Nat.le_of_eq (Nat.zero_add _)) (Nat.le_of_eq (Nat.zero_add _)) (Or.inl ⟨_, h3, f, hS, hf, rfl, rfl⟩))
  · intro E q h3 hp
    rcases hp with ⟨rfl, hno⟩ | ⟨rfl, hno⟩ | ⟨rfl, hno⟩
    · refine V_xcatch F (name := "java/lang/IndexOutOfBoundsException") [] ⟨0, 14, 17, 21⟩ [⟨0, 14, 21, 13⟩, ⟨0, 14, 25, 15⟩] (by rw [HT]; rfl) (fun z hz => by cases hz) (by decide) (by decide) q2714 q503 ?_
      refine V_astore (i := 6) F dX0_extendTrain_17 (Nat.le_of_ble_eq_true rfl) (Nat.le_of_ble_eq_true rfl) ?_
      refine V_iconst (v := nI 1) F dX0_extendTrain_19 rfl ?_
      exact VV.rx (V_iret F dX0_extendTrain_20 rfl (Nat.le_of_eq (Nat.zero_add _)) (Nat.le_of_eq (Nat.zero_add _)) (Or.inr ⟨1, by decide, by decide, rfl, hno⟩))
    · refine V_xcatch F (name := "java/lang/IllegalArgumentException") [⟨0, 14, 17, 21⟩] ⟨0, 14, 21, 13⟩ [⟨0, 14, 25, 15⟩] (by rw [HT]; rfl) (fun z hz => by
        simp only [List.mem_cons, List.not_mem_nil, or_false] at hz
        rcases hz with rfl
        · exact Or.inr ⟨by decide, "java/lang/IndexOutOfBoundsException", q2714, nc_eAR_eIX⟩) (by decide) (by decide) q2257 q741 ?_
      refine V_astore (i := 6) F dX0_extendTrain_21 (Nat.le_of_ble_eq_true rfl) (Nat.le_of_ble_eq_true rfl) ?_
      refine V_iconst (v := nI 2) F dX0_extendTrain_23 rfl ?_
      exact VV.rx (V_iret F dX0_extendTrain_24 rfl (Nat.le_of_eq (Nat.zero_add _)) (Nat.le_of_eq (Nat.zero_add _)) (Or.inr ⟨2, by decide, by decide, rfl, hno⟩))
    · refine V_xcatch F (name := "java/lang/IllegalStateException") [⟨0, 14, 17, 21⟩, ⟨0, 14, 21, 13⟩] ⟨0, 14, 25, 15⟩ [] (by rw [HT]; rfl) (fun z hz => by
        simp only [List.mem_cons, List.not_mem_nil, or_false] at hz
        rcases hz with rfl | rfl
        · exact Or.inr ⟨by decide, "java/lang/IndexOutOfBoundsException", q2714, nc_eST_eIX⟩
        · exact Or.inr ⟨by decide, "java/lang/IllegalArgumentException", q2257, nc_eST_eAR⟩) (by decide) (by decide) q2258 q2658 ?_
      refine V_astore (i := 6) F dX0_extendTrain_25 (Nat.le_of_ble_eq_true rfl) (Nat.le_of_ble_eq_true rfl) ?_
      refine V_iconst (v := nI 3) F dX0_extendTrain_27 rfl ?_
      exact VV.rx (V_iret F dX0_extendTrain_28 rfl (Nat.le_of_eq (Nat.zero_add _)) (Nat.le_of_eq (Nat.zero_add _)) (Or.inr ⟨3, by decide, by decide, rfl, hno⟩))
theorem x0_delayTrain {G : GG} {l : Launch} {h : AH} {xo ao : Nat} {p0 : Int32} {p1 : Int32} {Sok : Int32 → AH → Prop} {Sno : Nat → AH → Prop} {d mc ms : Nat} (hc : CtX G l yX1_delayTrain cX1_delayTrain 3 (some .int) d mc ms [.ref xo, .int p0, .int p1] h (fun r0 h2 => ∃ y : Int32, r0 = some (.int y) ∧ Sok y h2) (fun E q h2 => (E = eIX ∧ Sno 1 h2) ∨ (E = eAR ∧ Sno 2 h2))) (hx : isC G h xo "SleeperRailway") (hao : ∀ y h3, Sok y h3 → ∃ f, h3 ao = some (lA G 1 f)) : CtH G l yX0_delayTrain cX0_delayTrain 5 (some .int) [((0 : Nat), (10 : Nat), (13 : Nat), (21 : Nat)), ((0 : Nat), (10 : Nat), (17 : Nat), (13 : Nat))] (d + 1) mc ms [.ref xo, .int p0, .int p1, .ref ao] h (fun r h2 => (∃ y h3 f, Sok y h3 ∧ h3 ao = some (lA G 1 f) ∧ r = some (.int (nI 0)) ∧ h2 = hset h3 ao (lA G 1 (vp_updL f 0 (y.toInt64)))) ∨ (∃ k, 0 < k ∧ k < 5 ∧ r = some (.int (nI k)) ∧ Sno k h2)) (fun _ _ _ => False) := by
  refine CtH.of (by decide) (Nat.le_of_ble_eq_true rfl) (cat1 rfl) (fun X hXl F HT => ?_)
  subst hXl
  refine V_aload_n (i := 3) F dX0_delayTrain_0 rfl rfl ?_
  refine V_iconst (v := nI 0) F dX0_delayTrain_1 rfl ?_
  refine V_aload_n (i := 0) F dX0_delayTrain_2 rfl rfl ?_
  refine V_iload_n (i := 1) F dX0_delayTrain_3 rfl rfl ?_
  refine V_iload_n (i := 2) F dX0_delayTrain_4 rfl rfl ?_
  refine V_xcV (st := [.int (nI 0), .ref ao]) (nn := 2) F dX0_delayTrain_5 lk_X0_27 hc hx rfl rfl (Nat.le_of_ble_eq_true rfl) (Nat.le_refl _) (Nat.le_of_ble_eq_true rfl) (Nat.le_of_eq (Nat.zero_add _)) (Nat.le_of_eq (Nat.zero_add _)) ?_ ?_
  · rintro _ h3 ⟨y, rfl, hS⟩
    obtain ⟨f, hf⟩ := hao y h3 hS
    refine V_i2l F dX0_delayTrain_8 ?_
    refine V_lastN F 1 dX0_delayTrain_9 rfl hf (by decide) (by decide) ?_
    refine V_goto (tgt := 21) F dX0_delayTrain_10 (by decide) ?_
    refine V_iconst (v := nI 0) F dX0_delayTrain_21 rfl ?_
    exact VV.rx (V_iret F dX0_delayTrain_22 rfl (Nat.le_of_eq (Nat.zero_add _)) (Nat.le_of_eq (Nat.zero_add _)) (Or.inl ⟨_, h3, f, hS, hf, rfl, rfl⟩))
  · intro E q h3 hp
    rcases hp with ⟨rfl, hno⟩ | ⟨rfl, hno⟩
    · refine V_xcatch F (name := "java/lang/IndexOutOfBoundsException") [] ⟨0, 10, 13, 21⟩ [⟨0, 10, 17, 13⟩] (by rw [HT]; rfl) (fun z hz => by cases hz) (by decide) (by decide) q2714 q503 ?_
      refine V_astore (i := 4) F dX0_delayTrain_13 (Nat.le_of_ble_eq_true rfl) (Nat.le_of_ble_eq_true rfl) ?_
      refine V_iconst (v := nI 1) F dX0_delayTrain_15 rfl ?_
      exact VV.rx (V_iret F dX0_delayTrain_16 rfl (Nat.le_of_eq (Nat.zero_add _)) (Nat.le_of_eq (Nat.zero_add _)) (Or.inr ⟨1, by decide, by decide, rfl, hno⟩))
    · refine V_xcatch F (name := "java/lang/IllegalArgumentException") [⟨0, 10, 13, 21⟩] ⟨0, 10, 17, 13⟩ [] (by rw [HT]; rfl) (fun z hz => by
        simp only [List.mem_cons, List.not_mem_nil, or_false] at hz
        rcases hz with rfl
        · exact Or.inr ⟨by decide, "java/lang/IndexOutOfBoundsException", q2714, nc_eAR_eIX⟩) (by decide) (by decide) q2257 q741 ?_
      refine V_astore (i := 4) F dX0_delayTrain_17 (Nat.le_of_ble_eq_true rfl) (Nat.le_of_ble_eq_true rfl) ?_
      refine V_iconst (v := nI 2) F dX0_delayTrain_19 rfl ?_
      exact VV.rx (V_iret F dX0_delayTrain_20 rfl (Nat.le_of_eq (Nat.zero_add _)) (Nat.le_of_eq (Nat.zero_add _)) (Or.inr ⟨2, by decide, by decide, rfl, hno⟩))
theorem x0_addSuitcase {G : GG} {l : Launch} {h : AH} {xo ao : Nat} {p0 : Int32} {p1 : Int32} {p2 : Int32} {Sok : Int32 → AH → Prop} {Sno : Nat → AH → Prop} {d mc ms : Nat} (hc : CtX G l yX1_addSuitcase cX1_addSuitcase 4 (some .int) d mc ms [.ref xo, .int p0, .int p1, .int p2] h (fun r0 h2 => ∃ y : Int32, r0 = some (.int y) ∧ Sok y h2) (fun E q h2 => (E = eIX ∧ Sno 1 h2) ∨ (E = eAR ∧ Sno 2 h2) ∨ (E = eST ∧ Sno 3 h2))) (hx : isC G h xo "SleeperRailway") (hao : ∀ y h3, Sok y h3 → ∃ f, h3 ao = some (lA G 1 f)) : CtH G l yX0_addSuitcase cX0_addSuitcase 6 (some .int) [((0 : Nat), (12 : Nat), (15 : Nat), (21 : Nat)), ((0 : Nat), (12 : Nat), (19 : Nat), (13 : Nat)), ((0 : Nat), (12 : Nat), (23 : Nat), (15 : Nat))] (d + 1) mc ms [.ref xo, .int p0, .int p1, .int p2, .ref ao] h (fun r h2 => (∃ y h3 f, Sok y h3 ∧ h3 ao = some (lA G 1 f) ∧ r = some (.int (nI 0)) ∧ h2 = hset h3 ao (lA G 1 (vp_updL f 0 (y.toInt64)))) ∨ (∃ k, 0 < k ∧ k < 5 ∧ r = some (.int (nI k)) ∧ Sno k h2)) (fun _ _ _ => False) := by
  refine CtH.of (by decide) (Nat.le_of_ble_eq_true rfl) (cat1 rfl) (fun X hXl F HT => ?_)
  subst hXl
  refine V_aload (i := 4) F dX0_addSuitcase_0 rfl ?_
  refine V_iconst (v := nI 0) F dX0_addSuitcase_2 rfl ?_
  refine V_aload_n (i := 0) F dX0_addSuitcase_3 rfl rfl ?_
  refine V_iload_n (i := 1) F dX0_addSuitcase_4 rfl rfl ?_
  refine V_iload_n (i := 2) F dX0_addSuitcase_5 rfl rfl ?_
  refine V_iload_n (i := 3) F dX0_addSuitcase_6 rfl rfl ?_
  refine V_xcV (st := [.int (nI 0), .ref ao]) (nn := 3) F dX0_addSuitcase_7 lk_X0_31 hc hx rfl rfl (Nat.le_of_ble_eq_true rfl) (Nat.le_refl _) (Nat.le_of_ble_eq_true rfl) (Nat.le_of_eq (Nat.zero_add _)) (Nat.le_of_eq (Nat.zero_add _)) ?_ ?_
  · rintro _ h3 ⟨y, rfl, hS⟩
    obtain ⟨f, hf⟩ := hao y h3 hS
    refine V_i2l F dX0_addSuitcase_10 ?_
    refine V_lastN F 1 dX0_addSuitcase_11 rfl hf (by decide) (by decide) ?_
    refine V_goto (tgt := 27) F dX0_addSuitcase_12 (by decide) ?_
    refine V_iconst (v := nI 0) F dX0_addSuitcase_27 rfl ?_
    exact VV.rx (V_iret F dX0_addSuitcase_28 rfl (Nat.le_of_eq (Nat.zero_add _)) (Nat.le_of_eq (Nat.zero_add _)) (Or.inl ⟨_, h3, f, hS, hf, rfl, rfl⟩))
  · intro E q h3 hp
    rcases hp with ⟨rfl, hno⟩ | ⟨rfl, hno⟩ | ⟨rfl, hno⟩
    · refine V_xcatch F (name := "java/lang/IndexOutOfBoundsException") [] ⟨0, 12, 15, 21⟩ [⟨0, 12, 19, 13⟩, ⟨0, 12, 23, 15⟩] (by rw [HT]; rfl) (fun z hz => by cases hz) (by decide) (by decide) q2714 q503 ?_
      refine V_astore (i := 5) F dX0_addSuitcase_15 (Nat.le_of_ble_eq_true rfl) (Nat.le_of_ble_eq_true rfl) ?_
      refine V_iconst (v := nI 1) F dX0_addSuitcase_17 rfl ?_
      exact VV.rx (V_iret F dX0_addSuitcase_18 rfl (Nat.le_of_eq (Nat.zero_add _)) (Nat.le_of_eq (Nat.zero_add _)) (Or.inr ⟨1, by decide, by decide, rfl, hno⟩))
    · refine V_xcatch F (name := "java/lang/IllegalArgumentException") [⟨0, 12, 15, 21⟩] ⟨0, 12, 19, 13⟩ [⟨0, 12, 23, 15⟩] (by rw [HT]; rfl) (fun z hz => by
        simp only [List.mem_cons, List.not_mem_nil, or_false] at hz
        rcases hz with rfl
        · exact Or.inr ⟨by decide, "java/lang/IndexOutOfBoundsException", q2714, nc_eAR_eIX⟩) (by decide) (by decide) q2257 q741 ?_
      refine V_astore (i := 5) F dX0_addSuitcase_19 (Nat.le_of_ble_eq_true rfl) (Nat.le_of_ble_eq_true rfl) ?_
      refine V_iconst (v := nI 2) F dX0_addSuitcase_21 rfl ?_
      exact VV.rx (V_iret F dX0_addSuitcase_22 rfl (Nat.le_of_eq (Nat.zero_add _)) (Nat.le_of_eq (Nat.zero_add _)) (Or.inr ⟨2, by decide, by decide, rfl, hno⟩))
    · refine V_xcatch F (name := "java/lang/IllegalStateException") [⟨0, 12, 15, 21⟩, ⟨0, 12, 19, 13⟩] ⟨0, 12, 23, 15⟩ [] (by rw [HT]; rfl) (fun z hz => by
        simp only [List.mem_cons, List.not_mem_nil, or_false] at hz
        rcases hz with rfl | rfl
        · exact Or.inr ⟨by decide, "java/lang/IndexOutOfBoundsException", q2714, nc_eST_eIX⟩
        · exact Or.inr ⟨by decide, "java/lang/IllegalArgumentException", q2257, nc_eST_eAR⟩) (by decide) (by decide) q2258 q2658 ?_
      refine V_astore (i := 5) F dX0_addSuitcase_23 (Nat.le_of_ble_eq_true rfl) (Nat.le_of_ble_eq_true rfl) ?_
      refine V_iconst (v := nI 3) F dX0_addSuitcase_25 rfl ?_
      exact VV.rx (V_iret F dX0_addSuitcase_26 rfl (Nat.le_of_eq (Nat.zero_add _)) (Nat.le_of_eq (Nat.zero_add _)) (Or.inr ⟨3, by decide, by decide, rfl, hno⟩))
theorem x0_relabel {G : GG} {l : Launch} {h : AH} {xo ao : Nat} {p0 : Int32} {p1 : Int32} {Sok : Int32 → AH → Prop} {Sno : Nat → AH → Prop} {d mc ms : Nat} (hc : CtX G l yX1_relabel cX1_relabel 3 (some .int) d mc ms [.ref xo, .int p0, .int p1] h (fun r0 h2 => ∃ y : Int32, r0 = some (.int y) ∧ Sok y h2) (fun E q h2 => (E = eEL ∧ Sno 1 h2) ∨ (E = eIX ∧ Sno 2 h2))) (hx : isC G h xo "SleeperRailway") (hao : ∀ y h3, Sok y h3 → ∃ f, h3 ao = some (lA G 1 f)) : CtH G l yX0_relabel cX0_relabel 5 (some .int) [((0 : Nat), (10 : Nat), (13 : Nat), (37 : Nat)), ((0 : Nat), (10 : Nat), (17 : Nat), (21 : Nat))] (d + 1) mc ms [.ref xo, .int p0, .int p1, .ref ao] h (fun r h2 => (∃ y h3 f, Sok y h3 ∧ h3 ao = some (lA G 1 f) ∧ r = some (.int (nI 0)) ∧ h2 = hset h3 ao (lA G 1 (vp_updL f 0 (y.toInt64)))) ∨ (∃ k, 0 < k ∧ k < 5 ∧ r = some (.int (nI k)) ∧ Sno k h2)) (fun _ _ _ => False) := by
  refine CtH.of (by decide) (Nat.le_of_ble_eq_true rfl) (cat1 rfl) (fun X hXl F HT => ?_)
  subst hXl
  refine V_aload_n (i := 3) F dX0_relabel_0 rfl rfl ?_
  refine V_iconst (v := nI 0) F dX0_relabel_1 rfl ?_
  refine V_aload_n (i := 0) F dX0_relabel_2 rfl rfl ?_
  refine V_iload_n (i := 1) F dX0_relabel_3 rfl rfl ?_
  refine V_iload_n (i := 2) F dX0_relabel_4 rfl rfl ?_
  refine V_xcV (st := [.int (nI 0), .ref ao]) (nn := 2) F dX0_relabel_5 lk_X0_34 hc hx rfl rfl (Nat.le_of_ble_eq_true rfl) (Nat.le_refl _) (Nat.le_of_ble_eq_true rfl) (Nat.le_of_eq (Nat.zero_add _)) (Nat.le_of_eq (Nat.zero_add _)) ?_ ?_
  · rintro _ h3 ⟨y, rfl, hS⟩
    obtain ⟨f, hf⟩ := hao y h3 hS
    refine V_i2l F dX0_relabel_8 ?_
    refine V_lastN F 1 dX0_relabel_9 rfl hf (by decide) (by decide) ?_
    refine V_goto (tgt := 21) F dX0_relabel_10 (by decide) ?_
    refine V_iconst (v := nI 0) F dX0_relabel_21 rfl ?_
    exact VV.rx (V_iret F dX0_relabel_22 rfl (Nat.le_of_eq (Nat.zero_add _)) (Nat.le_of_eq (Nat.zero_add _)) (Or.inl ⟨_, h3, f, hS, hf, rfl, rfl⟩))
  · intro E q h3 hp
    rcases hp with ⟨rfl, hno⟩ | ⟨rfl, hno⟩
    · refine V_xcatch F (name := "java/util/NoSuchElementException") [] ⟨0, 10, 13, 37⟩ [⟨0, 10, 17, 21⟩] (by rw [HT]; rfl) (fun z hz => by cases hz) (by decide) (by decide) q2762 q881 ?_
      refine V_astore (i := 4) F dX0_relabel_13 (Nat.le_of_ble_eq_true rfl) (Nat.le_of_ble_eq_true rfl) ?_
      refine V_iconst (v := nI 1) F dX0_relabel_15 rfl ?_
      exact VV.rx (V_iret F dX0_relabel_16 rfl (Nat.le_of_eq (Nat.zero_add _)) (Nat.le_of_eq (Nat.zero_add _)) (Or.inr ⟨1, by decide, by decide, rfl, hno⟩))
    · refine V_xcatch F (name := "java/lang/IndexOutOfBoundsException") [⟨0, 10, 13, 37⟩] ⟨0, 10, 17, 21⟩ [] (by rw [HT]; rfl) (fun z hz => by
        simp only [List.mem_cons, List.not_mem_nil, or_false] at hz
        rcases hz with rfl
        · exact Or.inr ⟨by decide, "java/util/NoSuchElementException", q2762, nc_eIX_eEL⟩) (by decide) (by decide) q2714 q503 ?_
      refine V_astore (i := 4) F dX0_relabel_17 (Nat.le_of_ble_eq_true rfl) (Nat.le_of_ble_eq_true rfl) ?_
      refine V_iconst (v := nI 2) F dX0_relabel_19 rfl ?_
      exact VV.rx (V_iret F dX0_relabel_20 rfl (Nat.le_of_eq (Nat.zero_add _)) (Nat.le_of_eq (Nat.zero_add _)) (Or.inr ⟨2, by decide, by decide, rfl, hno⟩))
theorem x0_send {G : GG} {l : Launch} {h : AH} {xo ao : Nat} {p0 : Int32} {Sok : Int32 → AH → Prop} {Sno : Nat → AH → Prop} {d mc ms : Nat} (hc : CtX G l yX1_send cX1_send 2 (some .int) d mc ms [.ref xo, .int p0] h (fun r0 h2 => ∃ y : Int32, r0 = some (.int y) ∧ Sok y h2) (fun E q h2 => (E = eEL ∧ Sno 1 h2) ∨ (E = eUO ∧ Sno 2 h2))) (hx : isC G h xo "SleeperRailway") (hao : ∀ y h3, Sok y h3 → ∃ f, h3 ao = some (lA G 1 f)) : CtH G l yX0_send cX0_send 4 (some .int) [((0 : Nat), (9 : Nat), (12 : Nat), (37 : Nat)), ((0 : Nat), (9 : Nat), (15 : Nat), (42 : Nat))] (d + 1) mc ms [.ref xo, .int p0, .ref ao] h (fun r h2 => (∃ y h3 f, Sok y h3 ∧ h3 ao = some (lA G 1 f) ∧ r = some (.int (nI 0)) ∧ h2 = hset h3 ao (lA G 1 (vp_updL f 0 (y.toInt64)))) ∨ (∃ k, 0 < k ∧ k < 5 ∧ r = some (.int (nI k)) ∧ Sno k h2)) (fun _ _ _ => False) := by
  refine CtH.of (by decide) (Nat.le_of_ble_eq_true rfl) (cat1 rfl) (fun X hXl F HT => ?_)
  subst hXl
  refine V_aload_n (i := 2) F dX0_send_0 rfl rfl ?_
  refine V_iconst (v := nI 0) F dX0_send_1 rfl ?_
  refine V_aload_n (i := 0) F dX0_send_2 rfl rfl ?_
  refine V_iload_n (i := 1) F dX0_send_3 rfl rfl ?_
  refine V_xcV (st := [.int (nI 0), .ref ao]) (nn := 1) F dX0_send_4 lk_X0_39 hc hx rfl rfl (Nat.le_of_ble_eq_true rfl) (Nat.le_refl _) (Nat.le_of_ble_eq_true rfl) (Nat.le_of_eq (Nat.zero_add _)) (Nat.le_of_eq (Nat.zero_add _)) ?_ ?_
  · rintro _ h3 ⟨y, rfl, hS⟩
    obtain ⟨f, hf⟩ := hao y h3 hS
    refine V_i2l F dX0_send_7 ?_
    refine V_lastN F 1 dX0_send_8 rfl hf (by decide) (by decide) ?_
    refine V_goto (tgt := 18) F dX0_send_9 (by decide) ?_
    refine V_iconst (v := nI 0) F dX0_send_18 rfl ?_
    exact VV.rx (V_iret F dX0_send_19 rfl (Nat.le_of_eq (Nat.zero_add _)) (Nat.le_of_eq (Nat.zero_add _)) (Or.inl ⟨_, h3, f, hS, hf, rfl, rfl⟩))
  · intro E q h3 hp
    rcases hp with ⟨rfl, hno⟩ | ⟨rfl, hno⟩
    · refine V_xcatch F (name := "java/util/NoSuchElementException") [] ⟨0, 9, 12, 37⟩ [⟨0, 9, 15, 42⟩] (by rw [HT]; rfl) (fun z hz => by cases hz) (by decide) (by decide) q2762 q881 ?_
      refine V_astore_n (i := 3) F dX0_send_12 rfl (Nat.le_of_ble_eq_true rfl) (Nat.le_of_ble_eq_true rfl) ?_
      refine V_iconst (v := nI 1) F dX0_send_13 rfl ?_
      exact VV.rx (V_iret F dX0_send_14 rfl (Nat.le_of_eq (Nat.zero_add _)) (Nat.le_of_eq (Nat.zero_add _)) (Or.inr ⟨1, by decide, by decide, rfl, hno⟩))
    · refine V_xcatch F (name := "java/lang/UnsupportedOperationException") [⟨0, 9, 12, 37⟩] ⟨0, 9, 15, 42⟩ [] (by rw [HT]; rfl) (fun z hz => by
        simp only [List.mem_cons, List.not_mem_nil, or_false] at hz
        rcases hz with rfl
        · exact Or.inr ⟨by decide, "java/util/NoSuchElementException", q2762, nc_eUO_eEL⟩) (by decide) (by decide) q2771 q2693 ?_
      refine V_astore_n (i := 3) F dX0_send_15 rfl (Nat.le_of_ble_eq_true rfl) (Nat.le_of_ble_eq_true rfl) ?_
      refine V_iconst (v := nI 2) F dX0_send_16 rfl ?_
      exact VV.rx (V_iret F dX0_send_17 rfl (Nat.le_of_eq (Nat.zero_add _)) (Nat.le_of_eq (Nat.zero_add _)) (Or.inr ⟨2, by decide, by decide, rfl, hno⟩))
theorem x0_collect {G : GG} {l : Launch} {h : AH} {xo ao : Nat} {p0 : Int32} {Sok : Int32 → AH → Prop} {Sno : Nat → AH → Prop} {d mc ms : Nat} (hc : CtX G l yX1_collect cX1_collect 2 (some .int) d mc ms [.ref xo, .int p0] h (fun r0 h2 => ∃ y : Int32, r0 = some (.int y) ∧ Sok y h2) (fun E q h2 => (E = eEL ∧ Sno 1 h2) ∨ (E = eST ∧ Sno 2 h2))) (hx : isC G h xo "SleeperRailway") (hao : ∀ y h3, Sok y h3 → ∃ f, h3 ao = some (lA G 1 f)) : CtH G l yX0_collect cX0_collect 4 (some .int) [((0 : Nat), (9 : Nat), (12 : Nat), (37 : Nat)), ((0 : Nat), (9 : Nat), (15 : Nat), (15 : Nat))] (d + 1) mc ms [.ref xo, .int p0, .ref ao] h (fun r h2 => (∃ y h3 f, Sok y h3 ∧ h3 ao = some (lA G 1 f) ∧ r = some (.int (nI 0)) ∧ h2 = hset h3 ao (lA G 1 (vp_updL f 0 (y.toInt64)))) ∨ (∃ k, 0 < k ∧ k < 5 ∧ r = some (.int (nI k)) ∧ Sno k h2)) (fun _ _ _ => False) := by
  refine CtH.of (by decide) (Nat.le_of_ble_eq_true rfl) (cat1 rfl) (fun X hXl F HT => ?_)
  subst hXl
  refine V_aload_n (i := 2) F dX0_collect_0 rfl rfl ?_
  refine V_iconst (v := nI 0) F dX0_collect_1 rfl ?_
  refine V_aload_n (i := 0) F dX0_collect_2 rfl rfl ?_
  refine V_iload_n (i := 1) F dX0_collect_3 rfl rfl ?_
  refine V_xcV (st := [.int (nI 0), .ref ao]) (nn := 1) F dX0_collect_4 lk_X0_44 hc hx rfl rfl (Nat.le_of_ble_eq_true rfl) (Nat.le_refl _) (Nat.le_of_ble_eq_true rfl) (Nat.le_of_eq (Nat.zero_add _)) (Nat.le_of_eq (Nat.zero_add _)) ?_ ?_
  · rintro _ h3 ⟨y, rfl, hS⟩
    obtain ⟨f, hf⟩ := hao y h3 hS
    refine V_i2l F dX0_collect_7 ?_
    refine V_lastN F 1 dX0_collect_8 rfl hf (by decide) (by decide) ?_
    refine V_goto (tgt := 18) F dX0_collect_9 (by decide) ?_
    refine V_iconst (v := nI 0) F dX0_collect_18 rfl ?_
    exact VV.rx (V_iret F dX0_collect_19 rfl (Nat.le_of_eq (Nat.zero_add _)) (Nat.le_of_eq (Nat.zero_add _)) (Or.inl ⟨_, h3, f, hS, hf, rfl, rfl⟩))
  · intro E q h3 hp
    rcases hp with ⟨rfl, hno⟩ | ⟨rfl, hno⟩
    · refine V_xcatch F (name := "java/util/NoSuchElementException") [] ⟨0, 9, 12, 37⟩ [⟨0, 9, 15, 15⟩] (by rw [HT]; rfl) (fun z hz => by cases hz) (by decide) (by decide) q2762 q881 ?_
      refine V_astore_n (i := 3) F dX0_collect_12 rfl (Nat.le_of_ble_eq_true rfl) (Nat.le_of_ble_eq_true rfl) ?_
      refine V_iconst (v := nI 1) F dX0_collect_13 rfl ?_
      exact VV.rx (V_iret F dX0_collect_14 rfl (Nat.le_of_eq (Nat.zero_add _)) (Nat.le_of_eq (Nat.zero_add _)) (Or.inr ⟨1, by decide, by decide, rfl, hno⟩))
    · refine V_xcatch F (name := "java/lang/IllegalStateException") [⟨0, 9, 12, 37⟩] ⟨0, 9, 15, 15⟩ [] (by rw [HT]; rfl) (fun z hz => by
        simp only [List.mem_cons, List.not_mem_nil, or_false] at hz
        rcases hz with rfl
        · exact Or.inr ⟨by decide, "java/util/NoSuchElementException", q2762, nc_eST_eEL⟩) (by decide) (by decide) q2258 q2658 ?_
      refine V_astore_n (i := 3) F dX0_collect_15 rfl (Nat.le_of_ble_eq_true rfl) (Nat.le_of_ble_eq_true rfl) ?_
      refine V_iconst (v := nI 2) F dX0_collect_16 rfl ?_
      exact VV.rx (V_iret F dX0_collect_17 rfl (Nat.le_of_eq (Nat.zero_add _)) (Nat.le_of_eq (Nat.zero_add _)) (Or.inr ⟨2, by decide, by decide, rfl, hno⟩))
theorem x0_book {G : GG} {l : Launch} {h : AH} {xo ao : Nat} {p0 : Int32} {p1 : Int32} {p2 : Int32} {Sok : Int32 → AH → Prop} {Sno : Nat → AH → Prop} {d mc ms : Nat} (hc : CtX G l yX1_book cX1_book 4 (some .int) d mc ms [.ref xo, .int p0, .int p1, .int p2] h (fun r0 h2 => ∃ y : Int32, r0 = some (.int y) ∧ Sok y h2) (fun E q h2 => (E = eIX ∧ Sno 1 h2) ∨ (E = eAR ∧ Sno 2 h2) ∨ (E = eST ∧ Sno 3 h2) ∨ (E = eUO ∧ Sno 4 h2))) (hx : isC G h xo "SleeperRailway") (hao : ∀ y h3, Sok y h3 → ∃ f, h3 ao = some (lA G 1 f)) : CtH G l yX0_book cX0_book 6 (some .int) [((0 : Nat), (12 : Nat), (15 : Nat), (21 : Nat)), ((0 : Nat), (12 : Nat), (19 : Nat), (13 : Nat)), ((0 : Nat), (12 : Nat), (23 : Nat), (15 : Nat)), ((0 : Nat), (12 : Nat), (27 : Nat), (42 : Nat))] (d + 1) mc ms [.ref xo, .int p0, .int p1, .int p2, .ref ao] h (fun r h2 => (∃ y h3 f, Sok y h3 ∧ h3 ao = some (lA G 1 f) ∧ r = some (.int (nI 0)) ∧ h2 = hset h3 ao (lA G 1 (vp_updL f 0 (y.toInt64)))) ∨ (∃ k, 0 < k ∧ k < 5 ∧ r = some (.int (nI k)) ∧ Sno k h2)) (fun _ _ _ => False) := by
  refine CtH.of (by decide) (Nat.le_of_ble_eq_true rfl) (cat1 rfl) (fun X hXl F HT => ?_)
  subst hXl
  refine V_aload (i := 4) F dX0_book_0 rfl ?_
  refine V_iconst (v := nI 0) F dX0_book_2 rfl ?_
  refine V_aload_n (i := 0) F dX0_book_3 rfl rfl ?_
  refine V_iload_n (i := 1) F dX0_book_4 rfl rfl ?_
  refine V_iload_n (i := 2) F dX0_book_5 rfl rfl ?_
  refine V_iload_n (i := 3) F dX0_book_6 rfl rfl ?_
  refine V_xcV (st := [.int (nI 0), .ref ao]) (nn := 3) F dX0_book_7 lk_X0_47 hc hx rfl rfl (Nat.le_of_ble_eq_true rfl) (Nat.le_refl _) (Nat.le_of_ble_eq_true rfl) (Nat.le_of_eq (Nat.zero_add _)) (Nat.le_of_eq (Nat.zero_add _)) ?_ ?_
  · rintro _ h3 ⟨y, rfl, hS⟩
    obtain ⟨f, hf⟩ := hao y h3 hS
    refine V_i2l F dX0_book_10 ?_
    refine V_lastN F 1 dX0_book_11 rfl hf (by decide) (by decide) ?_
    refine V_goto (tgt := 31) F dX0_book_12 (by decide) ?_
    refine V_iconst (v := nI 0) F dX0_book_31 rfl ?_
    exact VV.rx (V_iret F dX0_book_32 rfl (Nat.le_of_eq (Nat.zero_add _)) (Nat.le_of_eq (Nat.zero_add _)) (Or.inl ⟨_, h3, f, hS, hf, rfl, rfl⟩))
  · intro E q h3 hp
    rcases hp with ⟨rfl, hno⟩ | ⟨rfl, hno⟩ | ⟨rfl, hno⟩ | ⟨rfl, hno⟩
    · refine V_xcatch F (name := "java/lang/IndexOutOfBoundsException") [] ⟨0, 12, 15, 21⟩ [⟨0, 12, 19, 13⟩, ⟨0, 12, 23, 15⟩, ⟨0, 12, 27, 42⟩] (by rw [HT]; rfl) (fun z hz => by cases hz) (by decide) (by decide) q2714 q503 ?_
      refine V_astore (i := 5) F dX0_book_15 (Nat.le_of_ble_eq_true rfl) (Nat.le_of_ble_eq_true rfl) ?_
      refine V_iconst (v := nI 1) F dX0_book_17 rfl ?_
      exact VV.rx (V_iret F dX0_book_18 rfl (Nat.le_of_eq (Nat.zero_add _)) (Nat.le_of_eq (Nat.zero_add _)) (Or.inr ⟨1, by decide, by decide, rfl, hno⟩))
    · refine V_xcatch F (name := "java/lang/IllegalArgumentException") [⟨0, 12, 15, 21⟩] ⟨0, 12, 19, 13⟩ [⟨0, 12, 23, 15⟩, ⟨0, 12, 27, 42⟩] (by rw [HT]; rfl) (fun z hz => by
        simp only [List.mem_cons, List.not_mem_nil, or_false] at hz
        rcases hz with rfl
        · exact Or.inr ⟨by decide, "java/lang/IndexOutOfBoundsException", q2714, nc_eAR_eIX⟩) (by decide) (by decide) q2257 q741 ?_
      refine V_astore (i := 5) F dX0_book_19 (Nat.le_of_ble_eq_true rfl) (Nat.le_of_ble_eq_true rfl) ?_
      refine V_iconst (v := nI 2) F dX0_book_21 rfl ?_
      exact VV.rx (V_iret F dX0_book_22 rfl (Nat.le_of_eq (Nat.zero_add _)) (Nat.le_of_eq (Nat.zero_add _)) (Or.inr ⟨2, by decide, by decide, rfl, hno⟩))
    · refine V_xcatch F (name := "java/lang/IllegalStateException") [⟨0, 12, 15, 21⟩, ⟨0, 12, 19, 13⟩] ⟨0, 12, 23, 15⟩ [⟨0, 12, 27, 42⟩] (by rw [HT]; rfl) (fun z hz => by
        simp only [List.mem_cons, List.not_mem_nil, or_false] at hz
        rcases hz with rfl | rfl
        · exact Or.inr ⟨by decide, "java/lang/IndexOutOfBoundsException", q2714, nc_eST_eIX⟩
        · exact Or.inr ⟨by decide, "java/lang/IllegalArgumentException", q2257, nc_eST_eAR⟩) (by decide) (by decide) q2258 q2658 ?_
      refine V_astore (i := 5) F dX0_book_23 (Nat.le_of_ble_eq_true rfl) (Nat.le_of_ble_eq_true rfl) ?_
      refine V_iconst (v := nI 3) F dX0_book_25 rfl ?_
      exact VV.rx (V_iret F dX0_book_26 rfl (Nat.le_of_eq (Nat.zero_add _)) (Nat.le_of_eq (Nat.zero_add _)) (Or.inr ⟨3, by decide, by decide, rfl, hno⟩))
    · refine V_xcatch F (name := "java/lang/UnsupportedOperationException") [⟨0, 12, 15, 21⟩, ⟨0, 12, 19, 13⟩, ⟨0, 12, 23, 15⟩] ⟨0, 12, 27, 42⟩ [] (by rw [HT]; rfl) (fun z hz => by
        simp only [List.mem_cons, List.not_mem_nil, or_false] at hz
        rcases hz with rfl | rfl | rfl
        · exact Or.inr ⟨by decide, "java/lang/IndexOutOfBoundsException", q2714, nc_eUO_eIX⟩
        · exact Or.inr ⟨by decide, "java/lang/IllegalArgumentException", q2257, nc_eUO_eAR⟩
        · exact Or.inr ⟨by decide, "java/lang/IllegalStateException", q2258, nc_eUO_eST⟩) (by decide) (by decide) q2771 q2693 ?_
      refine V_astore (i := 5) F dX0_book_27 (Nat.le_of_ble_eq_true rfl) (Nat.le_of_ble_eq_true rfl) ?_
      refine V_iconst (v := nI 4) F dX0_book_29 rfl ?_
      exact VV.rx (V_iret F dX0_book_30 rfl (Nat.le_of_eq (Nat.zero_add _)) (Nat.le_of_eq (Nat.zero_add _)) (Or.inr ⟨4, by decide, by decide, rfl, hno⟩))
theorem x0_cancelBooking {G : GG} {l : Launch} {h : AH} {xo ao : Nat} {p0 : Int32} {Sok : Int32 → AH → Prop} {Sno : Nat → AH → Prop} {d mc ms : Nat} (hc : CtX G l yX1_cancelBooking cX1_cancelBooking 2 (some .int) d mc ms [.ref xo, .int p0] h (fun r0 h2 => ∃ y : Int32, r0 = some (.int y) ∧ Sok y h2) (fun E q h2 => (E = eEL ∧ Sno 1 h2))) (hx : isC G h xo "SleeperRailway") (hao : ∀ y h3, Sok y h3 → ∃ f, h3 ao = some (lA G 1 f)) : CtH G l yX0_cancelBooking cX0_cancelBooking 4 (some .int) [((0 : Nat), (9 : Nat), (12 : Nat), (37 : Nat))] (d + 1) mc ms [.ref xo, .int p0, .ref ao] h (fun r h2 => (∃ y h3 f, Sok y h3 ∧ h3 ao = some (lA G 1 f) ∧ r = some (.int (nI 0)) ∧ h2 = hset h3 ao (lA G 1 (vp_updL f 0 (y.toInt64)))) ∨ (∃ k, 0 < k ∧ k < 5 ∧ r = some (.int (nI k)) ∧ Sno k h2)) (fun _ _ _ => False) := by
  refine CtH.of (by decide) (Nat.le_of_ble_eq_true rfl) (cat1 rfl) (fun X hXl F HT => ?_)
  subst hXl
  refine V_aload_n (i := 2) F dX0_cancelBooking_0 rfl rfl ?_
  refine V_iconst (v := nI 0) F dX0_cancelBooking_1 rfl ?_
  refine V_aload_n (i := 0) F dX0_cancelBooking_2 rfl rfl ?_
  refine V_iload_n (i := 1) F dX0_cancelBooking_3 rfl rfl ?_
  refine V_xcV (st := [.int (nI 0), .ref ao]) (nn := 1) F dX0_cancelBooking_4 lk_X0_50 hc hx rfl rfl (Nat.le_of_ble_eq_true rfl) (Nat.le_refl _) (Nat.le_of_ble_eq_true rfl) (Nat.le_of_eq (Nat.zero_add _)) (Nat.le_of_eq (Nat.zero_add _)) ?_ ?_
  · rintro _ h3 ⟨y, rfl, hS⟩
    obtain ⟨f, hf⟩ := hao y h3 hS
    refine V_i2l F dX0_cancelBooking_7 ?_
    refine V_lastN F 1 dX0_cancelBooking_8 rfl hf (by decide) (by decide) ?_
    refine V_goto (tgt := 15) F dX0_cancelBooking_9 (by decide) ?_
    refine V_iconst (v := nI 0) F dX0_cancelBooking_15 rfl ?_
    exact VV.rx (V_iret F dX0_cancelBooking_16 rfl (Nat.le_of_eq (Nat.zero_add _)) (Nat.le_of_eq (Nat.zero_add _)) (Or.inl ⟨_, h3, f, hS, hf, rfl, rfl⟩))
  · intro E q h3 hp
    rcases hp with ⟨rfl, hno⟩
    · refine V_xcatch F (name := "java/util/NoSuchElementException") [] ⟨0, 9, 12, 37⟩ [] (by rw [HT]; rfl) (fun z hz => by cases hz) (by decide) (by decide) q2762 q881 ?_
      refine V_astore_n (i := 3) F dX0_cancelBooking_12 rfl (Nat.le_of_ble_eq_true rfl) (Nat.le_of_ble_eq_true rfl) ?_
      refine V_iconst (v := nI 1) F dX0_cancelBooking_13 rfl ?_
      exact VV.rx (V_iret F dX0_cancelBooking_14 rfl (Nat.le_of_eq (Nat.zero_add _)) (Nat.le_of_eq (Nat.zero_add _)) (Or.inr ⟨1, by decide, by decide, rfl, hno⟩))
theorem x0_transferTime {G : GG} {l : Launch} {h : AH} {xo ao : Nat} {p0 : Int32} {Sok : Int32 → AH → Prop} {Sno : Nat → AH → Prop} {d mc ms : Nat} (hc : CtX G l yX1_transferTime cX1_transferTime 2 (some .int) d mc ms [.ref xo, .int p0] h (fun r0 h2 => ∃ y : Int32, r0 = some (.int y) ∧ Sok y h2) (fun E q h2 => (E = eIX ∧ Sno 1 h2))) (hx : isC G h xo "SleeperRailway") (hao : ∀ y h3, Sok y h3 → ∃ f, h3 ao = some (lA G 1 f)) : CtH G l yX0_transferTime cX0_transferTime 4 (some .int) [((0 : Nat), (9 : Nat), (12 : Nat), (21 : Nat))] (d + 1) mc ms [.ref xo, .int p0, .ref ao] h (fun r h2 => (∃ y h3 f, Sok y h3 ∧ h3 ao = some (lA G 1 f) ∧ r = some (.int (nI 0)) ∧ h2 = hset h3 ao (lA G 1 (vp_updL f 0 (y.toInt64)))) ∨ (∃ k, 0 < k ∧ k < 5 ∧ r = some (.int (nI k)) ∧ Sno k h2)) (fun _ _ _ => False) := by
  refine CtH.of (by decide) (Nat.le_of_ble_eq_true rfl) (cat1 rfl) (fun X hXl F HT => ?_)
  subst hXl
  refine V_aload_n (i := 2) F dX0_transferTime_0 rfl rfl ?_
  refine V_iconst (v := nI 0) F dX0_transferTime_1 rfl ?_
  refine V_aload_n (i := 0) F dX0_transferTime_2 rfl rfl ?_
  refine V_iload_n (i := 1) F dX0_transferTime_3 rfl rfl ?_
  refine V_xcV (st := [.int (nI 0), .ref ao]) (nn := 1) F dX0_transferTime_4 lk_X0_53 hc hx rfl rfl (Nat.le_of_ble_eq_true rfl) (Nat.le_refl _) (Nat.le_of_ble_eq_true rfl) (Nat.le_of_eq (Nat.zero_add _)) (Nat.le_of_eq (Nat.zero_add _)) ?_ ?_
  · rintro _ h3 ⟨y, rfl, hS⟩
    obtain ⟨f, hf⟩ := hao y h3 hS
    refine V_i2l F dX0_transferTime_7 ?_
    refine V_lastN F 1 dX0_transferTime_8 rfl hf (by decide) (by decide) ?_
    refine V_goto (tgt := 15) F dX0_transferTime_9 (by decide) ?_
    refine V_iconst (v := nI 0) F dX0_transferTime_15 rfl ?_
    exact VV.rx (V_iret F dX0_transferTime_16 rfl (Nat.le_of_eq (Nat.zero_add _)) (Nat.le_of_eq (Nat.zero_add _)) (Or.inl ⟨_, h3, f, hS, hf, rfl, rfl⟩))
  · intro E q h3 hp
    rcases hp with ⟨rfl, hno⟩
    · refine V_xcatch F (name := "java/lang/IndexOutOfBoundsException") [] ⟨0, 9, 12, 21⟩ [] (by rw [HT]; rfl) (fun z hz => by cases hz) (by decide) (by decide) q2714 q503 ?_
      refine V_astore_n (i := 3) F dX0_transferTime_12 rfl (Nat.le_of_ble_eq_true rfl) (Nat.le_of_ble_eq_true rfl) ?_
      refine V_iconst (v := nI 1) F dX0_transferTime_13 rfl ?_
      exact VV.rx (V_iret F dX0_transferTime_14 rfl (Nat.le_of_eq (Nat.zero_add _)) (Nat.le_of_eq (Nat.zero_add _)) (Or.inr ⟨1, by decide, by decide, rfl, hno⟩))
theorem x0_nextTrain {G : GG} {l : Launch} {h : AH} {xo ao : Nat} {p0 : Int32} {p1 : Int32} {Sok : Int32 → AH → Prop} {Sno : Nat → AH → Prop} {d mc ms : Nat} (hc : CtX G l yX1_nextTrain cX1_nextTrain 3 (some .int) d mc ms [.ref xo, .int p0, .int p1] h (fun r0 h2 => ∃ y : Int32, r0 = some (.int y) ∧ Sok y h2) (fun E q h2 => (E = eIX ∧ Sno 1 h2) ∨ (E = eAR ∧ Sno 2 h2) ∨ (E = eEL ∧ Sno 3 h2))) (hx : isC G h xo "SleeperRailway") (hao : ∀ y h3, Sok y h3 → ∃ f, h3 ao = some (lA G 1 f)) : CtH G l yX0_nextTrain cX0_nextTrain 5 (some .int) [((0 : Nat), (10 : Nat), (13 : Nat), (21 : Nat)), ((0 : Nat), (10 : Nat), (17 : Nat), (13 : Nat)), ((0 : Nat), (10 : Nat), (21 : Nat), (37 : Nat))] (d + 1) mc ms [.ref xo, .int p0, .int p1, .ref ao] h (fun r h2 => (∃ y h3 f, Sok y h3 ∧ h3 ao = some (lA G 1 f) ∧ r = some (.int (nI 0)) ∧ h2 = hset h3 ao (lA G 1 (vp_updL f 0 (y.toInt64)))) ∨ (∃ k, 0 < k ∧ k < 5 ∧ r = some (.int (nI k)) ∧ Sno k h2)) (fun _ _ _ => False) := by
  refine CtH.of (by decide) (Nat.le_of_ble_eq_true rfl) (cat1 rfl) (fun X hXl F HT => ?_)
  subst hXl
  refine V_aload_n (i := 3) F dX0_nextTrain_0 rfl rfl ?_
  refine V_iconst (v := nI 0) F dX0_nextTrain_1 rfl ?_
  refine V_aload_n (i := 0) F dX0_nextTrain_2 rfl rfl ?_
  refine V_iload_n (i := 1) F dX0_nextTrain_3 rfl rfl ?_
  refine V_iload_n (i := 2) F dX0_nextTrain_4 rfl rfl ?_
  refine V_xcV (st := [.int (nI 0), .ref ao]) (nn := 2) F dX0_nextTrain_5 lk_X0_56 hc hx rfl rfl (Nat.le_of_ble_eq_true rfl) (Nat.le_refl _) (Nat.le_of_ble_eq_true rfl) (Nat.le_of_eq (Nat.zero_add _)) (Nat.le_of_eq (Nat.zero_add _)) ?_ ?_
  · rintro _ h3 ⟨y, rfl, hS⟩
    obtain ⟨f, hf⟩ := hao y h3 hS
    refine V_i2l F dX0_nextTrain_8 ?_
    refine V_lastN F 1 dX0_nextTrain_9 rfl hf (by decide) (by decide) ?_
    refine V_goto (tgt := 25) F dX0_nextTrain_10 (by decide) ?_
    refine V_iconst (v := nI 0) F dX0_nextTrain_25 rfl ?_
    exact VV.rx (V_iret F dX0_nextTrain_26 rfl (Nat.le_of_eq (Nat.zero_add _)) (Nat.le_of_eq (Nat.zero_add _)) (Or.inl ⟨_, h3, f, hS, hf, rfl, rfl⟩))
  · intro E q h3 hp
    rcases hp with ⟨rfl, hno⟩ | ⟨rfl, hno⟩ | ⟨rfl, hno⟩
    · refine V_xcatch F (name := "java/lang/IndexOutOfBoundsException") [] ⟨0, 10, 13, 21⟩ [⟨0, 10, 17, 13⟩, ⟨0, 10, 21, 37⟩] (by rw [HT]; rfl) (fun z hz => by cases hz) (by decide) (by decide) q2714 q503 ?_
      refine V_astore (i := 4) F dX0_nextTrain_13 (Nat.le_of_ble_eq_true rfl) (Nat.le_of_ble_eq_true rfl) ?_
      refine V_iconst (v := nI 1) F dX0_nextTrain_15 rfl ?_
      exact VV.rx (V_iret F dX0_nextTrain_16 rfl (Nat.le_of_eq (Nat.zero_add _)) (Nat.le_of_eq (Nat.zero_add _)) (Or.inr ⟨1, by decide, by decide, rfl, hno⟩))
    · refine V_xcatch F (name := "java/lang/IllegalArgumentException") [⟨0, 10, 13, 21⟩] ⟨0, 10, 17, 13⟩ [⟨0, 10, 21, 37⟩] (by rw [HT]; rfl) (fun z hz => by
        simp only [List.mem_cons, List.not_mem_nil, or_false] at hz
        rcases hz with rfl
        · exact Or.inr ⟨by decide, "java/lang/IndexOutOfBoundsException", q2714, nc_eAR_eIX⟩) (by decide) (by decide) q2257 q741 ?_
      refine V_astore (i := 4) F dX0_nextTrain_17 (Nat.le_of_ble_eq_true rfl) (Nat.le_of_ble_eq_true rfl) ?_
      refine V_iconst (v := nI 2) F dX0_nextTrain_19 rfl ?_
      exact VV.rx (V_iret F dX0_nextTrain_20 rfl (Nat.le_of_eq (Nat.zero_add _)) (Nat.le_of_eq (Nat.zero_add _)) (Or.inr ⟨2, by decide, by decide, rfl, hno⟩))
    · refine V_xcatch F (name := "java/util/NoSuchElementException") [⟨0, 10, 13, 21⟩, ⟨0, 10, 17, 13⟩] ⟨0, 10, 21, 37⟩ [] (by rw [HT]; rfl) (fun z hz => by
        simp only [List.mem_cons, List.not_mem_nil, or_false] at hz
        rcases hz with rfl | rfl
        · exact Or.inr ⟨by decide, "java/lang/IndexOutOfBoundsException", q2714, nc_eEL_eIX⟩
        · exact Or.inr ⟨by decide, "java/lang/IllegalArgumentException", q2257, nc_eEL_eAR⟩) (by decide) (by decide) q2762 q881 ?_
      refine V_astore (i := 4) F dX0_nextTrain_21 (Nat.le_of_ble_eq_true rfl) (Nat.le_of_ble_eq_true rfl) ?_
      refine V_iconst (v := nI 3) F dX0_nextTrain_23 rfl ?_
      exact VV.rx (V_iret F dX0_nextTrain_24 rfl (Nat.le_of_eq (Nat.zero_add _)) (Nat.le_of_eq (Nat.zero_add _)) (Or.inr ⟨3, by decide, by decide, rfl, hno⟩))
theorem x0_stopCount {G : GG} {l : Launch} {h : AH} {xo ao : Nat} {p0 : Int32} {Sok : Int32 → AH → Prop} {Sno : Nat → AH → Prop} {d mc ms : Nat} (hc : CtX G l yX1_stopCount cX1_stopCount 2 (some .int) d mc ms [.ref xo, .int p0] h (fun r0 h2 => ∃ y : Int32, r0 = some (.int y) ∧ Sok y h2) (fun E q h2 => (E = eIX ∧ Sno 1 h2))) (hx : isC G h xo "SleeperRailway") (hao : ∀ y h3, Sok y h3 → ∃ f, h3 ao = some (lA G 1 f)) : CtH G l yX0_stopCount cX0_stopCount 4 (some .int) [((0 : Nat), (9 : Nat), (12 : Nat), (21 : Nat))] (d + 1) mc ms [.ref xo, .int p0, .ref ao] h (fun r h2 => (∃ y h3 f, Sok y h3 ∧ h3 ao = some (lA G 1 f) ∧ r = some (.int (nI 0)) ∧ h2 = hset h3 ao (lA G 1 (vp_updL f 0 (y.toInt64)))) ∨ (∃ k, 0 < k ∧ k < 5 ∧ r = some (.int (nI k)) ∧ Sno k h2)) (fun _ _ _ => False) := by
  refine CtH.of (by decide) (Nat.le_of_ble_eq_true rfl) (cat1 rfl) (fun X hXl F HT => ?_)
  subst hXl
  refine V_aload_n (i := 2) F dX0_stopCount_0 rfl rfl ?_
  refine V_iconst (v := nI 0) F dX0_stopCount_1 rfl ?_
  refine V_aload_n (i := 0) F dX0_stopCount_2 rfl rfl ?_
  refine V_iload_n (i := 1) F dX0_stopCount_3 rfl rfl ?_
  refine V_xcV (st := [.int (nI 0), .ref ao]) (nn := 1) F dX0_stopCount_4 lk_X0_59 hc hx rfl rfl (Nat.le_of_ble_eq_true rfl) (Nat.le_refl _) (Nat.le_of_ble_eq_true rfl) (Nat.le_of_eq (Nat.zero_add _)) (Nat.le_of_eq (Nat.zero_add _)) ?_ ?_
  · rintro _ h3 ⟨y, rfl, hS⟩
    obtain ⟨f, hf⟩ := hao y h3 hS
    refine V_i2l F dX0_stopCount_7 ?_
    refine V_lastN F 1 dX0_stopCount_8 rfl hf (by decide) (by decide) ?_
    refine V_goto (tgt := 15) F dX0_stopCount_9 (by decide) ?_
    refine V_iconst (v := nI 0) F dX0_stopCount_15 rfl ?_
    exact VV.rx (V_iret F dX0_stopCount_16 rfl (Nat.le_of_eq (Nat.zero_add _)) (Nat.le_of_eq (Nat.zero_add _)) (Or.inl ⟨_, h3, f, hS, hf, rfl, rfl⟩))
  · intro E q h3 hp
    rcases hp with ⟨rfl, hno⟩
    · refine V_xcatch F (name := "java/lang/IndexOutOfBoundsException") [] ⟨0, 9, 12, 21⟩ [] (by rw [HT]; rfl) (fun z hz => by cases hz) (by decide) (by decide) q2714 q503 ?_
      refine V_astore_n (i := 3) F dX0_stopCount_12 rfl (Nat.le_of_ble_eq_true rfl) (Nat.le_of_ble_eq_true rfl) ?_
      refine V_iconst (v := nI 1) F dX0_stopCount_13 rfl ?_
      exact VV.rx (V_iret F dX0_stopCount_14 rfl (Nat.le_of_eq (Nat.zero_add _)) (Nat.le_of_eq (Nat.zero_add _)) (Or.inr ⟨1, by decide, by decide, rfl, hno⟩))
theorem x0_stationAt {G : GG} {l : Launch} {h : AH} {xo ao : Nat} {p0 : Int32} {p1 : Int32} {Sok : Int32 → AH → Prop} {Sno : Nat → AH → Prop} {d mc ms : Nat} (hc : CtX G l yX1_stationAt cX1_stationAt 3 (some .int) d mc ms [.ref xo, .int p0, .int p1] h (fun r0 h2 => ∃ y : Int32, r0 = some (.int y) ∧ Sok y h2) (fun E q h2 => (E = eIX ∧ Sno 1 h2))) (hx : isC G h xo "SleeperRailway") (hao : ∀ y h3, Sok y h3 → ∃ f, h3 ao = some (lA G 1 f)) : CtH G l yX0_stationAt cX0_stationAt 5 (some .int) [((0 : Nat), (10 : Nat), (13 : Nat), (21 : Nat))] (d + 1) mc ms [.ref xo, .int p0, .int p1, .ref ao] h (fun r h2 => (∃ y h3 f, Sok y h3 ∧ h3 ao = some (lA G 1 f) ∧ r = some (.int (nI 0)) ∧ h2 = hset h3 ao (lA G 1 (vp_updL f 0 (y.toInt64)))) ∨ (∃ k, 0 < k ∧ k < 5 ∧ r = some (.int (nI k)) ∧ Sno k h2)) (fun _ _ _ => False) := by
  refine CtH.of (by decide) (Nat.le_of_ble_eq_true rfl) (cat1 rfl) (fun X hXl F HT => ?_)
  subst hXl
  refine V_aload_n (i := 3) F dX0_stationAt_0 rfl rfl ?_
  refine V_iconst (v := nI 0) F dX0_stationAt_1 rfl ?_
  refine V_aload_n (i := 0) F dX0_stationAt_2 rfl rfl ?_
  refine V_iload_n (i := 1) F dX0_stationAt_3 rfl rfl ?_
  refine V_iload_n (i := 2) F dX0_stationAt_4 rfl rfl ?_
  refine V_xcV (st := [.int (nI 0), .ref ao]) (nn := 2) F dX0_stationAt_5 lk_X0_62 hc hx rfl rfl (Nat.le_of_ble_eq_true rfl) (Nat.le_refl _) (Nat.le_of_ble_eq_true rfl) (Nat.le_of_eq (Nat.zero_add _)) (Nat.le_of_eq (Nat.zero_add _)) ?_ ?_
  · rintro _ h3 ⟨y, rfl, hS⟩
    obtain ⟨f, hf⟩ := hao y h3 hS
    refine V_i2l F dX0_stationAt_8 ?_
    refine V_lastN F 1 dX0_stationAt_9 rfl hf (by decide) (by decide) ?_
    refine V_goto (tgt := 17) F dX0_stationAt_10 (by decide) ?_
    refine V_iconst (v := nI 0) F dX0_stationAt_17 rfl ?_
    exact VV.rx (V_iret F dX0_stationAt_18 rfl (Nat.le_of_eq (Nat.zero_add _)) (Nat.le_of_eq (Nat.zero_add _)) (Or.inl ⟨_, h3, f, hS, hf, rfl, rfl⟩))
  · intro E q h3 hp
    rcases hp with ⟨rfl, hno⟩
    · refine V_xcatch F (name := "java/lang/IndexOutOfBoundsException") [] ⟨0, 10, 13, 21⟩ [] (by rw [HT]; rfl) (fun z hz => by cases hz) (by decide) (by decide) q2714 q503 ?_
      refine V_astore (i := 4) F dX0_stationAt_13 (Nat.le_of_ble_eq_true rfl) (Nat.le_of_ble_eq_true rfl) ?_
      refine V_iconst (v := nI 1) F dX0_stationAt_15 rfl ?_
      exact VV.rx (V_iret F dX0_stationAt_16 rfl (Nat.le_of_eq (Nat.zero_add _)) (Nat.le_of_eq (Nat.zero_add _)) (Or.inr ⟨1, by decide, by decide, rfl, hno⟩))
theorem x0_arrivalAt {G : GG} {l : Launch} {h : AH} {xo ao : Nat} {p0 : Int32} {p1 : Int32} {Sok : Int32 → AH → Prop} {Sno : Nat → AH → Prop} {d mc ms : Nat} (hc : CtX G l yX1_arrivalAt cX1_arrivalAt 4 (some .int) d mc ms [.ref xo, .int p0, .int p1] h (fun r0 h2 => ∃ y : Int32, r0 = some (.int y) ∧ Sok y h2) (fun E q h2 => (E = eIX ∧ Sno 1 h2) ∨ (E = eEL ∧ Sno 2 h2))) (hx : isC G h xo "SleeperRailway") (hao : ∀ y h3, Sok y h3 → ∃ f, h3 ao = some (lA G 1 f)) : CtH G l yX0_arrivalAt cX0_arrivalAt 5 (some .int) [((0 : Nat), (10 : Nat), (13 : Nat), (21 : Nat)), ((0 : Nat), (10 : Nat), (17 : Nat), (37 : Nat))] (d + 1) mc ms [.ref xo, .int p0, .int p1, .ref ao] h (fun r h2 => (∃ y h3 f, Sok y h3 ∧ h3 ao = some (lA G 1 f) ∧ r = some (.int (nI 0)) ∧ h2 = hset h3 ao (lA G 1 (vp_updL f 0 (y.toInt64)))) ∨ (∃ k, 0 < k ∧ k < 5 ∧ r = some (.int (nI k)) ∧ Sno k h2)) (fun _ _ _ => False) := by
  refine CtH.of (by decide) (Nat.le_of_ble_eq_true rfl) (cat1 rfl) (fun X hXl F HT => ?_)
  subst hXl
  refine V_aload_n (i := 3) F dX0_arrivalAt_0 rfl rfl ?_
  refine V_iconst (v := nI 0) F dX0_arrivalAt_1 rfl ?_
  refine V_aload_n (i := 0) F dX0_arrivalAt_2 rfl rfl ?_
  refine V_iload_n (i := 1) F dX0_arrivalAt_3 rfl rfl ?_
  refine V_iload_n (i := 2) F dX0_arrivalAt_4 rfl rfl ?_
  refine V_xcV (st := [.int (nI 0), .ref ao]) (nn := 2) F dX0_arrivalAt_5 lk_X0_65 hc hx rfl rfl (Nat.le_of_ble_eq_true rfl) (Nat.le_refl _) (Nat.le_of_ble_eq_true rfl) (Nat.le_of_eq (Nat.zero_add _)) (Nat.le_of_eq (Nat.zero_add _)) ?_ ?_
  · rintro _ h3 ⟨y, rfl, hS⟩
    obtain ⟨f, hf⟩ := hao y h3 hS
    refine V_i2l F dX0_arrivalAt_8 ?_
    refine V_lastN F 1 dX0_arrivalAt_9 rfl hf (by decide) (by decide) ?_
    refine V_goto (tgt := 21) F dX0_arrivalAt_10 (by decide) ?_
    refine V_iconst (v := nI 0) F dX0_arrivalAt_21 rfl ?_
    exact VV.rx (V_iret F dX0_arrivalAt_22 rfl (Nat.le_of_eq (Nat.zero_add _)) (Nat.le_of_eq (Nat.zero_add _)) (Or.inl ⟨_, h3, f, hS, hf, rfl, rfl⟩))
  · intro E q h3 hp
    rcases hp with ⟨rfl, hno⟩ | ⟨rfl, hno⟩
    · refine V_xcatch F (name := "java/lang/IndexOutOfBoundsException") [] ⟨0, 10, 13, 21⟩ [⟨0, 10, 17, 37⟩] (by rw [HT]; rfl) (fun z hz => by cases hz) (by decide) (by decide) q2714 q503 ?_
      refine V_astore (i := 4) F dX0_arrivalAt_13 (Nat.le_of_ble_eq_true rfl) (Nat.le_of_ble_eq_true rfl) ?_
      refine V_iconst (v := nI 1) F dX0_arrivalAt_15 rfl ?_
      exact VV.rx (V_iret F dX0_arrivalAt_16 rfl (Nat.le_of_eq (Nat.zero_add _)) (Nat.le_of_eq (Nat.zero_add _)) (Or.inr ⟨1, by decide, by decide, rfl, hno⟩))
    · refine V_xcatch F (name := "java/util/NoSuchElementException") [⟨0, 10, 13, 21⟩] ⟨0, 10, 17, 37⟩ [] (by rw [HT]; rfl) (fun z hz => by
        simp only [List.mem_cons, List.not_mem_nil, or_false] at hz
        rcases hz with rfl
        · exact Or.inr ⟨by decide, "java/lang/IndexOutOfBoundsException", q2714, nc_eEL_eIX⟩) (by decide) (by decide) q2762 q881 ?_
      refine V_astore (i := 4) F dX0_arrivalAt_17 (Nat.le_of_ble_eq_true rfl) (Nat.le_of_ble_eq_true rfl) ?_
      refine V_iconst (v := nI 2) F dX0_arrivalAt_19 rfl ?_
      exact VV.rx (V_iret F dX0_arrivalAt_20 rfl (Nat.le_of_eq (Nat.zero_add _)) (Nat.le_of_eq (Nat.zero_add _)) (Or.inr ⟨2, by decide, by decide, rfl, hno⟩))
theorem x0_departureAt {G : GG} {l : Launch} {h : AH} {xo ao : Nat} {p0 : Int32} {p1 : Int32} {Sok : Int32 → AH → Prop} {Sno : Nat → AH → Prop} {d mc ms : Nat} (hc : CtX G l yX1_departureAt cX1_departureAt 4 (some .int) d mc ms [.ref xo, .int p0, .int p1] h (fun r0 h2 => ∃ y : Int32, r0 = some (.int y) ∧ Sok y h2) (fun E q h2 => (E = eIX ∧ Sno 1 h2) ∨ (E = eEL ∧ Sno 2 h2))) (hx : isC G h xo "SleeperRailway") (hao : ∀ y h3, Sok y h3 → ∃ f, h3 ao = some (lA G 1 f)) : CtH G l yX0_departureAt cX0_departureAt 5 (some .int) [((0 : Nat), (10 : Nat), (13 : Nat), (21 : Nat)), ((0 : Nat), (10 : Nat), (17 : Nat), (37 : Nat))] (d + 1) mc ms [.ref xo, .int p0, .int p1, .ref ao] h (fun r h2 => (∃ y h3 f, Sok y h3 ∧ h3 ao = some (lA G 1 f) ∧ r = some (.int (nI 0)) ∧ h2 = hset h3 ao (lA G 1 (vp_updL f 0 (y.toInt64)))) ∨ (∃ k, 0 < k ∧ k < 5 ∧ r = some (.int (nI k)) ∧ Sno k h2)) (fun _ _ _ => False) := by
  refine CtH.of (by decide) (Nat.le_of_ble_eq_true rfl) (cat1 rfl) (fun X hXl F HT => ?_)
  subst hXl
  refine V_aload_n (i := 3) F dX0_departureAt_0 rfl rfl ?_
  refine V_iconst (v := nI 0) F dX0_departureAt_1 rfl ?_
  refine V_aload_n (i := 0) F dX0_departureAt_2 rfl rfl ?_
  refine V_iload_n (i := 1) F dX0_departureAt_3 rfl rfl ?_
  refine V_iload_n (i := 2) F dX0_departureAt_4 rfl rfl ?_
  refine V_xcV (st := [.int (nI 0), .ref ao]) (nn := 2) F dX0_departureAt_5 lk_X0_68 hc hx rfl rfl (Nat.le_of_ble_eq_true rfl) (Nat.le_refl _) (Nat.le_of_ble_eq_true rfl) (Nat.le_of_eq (Nat.zero_add _)) (Nat.le_of_eq (Nat.zero_add _)) ?_ ?_
  · rintro _ h3 ⟨y, rfl, hS⟩
    obtain ⟨f, hf⟩ := hao y h3 hS
    refine V_i2l F dX0_departureAt_8 ?_
    refine V_lastN F 1 dX0_departureAt_9 rfl hf (by decide) (by decide) ?_
    refine V_goto (tgt := 21) F dX0_departureAt_10 (by decide) ?_
    refine V_iconst (v := nI 0) F dX0_departureAt_21 rfl ?_
    exact VV.rx (V_iret F dX0_departureAt_22 rfl (Nat.le_of_eq (Nat.zero_add _)) (Nat.le_of_eq (Nat.zero_add _)) (Or.inl ⟨_, h3, f, hS, hf, rfl, rfl⟩))
  · intro E q h3 hp
    rcases hp with ⟨rfl, hno⟩ | ⟨rfl, hno⟩
    · refine V_xcatch F (name := "java/lang/IndexOutOfBoundsException") [] ⟨0, 10, 13, 21⟩ [⟨0, 10, 17, 37⟩] (by rw [HT]; rfl) (fun z hz => by cases hz) (by decide) (by decide) q2714 q503 ?_
      refine V_astore (i := 4) F dX0_departureAt_13 (Nat.le_of_ble_eq_true rfl) (Nat.le_of_ble_eq_true rfl) ?_
      refine V_iconst (v := nI 1) F dX0_departureAt_15 rfl ?_
      exact VV.rx (V_iret F dX0_departureAt_16 rfl (Nat.le_of_eq (Nat.zero_add _)) (Nat.le_of_eq (Nat.zero_add _)) (Or.inr ⟨1, by decide, by decide, rfl, hno⟩))
    · refine V_xcatch F (name := "java/util/NoSuchElementException") [⟨0, 10, 13, 21⟩] ⟨0, 10, 17, 37⟩ [] (by rw [HT]; rfl) (fun z hz => by
        simp only [List.mem_cons, List.not_mem_nil, or_false] at hz
        rcases hz with rfl
        · exact Or.inr ⟨by decide, "java/lang/IndexOutOfBoundsException", q2714, nc_eEL_eIX⟩) (by decide) (by decide) q2762 q881 ?_
      refine V_astore (i := 4) F dX0_departureAt_17 (Nat.le_of_ble_eq_true rfl) (Nat.le_of_ble_eq_true rfl) ?_
      refine V_iconst (v := nI 2) F dX0_departureAt_19 rfl ?_
      exact VV.rx (V_iret F dX0_departureAt_20 rfl (Nat.le_of_eq (Nat.zero_add _)) (Nat.le_of_eq (Nat.zero_add _)) (Or.inr ⟨2, by decide, by decide, rfl, hno⟩))
theorem x0_capacity {G : GG} {l : Launch} {h : AH} {xo ao : Nat} {p0 : Int32} {Sok : Int32 → AH → Prop} {Sno : Nat → AH → Prop} {d mc ms : Nat} (hc : CtX G l yX1_capacity cX1_capacity 2 (some .int) d mc ms [.ref xo, .int p0] h (fun r0 h2 => ∃ y : Int32, r0 = some (.int y) ∧ Sok y h2) (fun E q h2 => (E = eIX ∧ Sno 1 h2))) (hx : isC G h xo "SleeperRailway") (hao : ∀ y h3, Sok y h3 → ∃ f, h3 ao = some (lA G 1 f)) : CtH G l yX0_capacity cX0_capacity 4 (some .int) [((0 : Nat), (9 : Nat), (12 : Nat), (21 : Nat))] (d + 1) mc ms [.ref xo, .int p0, .ref ao] h (fun r h2 => (∃ y h3 f, Sok y h3 ∧ h3 ao = some (lA G 1 f) ∧ r = some (.int (nI 0)) ∧ h2 = hset h3 ao (lA G 1 (vp_updL f 0 (y.toInt64)))) ∨ (∃ k, 0 < k ∧ k < 5 ∧ r = some (.int (nI k)) ∧ Sno k h2)) (fun _ _ _ => False) := by
  refine CtH.of (by decide) (Nat.le_of_ble_eq_true rfl) (cat1 rfl) (fun X hXl F HT => ?_)
  subst hXl
  refine V_aload_n (i := 2) F dX0_capacity_0 rfl rfl ?_
  refine V_iconst (v := nI 0) F dX0_capacity_1 rfl ?_
  refine V_aload_n (i := 0) F dX0_capacity_2 rfl rfl ?_
  refine V_iload_n (i := 1) F dX0_capacity_3 rfl rfl ?_
  refine V_xcV (st := [.int (nI 0), .ref ao]) (nn := 1) F dX0_capacity_4 lk_X0_71 hc hx rfl rfl (Nat.le_of_ble_eq_true rfl) (Nat.le_refl _) (Nat.le_of_ble_eq_true rfl) (Nat.le_of_eq (Nat.zero_add _)) (Nat.le_of_eq (Nat.zero_add _)) ?_ ?_
  · rintro _ h3 ⟨y, rfl, hS⟩
    obtain ⟨f, hf⟩ := hao y h3 hS
    refine V_i2l F dX0_capacity_7 ?_
    refine V_lastN F 1 dX0_capacity_8 rfl hf (by decide) (by decide) ?_
    refine V_goto (tgt := 15) F dX0_capacity_9 (by decide) ?_
    refine V_iconst (v := nI 0) F dX0_capacity_15 rfl ?_
    exact VV.rx (V_iret F dX0_capacity_16 rfl (Nat.le_of_eq (Nat.zero_add _)) (Nat.le_of_eq (Nat.zero_add _)) (Or.inl ⟨_, h3, f, hS, hf, rfl, rfl⟩))
  · intro E q h3 hp
    rcases hp with ⟨rfl, hno⟩
    · refine V_xcatch F (name := "java/lang/IndexOutOfBoundsException") [] ⟨0, 9, 12, 21⟩ [] (by rw [HT]; rfl) (fun z hz => by cases hz) (by decide) (by decide) q2714 q503 ?_
      refine V_astore_n (i := 3) F dX0_capacity_12 rfl (Nat.le_of_ble_eq_true rfl) (Nat.le_of_ble_eq_true rfl) ?_
      refine V_iconst (v := nI 1) F dX0_capacity_13 rfl ?_
      exact VV.rx (V_iret F dX0_capacity_14 rfl (Nat.le_of_eq (Nat.zero_add _)) (Nat.le_of_eq (Nat.zero_add _)) (Or.inr ⟨1, by decide, by decide, rfl, hno⟩))
theorem x0_delayOf {G : GG} {l : Launch} {h : AH} {xo ao : Nat} {p0 : Int32} {Sok : Int32 → AH → Prop} {Sno : Nat → AH → Prop} {d mc ms : Nat} (hc : CtX G l yX1_delayOf cX1_delayOf 2 (some .int) d mc ms [.ref xo, .int p0] h (fun r0 h2 => ∃ y : Int32, r0 = some (.int y) ∧ Sok y h2) (fun E q h2 => (E = eIX ∧ Sno 1 h2))) (hx : isC G h xo "SleeperRailway") (hao : ∀ y h3, Sok y h3 → ∃ f, h3 ao = some (lA G 1 f)) : CtH G l yX0_delayOf cX0_delayOf 4 (some .int) [((0 : Nat), (9 : Nat), (12 : Nat), (21 : Nat))] (d + 1) mc ms [.ref xo, .int p0, .ref ao] h (fun r h2 => (∃ y h3 f, Sok y h3 ∧ h3 ao = some (lA G 1 f) ∧ r = some (.int (nI 0)) ∧ h2 = hset h3 ao (lA G 1 (vp_updL f 0 (y.toInt64)))) ∨ (∃ k, 0 < k ∧ k < 5 ∧ r = some (.int (nI k)) ∧ Sno k h2)) (fun _ _ _ => False) := by
  refine CtH.of (by decide) (Nat.le_of_ble_eq_true rfl) (cat1 rfl) (fun X hXl F HT => ?_)
  subst hXl
  refine V_aload_n (i := 2) F dX0_delayOf_0 rfl rfl ?_
  refine V_iconst (v := nI 0) F dX0_delayOf_1 rfl ?_
  refine V_aload_n (i := 0) F dX0_delayOf_2 rfl rfl ?_
  refine V_iload_n (i := 1) F dX0_delayOf_3 rfl rfl ?_
  refine V_xcV (st := [.int (nI 0), .ref ao]) (nn := 1) F dX0_delayOf_4 lk_X0_74 hc hx rfl rfl (Nat.le_of_ble_eq_true rfl) (Nat.le_refl _) (Nat.le_of_ble_eq_true rfl) (Nat.le_of_eq (Nat.zero_add _)) (Nat.le_of_eq (Nat.zero_add _)) ?_ ?_
  · rintro _ h3 ⟨y, rfl, hS⟩
    obtain ⟨f, hf⟩ := hao y h3 hS
    refine V_i2l F dX0_delayOf_7 ?_
    refine V_lastN F 1 dX0_delayOf_8 rfl hf (by decide) (by decide) ?_
    refine V_goto (tgt := 15) F dX0_delayOf_9 (by decide) ?_
    refine V_iconst (v := nI 0) F dX0_delayOf_15 rfl ?_
    exact VV.rx (V_iret F dX0_delayOf_16 rfl (Nat.le_of_eq (Nat.zero_add _)) (Nat.le_of_eq (Nat.zero_add _)) (Or.inl ⟨_, h3, f, hS, hf, rfl, rfl⟩))
  · intro E q h3 hp
    rcases hp with ⟨rfl, hno⟩
    · refine V_xcatch F (name := "java/lang/IndexOutOfBoundsException") [] ⟨0, 9, 12, 21⟩ [] (by rw [HT]; rfl) (fun z hz => by cases hz) (by decide) (by decide) q2714 q503 ?_
      refine V_astore_n (i := 3) F dX0_delayOf_12 rfl (Nat.le_of_ble_eq_true rfl) (Nat.le_of_ble_eq_true rfl) ?_
      refine V_iconst (v := nI 1) F dX0_delayOf_13 rfl ?_
      exact VV.rx (V_iret F dX0_delayOf_14 rfl (Nat.le_of_eq (Nat.zero_add _)) (Nat.le_of_eq (Nat.zero_add _)) (Or.inr ⟨1, by decide, by decide, rfl, hno⟩))
theorem x0_load {G : GG} {l : Launch} {h : AH} {xo ao : Nat} {p0 : Int32} {p1 : Int32} {Sok : Int32 → AH → Prop} {Sno : Nat → AH → Prop} {d mc ms : Nat} (hc : CtX G l yX1_load cX1_load 3 (some .int) d mc ms [.ref xo, .int p0, .int p1] h (fun r0 h2 => ∃ y : Int32, r0 = some (.int y) ∧ Sok y h2) (fun E q h2 => (E = eIX ∧ Sno 1 h2))) (hx : isC G h xo "SleeperRailway") (hao : ∀ y h3, Sok y h3 → ∃ f, h3 ao = some (lA G 1 f)) : CtH G l yX0_load cX0_load 5 (some .int) [((0 : Nat), (10 : Nat), (13 : Nat), (21 : Nat))] (d + 1) mc ms [.ref xo, .int p0, .int p1, .ref ao] h (fun r h2 => (∃ y h3 f, Sok y h3 ∧ h3 ao = some (lA G 1 f) ∧ r = some (.int (nI 0)) ∧ h2 = hset h3 ao (lA G 1 (vp_updL f 0 (y.toInt64)))) ∨ (∃ k, 0 < k ∧ k < 5 ∧ r = some (.int (nI k)) ∧ Sno k h2)) (fun _ _ _ => False) := by
  refine CtH.of (by decide) (Nat.le_of_ble_eq_true rfl) (cat1 rfl) (fun X hXl F HT => ?_)
  subst hXl
  refine V_aload_n (i := 3) F dX0_load_0 rfl rfl ?_
  refine V_iconst (v := nI 0) F dX0_load_1 rfl ?_
  refine V_aload_n (i := 0) F dX0_load_2 rfl rfl ?_
  refine V_iload_n (i := 1) F dX0_load_3 rfl rfl ?_
  refine V_iload_n (i := 2) F dX0_load_4 rfl rfl ?_
  refine V_xcV (st := [.int (nI 0), .ref ao]) (nn := 2) F dX0_load_5 lk_X0_77 hc hx rfl rfl (Nat.le_of_ble_eq_true rfl) (Nat.le_refl _) (Nat.le_of_ble_eq_true rfl) (Nat.le_of_eq (Nat.zero_add _)) (Nat.le_of_eq (Nat.zero_add _)) ?_ ?_
  · rintro _ h3 ⟨y, rfl, hS⟩
    obtain ⟨f, hf⟩ := hao y h3 hS
    refine V_i2l F dX0_load_8 ?_
    refine V_lastN F 1 dX0_load_9 rfl hf (by decide) (by decide) ?_
    refine V_goto (tgt := 17) F dX0_load_10 (by decide) ?_
    refine V_iconst (v := nI 0) F dX0_load_17 rfl ?_
    exact VV.rx (V_iret F dX0_load_18 rfl (Nat.le_of_eq (Nat.zero_add _)) (Nat.le_of_eq (Nat.zero_add _)) (Or.inl ⟨_, h3, f, hS, hf, rfl, rfl⟩))
  · intro E q h3 hp
    rcases hp with ⟨rfl, hno⟩
    · refine V_xcatch F (name := "java/lang/IndexOutOfBoundsException") [] ⟨0, 10, 13, 21⟩ [] (by rw [HT]; rfl) (fun z hz => by cases hz) (by decide) (by decide) q2714 q503 ?_
      refine V_astore (i := 4) F dX0_load_13 (Nat.le_of_ble_eq_true rfl) (Nat.le_of_ble_eq_true rfl) ?_
      refine V_iconst (v := nI 1) F dX0_load_15 rfl ?_
      exact VV.rx (V_iret F dX0_load_16 rfl (Nat.le_of_eq (Nat.zero_add _)) (Nat.le_of_eq (Nat.zero_add _)) (Or.inr ⟨1, by decide, by decide, rfl, hno⟩))
theorem x0_isFull {G : GG} {l : Launch} {h : AH} {xo ao : Nat} {p0 : Int32} {p1 : Int32} {Sok : Int32 → AH → Prop} {Sno : Nat → AH → Prop} {d mc ms : Nat} (hc : CtX G l yX1_isFull cX1_isFull 3 (some .boolean) d mc ms [.ref xo, .int p0, .int p1] h (fun r0 h2 => ∃ y : Int32, r0 = some (.int y) ∧ Sok y h2) (fun E q h2 => (E = eIX ∧ Sno 1 h2))) (hx : isC G h xo "SleeperRailway") (hao : ∀ y h3, Sok y h3 → ∃ f, h3 ao = some (lA G 1 f)) (h01 : ∀ y h3, Sok y h3 → y = 0 ∨ y = 1) : CtH G l yX0_isFull cX0_isFull 5 (some .int) [((0 : Nat), (17 : Nat), (20 : Nat), (21 : Nat))] (d + 1) mc ms [.ref xo, .int p0, .int p1, .ref ao] h (fun r h2 => (∃ y h3 f, Sok y h3 ∧ h3 ao = some (lA G 1 f) ∧ r = some (.int (nI 0)) ∧ h2 = hset h3 ao (lA G 1 (vp_updL f 0 (y.toInt64)))) ∨ (∃ k, 0 < k ∧ k < 5 ∧ r = some (.int (nI k)) ∧ Sno k h2)) (fun _ _ _ => False) := by
  refine CtH.of (by decide) (Nat.le_of_ble_eq_true rfl) (cat1 rfl) (fun X hXl F HT => ?_)
  subst hXl
  refine V_aload_n (i := 3) F dX0_isFull_0 rfl rfl ?_
  refine V_iconst (v := nI 0) F dX0_isFull_1 rfl ?_
  refine V_aload_n (i := 0) F dX0_isFull_2 rfl rfl ?_
  refine V_iload_n (i := 1) F dX0_isFull_3 rfl rfl ?_
  refine V_iload_n (i := 2) F dX0_isFull_4 rfl rfl ?_
  refine V_xcV (st := [.int (nI 0), .ref ao]) (nn := 2) F dX0_isFull_5 lk_X0_80 hc hx rfl rfl (Nat.le_of_ble_eq_true rfl) (Nat.le_refl _) (Nat.le_of_ble_eq_true rfl) (Nat.le_of_eq (Nat.zero_add _)) (Nat.le_of_eq (Nat.zero_add _)) ?_ ?_
  · rintro _ h3 ⟨y, rfl, hS⟩
    obtain ⟨f, hf⟩ := hao y h3 hS
    refine V_if_eq (tgt := 15) F dX0_isFull_8 (by decide) (fun c => ?_) (fun c => ?_)
    · subst c
      refine V_lconst (v := 0) F dX0_isFull_15 rfl ?_
      refine V_lastN F 1 dX0_isFull_16 rfl hf (by decide) (by decide) ?_
      refine V_goto (tgt := 24) F dX0_isFull_17 (by decide) ?_
      refine V_iconst (v := nI 0) F dX0_isFull_24 rfl ?_
      exact VV.rx (V_iret F dX0_isFull_25 rfl (Nat.le_of_eq (Nat.zero_add _)) (Nat.le_of_eq (Nat.zero_add _)) (Or.inl ⟨_, h3, f, hS, hf, rfl, rfl⟩))
    · have e1 : y = 1 := (h01 y h3 hS).elim (fun z => absurd z c) id
      subst e1
      refine V_lconst (v := 1) F dX0_isFull_11 rfl ?_
      refine V_goto (tgt := 16) F dX0_isFull_12 (by decide) ?_
      refine V_lastN F 1 dX0_isFull_16 rfl hf (by decide) (by decide) ?_
      refine V_goto (tgt := 24) F dX0_isFull_17 (by decide) ?_
      refine V_iconst (v := nI 0) F dX0_isFull_24 rfl ?_
      exact VV.rx (V_iret F dX0_isFull_25 rfl (Nat.le_of_eq (Nat.zero_add _)) (Nat.le_of_eq (Nat.zero_add _)) (Or.inl ⟨_, h3, f, hS, hf, rfl, rfl⟩))
  · intro E q h3 hp
    rcases hp with ⟨rfl, hno⟩
    · refine V_xcatch F (name := "java/lang/IndexOutOfBoundsException") [] ⟨0, 17, 20, 21⟩ [] (by rw [HT]; rfl) (fun z hz => by cases hz) (by decide) (by decide) q2714 q503 ?_
      refine V_astore (i := 4) F dX0_isFull_20 (Nat.le_of_ble_eq_true rfl) (Nat.le_of_ble_eq_true rfl) ?_
      refine V_iconst (v := nI 1) F dX0_isFull_22 rfl ?_
      exact VV.rx (V_iret F dX0_isFull_23 rfl (Nat.le_of_eq (Nat.zero_add _)) (Nat.le_of_eq (Nat.zero_add _)) (Or.inr ⟨1, by decide, by decide, rfl, hno⟩))
theorem x0_canReach {G : GG} {l : Launch} {h : AH} {xo ao : Nat} {p0 : Int32} {p1 : Int32} {p2 : Int32} {Sok : Int32 → AH → Prop} {Sno : Nat → AH → Prop} {d mc ms : Nat} (hc : CtX G l yX1_canReach cX1_canReach 4 (some .boolean) d mc ms [.ref xo, .int p0, .int p1, .int p2] h (fun r0 h2 => ∃ y : Int32, r0 = some (.int y) ∧ Sok y h2) (fun E q h2 => (E = eIX ∧ Sno 1 h2) ∨ (E = eAR ∧ Sno 2 h2))) (hx : isC G h xo "SleeperRailway") (hao : ∀ y h3, Sok y h3 → ∃ f, h3 ao = some (lA G 1 f)) (h01 : ∀ y h3, Sok y h3 → y = 0 ∨ y = 1) : CtH G l yX0_canReach cX0_canReach 6 (some .int) [((0 : Nat), (19 : Nat), (22 : Nat), (21 : Nat)), ((0 : Nat), (19 : Nat), (26 : Nat), (13 : Nat))] (d + 1) mc ms [.ref xo, .int p0, .int p1, .int p2, .ref ao] h (fun r h2 => (∃ y h3 f, Sok y h3 ∧ h3 ao = some (lA G 1 f) ∧ r = some (.int (nI 0)) ∧ h2 = hset h3 ao (lA G 1 (vp_updL f 0 (y.toInt64)))) ∨ (∃ k, 0 < k ∧ k < 5 ∧ r = some (.int (nI k)) ∧ Sno k h2)) (fun _ _ _ => False) := by
  refine CtH.of (by decide) (Nat.le_of_ble_eq_true rfl) (cat1 rfl) (fun X hXl F HT => ?_)
  subst hXl
  refine V_aload (i := 4) F dX0_canReach_0 rfl ?_
  refine V_iconst (v := nI 0) F dX0_canReach_2 rfl ?_
  refine V_aload_n (i := 0) F dX0_canReach_3 rfl rfl ?_
  refine V_iload_n (i := 1) F dX0_canReach_4 rfl rfl ?_
  refine V_iload_n (i := 2) F dX0_canReach_5 rfl rfl ?_
  refine V_iload_n (i := 3) F dX0_canReach_6 rfl rfl ?_
  refine V_xcV (st := [.int (nI 0), .ref ao]) (nn := 3) F dX0_canReach_7 lk_X0_84 hc hx rfl rfl (Nat.le_of_ble_eq_true rfl) (Nat.le_refl _) (Nat.le_of_ble_eq_true rfl) (Nat.le_of_eq (Nat.zero_add _)) (Nat.le_of_eq (Nat.zero_add _)) ?_ ?_
  · rintro _ h3 ⟨y, rfl, hS⟩
    obtain ⟨f, hf⟩ := hao y h3 hS
    refine V_if_eq (tgt := 17) F dX0_canReach_10 (by decide) (fun c => ?_) (fun c => ?_)
    · subst c
      refine V_lconst (v := 0) F dX0_canReach_17 rfl ?_
      refine V_lastN F 1 dX0_canReach_18 rfl hf (by decide) (by decide) ?_
      refine V_goto (tgt := 30) F dX0_canReach_19 (by decide) ?_
      refine V_iconst (v := nI 0) F dX0_canReach_30 rfl ?_
      exact VV.rx (V_iret F dX0_canReach_31 rfl (Nat.le_of_eq (Nat.zero_add _)) (Nat.le_of_eq (Nat.zero_add _)) (Or.inl ⟨_, h3, f, hS, hf, rfl, rfl⟩))
    · have e1 : y = 1 := (h01 y h3 hS).elim (fun z => absurd z c) id
      subst e1
      refine V_lconst (v := 1) F dX0_canReach_13 rfl ?_
      refine V_goto (tgt := 18) F dX0_canReach_14 (by decide) ?_
      refine V_lastN F 1 dX0_canReach_18 rfl hf (by decide) (by decide) ?_
      refine V_goto (tgt := 30) F dX0_canReach_19 (by decide) ?_
      refine V_iconst (v := nI 0) F dX0_canReach_30 rfl ?_
      exact VV.rx (V_iret F dX0_canReach_31 rfl (Nat.le_of_eq (Nat.zero_add _)) (Nat.le_of_eq (Nat.zero_add _)) (Or.inl ⟨_, h3, f, hS, hf, rfl, rfl⟩))
  · intro E q h3 hp
    rcases hp with ⟨rfl, hno⟩ | ⟨rfl, hno⟩
    · refine V_xcatch F (name := "java/lang/IndexOutOfBoundsException") [] ⟨0, 19, 22, 21⟩ [⟨0, 19, 26, 13⟩] (by rw [HT]; rfl) (fun z hz => by cases hz) (by decide) (by decide) q2714 q503 ?_
      refine V_astore (i := 5) F dX0_canReach_22 (Nat.le_of_ble_eq_true rfl) (Nat.le_of_ble_eq_true rfl) ?_
      refine V_iconst (v := nI 1) F dX0_canReach_24 rfl ?_
      exact VV.rx (V_iret F dX0_canReach_25 rfl (Nat.le_of_eq (Nat.zero_add _)) (Nat.le_of_eq (Nat.zero_add _)) (Or.inr ⟨1, by decide, by decide, rfl, hno⟩))
    · refine V_xcatch F (name := "java/lang/IllegalArgumentException") [⟨0, 19, 22, 21⟩] ⟨0, 19, 26, 13⟩ [] (by rw [HT]; rfl) (fun z hz => by
        simp only [List.mem_cons, List.not_mem_nil, or_false] at hz
        rcases hz with rfl
        · exact Or.inr ⟨by decide, "java/lang/IndexOutOfBoundsException", q2714, nc_eAR_eIX⟩) (by decide) (by decide) q2257 q741 ?_
      refine V_astore (i := 5) F dX0_canReach_26 (Nat.le_of_ble_eq_true rfl) (Nat.le_of_ble_eq_true rfl) ?_
      refine V_iconst (v := nI 2) F dX0_canReach_28 rfl ?_
      exact VV.rx (V_iret F dX0_canReach_29 rfl (Nat.le_of_eq (Nat.zero_add _)) (Nat.le_of_eq (Nat.zero_add _)) (Or.inr ⟨2, by decide, by decide, rfl, hno⟩))
theorem x0_arrival {G : GG} {l : Launch} {h : AH} {xo ao : Nat} {p0 : Int32} {p1 : Int32} {p2 : Int32} {Sok : Int32 → AH → Prop} {Sno : Nat → AH → Prop} {d mc ms : Nat} (hc : CtX G l yX1_arrival cX1_arrival 4 (some .int) d mc ms [.ref xo, .int p0, .int p1, .int p2] h (fun r0 h2 => ∃ y : Int32, r0 = some (.int y) ∧ Sok y h2) (fun E q h2 => (E = eIX ∧ Sno 1 h2) ∨ (E = eAR ∧ Sno 2 h2) ∨ (E = eEL ∧ Sno 3 h2))) (hx : isC G h xo "SleeperRailway") (hao : ∀ y h3, Sok y h3 → ∃ f, h3 ao = some (lA G 1 f)) : CtH G l yX0_arrival cX0_arrival 6 (some .int) [((0 : Nat), (12 : Nat), (15 : Nat), (21 : Nat)), ((0 : Nat), (12 : Nat), (19 : Nat), (13 : Nat)), ((0 : Nat), (12 : Nat), (23 : Nat), (37 : Nat))] (d + 1) mc ms [.ref xo, .int p0, .int p1, .int p2, .ref ao] h (fun r h2 => (∃ y h3 f, Sok y h3 ∧ h3 ao = some (lA G 1 f) ∧ r = some (.int (nI 0)) ∧ h2 = hset h3 ao (lA G 1 (vp_updL f 0 (y.toInt64)))) ∨ (∃ k, 0 < k ∧ k < 5 ∧ r = some (.int (nI k)) ∧ Sno k h2)) (fun _ _ _ => False) := by
  refine CtH.of (by decide) (Nat.le_of_ble_eq_true rfl) (cat1 rfl) (fun X hXl F HT => ?_)
  subst hXl
  refine V_aload (i := 4) F dX0_arrival_0 rfl ?_
  refine V_iconst (v := nI 0) F dX0_arrival_2 rfl ?_
  refine V_aload_n (i := 0) F dX0_arrival_3 rfl rfl ?_
  refine V_iload_n (i := 1) F dX0_arrival_4 rfl rfl ?_
  refine V_iload_n (i := 2) F dX0_arrival_5 rfl rfl ?_
  refine V_iload_n (i := 3) F dX0_arrival_6 rfl rfl ?_
  refine V_xcV (st := [.int (nI 0), .ref ao]) (nn := 3) F dX0_arrival_7 lk_X0_88 hc hx rfl rfl (Nat.le_of_ble_eq_true rfl) (Nat.le_refl _) (Nat.le_of_ble_eq_true rfl) (Nat.le_of_eq (Nat.zero_add _)) (Nat.le_of_eq (Nat.zero_add _)) ?_ ?_
  · rintro _ h3 ⟨y, rfl, hS⟩
    obtain ⟨f, hf⟩ := hao y h3 hS
    refine V_i2l F dX0_arrival_10 ?_
    refine V_lastN F 1 dX0_arrival_11 rfl hf (by decide) (by decide) ?_
    refine V_goto (tgt := 27) F dX0_arrival_12 (by decide) ?_
    refine V_iconst (v := nI 0) F dX0_arrival_27 rfl ?_
    exact VV.rx (V_iret F dX0_arrival_28 rfl (Nat.le_of_eq (Nat.zero_add _)) (Nat.le_of_eq (Nat.zero_add _)) (Or.inl ⟨_, h3, f, hS, hf, rfl, rfl⟩))
  · intro E q h3 hp
    rcases hp with ⟨rfl, hno⟩ | ⟨rfl, hno⟩ | ⟨rfl, hno⟩
    · refine V_xcatch F (name := "java/lang/IndexOutOfBoundsException") [] ⟨0, 12, 15, 21⟩ [⟨0, 12, 19, 13⟩, ⟨0, 12, 23, 37⟩] (by rw [HT]; rfl) (fun z hz => by cases hz) (by decide) (by decide) q2714 q503 ?_
      refine V_astore (i := 5) F dX0_arrival_15 (Nat.le_of_ble_eq_true rfl) (Nat.le_of_ble_eq_true rfl) ?_
      refine V_iconst (v := nI 1) F dX0_arrival_17 rfl ?_
      exact VV.rx (V_iret F dX0_arrival_18 rfl (Nat.le_of_eq (Nat.zero_add _)) (Nat.le_of_eq (Nat.zero_add _)) (Or.inr ⟨1, by decide, by decide, rfl, hno⟩))
    · refine V_xcatch F (name := "java/lang/IllegalArgumentException") [⟨0, 12, 15, 21⟩] ⟨0, 12, 19, 13⟩ [⟨0, 12, 23, 37⟩] (by rw [HT]; rfl) (fun z hz => by
        simp only [List.mem_cons, List.not_mem_nil, or_false] at hz
        rcases hz with rfl
        · exact Or.inr ⟨by decide, "java/lang/IndexOutOfBoundsException", q2714, nc_eAR_eIX⟩) (by decide) (by decide) q2257 q741 ?_
      refine V_astore (i := 5) F dX0_arrival_19 (Nat.le_of_ble_eq_true rfl) (Nat.le_of_ble_eq_true rfl) ?_
      refine V_iconst (v := nI 2) F dX0_arrival_21 rfl ?_
      exact VV.rx (V_iret F dX0_arrival_22 rfl (Nat.le_of_eq (Nat.zero_add _)) (Nat.le_of_eq (Nat.zero_add _)) (Or.inr ⟨2, by decide, by decide, rfl, hno⟩))
    · refine V_xcatch F (name := "java/util/NoSuchElementException") [⟨0, 12, 15, 21⟩, ⟨0, 12, 19, 13⟩] ⟨0, 12, 23, 37⟩ [] (by rw [HT]; rfl) (fun z hz => by
        simp only [List.mem_cons, List.not_mem_nil, or_false] at hz
        rcases hz with rfl | rfl
        · exact Or.inr ⟨by decide, "java/lang/IndexOutOfBoundsException", q2714, nc_eEL_eIX⟩
        · exact Or.inr ⟨by decide, "java/lang/IllegalArgumentException", q2257, nc_eEL_eAR⟩) (by decide) (by decide) q2762 q881 ?_
      refine V_astore (i := 5) F dX0_arrival_23 (Nat.le_of_ble_eq_true rfl) (Nat.le_of_ble_eq_true rfl) ?_
      refine V_iconst (v := nI 3) F dX0_arrival_25 rfl ?_
      exact VV.rx (V_iret F dX0_arrival_26 rfl (Nat.le_of_eq (Nat.zero_add _)) (Nat.le_of_eq (Nat.zero_add _)) (Or.inr ⟨3, by decide, by decide, rfl, hno⟩))
theorem x0_arrivalByScanning {G : GG} {l : Launch} {h : AH} {xo ao : Nat} {p0 : Int32} {p1 : Int32} {p2 : Int32} {Sok : Int32 → AH → Prop} {Sno : Nat → AH → Prop} {d mc ms : Nat} (hc : CtX G l yX1_arrivalByScanning cX1_arrivalByScanning 4 (some .int) d mc ms [.ref xo, .int p0, .int p1, .int p2] h (fun r0 h2 => ∃ y : Int32, r0 = some (.int y) ∧ Sok y h2) (fun E q h2 => (E = eIX ∧ Sno 1 h2) ∨ (E = eAR ∧ Sno 2 h2) ∨ (E = eEL ∧ Sno 3 h2))) (hx : isC G h xo "SleeperRailway") (hao : ∀ y h3, Sok y h3 → ∃ f, h3 ao = some (lA G 1 f)) : CtH G l yX0_arrivalByScanning cX0_arrivalByScanning 6 (some .int) [((0 : Nat), (12 : Nat), (15 : Nat), (21 : Nat)), ((0 : Nat), (12 : Nat), (19 : Nat), (13 : Nat)), ((0 : Nat), (12 : Nat), (23 : Nat), (37 : Nat))] (d + 1) mc ms [.ref xo, .int p0, .int p1, .int p2, .ref ao] h (fun r h2 => (∃ y h3 f, Sok y h3 ∧ h3 ao = some (lA G 1 f) ∧ r = some (.int (nI 0)) ∧ h2 = hset h3 ao (lA G 1 (vp_updL f 0 (y.toInt64)))) ∨ (∃ k, 0 < k ∧ k < 5 ∧ r = some (.int (nI k)) ∧ Sno k h2)) (fun _ _ _ => False) := by
  refine CtH.of (by decide) (Nat.le_of_ble_eq_true rfl) (cat1 rfl) (fun X hXl F HT => ?_)
  subst hXl
  refine V_aload (i := 4) F dX0_arrivalByScanning_0 rfl ?_
  refine V_iconst (v := nI 0) F dX0_arrivalByScanning_2 rfl ?_
  refine V_aload_n (i := 0) F dX0_arrivalByScanning_3 rfl rfl ?_
  refine V_iload_n (i := 1) F dX0_arrivalByScanning_4 rfl rfl ?_
  refine V_iload_n (i := 2) F dX0_arrivalByScanning_5 rfl rfl ?_
  refine V_iload_n (i := 3) F dX0_arrivalByScanning_6 rfl rfl ?_
  refine V_xcV (st := [.int (nI 0), .ref ao]) (nn := 3) F dX0_arrivalByScanning_7 lk_X0_91 hc hx rfl rfl (Nat.le_of_ble_eq_true rfl) (Nat.le_refl _) (Nat.le_of_ble_eq_true rfl) (Nat.le_of_eq (Nat.zero_add _)) (Nat.le_of_eq (Nat.zero_add _)) ?_ ?_
  · rintro _ h3 ⟨y, rfl, hS⟩
    obtain ⟨f, hf⟩ := hao y h3 hS
    refine V_i2l F dX0_arrivalByScanning_10 ?_
    refine V_lastN F 1 dX0_arrivalByScanning_11 rfl hf (by decide) (by decide) ?_
    refine V_goto (tgt := 27) F dX0_arrivalByScanning_12 (by decide) ?_
    refine V_iconst (v := nI 0) F dX0_arrivalByScanning_27 rfl ?_
    exact VV.rx (V_iret F dX0_arrivalByScanning_28 rfl (Nat.le_of_eq (Nat.zero_add _)) (Nat.le_of_eq (Nat.zero_add _)) (Or.inl ⟨_, h3, f, hS, hf, rfl, rfl⟩))
  · intro E q h3 hp
    rcases hp with ⟨rfl, hno⟩ | ⟨rfl, hno⟩ | ⟨rfl, hno⟩
    · refine V_xcatch F (name := "java/lang/IndexOutOfBoundsException") [] ⟨0, 12, 15, 21⟩ [⟨0, 12, 19, 13⟩, ⟨0, 12, 23, 37⟩] (by rw [HT]; rfl) (fun z hz => by cases hz) (by decide) (by decide) q2714 q503 ?_
      refine V_astore (i := 5) F dX0_arrivalByScanning_15 (Nat.le_of_ble_eq_true rfl) (Nat.le_of_ble_eq_true rfl) ?_
      refine V_iconst (v := nI 1) F dX0_arrivalByScanning_17 rfl ?_
      exact VV.rx (V_iret F dX0_arrivalByScanning_18 rfl (Nat.le_of_eq (Nat.zero_add _)) (Nat.le_of_eq (Nat.zero_add _)) (Or.inr ⟨1, by decide, by decide, rfl, hno⟩))
    · refine V_xcatch F (name := "java/lang/IllegalArgumentException") [⟨0, 12, 15, 21⟩] ⟨0, 12, 19, 13⟩ [⟨0, 12, 23, 37⟩] (by rw [HT]; rfl) (fun z hz => by
        simp only [List.mem_cons, List.not_mem_nil, or_false] at hz
        rcases hz with rfl
        · exact Or.inr ⟨by decide, "java/lang/IndexOutOfBoundsException", q2714, nc_eAR_eIX⟩) (by decide) (by decide) q2257 q741 ?_
      refine V_astore (i := 5) F dX0_arrivalByScanning_19 (Nat.le_of_ble_eq_true rfl) (Nat.le_of_ble_eq_true rfl) ?_
      refine V_iconst (v := nI 2) F dX0_arrivalByScanning_21 rfl ?_
      exact VV.rx (V_iret F dX0_arrivalByScanning_22 rfl (Nat.le_of_eq (Nat.zero_add _)) (Nat.le_of_eq (Nat.zero_add _)) (Or.inr ⟨2, by decide, by decide, rfl, hno⟩))
    · refine V_xcatch F (name := "java/util/NoSuchElementException") [⟨0, 12, 15, 21⟩, ⟨0, 12, 19, 13⟩] ⟨0, 12, 23, 37⟩ [] (by rw [HT]; rfl) (fun z hz => by
        simp only [List.mem_cons, List.not_mem_nil, or_false] at hz
        rcases hz with rfl | rfl
        · exact Or.inr ⟨by decide, "java/lang/IndexOutOfBoundsException", q2714, nc_eEL_eIX⟩
        · exact Or.inr ⟨by decide, "java/lang/IllegalArgumentException", q2257, nc_eEL_eAR⟩) (by decide) (by decide) q2762 q881 ?_
      refine V_astore (i := 5) F dX0_arrivalByScanning_23 (Nat.le_of_ble_eq_true rfl) (Nat.le_of_ble_eq_true rfl) ?_
      refine V_iconst (v := nI 3) F dX0_arrivalByScanning_25 rfl ?_
      exact VV.rx (V_iret F dX0_arrivalByScanning_26 rfl (Nat.le_of_eq (Nat.zero_add _)) (Nat.le_of_eq (Nat.zero_add _)) (Or.inr ⟨3, by decide, by decide, rfl, hno⟩))
theorem x0_boardings {G : GG} {l : Launch} {h : AH} {xo ao : Nat} {p0 : Int32} {p1 : Int32} {p2 : Int32} {Sok : Int32 → AH → Prop} {Sno : Nat → AH → Prop} {d mc ms : Nat} (hc : CtX G l yX1_boardings cX1_boardings 4 (some .int) d mc ms [.ref xo, .int p0, .int p1, .int p2] h (fun r0 h2 => ∃ y : Int32, r0 = some (.int y) ∧ Sok y h2) (fun E q h2 => (E = eIX ∧ Sno 1 h2) ∨ (E = eAR ∧ Sno 2 h2) ∨ (E = eEL ∧ Sno 3 h2))) (hx : isC G h xo "SleeperRailway") (hao : ∀ y h3, Sok y h3 → ∃ f, h3 ao = some (lA G 1 f)) : CtH G l yX0_boardings cX0_boardings 6 (some .int) [((0 : Nat), (12 : Nat), (15 : Nat), (21 : Nat)), ((0 : Nat), (12 : Nat), (19 : Nat), (13 : Nat)), ((0 : Nat), (12 : Nat), (23 : Nat), (37 : Nat))] (d + 1) mc ms [.ref xo, .int p0, .int p1, .int p2, .ref ao] h (fun r h2 => (∃ y h3 f, Sok y h3 ∧ h3 ao = some (lA G 1 f) ∧ r = some (.int (nI 0)) ∧ h2 = hset h3 ao (lA G 1 (vp_updL f 0 (y.toInt64)))) ∨ (∃ k, 0 < k ∧ k < 5 ∧ r = some (.int (nI k)) ∧ Sno k h2)) (fun _ _ _ => False) := by
  refine CtH.of (by decide) (Nat.le_of_ble_eq_true rfl) (cat1 rfl) (fun X hXl F HT => ?_)
  subst hXl
  refine V_aload (i := 4) F dX0_boardings_0 rfl ?_
  refine V_iconst (v := nI 0) F dX0_boardings_2 rfl ?_
  refine V_aload_n (i := 0) F dX0_boardings_3 rfl rfl ?_
  refine V_iload_n (i := 1) F dX0_boardings_4 rfl rfl ?_
  refine V_iload_n (i := 2) F dX0_boardings_5 rfl rfl ?_
  refine V_iload_n (i := 3) F dX0_boardings_6 rfl rfl ?_
  refine V_xcV (st := [.int (nI 0), .ref ao]) (nn := 3) F dX0_boardings_7 lk_X0_94 hc hx rfl rfl (Nat.le_of_ble_eq_true rfl) (Nat.le_refl _) (Nat.le_of_ble_eq_true rfl) (Nat.le_of_eq (Nat.zero_add _)) (Nat.le_of_eq (Nat.zero_add _)) ?_ ?_
  · rintro _ h3 ⟨y, rfl, hS⟩
    obtain ⟨f, hf⟩ := hao y h3 hS
    refine V_i2l F dX0_boardings_10 ?_
    refine V_lastN F 1 dX0_boardings_11 rfl hf (by decide) (by decide) ?_
    refine V_goto (tgt := 27) F dX0_boardings_12 (by decide) ?_
    refine V_iconst (v := nI 0) F dX0_boardings_27 rfl ?_
    exact VV.rx (V_iret F dX0_boardings_28 rfl (Nat.le_of_eq (Nat.zero_add _)) (Nat.le_of_eq (Nat.zero_add _)) (Or.inl ⟨_, h3, f, hS, hf, rfl, rfl⟩))
  · intro E q h3 hp
    rcases hp with ⟨rfl, hno⟩ | ⟨rfl, hno⟩ | ⟨rfl, hno⟩
    · refine V_xcatch F (name := "java/lang/IndexOutOfBoundsException") [] ⟨0, 12, 15, 21⟩ [⟨0, 12, 19, 13⟩, ⟨0, 12, 23, 37⟩] (by rw [HT]; rfl) (fun z hz => by cases hz) (by decide) (by decide) q2714 q503 ?_
      refine V_astore (i := 5) F dX0_boardings_15 (Nat.le_of_ble_eq_true rfl) (Nat.le_of_ble_eq_true rfl) ?_
      refine V_iconst (v := nI 1) F dX0_boardings_17 rfl ?_
      exact VV.rx (V_iret F dX0_boardings_18 rfl (Nat.le_of_eq (Nat.zero_add _)) (Nat.le_of_eq (Nat.zero_add _)) (Or.inr ⟨1, by decide, by decide, rfl, hno⟩))
    · refine V_xcatch F (name := "java/lang/IllegalArgumentException") [⟨0, 12, 15, 21⟩] ⟨0, 12, 19, 13⟩ [⟨0, 12, 23, 37⟩] (by rw [HT]; rfl) (fun z hz => by
        simp only [List.mem_cons, List.not_mem_nil, or_false] at hz
        rcases hz with rfl
        · exact Or.inr ⟨by decide, "java/lang/IndexOutOfBoundsException", q2714, nc_eAR_eIX⟩) (by decide) (by decide) q2257 q741 ?_
      refine V_astore (i := 5) F dX0_boardings_19 (Nat.le_of_ble_eq_true rfl) (Nat.le_of_ble_eq_true rfl) ?_
      refine V_iconst (v := nI 2) F dX0_boardings_21 rfl ?_
      exact VV.rx (V_iret F dX0_boardings_22 rfl (Nat.le_of_eq (Nat.zero_add _)) (Nat.le_of_eq (Nat.zero_add _)) (Or.inr ⟨2, by decide, by decide, rfl, hno⟩))
    · refine V_xcatch F (name := "java/util/NoSuchElementException") [⟨0, 12, 15, 21⟩, ⟨0, 12, 19, 13⟩] ⟨0, 12, 23, 37⟩ [] (by rw [HT]; rfl) (fun z hz => by
        simp only [List.mem_cons, List.not_mem_nil, or_false] at hz
        rcases hz with rfl | rfl
        · exact Or.inr ⟨by decide, "java/lang/IndexOutOfBoundsException", q2714, nc_eEL_eIX⟩
        · exact Or.inr ⟨by decide, "java/lang/IllegalArgumentException", q2257, nc_eEL_eAR⟩) (by decide) (by decide) q2762 q881 ?_
      refine V_astore (i := 5) F dX0_boardings_23 (Nat.le_of_ble_eq_true rfl) (Nat.le_of_ble_eq_true rfl) ?_
      refine V_iconst (v := nI 3) F dX0_boardings_25 rfl ?_
      exact VV.rx (V_iret F dX0_boardings_26 rfl (Nat.le_of_eq (Nat.zero_add _)) (Nat.le_of_eq (Nat.zero_add _)) (Or.inr ⟨3, by decide, by decide, rfl, hno⟩))
theorem x0_suitcaseAt {G : GG} {l : Launch} {h : AH} {xo ao : Nat} {p0 : Int32} {Sok : Int32 → AH → Prop} {Sno : Nat → AH → Prop} {d mc ms : Nat} (hc : CtX G l yX1_suitcaseAt cX1_suitcaseAt 2 (some .int) d mc ms [.ref xo, .int p0] h (fun r0 h2 => ∃ y : Int32, r0 = some (.int y) ∧ Sok y h2) (fun E q h2 => (E = eEL ∧ Sno 1 h2))) (hx : isC G h xo "SleeperRailway") (hao : ∀ y h3, Sok y h3 → ∃ f, h3 ao = some (lA G 1 f)) : CtH G l yX0_suitcaseAt cX0_suitcaseAt 4 (some .int) [((0 : Nat), (9 : Nat), (12 : Nat), (37 : Nat))] (d + 1) mc ms [.ref xo, .int p0, .ref ao] h (fun r h2 => (∃ y h3 f, Sok y h3 ∧ h3 ao = some (lA G 1 f) ∧ r = some (.int (nI 0)) ∧ h2 = hset h3 ao (lA G 1 (vp_updL f 0 (y.toInt64)))) ∨ (∃ k, 0 < k ∧ k < 5 ∧ r = some (.int (nI k)) ∧ Sno k h2)) (fun _ _ _ => False) := by
  refine CtH.of (by decide) (Nat.le_of_ble_eq_true rfl) (cat1 rfl) (fun X hXl F HT => ?_)
  subst hXl
  refine V_aload_n (i := 2) F dX0_suitcaseAt_0 rfl rfl ?_
  refine V_iconst (v := nI 0) F dX0_suitcaseAt_1 rfl ?_
  refine V_aload_n (i := 0) F dX0_suitcaseAt_2 rfl rfl ?_
  refine V_iload_n (i := 1) F dX0_suitcaseAt_3 rfl rfl ?_
  refine V_xcV (st := [.int (nI 0), .ref ao]) (nn := 1) F dX0_suitcaseAt_4 lk_X0_97 hc hx rfl rfl (Nat.le_of_ble_eq_true rfl) (Nat.le_refl _) (Nat.le_of_ble_eq_true rfl) (Nat.le_of_eq (Nat.zero_add _)) (Nat.le_of_eq (Nat.zero_add _)) ?_ ?_
  · rintro _ h3 ⟨y, rfl, hS⟩
    obtain ⟨f, hf⟩ := hao y h3 hS
    refine V_i2l F dX0_suitcaseAt_7 ?_
    refine V_lastN F 1 dX0_suitcaseAt_8 rfl hf (by decide) (by decide) ?_
    refine V_goto (tgt := 15) F dX0_suitcaseAt_9 (by decide) ?_
    refine V_iconst (v := nI 0) F dX0_suitcaseAt_15 rfl ?_
    exact VV.rx (V_iret F dX0_suitcaseAt_16 rfl (Nat.le_of_eq (Nat.zero_add _)) (Nat.le_of_eq (Nat.zero_add _)) (Or.inl ⟨_, h3, f, hS, hf, rfl, rfl⟩))
  · intro E q h3 hp
    rcases hp with ⟨rfl, hno⟩
    · refine V_xcatch F (name := "java/util/NoSuchElementException") [] ⟨0, 9, 12, 37⟩ [] (by rw [HT]; rfl) (fun z hz => by cases hz) (by decide) (by decide) q2762 q881 ?_
      refine V_astore_n (i := 3) F dX0_suitcaseAt_12 rfl (Nat.le_of_ble_eq_true rfl) (Nat.le_of_ble_eq_true rfl) ?_
      refine V_iconst (v := nI 1) F dX0_suitcaseAt_13 rfl ?_
      exact VV.rx (V_iret F dX0_suitcaseAt_14 rfl (Nat.le_of_eq (Nat.zero_add _)) (Nat.le_of_eq (Nat.zero_add _)) (Or.inr ⟨1, by decide, by decide, rfl, hno⟩))
theorem x0_stationOf {G : GG} {l : Launch} {h : AH} {xo ao : Nat} {p0 : Int32} {Sok : Int32 → AH → Prop} {Sno : Nat → AH → Prop} {d mc ms : Nat} (hc : CtX G l yX1_stationOf cX1_stationOf 2 (some .int) d mc ms [.ref xo, .int p0] h (fun r0 h2 => ∃ y : Int32, r0 = some (.int y) ∧ Sok y h2) (fun E q h2 => (E = eEL ∧ Sno 1 h2))) (hx : isC G h xo "SleeperRailway") (hao : ∀ y h3, Sok y h3 → ∃ f, h3 ao = some (lA G 1 f)) : CtH G l yX0_stationOf cX0_stationOf 4 (some .int) [((0 : Nat), (9 : Nat), (12 : Nat), (37 : Nat))] (d + 1) mc ms [.ref xo, .int p0, .ref ao] h (fun r h2 => (∃ y h3 f, Sok y h3 ∧ h3 ao = some (lA G 1 f) ∧ r = some (.int (nI 0)) ∧ h2 = hset h3 ao (lA G 1 (vp_updL f 0 (y.toInt64)))) ∨ (∃ k, 0 < k ∧ k < 5 ∧ r = some (.int (nI k)) ∧ Sno k h2)) (fun _ _ _ => False) := by
  refine CtH.of (by decide) (Nat.le_of_ble_eq_true rfl) (cat1 rfl) (fun X hXl F HT => ?_)
  subst hXl
  refine V_aload_n (i := 2) F dX0_stationOf_0 rfl rfl ?_
  refine V_iconst (v := nI 0) F dX0_stationOf_1 rfl ?_
  refine V_aload_n (i := 0) F dX0_stationOf_2 rfl rfl ?_
  refine V_iload_n (i := 1) F dX0_stationOf_3 rfl rfl ?_
  refine V_xcV (st := [.int (nI 0), .ref ao]) (nn := 1) F dX0_stationOf_4 lk_X0_100 hc hx rfl rfl (Nat.le_of_ble_eq_true rfl) (Nat.le_refl _) (Nat.le_of_ble_eq_true rfl) (Nat.le_of_eq (Nat.zero_add _)) (Nat.le_of_eq (Nat.zero_add _)) ?_ ?_
  · rintro _ h3 ⟨y, rfl, hS⟩
    obtain ⟨f, hf⟩ := hao y h3 hS
    refine V_i2l F dX0_stationOf_7 ?_
    refine V_lastN F 1 dX0_stationOf_8 rfl hf (by decide) (by decide) ?_
    refine V_goto (tgt := 15) F dX0_stationOf_9 (by decide) ?_
    refine V_iconst (v := nI 0) F dX0_stationOf_15 rfl ?_
    exact VV.rx (V_iret F dX0_stationOf_16 rfl (Nat.le_of_eq (Nat.zero_add _)) (Nat.le_of_eq (Nat.zero_add _)) (Or.inl ⟨_, h3, f, hS, hf, rfl, rfl⟩))
  · intro E q h3 hp
    rcases hp with ⟨rfl, hno⟩
    · refine V_xcatch F (name := "java/util/NoSuchElementException") [] ⟨0, 9, 12, 37⟩ [] (by rw [HT]; rfl) (fun z hz => by cases hz) (by decide) (by decide) q2762 q881 ?_
      refine V_astore_n (i := 3) F dX0_stationOf_12 rfl (Nat.le_of_ble_eq_true rfl) (Nat.le_of_ble_eq_true rfl) ?_
      refine V_iconst (v := nI 1) F dX0_stationOf_13 rfl ?_
      exact VV.rx (V_iret F dX0_stationOf_14 rfl (Nat.le_of_eq (Nat.zero_add _)) (Nat.le_of_eq (Nat.zero_add _)) (Or.inr ⟨1, by decide, by decide, rfl, hno⟩))
theorem x0_destinationOf {G : GG} {l : Launch} {h : AH} {xo ao : Nat} {p0 : Int32} {Sok : Int32 → AH → Prop} {Sno : Nat → AH → Prop} {d mc ms : Nat} (hc : CtX G l yX1_destinationOf cX1_destinationOf 2 (some .int) d mc ms [.ref xo, .int p0] h (fun r0 h2 => ∃ y : Int32, r0 = some (.int y) ∧ Sok y h2) (fun E q h2 => (E = eEL ∧ Sno 1 h2))) (hx : isC G h xo "SleeperRailway") (hao : ∀ y h3, Sok y h3 → ∃ f, h3 ao = some (lA G 1 f)) : CtH G l yX0_destinationOf cX0_destinationOf 4 (some .int) [((0 : Nat), (9 : Nat), (12 : Nat), (37 : Nat))] (d + 1) mc ms [.ref xo, .int p0, .ref ao] h (fun r h2 => (∃ y h3 f, Sok y h3 ∧ h3 ao = some (lA G 1 f) ∧ r = some (.int (nI 0)) ∧ h2 = hset h3 ao (lA G 1 (vp_updL f 0 (y.toInt64)))) ∨ (∃ k, 0 < k ∧ k < 5 ∧ r = some (.int (nI k)) ∧ Sno k h2)) (fun _ _ _ => False) := by
  refine CtH.of (by decide) (Nat.le_of_ble_eq_true rfl) (cat1 rfl) (fun X hXl F HT => ?_)
  subst hXl
  refine V_aload_n (i := 2) F dX0_destinationOf_0 rfl rfl ?_
  refine V_iconst (v := nI 0) F dX0_destinationOf_1 rfl ?_
  refine V_aload_n (i := 0) F dX0_destinationOf_2 rfl rfl ?_
  refine V_iload_n (i := 1) F dX0_destinationOf_3 rfl rfl ?_
  refine V_xcV (st := [.int (nI 0), .ref ao]) (nn := 1) F dX0_destinationOf_4 lk_X0_103 hc hx rfl rfl (Nat.le_of_ble_eq_true rfl) (Nat.le_refl _) (Nat.le_of_ble_eq_true rfl) (Nat.le_of_eq (Nat.zero_add _)) (Nat.le_of_eq (Nat.zero_add _)) ?_ ?_
  · rintro _ h3 ⟨y, rfl, hS⟩
    obtain ⟨f, hf⟩ := hao y h3 hS
    refine V_i2l F dX0_destinationOf_7 ?_
    refine V_lastN F 1 dX0_destinationOf_8 rfl hf (by decide) (by decide) ?_
    refine V_goto (tgt := 15) F dX0_destinationOf_9 (by decide) ?_
    refine V_iconst (v := nI 0) F dX0_destinationOf_15 rfl ?_
    exact VV.rx (V_iret F dX0_destinationOf_16 rfl (Nat.le_of_eq (Nat.zero_add _)) (Nat.le_of_eq (Nat.zero_add _)) (Or.inl ⟨_, h3, f, hS, hf, rfl, rfl⟩))
  · intro E q h3 hp
    rcases hp with ⟨rfl, hno⟩
    · refine V_xcatch F (name := "java/util/NoSuchElementException") [] ⟨0, 9, 12, 37⟩ [] (by rw [HT]; rfl) (fun z hz => by cases hz) (by decide) (by decide) q2762 q881 ?_
      refine V_astore_n (i := 3) F dX0_destinationOf_12 rfl (Nat.le_of_ble_eq_true rfl) (Nat.le_of_ble_eq_true rfl) ?_
      refine V_iconst (v := nI 1) F dX0_destinationOf_13 rfl ?_
      exact VV.rx (V_iret F dX0_destinationOf_14 rfl (Nat.le_of_eq (Nat.zero_add _)) (Nat.le_of_eq (Nat.zero_add _)) (Or.inr ⟨1, by decide, by decide, rfl, hno⟩))
theorem x0_readyAt {G : GG} {l : Launch} {h : AH} {xo ao : Nat} {p0 : Int32} {Sok : Int32 → AH → Prop} {Sno : Nat → AH → Prop} {d mc ms : Nat} (hc : CtX G l yX1_readyAt cX1_readyAt 2 (some .int) d mc ms [.ref xo, .int p0] h (fun r0 h2 => ∃ y : Int32, r0 = some (.int y) ∧ Sok y h2) (fun E q h2 => (E = eEL ∧ Sno 1 h2))) (hx : isC G h xo "SleeperRailway") (hao : ∀ y h3, Sok y h3 → ∃ f, h3 ao = some (lA G 1 f)) : CtH G l yX0_readyAt cX0_readyAt 4 (some .int) [((0 : Nat), (9 : Nat), (12 : Nat), (37 : Nat))] (d + 1) mc ms [.ref xo, .int p0, .ref ao] h (fun r h2 => (∃ y h3 f, Sok y h3 ∧ h3 ao = some (lA G 1 f) ∧ r = some (.int (nI 0)) ∧ h2 = hset h3 ao (lA G 1 (vp_updL f 0 (y.toInt64)))) ∨ (∃ k, 0 < k ∧ k < 5 ∧ r = some (.int (nI k)) ∧ Sno k h2)) (fun _ _ _ => False) := by
  refine CtH.of (by decide) (Nat.le_of_ble_eq_true rfl) (cat1 rfl) (fun X hXl F HT => ?_)
  subst hXl
  refine V_aload_n (i := 2) F dX0_readyAt_0 rfl rfl ?_
  refine V_iconst (v := nI 0) F dX0_readyAt_1 rfl ?_
  refine V_aload_n (i := 0) F dX0_readyAt_2 rfl rfl ?_
  refine V_iload_n (i := 1) F dX0_readyAt_3 rfl rfl ?_
  refine V_xcV (st := [.int (nI 0), .ref ao]) (nn := 1) F dX0_readyAt_4 lk_X0_106 hc hx rfl rfl (Nat.le_of_ble_eq_true rfl) (Nat.le_refl _) (Nat.le_of_ble_eq_true rfl) (Nat.le_of_eq (Nat.zero_add _)) (Nat.le_of_eq (Nat.zero_add _)) ?_ ?_
  · rintro _ h3 ⟨y, rfl, hS⟩
    obtain ⟨f, hf⟩ := hao y h3 hS
    refine V_i2l F dX0_readyAt_7 ?_
    refine V_lastN F 1 dX0_readyAt_8 rfl hf (by decide) (by decide) ?_
    refine V_goto (tgt := 15) F dX0_readyAt_9 (by decide) ?_
    refine V_iconst (v := nI 0) F dX0_readyAt_15 rfl ?_
    exact VV.rx (V_iret F dX0_readyAt_16 rfl (Nat.le_of_eq (Nat.zero_add _)) (Nat.le_of_eq (Nat.zero_add _)) (Or.inl ⟨_, h3, f, hS, hf, rfl, rfl⟩))
  · intro E q h3 hp
    rcases hp with ⟨rfl, hno⟩
    · refine V_xcatch F (name := "java/util/NoSuchElementException") [] ⟨0, 9, 12, 37⟩ [] (by rw [HT]; rfl) (fun z hz => by cases hz) (by decide) (by decide) q2762 q881 ?_
      refine V_astore_n (i := 3) F dX0_readyAt_12 rfl (Nat.le_of_ble_eq_true rfl) (Nat.le_of_ble_eq_true rfl) ?_
      refine V_iconst (v := nI 1) F dX0_readyAt_13 rfl ?_
      exact VV.rx (V_iret F dX0_readyAt_14 rfl (Nat.le_of_eq (Nat.zero_add _)) (Nat.le_of_eq (Nat.zero_add _)) (Or.inr ⟨1, by decide, by decide, rfl, hno⟩))
theorem x0_isThere {G : GG} {l : Launch} {h : AH} {xo ao : Nat} {p0 : Int32} {Sok : Int32 → AH → Prop} {Sno : Nat → AH → Prop} {d mc ms : Nat} (hc : CtX G l yX1_isThere cX1_isThere 2 (some .boolean) d mc ms [.ref xo, .int p0] h (fun r0 h2 => ∃ y : Int32, r0 = some (.int y) ∧ Sok y h2) (fun E q h2 => (E = eEL ∧ Sno 1 h2))) (hx : isC G h xo "SleeperRailway") (hao : ∀ y h3, Sok y h3 → ∃ f, h3 ao = some (lA G 1 f)) (h01 : ∀ y h3, Sok y h3 → y = 0 ∨ y = 1) : CtH G l yX0_isThere cX0_isThere 4 (some .int) [((0 : Nat), (16 : Nat), (19 : Nat), (37 : Nat))] (d + 1) mc ms [.ref xo, .int p0, .ref ao] h (fun r h2 => (∃ y h3 f, Sok y h3 ∧ h3 ao = some (lA G 1 f) ∧ r = some (.int (nI 0)) ∧ h2 = hset h3 ao (lA G 1 (vp_updL f 0 (y.toInt64)))) ∨ (∃ k, 0 < k ∧ k < 5 ∧ r = some (.int (nI k)) ∧ Sno k h2)) (fun _ _ _ => False) := by
  refine CtH.of (by decide) (Nat.le_of_ble_eq_true rfl) (cat1 rfl) (fun X hXl F HT => ?_)
  subst hXl
  refine V_aload_n (i := 2) F dX0_isThere_0 rfl rfl ?_
  refine V_iconst (v := nI 0) F dX0_isThere_1 rfl ?_
  refine V_aload_n (i := 0) F dX0_isThere_2 rfl rfl ?_
  refine V_iload_n (i := 1) F dX0_isThere_3 rfl rfl ?_
  refine V_xcV (st := [.int (nI 0), .ref ao]) (nn := 1) F dX0_isThere_4 lk_X0_109 hc hx rfl rfl (Nat.le_of_ble_eq_true rfl) (Nat.le_refl _) (Nat.le_of_ble_eq_true rfl) (Nat.le_of_eq (Nat.zero_add _)) (Nat.le_of_eq (Nat.zero_add _)) ?_ ?_
  · rintro _ h3 ⟨y, rfl, hS⟩
    obtain ⟨f, hf⟩ := hao y h3 hS
    refine V_if_eq (tgt := 14) F dX0_isThere_7 (by decide) (fun c => ?_) (fun c => ?_)
    · subst c
      refine V_lconst (v := 0) F dX0_isThere_14 rfl ?_
      refine V_lastN F 1 dX0_isThere_15 rfl hf (by decide) (by decide) ?_
      refine V_goto (tgt := 22) F dX0_isThere_16 (by decide) ?_
      refine V_iconst (v := nI 0) F dX0_isThere_22 rfl ?_
      exact VV.rx (V_iret F dX0_isThere_23 rfl (Nat.le_of_eq (Nat.zero_add _)) (Nat.le_of_eq (Nat.zero_add _)) (Or.inl ⟨_, h3, f, hS, hf, rfl, rfl⟩))
    · have e1 : y = 1 := (h01 y h3 hS).elim (fun z => absurd z c) id
      subst e1
      refine V_lconst (v := 1) F dX0_isThere_10 rfl ?_
      refine V_goto (tgt := 15) F dX0_isThere_11 (by decide) ?_
      refine V_lastN F 1 dX0_isThere_15 rfl hf (by decide) (by decide) ?_
      refine V_goto (tgt := 22) F dX0_isThere_16 (by decide) ?_
      refine V_iconst (v := nI 0) F dX0_isThere_22 rfl ?_
      exact VV.rx (V_iret F dX0_isThere_23 rfl (Nat.le_of_eq (Nat.zero_add _)) (Nat.le_of_eq (Nat.zero_add _)) (Or.inl ⟨_, h3, f, hS, hf, rfl, rfl⟩))
  · intro E q h3 hp
    rcases hp with ⟨rfl, hno⟩
    · refine V_xcatch F (name := "java/util/NoSuchElementException") [] ⟨0, 16, 19, 37⟩ [] (by rw [HT]; rfl) (fun z hz => by cases hz) (by decide) (by decide) q2762 q881 ?_
      refine V_astore_n (i := 3) F dX0_isThere_19 rfl (Nat.le_of_ble_eq_true rfl) (Nat.le_of_ble_eq_true rfl) ?_
      refine V_iconst (v := nI 1) F dX0_isThere_20 rfl ?_
      exact VV.rx (V_iret F dX0_isThere_21 rfl (Nat.le_of_eq (Nat.zero_add _)) (Nat.le_of_eq (Nat.zero_add _)) (Or.inr ⟨1, by decide, by decide, rfl, hno⟩))
theorem x0_suitcaseByReady {G : GG} {l : Launch} {h : AH} {xo ao : Nat} {p0 : Int32} {Sok : Int32 → AH → Prop} {Sno : Nat → AH → Prop} {d mc ms : Nat} (hc : CtX G l yX1_suitcaseByReady cX1_suitcaseByReady 2 (some .int) d mc ms [.ref xo, .int p0] h (fun r0 h2 => ∃ y : Int32, r0 = some (.int y) ∧ Sok y h2) (fun E q h2 => (E = eEL ∧ Sno 1 h2))) (hx : isC G h xo "SleeperRailway") (hao : ∀ y h3, Sok y h3 → ∃ f, h3 ao = some (lA G 1 f)) : CtH G l yX0_suitcaseByReady cX0_suitcaseByReady 4 (some .int) [((0 : Nat), (9 : Nat), (12 : Nat), (37 : Nat))] (d + 1) mc ms [.ref xo, .int p0, .ref ao] h (fun r h2 => (∃ y h3 f, Sok y h3 ∧ h3 ao = some (lA G 1 f) ∧ r = some (.int (nI 0)) ∧ h2 = hset h3 ao (lA G 1 (vp_updL f 0 (y.toInt64)))) ∨ (∃ k, 0 < k ∧ k < 5 ∧ r = some (.int (nI k)) ∧ Sno k h2)) (fun _ _ _ => False) := by
  refine CtH.of (by decide) (Nat.le_of_ble_eq_true rfl) (cat1 rfl) (fun X hXl F HT => ?_)
  subst hXl
  refine V_aload_n (i := 2) F dX0_suitcaseByReady_0 rfl rfl ?_
  refine V_iconst (v := nI 0) F dX0_suitcaseByReady_1 rfl ?_
  refine V_aload_n (i := 0) F dX0_suitcaseByReady_2 rfl rfl ?_
  refine V_iload_n (i := 1) F dX0_suitcaseByReady_3 rfl rfl ?_
  refine V_xcV (st := [.int (nI 0), .ref ao]) (nn := 1) F dX0_suitcaseByReady_4 lk_X0_113 hc hx rfl rfl (Nat.le_of_ble_eq_true rfl) (Nat.le_refl _) (Nat.le_of_ble_eq_true rfl) (Nat.le_of_eq (Nat.zero_add _)) (Nat.le_of_eq (Nat.zero_add _)) ?_ ?_
  · rintro _ h3 ⟨y, rfl, hS⟩
    obtain ⟨f, hf⟩ := hao y h3 hS
    refine V_i2l F dX0_suitcaseByReady_7 ?_
    refine V_lastN F 1 dX0_suitcaseByReady_8 rfl hf (by decide) (by decide) ?_
    refine V_goto (tgt := 15) F dX0_suitcaseByReady_9 (by decide) ?_
    refine V_iconst (v := nI 0) F dX0_suitcaseByReady_15 rfl ?_
    exact VV.rx (V_iret F dX0_suitcaseByReady_16 rfl (Nat.le_of_eq (Nat.zero_add _)) (Nat.le_of_eq (Nat.zero_add _)) (Or.inl ⟨_, h3, f, hS, hf, rfl, rfl⟩))
  · intro E q h3 hp
    rcases hp with ⟨rfl, hno⟩
    · refine V_xcatch F (name := "java/util/NoSuchElementException") [] ⟨0, 9, 12, 37⟩ [] (by rw [HT]; rfl) (fun z hz => by cases hz) (by decide) (by decide) q2762 q881 ?_
      refine V_astore_n (i := 3) F dX0_suitcaseByReady_12 rfl (Nat.le_of_ble_eq_true rfl) (Nat.le_of_ble_eq_true rfl) ?_
      refine V_iconst (v := nI 1) F dX0_suitcaseByReady_13 rfl ?_
      exact VV.rx (V_iret F dX0_suitcaseByReady_14 rfl (Nat.le_of_eq (Nat.zero_add _)) (Nat.le_of_eq (Nat.zero_add _)) (Or.inr ⟨1, by decide, by decide, rfl, hno⟩))
theorem x0_bookingAt {G : GG} {l : Launch} {h : AH} {xo ao : Nat} {p0 : Int32} {Sok : Int32 → AH → Prop} {Sno : Nat → AH → Prop} {d mc ms : Nat} (hc : CtX G l yX1_bookingAt cX1_bookingAt 2 (some .int) d mc ms [.ref xo, .int p0] h (fun r0 h2 => ∃ y : Int32, r0 = some (.int y) ∧ Sok y h2) (fun E q h2 => (E = eEL ∧ Sno 1 h2))) (hx : isC G h xo "SleeperRailway") (hao : ∀ y h3, Sok y h3 → ∃ f, h3 ao = some (lA G 1 f)) : CtH G l yX0_bookingAt cX0_bookingAt 4 (some .int) [((0 : Nat), (9 : Nat), (12 : Nat), (37 : Nat))] (d + 1) mc ms [.ref xo, .int p0, .ref ao] h (fun r h2 => (∃ y h3 f, Sok y h3 ∧ h3 ao = some (lA G 1 f) ∧ r = some (.int (nI 0)) ∧ h2 = hset h3 ao (lA G 1 (vp_updL f 0 (y.toInt64)))) ∨ (∃ k, 0 < k ∧ k < 5 ∧ r = some (.int (nI k)) ∧ Sno k h2)) (fun _ _ _ => False) := by
  refine CtH.of (by decide) (Nat.le_of_ble_eq_true rfl) (cat1 rfl) (fun X hXl F HT => ?_)
  subst hXl
  refine V_aload_n (i := 2) F dX0_bookingAt_0 rfl rfl ?_
  refine V_iconst (v := nI 0) F dX0_bookingAt_1 rfl ?_
  refine V_aload_n (i := 0) F dX0_bookingAt_2 rfl rfl ?_
  refine V_iload_n (i := 1) F dX0_bookingAt_3 rfl rfl ?_
  refine V_xcV (st := [.int (nI 0), .ref ao]) (nn := 1) F dX0_bookingAt_4 lk_X0_116 hc hx rfl rfl (Nat.le_of_ble_eq_true rfl) (Nat.le_refl _) (Nat.le_of_ble_eq_true rfl) (Nat.le_of_eq (Nat.zero_add _)) (Nat.le_of_eq (Nat.zero_add _)) ?_ ?_
  · rintro _ h3 ⟨y, rfl, hS⟩
    obtain ⟨f, hf⟩ := hao y h3 hS
    refine V_i2l F dX0_bookingAt_7 ?_
    refine V_lastN F 1 dX0_bookingAt_8 rfl hf (by decide) (by decide) ?_
    refine V_goto (tgt := 15) F dX0_bookingAt_9 (by decide) ?_
    refine V_iconst (v := nI 0) F dX0_bookingAt_15 rfl ?_
    exact VV.rx (V_iret F dX0_bookingAt_16 rfl (Nat.le_of_eq (Nat.zero_add _)) (Nat.le_of_eq (Nat.zero_add _)) (Or.inl ⟨_, h3, f, hS, hf, rfl, rfl⟩))
  · intro E q h3 hp
    rcases hp with ⟨rfl, hno⟩
    · refine V_xcatch F (name := "java/util/NoSuchElementException") [] ⟨0, 9, 12, 37⟩ [] (by rw [HT]; rfl) (fun z hz => by cases hz) (by decide) (by decide) q2762 q881 ?_
      refine V_astore_n (i := 3) F dX0_bookingAt_12 rfl (Nat.le_of_ble_eq_true rfl) (Nat.le_of_ble_eq_true rfl) ?_
      refine V_iconst (v := nI 1) F dX0_bookingAt_13 rfl ?_
      exact VV.rx (V_iret F dX0_bookingAt_14 rfl (Nat.le_of_eq (Nat.zero_add _)) (Nat.le_of_eq (Nat.zero_add _)) (Or.inr ⟨1, by decide, by decide, rfl, hno⟩))
theorem x0_berthsNeeded {G : GG} {l : Launch} {h : AH} {xo ao : Nat} {p0 : Int32} {Sok : Int32 → AH → Prop} {Sno : Nat → AH → Prop} {d mc ms : Nat} (hc : CtX G l yX1_berthsNeeded cX1_berthsNeeded 2 (some .int) d mc ms [.ref xo, .int p0] h (fun r0 h2 => ∃ y : Int32, r0 = some (.int y) ∧ Sok y h2) (fun E q h2 => (E = eIX ∧ Sno 1 h2))) (hx : isC G h xo "SleeperRailway") (hao : ∀ y h3, Sok y h3 → ∃ f, h3 ao = some (lA G 1 f)) : CtH G l yX0_berthsNeeded cX0_berthsNeeded 4 (some .int) [((0 : Nat), (9 : Nat), (12 : Nat), (21 : Nat))] (d + 1) mc ms [.ref xo, .int p0, .ref ao] h (fun r h2 => (∃ y h3 f, Sok y h3 ∧ h3 ao = some (lA G 1 f) ∧ r = some (.int (nI 0)) ∧ h2 = hset h3 ao (lA G 1 (vp_updL f 0 (y.toInt64)))) ∨ (∃ k, 0 < k ∧ k < 5 ∧ r = some (.int (nI k)) ∧ Sno k h2)) (fun _ _ _ => False) := by
  refine CtH.of (by decide) (Nat.le_of_ble_eq_true rfl) (cat1 rfl) (fun X hXl F HT => ?_)
  subst hXl
  refine V_aload_n (i := 2) F dX0_berthsNeeded_0 rfl rfl ?_
  refine V_iconst (v := nI 0) F dX0_berthsNeeded_1 rfl ?_
  refine V_aload_n (i := 0) F dX0_berthsNeeded_2 rfl rfl ?_
  refine V_iload_n (i := 1) F dX0_berthsNeeded_3 rfl rfl ?_
  refine V_xcV (st := [.int (nI 0), .ref ao]) (nn := 1) F dX0_berthsNeeded_4 lk_X0_119 hc hx rfl rfl (Nat.le_of_ble_eq_true rfl) (Nat.le_refl _) (Nat.le_of_ble_eq_true rfl) (Nat.le_of_eq (Nat.zero_add _)) (Nat.le_of_eq (Nat.zero_add _)) ?_ ?_
  · rintro _ h3 ⟨y, rfl, hS⟩
    obtain ⟨f, hf⟩ := hao y h3 hS
    refine V_i2l F dX0_berthsNeeded_7 ?_
    refine V_lastN F 1 dX0_berthsNeeded_8 rfl hf (by decide) (by decide) ?_
    refine V_goto (tgt := 15) F dX0_berthsNeeded_9 (by decide) ?_
    refine V_iconst (v := nI 0) F dX0_berthsNeeded_15 rfl ?_
    exact VV.rx (V_iret F dX0_berthsNeeded_16 rfl (Nat.le_of_eq (Nat.zero_add _)) (Nat.le_of_eq (Nat.zero_add _)) (Or.inl ⟨_, h3, f, hS, hf, rfl, rfl⟩))
  · intro E q h3 hp
    rcases hp with ⟨rfl, hno⟩
    · refine V_xcatch F (name := "java/lang/IndexOutOfBoundsException") [] ⟨0, 9, 12, 21⟩ [] (by rw [HT]; rfl) (fun z hz => by cases hz) (by decide) (by decide) q2714 q503 ?_
      refine V_astore_n (i := 3) F dX0_berthsNeeded_12 rfl (Nat.le_of_ble_eq_true rfl) (Nat.le_of_ble_eq_true rfl) ?_
      refine V_iconst (v := nI 1) F dX0_berthsNeeded_13 rfl ?_
      exact VV.rx (V_iret F dX0_berthsNeeded_14 rfl (Nat.le_of_eq (Nat.zero_add _)) (Nat.le_of_eq (Nat.zero_add _)) (Or.inr ⟨1, by decide, by decide, rfl, hno⟩))
theorem x0_berthsNeededByLegs {G : GG} {l : Launch} {h : AH} {xo ao : Nat} {p0 : Int32} {Sok : Int32 → AH → Prop} {Sno : Nat → AH → Prop} {d mc ms : Nat} (hc : CtX G l yX1_berthsNeededByLegs cX1_berthsNeededByLegs 2 (some .int) d mc ms [.ref xo, .int p0] h (fun r0 h2 => ∃ y : Int32, r0 = some (.int y) ∧ Sok y h2) (fun E q h2 => (E = eIX ∧ Sno 1 h2))) (hx : isC G h xo "SleeperRailway") (hao : ∀ y h3, Sok y h3 → ∃ f, h3 ao = some (lA G 1 f)) : CtH G l yX0_berthsNeededByLegs cX0_berthsNeededByLegs 4 (some .int) [((0 : Nat), (9 : Nat), (12 : Nat), (21 : Nat))] (d + 1) mc ms [.ref xo, .int p0, .ref ao] h (fun r h2 => (∃ y h3 f, Sok y h3 ∧ h3 ao = some (lA G 1 f) ∧ r = some (.int (nI 0)) ∧ h2 = hset h3 ao (lA G 1 (vp_updL f 0 (y.toInt64)))) ∨ (∃ k, 0 < k ∧ k < 5 ∧ r = some (.int (nI k)) ∧ Sno k h2)) (fun _ _ _ => False) := by
  refine CtH.of (by decide) (Nat.le_of_ble_eq_true rfl) (cat1 rfl) (fun X hXl F HT => ?_)
  subst hXl
  refine V_aload_n (i := 2) F dX0_berthsNeededByLegs_0 rfl rfl ?_
  refine V_iconst (v := nI 0) F dX0_berthsNeededByLegs_1 rfl ?_
  refine V_aload_n (i := 0) F dX0_berthsNeededByLegs_2 rfl rfl ?_
  refine V_iload_n (i := 1) F dX0_berthsNeededByLegs_3 rfl rfl ?_
  refine V_xcV (st := [.int (nI 0), .ref ao]) (nn := 1) F dX0_berthsNeededByLegs_4 lk_X0_122 hc hx rfl rfl (Nat.le_of_ble_eq_true rfl) (Nat.le_refl _) (Nat.le_of_ble_eq_true rfl) (Nat.le_of_eq (Nat.zero_add _)) (Nat.le_of_eq (Nat.zero_add _)) ?_ ?_
  · rintro _ h3 ⟨y, rfl, hS⟩
    obtain ⟨f, hf⟩ := hao y h3 hS
    refine V_i2l F dX0_berthsNeededByLegs_7 ?_
    refine V_lastN F 1 dX0_berthsNeededByLegs_8 rfl hf (by decide) (by decide) ?_
    refine V_goto (tgt := 15) F dX0_berthsNeededByLegs_9 (by decide) ?_
    refine V_iconst (v := nI 0) F dX0_berthsNeededByLegs_15 rfl ?_
    exact VV.rx (V_iret F dX0_berthsNeededByLegs_16 rfl (Nat.le_of_eq (Nat.zero_add _)) (Nat.le_of_eq (Nat.zero_add _)) (Or.inl ⟨_, h3, f, hS, hf, rfl, rfl⟩))
  · intro E q h3 hp
    rcases hp with ⟨rfl, hno⟩
    · refine V_xcatch F (name := "java/lang/IndexOutOfBoundsException") [] ⟨0, 9, 12, 21⟩ [] (by rw [HT]; rfl) (fun z hz => by cases hz) (by decide) (by decide) q2714 q503 ?_
      refine V_astore_n (i := 3) F dX0_berthsNeededByLegs_12 rfl (Nat.le_of_ble_eq_true rfl) (Nat.le_of_ble_eq_true rfl) ?_
      refine V_iconst (v := nI 1) F dX0_berthsNeededByLegs_13 rfl ?_
      exact VV.rx (V_iret F dX0_berthsNeededByLegs_14 rfl (Nat.le_of_eq (Nat.zero_add _)) (Nat.le_of_eq (Nat.zero_add _)) (Or.inr ⟨1, by decide, by decide, rfl, hno⟩))
theorem x0_berthOf {G : GG} {l : Launch} {h : AH} {xo ao : Nat} {p0 : Int32} {Sok : Int32 → AH → Prop} {Sno : Nat → AH → Prop} {d mc ms : Nat} (hc : CtX G l yX1_berthOf cX1_berthOf 3 (some .int) d mc ms [.ref xo, .int p0] h (fun r0 h2 => ∃ y : Int32, r0 = some (.int y) ∧ Sok y h2) (fun E q h2 => (E = eEL ∧ Sno 1 h2))) (hx : isC G h xo "SleeperRailway") (hao : ∀ y h3, Sok y h3 → ∃ f, h3 ao = some (lA G 1 f)) : CtH G l yX0_berthOf cX0_berthOf 4 (some .int) [((0 : Nat), (9 : Nat), (12 : Nat), (37 : Nat))] (d + 1) mc ms [.ref xo, .int p0, .ref ao] h (fun r h2 => (∃ y h3 f, Sok y h3 ∧ h3 ao = some (lA G 1 f) ∧ r = some (.int (nI 0)) ∧ h2 = hset h3 ao (lA G 1 (vp_updL f 0 (y.toInt64)))) ∨ (∃ k, 0 < k ∧ k < 5 ∧ r = some (.int (nI k)) ∧ Sno k h2)) (fun _ _ _ => False) := by
  refine CtH.of (by decide) (Nat.le_of_ble_eq_true rfl) (cat1 rfl) (fun X hXl F HT => ?_)
  subst hXl
  refine V_aload_n (i := 2) F dX0_berthOf_0 rfl rfl ?_
  refine V_iconst (v := nI 0) F dX0_berthOf_1 rfl ?_
  refine V_aload_n (i := 0) F dX0_berthOf_2 rfl rfl ?_
  refine V_iload_n (i := 1) F dX0_berthOf_3 rfl rfl ?_
  refine V_xcV (st := [.int (nI 0), .ref ao]) (nn := 1) F dX0_berthOf_4 lk_X0_125 hc hx rfl rfl (Nat.le_of_ble_eq_true rfl) (Nat.le_refl _) (Nat.le_of_ble_eq_true rfl) (Nat.le_of_eq (Nat.zero_add _)) (Nat.le_of_eq (Nat.zero_add _)) ?_ ?_
  · rintro _ h3 ⟨y, rfl, hS⟩
    obtain ⟨f, hf⟩ := hao y h3 hS
    refine V_i2l F dX0_berthOf_7 ?_
    refine V_lastN F 1 dX0_berthOf_8 rfl hf (by decide) (by decide) ?_
    refine V_goto (tgt := 15) F dX0_berthOf_9 (by decide) ?_
    refine V_iconst (v := nI 0) F dX0_berthOf_15 rfl ?_
    exact VV.rx (V_iret F dX0_berthOf_16 rfl (Nat.le_of_eq (Nat.zero_add _)) (Nat.le_of_eq (Nat.zero_add _)) (Or.inl ⟨_, h3, f, hS, hf, rfl, rfl⟩))
  · intro E q h3 hp
    rcases hp with ⟨rfl, hno⟩
    · refine V_xcatch F (name := "java/util/NoSuchElementException") [] ⟨0, 9, 12, 37⟩ [] (by rw [HT]; rfl) (fun z hz => by cases hz) (by decide) (by decide) q2762 q881 ?_
      refine V_astore_n (i := 3) F dX0_berthOf_12 rfl (Nat.le_of_ble_eq_true rfl) (Nat.le_of_ble_eq_true rfl) ?_
      refine V_iconst (v := nI 1) F dX0_berthOf_13 rfl ?_
      exact VV.rx (V_iret F dX0_berthOf_14 rfl (Nat.le_of_eq (Nat.zero_add _)) (Nat.le_of_eq (Nat.zero_add _)) (Or.inr ⟨1, by decide, by decide, rfl, hno⟩))
theorem x0_meanLoad {G : GG} {l : Launch} {h : AH} {xo ao : Nat}  {Sok : UInt64 → AH → Prop} {Sno : Nat → AH → Prop} {d mc ms : Nat} (hc : CtX G l yX1_meanLoad cX1_meanLoad 2 (some .double) d mc ms [.ref xo] h (fun r0 h2 => ∃ y : UInt64, r0 = some (.double y) ∧ Sok y h2) (fun E q h2 => (E = eMA ∧ Sno 1 h2))) (hx : isC G h xo "SleeperRailway") (hao : ∀ y h3, Sok y h3 → ∃ f, h3 ao = some (dA G 1 f)) : CtH G l yX0_meanLoad cX0_meanLoad 3 (some .int) [((0 : Nat), (7 : Nat), (10 : Nat), (132 : Nat))] (d + 1) mc ms [.ref xo, .ref ao] h (fun r h2 => (∃ y h3 f, Sok y h3 ∧ h3 ao = some (dA G 1 f) ∧ r = some (.int (nI 0)) ∧ h2 = hset h3 ao (dA G 1 (vf_upd f 0 (y)))) ∨ (∃ k, 0 < k ∧ k < 5 ∧ r = some (.int (nI k)) ∧ Sno k h2)) (fun _ _ _ => False) := by
  refine CtH.of (by decide) (Nat.le_of_ble_eq_true rfl) (cat1 rfl) (fun X hXl F HT => ?_)
  subst hXl
  refine V_aload_n (i := 1) F dX0_meanLoad_0 rfl rfl ?_
  refine V_iconst (v := nI 0) F dX0_meanLoad_1 rfl ?_
  refine V_aload_n (i := 0) F dX0_meanLoad_2 rfl rfl ?_
  refine V_xcV (st := [.int (nI 0), .ref ao]) (nn := 0) F dX0_meanLoad_3 lk_X0_128 hc hx rfl rfl (Nat.le_of_ble_eq_true rfl) (Nat.le_refl _) (Nat.le_of_ble_eq_true rfl) (Nat.le_of_eq (Nat.zero_add _)) (Nat.le_of_eq (Nat.zero_add _)) ?_ ?_
  · rintro _ h3 ⟨y, rfl, hS⟩
    obtain ⟨f, hf⟩ := hao y h3 hS
    refine V_dastN F 2 dX0_meanLoad_6 rfl hf (by decide) (by decide) ?_
    refine V_goto (tgt := 13) F dX0_meanLoad_7 (by decide) ?_
    refine V_iconst (v := nI 0) F dX0_meanLoad_13 rfl ?_
    exact VV.rx (V_iret F dX0_meanLoad_14 rfl (Nat.le_of_eq (Nat.zero_add _)) (Nat.le_of_eq (Nat.zero_add _)) (Or.inl ⟨_, h3, f, hS, hf, rfl, rfl⟩))
  · intro E q h3 hp
    rcases hp with ⟨rfl, hno⟩
    · refine V_xcatch F (name := "java/lang/ArithmeticException") [] ⟨0, 7, 10, 132⟩ [] (by rw [HT]; rfl) (fun z hz => by cases hz) (by decide) (by decide) q3213 q3225 ?_
      refine V_astore_n (i := 2) F dX0_meanLoad_10 rfl (Nat.le_of_ble_eq_true rfl) (Nat.le_of_ble_eq_true rfl) ?_
      refine V_iconst (v := nI 1) F dX0_meanLoad_11 rfl ?_
      exact VV.rx (V_iret F dX0_meanLoad_12 rfl (Nat.le_of_eq (Nat.zero_add _)) (Nat.le_of_eq (Nat.zero_add _)) (Or.inr ⟨1, by decide, by decide, rfl, hno⟩))
theorem x0_fullShare {G : GG} {l : Launch} {h : AH} {xo ao : Nat}  {Sok : UInt32 → AH → Prop} {Sno : Nat → AH → Prop} {d mc ms : Nat} (hc : CtX G l yX1_fullShare cX1_fullShare 2 (some .float) d mc ms [.ref xo] h (fun r0 h2 => ∃ y : UInt32, r0 = some (.float y) ∧ Sok y h2) (fun E q h2 => (E = eMA ∧ Sno 1 h2))) (hx : isC G h xo "SleeperRailway") (hao : ∀ y h3, Sok y h3 → ∃ f, h3 ao = some (dA G 1 f)) (hnn : ∀ y h3, Sok y h3 → vf_n64 (FP.f2d y)) : CtH G l yX0_fullShare cX0_fullShare 3 (some .int) [((0 : Nat), (8 : Nat), (11 : Nat), (132 : Nat))] (d + 1) mc ms [.ref xo, .ref ao] h (fun r h2 => (∃ y h3 f, Sok y h3 ∧ h3 ao = some (dA G 1 f) ∧ r = some (.int (nI 0)) ∧ h2 = hset h3 ao (dA G 1 (vf_upd f 0 (FP.f2d y)))) ∨ (∃ k, 0 < k ∧ k < 5 ∧ r = some (.int (nI k)) ∧ Sno k h2)) (fun _ _ _ => False) := by
  refine CtH.of (by decide) (Nat.le_of_ble_eq_true rfl) (cat1 rfl) (fun X hXl F HT => ?_)
  subst hXl
  refine V_aload_n (i := 1) F dX0_fullShare_0 rfl rfl ?_
  refine V_iconst (v := nI 0) F dX0_fullShare_1 rfl ?_
  refine V_aload_n (i := 0) F dX0_fullShare_2 rfl rfl ?_
  refine V_xcV (st := [.int (nI 0), .ref ao]) (nn := 0) F dX0_fullShare_3 lk_X0_134 hc hx rfl rfl (Nat.le_of_ble_eq_true rfl) (Nat.le_refl _) (Nat.le_of_ble_eq_true rfl) (Nat.le_of_eq (Nat.zero_add _)) (Nat.le_of_eq (Nat.zero_add _)) ?_ ?_
  · rintro _ h3 ⟨y, rfl, hS⟩
    obtain ⟨f, hf⟩ := hao y h3 hS
    refine V_f2d F dX0_fullShare_6 (hnn y h3 hS) ?_
    refine V_dastN F 2 dX0_fullShare_7 rfl hf (by decide) (by decide) ?_
    refine V_goto (tgt := 14) F dX0_fullShare_8 (by decide) ?_
    refine V_iconst (v := nI 0) F dX0_fullShare_14 rfl ?_
    exact VV.rx (V_iret F dX0_fullShare_15 rfl (Nat.le_of_eq (Nat.zero_add _)) (Nat.le_of_eq (Nat.zero_add _)) (Or.inl ⟨_, h3, f, hS, hf, rfl, rfl⟩))
  · intro E q h3 hp
    rcases hp with ⟨rfl, hno⟩
    · refine V_xcatch F (name := "java/lang/ArithmeticException") [] ⟨0, 8, 11, 132⟩ [] (by rw [HT]; rfl) (fun z hz => by cases hz) (by decide) (by decide) q3213 q3225 ?_
      refine V_astore_n (i := 2) F dX0_fullShare_11 rfl (Nat.le_of_ble_eq_true rfl) (Nat.le_of_ble_eq_true rfl) ?_
      refine V_iconst (v := nI 1) F dX0_fullShare_12 rfl ?_
      exact VV.rx (V_iret F dX0_fullShare_13 rfl (Nat.le_of_eq (Nat.zero_add _)) (Nat.le_of_eq (Nat.zero_add _)) (Or.inr ⟨1, by decide, by decide, rfl, hno⟩))
theorem x0_renderTrain {G : GG} {l : Launch} {h : AH} {xo ao : Nat} {p0 : Int32} {Sok : Int32 → AH → Prop} {Sno : Nat → AH → Prop} {d mc ms : Nat} (hc : CtX G l yX1_renderTrain cX1_renderTrain 2 (some .int) d mc ms [.ref xo, .int p0] h (fun r0 h2 => ∃ y : Int32, r0 = some (.int y) ∧ Sok y h2) (fun E q h2 => (E = eIX ∧ Sno 1 h2))) (hx : isC G h xo "SleeperRailway") (hao : ∀ y h3, Sok y h3 → ∃ f, h3 ao = some (lA G 1 f)) : CtH G l yX0_renderTrain cX0_renderTrain 4 (some .int) [((0 : Nat), (9 : Nat), (12 : Nat), (21 : Nat))] (d + 1) mc ms [.ref xo, .int p0, .ref ao] h (fun r h2 => (∃ y h3 f, Sok y h3 ∧ h3 ao = some (lA G 1 f) ∧ r = some (.int (nI 0)) ∧ h2 = hset h3 ao (lA G 1 (vp_updL f 0 (y.toInt64)))) ∨ (∃ k, 0 < k ∧ k < 5 ∧ r = some (.int (nI k)) ∧ Sno k h2)) (fun _ _ _ => False) := by
  refine CtH.of (by decide) (Nat.le_of_ble_eq_true rfl) (cat1 rfl) (fun X hXl F HT => ?_)
  subst hXl
  refine V_aload_n (i := 2) F dX0_renderTrain_0 rfl rfl ?_
  refine V_iconst (v := nI 0) F dX0_renderTrain_1 rfl ?_
  refine V_aload_n (i := 0) F dX0_renderTrain_2 rfl rfl ?_
  refine V_iload_n (i := 1) F dX0_renderTrain_3 rfl rfl ?_
  refine V_xcV (st := [.int (nI 0), .ref ao]) (nn := 1) F dX0_renderTrain_4 lk_X0_138 hc hx rfl rfl (Nat.le_of_ble_eq_true rfl) (Nat.le_refl _) (Nat.le_of_ble_eq_true rfl) (Nat.le_of_eq (Nat.zero_add _)) (Nat.le_of_eq (Nat.zero_add _)) ?_ ?_
  · rintro _ h3 ⟨y, rfl, hS⟩
    obtain ⟨f, hf⟩ := hao y h3 hS
    refine V_i2l F dX0_renderTrain_7 ?_
    refine V_lastN F 1 dX0_renderTrain_8 rfl hf (by decide) (by decide) ?_
    refine V_goto (tgt := 15) F dX0_renderTrain_9 (by decide) ?_
    refine V_iconst (v := nI 0) F dX0_renderTrain_15 rfl ?_
    exact VV.rx (V_iret F dX0_renderTrain_16 rfl (Nat.le_of_eq (Nat.zero_add _)) (Nat.le_of_eq (Nat.zero_add _)) (Or.inl ⟨_, h3, f, hS, hf, rfl, rfl⟩))
  · intro E q h3 hp
    rcases hp with ⟨rfl, hno⟩
    · refine V_xcatch F (name := "java/lang/IndexOutOfBoundsException") [] ⟨0, 9, 12, 21⟩ [] (by rw [HT]; rfl) (fun z hz => by cases hz) (by decide) (by decide) q2714 q503 ?_
      refine V_astore_n (i := 3) F dX0_renderTrain_12 rfl (Nat.le_of_ble_eq_true rfl) (Nat.le_of_ble_eq_true rfl) ?_
      refine V_iconst (v := nI 1) F dX0_renderTrain_13 rfl ?_
      exact VV.rx (V_iret F dX0_renderTrain_14 rfl (Nat.le_of_eq (Nat.zero_add _)) (Nat.le_of_eq (Nat.zero_add _)) (Or.inr ⟨1, by decide, by decide, rfl, hno⟩))
theorem x0_renderSuitcase {G : GG} {l : Launch} {h : AH} {xo ao : Nat} {p0 : Int32} {Sok : Int32 → AH → Prop} {Sno : Nat → AH → Prop} {d mc ms : Nat} (hc : CtX G l yX1_renderSuitcase cX1_renderSuitcase 2 (some .int) d mc ms [.ref xo, .int p0] h (fun r0 h2 => ∃ y : Int32, r0 = some (.int y) ∧ Sok y h2) (fun E q h2 => (E = eEL ∧ Sno 1 h2))) (hx : isC G h xo "SleeperRailway") (hao : ∀ y h3, Sok y h3 → ∃ f, h3 ao = some (lA G 1 f)) : CtH G l yX0_renderSuitcase cX0_renderSuitcase 4 (some .int) [((0 : Nat), (9 : Nat), (12 : Nat), (37 : Nat))] (d + 1) mc ms [.ref xo, .int p0, .ref ao] h (fun r h2 => (∃ y h3 f, Sok y h3 ∧ h3 ao = some (lA G 1 f) ∧ r = some (.int (nI 0)) ∧ h2 = hset h3 ao (lA G 1 (vp_updL f 0 (y.toInt64)))) ∨ (∃ k, 0 < k ∧ k < 5 ∧ r = some (.int (nI k)) ∧ Sno k h2)) (fun _ _ _ => False) := by
  refine CtH.of (by decide) (Nat.le_of_ble_eq_true rfl) (cat1 rfl) (fun X hXl F HT => ?_)
  subst hXl
  refine V_aload_n (i := 2) F dX0_renderSuitcase_0 rfl rfl ?_
  refine V_iconst (v := nI 0) F dX0_renderSuitcase_1 rfl ?_
  refine V_aload_n (i := 0) F dX0_renderSuitcase_2 rfl rfl ?_
  refine V_iload_n (i := 1) F dX0_renderSuitcase_3 rfl rfl ?_
  refine V_xcV (st := [.int (nI 0), .ref ao]) (nn := 1) F dX0_renderSuitcase_4 lk_X0_141 hc hx rfl rfl (Nat.le_of_ble_eq_true rfl) (Nat.le_refl _) (Nat.le_of_ble_eq_true rfl) (Nat.le_of_eq (Nat.zero_add _)) (Nat.le_of_eq (Nat.zero_add _)) ?_ ?_
  · rintro _ h3 ⟨y, rfl, hS⟩
    obtain ⟨f, hf⟩ := hao y h3 hS
    refine V_i2l F dX0_renderSuitcase_7 ?_
    refine V_lastN F 1 dX0_renderSuitcase_8 rfl hf (by decide) (by decide) ?_
    refine V_goto (tgt := 15) F dX0_renderSuitcase_9 (by decide) ?_
    refine V_iconst (v := nI 0) F dX0_renderSuitcase_15 rfl ?_
    exact VV.rx (V_iret F dX0_renderSuitcase_16 rfl (Nat.le_of_eq (Nat.zero_add _)) (Nat.le_of_eq (Nat.zero_add _)) (Or.inl ⟨_, h3, f, hS, hf, rfl, rfl⟩))
  · intro E q h3 hp
    rcases hp with ⟨rfl, hno⟩
    · refine V_xcatch F (name := "java/util/NoSuchElementException") [] ⟨0, 9, 12, 37⟩ [] (by rw [HT]; rfl) (fun z hz => by cases hz) (by decide) (by decide) q2762 q881 ?_
      refine V_astore_n (i := 3) F dX0_renderSuitcase_12 rfl (Nat.le_of_ble_eq_true rfl) (Nat.le_of_ble_eq_true rfl) ?_
      refine V_iconst (v := nI 1) F dX0_renderSuitcase_13 rfl ?_
      exact VV.rx (V_iret F dX0_renderSuitcase_14 rfl (Nat.le_of_eq (Nat.zero_add _)) (Nat.le_of_eq (Nat.zero_add _)) (Or.inr ⟨1, by decide, by decide, rfl, hno⟩))
theorem x0_outputAt {G : GG} {l : Launch} {h : AH} {xo ao : Nat} {p0 : Int32} {Sok : Int32 → AH → Prop} {Sno : Nat → AH → Prop} {d mc ms : Nat} (hc : CtX G l yX1_outputAt cX1_outputAt 2 (some .char) d mc ms [.ref xo, .int p0] h (fun r0 h2 => ∃ y : Int32, r0 = some (.int y) ∧ Sok y h2) (fun E q h2 => (E = eIX ∧ Sno 1 h2))) (hx : isC G h xo "SleeperRailway") (hao : ∀ y h3, Sok y h3 → ∃ f, h3 ao = some (lA G 1 f)) : CtH G l yX0_outputAt cX0_outputAt 4 (some .int) [((0 : Nat), (9 : Nat), (12 : Nat), (21 : Nat))] (d + 1) mc ms [.ref xo, .int p0, .ref ao] h (fun r h2 => (∃ y h3 f, Sok y h3 ∧ h3 ao = some (lA G 1 f) ∧ r = some (.int (nI 0)) ∧ h2 = hset h3 ao (lA G 1 (vp_updL f 0 (y.toInt64)))) ∨ (∃ k, 0 < k ∧ k < 5 ∧ r = some (.int (nI k)) ∧ Sno k h2)) (fun _ _ _ => False) := by
  refine CtH.of (by decide) (Nat.le_of_ble_eq_true rfl) (cat1 rfl) (fun X hXl F HT => ?_)
  subst hXl
  refine V_aload_n (i := 2) F dX0_outputAt_0 rfl rfl ?_
  refine V_iconst (v := nI 0) F dX0_outputAt_1 rfl ?_
  refine V_aload_n (i := 0) F dX0_outputAt_2 rfl rfl ?_
  refine V_iload_n (i := 1) F dX0_outputAt_3 rfl rfl ?_
  refine V_xcV (st := [.int (nI 0), .ref ao]) (nn := 1) F dX0_outputAt_4 lk_X0_144 hc hx rfl rfl (Nat.le_of_ble_eq_true rfl) (Nat.le_refl _) (Nat.le_of_ble_eq_true rfl) (Nat.le_of_eq (Nat.zero_add _)) (Nat.le_of_eq (Nat.zero_add _)) ?_ ?_
  · rintro _ h3 ⟨y, rfl, hS⟩
    obtain ⟨f, hf⟩ := hao y h3 hS
    refine V_i2l F dX0_outputAt_7 ?_
    refine V_lastN F 1 dX0_outputAt_8 rfl hf (by decide) (by decide) ?_
    refine V_goto (tgt := 15) F dX0_outputAt_9 (by decide) ?_
    refine V_iconst (v := nI 0) F dX0_outputAt_15 rfl ?_
    exact VV.rx (V_iret F dX0_outputAt_16 rfl (Nat.le_of_eq (Nat.zero_add _)) (Nat.le_of_eq (Nat.zero_add _)) (Or.inl ⟨_, h3, f, hS, hf, rfl, rfl⟩))
  · intro E q h3 hp
    rcases hp with ⟨rfl, hno⟩
    · refine V_xcatch F (name := "java/lang/IndexOutOfBoundsException") [] ⟨0, 9, 12, 21⟩ [] (by rw [HT]; rfl) (fun z hz => by cases hz) (by decide) (by decide) q2714 q503 ?_
      refine V_astore_n (i := 3) F dX0_outputAt_12 rfl (Nat.le_of_ble_eq_true rfl) (Nat.le_of_ble_eq_true rfl) ?_
      refine V_iconst (v := nI 1) F dX0_outputAt_13 rfl ?_
      exact VV.rx (V_iret F dX0_outputAt_14 rfl (Nat.le_of_eq (Nat.zero_add _)) (Nat.le_of_eq (Nat.zero_add _)) (Or.inr ⟨1, by decide, by decide, rfl, hno⟩))
theorem x0_type {G : GG} {l : Launch} {h : AH} {xo ao : Nat} {p0 : Int32} {Sok : Int32 → AH → Prop} {Sno : Nat → AH → Prop} {d mc ms : Nat} (hc : CtX G l yX1_type cX1_type 2 (some .int) d mc ms [.ref xo, .int p0] h (fun r0 h2 => ∃ y : Int32, r0 = some (.int y) ∧ Sok y h2) (fun E q h2 => (E = eAR ∧ Sno 1 h2) ∨ (E = eST ∧ Sno 2 h2))) (hx : isC G h xo "SleeperRailway") (hao : ∀ y h3, Sok y h3 → ∃ f, h3 ao = some (lA G 1 f)) : CtH G l yX0_type cX0_type 4 (some .int) [((0 : Nat), (9 : Nat), (12 : Nat), (13 : Nat)), ((0 : Nat), (9 : Nat), (15 : Nat), (15 : Nat))] (d + 1) mc ms [.ref xo, .int p0, .ref ao] h (fun r h2 => (∃ y h3 f, Sok y h3 ∧ h3 ao = some (lA G 1 f) ∧ r = some (.int (nI 0)) ∧ h2 = hset h3 ao (lA G 1 (vp_updL f 0 (y.toInt64)))) ∨ (∃ k, 0 < k ∧ k < 5 ∧ r = some (.int (nI k)) ∧ Sno k h2)) (fun _ _ _ => False) := by
  refine CtH.of (by decide) (Nat.le_of_ble_eq_true rfl) (cat1 rfl) (fun X hXl F HT => ?_)
  subst hXl
  refine V_aload_n (i := 2) F dX0_type_0 rfl rfl ?_
  refine V_iconst (v := nI 0) F dX0_type_1 rfl ?_
  refine V_aload_n (i := 0) F dX0_type_2 rfl rfl ?_
  refine V_iload_n (i := 1) F dX0_type_3 rfl rfl ?_
  refine V_xcV (st := [.int (nI 0), .ref ao]) (nn := 1) F dX0_type_4 lk_X0_148 hc hx rfl rfl (Nat.le_of_ble_eq_true rfl) (Nat.le_refl _) (Nat.le_of_ble_eq_true rfl) (Nat.le_of_eq (Nat.zero_add _)) (Nat.le_of_eq (Nat.zero_add _)) ?_ ?_
  · rintro _ h3 ⟨y, rfl, hS⟩
    obtain ⟨f, hf⟩ := hao y h3 hS
    refine V_i2l F dX0_type_7 ?_
    refine V_lastN F 1 dX0_type_8 rfl hf (by decide) (by decide) ?_
    refine V_goto (tgt := 18) F dX0_type_9 (by decide) ?_
    refine V_iconst (v := nI 0) F dX0_type_18 rfl ?_
    exact VV.rx (V_iret F dX0_type_19 rfl (Nat.le_of_eq (Nat.zero_add _)) (Nat.le_of_eq (Nat.zero_add _)) (Or.inl ⟨_, h3, f, hS, hf, rfl, rfl⟩))
  · intro E q h3 hp
    rcases hp with ⟨rfl, hno⟩ | ⟨rfl, hno⟩
    · refine V_xcatch F (name := "java/lang/IllegalArgumentException") [] ⟨0, 9, 12, 13⟩ [⟨0, 9, 15, 15⟩] (by rw [HT]; rfl) (fun z hz => by cases hz) (by decide) (by decide) q2257 q741 ?_
      refine V_astore_n (i := 3) F dX0_type_12 rfl (Nat.le_of_ble_eq_true rfl) (Nat.le_of_ble_eq_true rfl) ?_
      refine V_iconst (v := nI 1) F dX0_type_13 rfl ?_
      exact VV.rx (V_iret F dX0_type_14 rfl (Nat.le_of_eq (Nat.zero_add _)) (Nat.le_of_eq (Nat.zero_add _)) (Or.inr ⟨1, by decide, by decide, rfl, hno⟩))
    · refine V_xcatch F (name := "java/lang/IllegalStateException") [⟨0, 9, 12, 13⟩] ⟨0, 9, 15, 15⟩ [] (by rw [HT]; rfl) (fun z hz => by
        simp only [List.mem_cons, List.not_mem_nil, or_false] at hz
        rcases hz with rfl
        · exact Or.inr ⟨by decide, "java/lang/IllegalArgumentException", q2257, nc_eST_eAR⟩) (by decide) (by decide) q2258 q2658 ?_
      refine V_astore_n (i := 3) F dX0_type_15 rfl (Nat.le_of_ble_eq_true rfl) (Nat.le_of_ble_eq_true rfl) ?_
      refine V_iconst (v := nI 2) F dX0_type_16 rfl ?_
      exact VV.rx (V_iret F dX0_type_17 rfl (Nat.le_of_eq (Nat.zero_add _)) (Nat.le_of_eq (Nat.zero_add _)) (Or.inr ⟨2, by decide, by decide, rfl, hno⟩))
theorem x0_runScript {G : GG} {l : Launch} {h : AH} {xo ao : Nat}  {Sok : Int32 → AH → Prop} {Sno : Nat → AH → Prop} {d mc ms : Nat} (hc : CtH G l yX1_runScript cX1_runScript 3 (some .int) [((16 : Nat), (31 : Nat), (32 : Nat), (416 : Nat)), ((16 : Nat), (31 : Nat), (46 : Nat), (397 : Nat))] d mc ms [.ref xo] h (fun r0 h2 => ∃ y : Int32, r0 = some (.int y) ∧ Sok y h2) (fun E q h2 => (E = eAR ∧ Sno 1 h2) ∨ (E = eST ∧ Sno 2 h2))) (hx : isC G h xo "SleeperRailway") (hao : ∀ y h3, Sok y h3 → ∃ f, h3 ao = some (lA G 1 f)) : CtH G l yX0_runScript cX0_runScript 3 (some .int) [((0 : Nat), (8 : Nat), (11 : Nat), (13 : Nat)), ((0 : Nat), (8 : Nat), (14 : Nat), (15 : Nat))] (d + 1) mc ms [.ref xo, .ref ao] h (fun r h2 => (∃ y h3 f, Sok y h3 ∧ h3 ao = some (lA G 1 f) ∧ r = some (.int (nI 0)) ∧ h2 = hset h3 ao (lA G 1 (vp_updL f 0 (y.toInt64)))) ∨ (∃ k, 0 < k ∧ k < 5 ∧ r = some (.int (nI k)) ∧ Sno k h2)) (fun _ _ _ => False) := by
  refine CtH.of (by decide) (Nat.le_of_ble_eq_true rfl) (cat1 rfl) (fun X hXl F HT => ?_)
  subst hXl
  refine V_aload_n (i := 1) F dX0_runScript_0 rfl rfl ?_
  refine V_iconst (v := nI 0) F dX0_runScript_1 rfl ?_
  refine V_aload_n (i := 0) F dX0_runScript_2 rfl rfl ?_
  refine V_xcVW (st := [.int (nI 0), .ref ao]) (nn := 0) F dX0_runScript_3 ⟨lw_VW q3362 q3363 q3364 q101 q3365, rfl, by decide +kernel⟩ hc hx rfl rfl (Nat.le_of_ble_eq_true rfl) (Nat.le_refl _) (Nat.le_of_ble_eq_true rfl) (Nat.le_of_eq (Nat.zero_add _)) (Nat.le_of_eq (Nat.zero_add _)) ?_ ?_
  · rintro _ h3 ⟨y, rfl, hS⟩
    obtain ⟨f, hf⟩ := hao y h3 hS
    refine V_i2l F dX0_runScript_6 ?_
    refine V_lastN F 1 dX0_runScript_7 rfl hf (by decide) (by decide) ?_
    refine V_goto (tgt := 17) F dX0_runScript_8 (by decide) ?_
    refine V_iconst (v := nI 0) F dX0_runScript_17 rfl ?_
    exact VV.rx (V_iret F dX0_runScript_18 rfl (Nat.le_of_eq (Nat.zero_add _)) (Nat.le_of_eq (Nat.zero_add _)) (Or.inl ⟨_, h3, f, hS, hf, rfl, rfl⟩))
  · intro E q h3 hp
    rcases hp with ⟨rfl, hno⟩ | ⟨rfl, hno⟩
    · refine V_xcatch F (name := "java/lang/IllegalArgumentException") [] ⟨0, 8, 11, 13⟩ [⟨0, 8, 14, 15⟩] (by rw [HT]; rfl) (fun z hz => by cases hz) (by decide) (by decide) q2257 q741 ?_
      refine V_astore_n (i := 2) F dX0_runScript_11 rfl (Nat.le_of_ble_eq_true rfl) (Nat.le_of_ble_eq_true rfl) ?_
      refine V_iconst (v := nI 1) F dX0_runScript_12 rfl ?_
      exact VV.rx (V_iret F dX0_runScript_13 rfl (Nat.le_of_eq (Nat.zero_add _)) (Nat.le_of_eq (Nat.zero_add _)) (Or.inr ⟨1, by decide, by decide, rfl, hno⟩))
    · refine V_xcatch F (name := "java/lang/IllegalStateException") [⟨0, 8, 11, 13⟩] ⟨0, 8, 14, 15⟩ [] (by rw [HT]; rfl) (fun z hz => by
        simp only [List.mem_cons, List.not_mem_nil, or_false] at hz
        rcases hz with rfl
        · exact Or.inr ⟨by decide, "java/lang/IllegalArgumentException", q2257, nc_eST_eAR⟩) (by decide) (by decide) q2258 q2658 ?_
      refine V_astore_n (i := 2) F dX0_runScript_14 rfl (Nat.le_of_ble_eq_true rfl) (Nat.le_of_ble_eq_true rfl) ?_
      refine V_iconst (v := nI 2) F dX0_runScript_15 rfl ?_
      exact VV.rx (V_iret F dX0_runScript_16 rfl (Nat.le_of_eq (Nat.zero_add _)) (Nat.le_of_eq (Nat.zero_add _)) (Or.inr ⟨2, by decide, by decide, rfl, hno⟩))
theorem x0_errorPosition {G : GG} {l : Launch} {h : AH} {xo ao : Nat}  {Sok : Int32 → AH → Prop} {Sno : Nat → AH → Prop} {d mc ms : Nat} (hc : CtX G l yX1_errorPosition cX1_errorPosition 1 (some .int) d mc ms [.ref xo] h (fun r0 h2 => ∃ y : Int32, r0 = some (.int y) ∧ Sok y h2) (fun E q h2 => (E = eEL ∧ Sno 1 h2))) (hx : isC G h xo "SleeperRailway") (hao : ∀ y h3, Sok y h3 → ∃ f, h3 ao = some (lA G 1 f)) : CtH G l yX0_errorPosition cX0_errorPosition 3 (some .int) [((0 : Nat), (8 : Nat), (11 : Nat), (37 : Nat))] (d + 1) mc ms [.ref xo, .ref ao] h (fun r h2 => (∃ y h3 f, Sok y h3 ∧ h3 ao = some (lA G 1 f) ∧ r = some (.int (nI 0)) ∧ h2 = hset h3 ao (lA G 1 (vp_updL f 0 (y.toInt64)))) ∨ (∃ k, 0 < k ∧ k < 5 ∧ r = some (.int (nI k)) ∧ Sno k h2)) (fun _ _ _ => False) := by
  refine CtH.of (by decide) (Nat.le_of_ble_eq_true rfl) (cat1 rfl) (fun X hXl F HT => ?_)
  subst hXl
  refine V_aload_n (i := 1) F dX0_errorPosition_0 rfl rfl ?_
  refine V_iconst (v := nI 0) F dX0_errorPosition_1 rfl ?_
  refine V_aload_n (i := 0) F dX0_errorPosition_2 rfl rfl ?_
  refine V_xcV (st := [.int (nI 0), .ref ao]) (nn := 0) F dX0_errorPosition_3 lk_X0_156 hc hx rfl rfl (Nat.le_of_ble_eq_true rfl) (Nat.le_refl _) (Nat.le_of_ble_eq_true rfl) (Nat.le_of_eq (Nat.zero_add _)) (Nat.le_of_eq (Nat.zero_add _)) ?_ ?_
  · rintro _ h3 ⟨y, rfl, hS⟩
    obtain ⟨f, hf⟩ := hao y h3 hS
    refine V_i2l F dX0_errorPosition_6 ?_
    refine V_lastN F 1 dX0_errorPosition_7 rfl hf (by decide) (by decide) ?_
    refine V_goto (tgt := 14) F dX0_errorPosition_8 (by decide) ?_
    refine V_iconst (v := nI 0) F dX0_errorPosition_14 rfl ?_
    exact VV.rx (V_iret F dX0_errorPosition_15 rfl (Nat.le_of_eq (Nat.zero_add _)) (Nat.le_of_eq (Nat.zero_add _)) (Or.inl ⟨_, h3, f, hS, hf, rfl, rfl⟩))
  · intro E q h3 hp
    rcases hp with ⟨rfl, hno⟩
    · refine V_xcatch F (name := "java/util/NoSuchElementException") [] ⟨0, 8, 11, 37⟩ [] (by rw [HT]; rfl) (fun z hz => by cases hz) (by decide) (by decide) q2762 q881 ?_
      refine V_astore_n (i := 2) F dX0_errorPosition_11 rfl (Nat.le_of_ble_eq_true rfl) (Nat.le_of_ble_eq_true rfl) ?_
      refine V_iconst (v := nI 1) F dX0_errorPosition_12 rfl ?_
      exact VV.rx (V_iret F dX0_errorPosition_13 rfl (Nat.le_of_eq (Nat.zero_add _)) (Nat.le_of_eq (Nat.zero_add _)) (Or.inr ⟨1, by decide, by decide, rfl, hno⟩))
theorem x0_failedCommand {G : GG} {l : Launch} {h : AH} {xo ao : Nat}  {Sok : Int32 → AH → Prop} {Sno : Nat → AH → Prop} {d mc ms : Nat} (hc : CtX G l yX1_failedCommand cX1_failedCommand 1 (some .int) d mc ms [.ref xo] h (fun r0 h2 => ∃ y : Int32, r0 = some (.int y) ∧ Sok y h2) (fun E q h2 => (E = eEL ∧ Sno 1 h2))) (hx : isC G h xo "SleeperRailway") (hao : ∀ y h3, Sok y h3 → ∃ f, h3 ao = some (lA G 1 f)) : CtH G l yX0_failedCommand cX0_failedCommand 3 (some .int) [((0 : Nat), (8 : Nat), (11 : Nat), (37 : Nat))] (d + 1) mc ms [.ref xo, .ref ao] h (fun r h2 => (∃ y h3 f, Sok y h3 ∧ h3 ao = some (lA G 1 f) ∧ r = some (.int (nI 0)) ∧ h2 = hset h3 ao (lA G 1 (vp_updL f 0 (y.toInt64)))) ∨ (∃ k, 0 < k ∧ k < 5 ∧ r = some (.int (nI k)) ∧ Sno k h2)) (fun _ _ _ => False) := by
  refine CtH.of (by decide) (Nat.le_of_ble_eq_true rfl) (cat1 rfl) (fun X hXl F HT => ?_)
  subst hXl
  refine V_aload_n (i := 1) F dX0_failedCommand_0 rfl rfl ?_
  refine V_iconst (v := nI 0) F dX0_failedCommand_1 rfl ?_
  refine V_aload_n (i := 0) F dX0_failedCommand_2 rfl rfl ?_
  refine V_xcV (st := [.int (nI 0), .ref ao]) (nn := 0) F dX0_failedCommand_3 lk_X0_159 hc hx rfl rfl (Nat.le_of_ble_eq_true rfl) (Nat.le_refl _) (Nat.le_of_ble_eq_true rfl) (Nat.le_of_eq (Nat.zero_add _)) (Nat.le_of_eq (Nat.zero_add _)) ?_ ?_
  · rintro _ h3 ⟨y, rfl, hS⟩
    obtain ⟨f, hf⟩ := hao y h3 hS
    refine V_i2l F dX0_failedCommand_6 ?_
    refine V_lastN F 1 dX0_failedCommand_7 rfl hf (by decide) (by decide) ?_
    refine V_goto (tgt := 14) F dX0_failedCommand_8 (by decide) ?_
    refine V_iconst (v := nI 0) F dX0_failedCommand_14 rfl ?_
    exact VV.rx (V_iret F dX0_failedCommand_15 rfl (Nat.le_of_eq (Nat.zero_add _)) (Nat.le_of_eq (Nat.zero_add _)) (Or.inl ⟨_, h3, f, hS, hf, rfl, rfl⟩))
  · intro E q h3 hp
    rcases hp with ⟨rfl, hno⟩
    · refine V_xcatch F (name := "java/util/NoSuchElementException") [] ⟨0, 8, 11, 37⟩ [] (by rw [HT]; rfl) (fun z hz => by cases hz) (by decide) (by decide) q2762 q881 ?_
      refine V_astore_n (i := 2) F dX0_failedCommand_11 rfl (Nat.le_of_ble_eq_true rfl) (Nat.le_of_ble_eq_true rfl) ?_
      refine V_iconst (v := nI 1) F dX0_failedCommand_12 rfl ?_
      exact VV.rx (V_iret F dX0_failedCommand_13 rfl (Nat.le_of_eq (Nat.zero_add _)) (Nat.le_of_eq (Nat.zero_add _)) (Or.inr ⟨1, by decide, by decide, rfl, hno⟩))
theorem x0_undo {G : GG} {l : Launch} {h : AH} {xo ao : Nat}  {Sok : Int32 → AH → Prop} {Sno : Nat → AH → Prop} {d mc ms : Nat} (hc : CtX G l yX1_undo cX1_undo 1 (some .int) d mc ms [.ref xo] h (fun r0 h2 => ∃ y : Int32, r0 = some (.int y) ∧ Sok y h2) (fun E q h2 => (E = eEL ∧ Sno 1 h2))) (hx : isC G h xo "SleeperRailway") (hao : ∀ y h3, Sok y h3 → ∃ f, h3 ao = some (lA G 1 f)) : CtH G l yX0_undo cX0_undo 3 (some .int) [((0 : Nat), (8 : Nat), (11 : Nat), (37 : Nat))] (d + 1) mc ms [.ref xo, .ref ao] h (fun r h2 => (∃ y h3 f, Sok y h3 ∧ h3 ao = some (lA G 1 f) ∧ r = some (.int (nI 0)) ∧ h2 = hset h3 ao (lA G 1 (vp_updL f 0 (y.toInt64)))) ∨ (∃ k, 0 < k ∧ k < 5 ∧ r = some (.int (nI k)) ∧ Sno k h2)) (fun _ _ _ => False) := by
  refine CtH.of (by decide) (Nat.le_of_ble_eq_true rfl) (cat1 rfl) (fun X hXl F HT => ?_)
  subst hXl
  refine V_aload_n (i := 1) F dX0_undo_0 rfl rfl ?_
  refine V_iconst (v := nI 0) F dX0_undo_1 rfl ?_
  refine V_aload_n (i := 0) F dX0_undo_2 rfl rfl ?_
  refine V_xcV (st := [.int (nI 0), .ref ao]) (nn := 0) F dX0_undo_3 lk_X0_162 hc hx rfl rfl (Nat.le_of_ble_eq_true rfl) (Nat.le_refl _) (Nat.le_of_ble_eq_true rfl) (Nat.le_of_eq (Nat.zero_add _)) (Nat.le_of_eq (Nat.zero_add _)) ?_ ?_
  · rintro _ h3 ⟨y, rfl, hS⟩
    obtain ⟨f, hf⟩ := hao y h3 hS
    refine V_i2l F dX0_undo_6 ?_
    refine V_lastN F 1 dX0_undo_7 rfl hf (by decide) (by decide) ?_
    refine V_goto (tgt := 14) F dX0_undo_8 (by decide) ?_
    refine V_iconst (v := nI 0) F dX0_undo_14 rfl ?_
    exact VV.rx (V_iret F dX0_undo_15 rfl (Nat.le_of_eq (Nat.zero_add _)) (Nat.le_of_eq (Nat.zero_add _)) (Or.inl ⟨_, h3, f, hS, hf, rfl, rfl⟩))
  · intro E q h3 hp
    rcases hp with ⟨rfl, hno⟩
    · refine V_xcatch F (name := "java/util/NoSuchElementException") [] ⟨0, 8, 11, 37⟩ [] (by rw [HT]; rfl) (fun z hz => by cases hz) (by decide) (by decide) q2762 q881 ?_
      refine V_astore_n (i := 2) F dX0_undo_11 rfl (Nat.le_of_ble_eq_true rfl) (Nat.le_of_ble_eq_true rfl) ?_
      refine V_iconst (v := nI 1) F dX0_undo_12 rfl ?_
      exact VV.rx (V_iret F dX0_undo_13 rfl (Nat.le_of_eq (Nat.zero_add _)) (Nat.le_of_eq (Nat.zero_add _)) (Or.inr ⟨1, by decide, by decide, rfl, hno⟩))
theorem x0_restore {G : GG} {l : Launch} {h : AH} {xo ao : Nat}  {Sok : Int32 → AH → Prop} {Sno : Nat → AH → Prop} {d mc ms : Nat} (hc : CtX G l yX1_restore cX1_restore 1 (some .int) d mc ms [.ref xo] h (fun r0 h2 => ∃ y : Int32, r0 = some (.int y) ∧ Sok y h2) (fun E q h2 => (E = eST ∧ Sno 1 h2))) (hx : isC G h xo "SleeperRailway") (hao : ∀ y h3, Sok y h3 → ∃ f, h3 ao = some (lA G 1 f)) : CtH G l yX0_restore cX0_restore 3 (some .int) [((0 : Nat), (8 : Nat), (11 : Nat), (15 : Nat))] (d + 1) mc ms [.ref xo, .ref ao] h (fun r h2 => (∃ y h3 f, Sok y h3 ∧ h3 ao = some (lA G 1 f) ∧ r = some (.int (nI 0)) ∧ h2 = hset h3 ao (lA G 1 (vp_updL f 0 (y.toInt64)))) ∨ (∃ k, 0 < k ∧ k < 5 ∧ r = some (.int (nI k)) ∧ Sno k h2)) (fun _ _ _ => False) := by
  refine CtH.of (by decide) (Nat.le_of_ble_eq_true rfl) (cat1 rfl) (fun X hXl F HT => ?_)
  subst hXl
  refine V_aload_n (i := 1) F dX0_restore_0 rfl rfl ?_
  refine V_iconst (v := nI 0) F dX0_restore_1 rfl ?_
  refine V_aload_n (i := 0) F dX0_restore_2 rfl rfl ?_
  refine V_xcV (st := [.int (nI 0), .ref ao]) (nn := 0) F dX0_restore_3 lk_X0_165 hc hx rfl rfl (Nat.le_of_ble_eq_true rfl) (Nat.le_refl _) (Nat.le_of_ble_eq_true rfl) (Nat.le_of_eq (Nat.zero_add _)) (Nat.le_of_eq (Nat.zero_add _)) ?_ ?_
  · rintro _ h3 ⟨y, rfl, hS⟩
    obtain ⟨f, hf⟩ := hao y h3 hS
    refine V_i2l F dX0_restore_6 ?_
    refine V_lastN F 1 dX0_restore_7 rfl hf (by decide) (by decide) ?_
    refine V_goto (tgt := 14) F dX0_restore_8 (by decide) ?_
    refine V_iconst (v := nI 0) F dX0_restore_14 rfl ?_
    exact VV.rx (V_iret F dX0_restore_15 rfl (Nat.le_of_eq (Nat.zero_add _)) (Nat.le_of_eq (Nat.zero_add _)) (Or.inl ⟨_, h3, f, hS, hf, rfl, rfl⟩))
  · intro E q h3 hp
    rcases hp with ⟨rfl, hno⟩
    · refine V_xcatch F (name := "java/lang/IllegalStateException") [] ⟨0, 8, 11, 15⟩ [] (by rw [HT]; rfl) (fun z hz => by cases hz) (by decide) (by decide) q2258 q2658 ?_
      refine V_astore_n (i := 2) F dX0_restore_11 rfl (Nat.le_of_ble_eq_true rfl) (Nat.le_of_ble_eq_true rfl) ?_
      refine V_iconst (v := nI 1) F dX0_restore_12 rfl ?_
      exact VV.rx (V_iret F dX0_restore_13 rfl (Nat.le_of_eq (Nat.zero_add _)) (Nat.le_of_eq (Nat.zero_add _)) (Or.inr ⟨1, by decide, by decide, rfl, hno⟩))
