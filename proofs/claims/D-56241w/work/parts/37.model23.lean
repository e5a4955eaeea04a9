set_option maxRecDepth 100000
theorem ct_does0 {G : GG} {l : Launch} {h : AH} {m : Nat} {fs : List Value} {aL p : Nat} {τ : Nat → Nat} {Post : Option Value → AH → Prop} (hm : h m = some (.inr (0, fs))) (h_told : fs[23]? = some (.ref aL)) (hto : h aL = some (iA G 155 (fun i => nI (τ i)))) (hp4 : p + 4 < 155) (hk : τ p = 0) (hpi : ∀ v h2, Post v h2 → ∃ y : Int32, v = some (.int y)) (hc : Ct G l yX4_addStation cX4_addStation 2 (some .int) 2 0 0 [.ref m, .int (nI (τ (p + 1)))] h Post) : Ct G l yX4_does cX4_does 5 (some .int) 3 0 0 [.ref m, .int (nI p)] h (Post) := by
  refine Ct.of (by decide) (Nat.le_of_ble_eq_true rfl) (cat1 rfl) (fun X hXl F HN => ?_)
  subst hXl
  refine V_aload_n (i := 0) F dX4_does_0 rfl rfl ?_
  refine V_getf F dX4_does_1 fc_X4_51_X4 (.inl hm) h_told ?_
  refine V_iload_n (i := 1) F dX4_does_4 rfl rfl ?_
  refine V_iconst (v := nI 1) F dX4_does_5 rfl ?_
  refine V_iaddN F dX4_does_6 ?_
  refine V_ialdG F dX4_does_7 (.inl hto) (by omega) (by decide) rfl ?_
  refine V_istore_n (i := 2) F dX4_does_8 rfl (Nat.le_of_ble_eq_true rfl) (Nat.le_of_ble_eq_true rfl) ?_
  refine V_aload_n (i := 0) F dX4_does_9 rfl rfl ?_
  refine V_getf F dX4_does_10 fc_X4_51_X4 (.inl hm) h_told ?_
  refine V_iload_n (i := 1) F dX4_does_13 rfl rfl ?_
  refine V_iconst (v := nI 2) F dX4_does_14 rfl ?_
  refine V_iaddN F dX4_does_15 ?_
  refine V_ialdG F dX4_does_16 (.inl hto) (by omega) (by decide) rfl ?_
  refine V_istore_n (i := 3) F dX4_does_17 rfl (Nat.le_of_ble_eq_true rfl) (Nat.le_of_ble_eq_true rfl) ?_
  refine V_aload_n (i := 0) F dX4_does_18 rfl rfl ?_
  refine V_getf F dX4_does_19 fc_X4_51_X4 (.inl hm) h_told ?_
  refine V_iload_n (i := 1) F dX4_does_22 rfl rfl ?_
  refine V_iconst (v := nI 3) F dX4_does_23 rfl ?_
  refine V_iaddN F dX4_does_24 ?_
  refine V_ialdG F dX4_does_25 (.inl hto) (by omega) (by decide) rfl ?_
  refine V_istore (i := 4) F dX4_does_26 (Nat.le_of_ble_eq_true rfl) (Nat.le_of_ble_eq_true rfl) ?_
  refine V_aload_n (i := 0) F dX4_does_28 rfl rfl ?_
  refine V_getf F dX4_does_29 fc_X4_51_X4 (.inl hm) h_told ?_
  refine V_iload_n (i := 1) F dX4_does_32 rfl rfl ?_
  refine V_ialdG F dX4_does_33 (.inl hto) (by omega) (by decide) rfl ?_
  refine VV.stk (st' := [.int (nI 0)]) (by rw [hk]) ?_
  refine V_tableIn (off := 50) (tgt := 84) F dX4_does_34 (by decide) (by decide) rfl (by decide) ?_
  refine V_aload_n (i := 0) F dX4_does_84 rfl rfl ?_
  refine V_iload_n (i := 2) F dX4_does_85 rfl rfl ?_
  refine V_cV1 F dX4_does_86 lk_X4_262 (hc) ⟨0, _, _, _, rfl, (.inl hm)⟩ (Nat.le_of_ble_eq_true rfl) (Nat.le_of_ble_eq_true rfl) (Nat.le_of_ble_eq_true rfl) (Nat.le_of_ble_eq_true rfl) (Nat.le_of_ble_eq_true rfl) ?_
  intro v h2 hp
  obtain ⟨x, rfl⟩ := hpi v h2 hp
  exact V_iret F dX4_does_89 rfl (Nat.le_of_ble_eq_true rfl) (Nat.le_of_ble_eq_true rfl) hp
theorem ct_does1 {G : GG} {l : Launch} {h : AH} {m : Nat} {fs : List Value} {aL p : Nat} {τ : Nat → Nat} {Post : Option Value → AH → Prop} (hm : h m = some (.inr (0, fs))) (h_told : fs[23]? = some (.ref aL)) (hto : h aL = some (iA G 155 (fun i => nI (τ i)))) (hp4 : p + 4 < 155) (hk : τ p = 1) (hpi : ∀ v h2, Post v h2 → ∃ y : Int32, v = some (.int y)) (hc : Ct G l yX4_addTrain cX4_addTrain 5 (some .int) 2 0 0 [.ref m, .int (nI (τ (p + 1))), .int (nI (τ (p + 2))), .int (nI (τ (p + 3)))] h Post) : Ct G l yX4_does cX4_does 5 (some .int) 3 0 0 [.ref m, .int (nI p)] h (Post) := by
  refine Ct.of (by decide) (Nat.le_of_ble_eq_true rfl) (cat1 rfl) (fun X hXl F HN => ?_)
  subst hXl
  refine V_aload_n (i := 0) F dX4_does_0 rfl rfl ?_
  refine V_getf F dX4_does_1 fc_X4_51_X4 (.inl hm) h_told ?_
  refine V_iload_n (i := 1) F dX4_does_4 rfl rfl ?_
  refine V_iconst (v := nI 1) F dX4_does_5 rfl ?_
  refine V_iaddN F dX4_does_6 ?_
  refine V_ialdG F dX4_does_7 (.inl hto) (by omega) (by decide) rfl ?_
  refine V_istore_n (i := 2) F dX4_does_8 rfl (Nat.le_of_ble_eq_true rfl) (Nat.le_of_ble_eq_true rfl) ?_
  refine V_aload_n (i := 0) F dX4_does_9 rfl rfl ?_
  refine V_getf F dX4_does_10 fc_X4_51_X4 (.inl hm) h_told ?_
  refine V_iload_n (i := 1) F dX4_does_13 rfl rfl ?_
  refine V_iconst (v := nI 2) F dX4_does_14 rfl ?_
  refine V_iaddN F dX4_does_15 ?_
  refine V_ialdG F dX4_does_16 (.inl hto) (by omega) (by decide) rfl ?_
  refine V_istore_n (i := 3) F dX4_does_17 rfl (Nat.le_of_ble_eq_true rfl) (Nat.le_of_ble_eq_true rfl) ?_
  refine V_aload_n (i := 0) F dX4_does_18 rfl rfl ?_
  refine V_getf F dX4_does_19 fc_X4_51_X4 (.inl hm) h_told ?_
  refine V_iload_n (i := 1) F dX4_does_22 rfl rfl ?_
  refine V_iconst (v := nI 3) F dX4_does_23 rfl ?_
  refine V_iaddN F dX4_does_24 ?_
  refine V_ialdG F dX4_does_25 (.inl hto) (by omega) (by decide) rfl ?_
  refine V_istore (i := 4) F dX4_does_26 (Nat.le_of_ble_eq_true rfl) (Nat.le_of_ble_eq_true rfl) ?_
  refine V_aload_n (i := 0) F dX4_does_28 rfl rfl ?_
  refine V_getf F dX4_does_29 fc_X4_51_X4 (.inl hm) h_told ?_
  refine V_iload_n (i := 1) F dX4_does_32 rfl rfl ?_
  refine V_ialdG F dX4_does_33 (.inl hto) (by omega) (by decide) rfl ?_
  refine VV.stk (st' := [.int (nI 1)]) (by rw [hk]) ?_
  refine V_tableIn (off := 56) (tgt := 90) F dX4_does_34 (by decide) (by decide) rfl (by decide) ?_
  refine V_aload_n (i := 0) F dX4_does_90 rfl rfl ?_
  refine V_iload_n (i := 2) F dX4_does_91 rfl rfl ?_
  refine V_iload_n (i := 3) F dX4_does_92 rfl rfl ?_
  refine V_iload (i := 4) F dX4_does_93 rfl ?_
  refine V_cV3 F dX4_does_95 lk_X4_265 (hc) ⟨0, _, _, _, rfl, (.inl hm)⟩ (Nat.le_of_ble_eq_true rfl) (Nat.le_of_ble_eq_true rfl) (Nat.le_of_ble_eq_true rfl) (Nat.le_of_ble_eq_true rfl) (Nat.le_of_ble_eq_true rfl) ?_
  intro v h2 hp
  obtain ⟨x, rfl⟩ := hpi v h2 hp
  exact V_iret F dX4_does_98 rfl (Nat.le_of_ble_eq_true rfl) (Nat.le_of_ble_eq_true rfl) hp
theorem ct_does2 {G : GG} {l : Launch} {h : AH} {m : Nat} {fs : List Value} {aL p : Nat} {τ : Nat → Nat} {Post : Option Value → AH → Prop} (hm : h m = some (.inr (0, fs))) (h_told : fs[23]? = some (.ref aL)) (hto : h aL = some (iA G 155 (fun i => nI (τ i)))) (hp4 : p + 4 < 155) (hk : τ p = 2) (hpi : ∀ v h2, Post v h2 → ∃ y : Int32, v = some (.int y)) (hc : Ct G l yX4_extendTrain cX4_extendTrain 7 (some .int) 2 0 0 [.ref m, .int (nI (τ (p + 1))), .int (nI (τ (p + 2))), .int (nI (τ (p + 3))), .int (nI (τ (p + 4)))] h Post) : Ct G l yX4_does cX4_does 5 (some .int) 3 0 0 [.ref m, .int (nI p)] h (Post) := by
  refine Ct.of (by decide) (Nat.le_of_ble_eq_true rfl) (cat1 rfl) (fun X hXl F HN => ?_)
  subst hXl
  refine V_aload_n (i := 0) F dX4_does_0 rfl rfl ?_
  refine V_getf F dX4_does_1 fc_X4_51_X4 (.inl hm) h_told ?_
  refine V_iload_n (i := 1) F dX4_does_4 rfl rfl ?_
  refine V_iconst (v := nI 1) F dX4_does_5 rfl ?_
  refine V_iaddN F dX4_does_6 ?_
  refine V_ialdG F dX4_does_7 (.inl hto) (by omega) (by decide) rfl ?_
  refine V_istore_n (i := 2) F dX4_does_8 rfl (Nat.le_of_ble_eq_true rfl) (Nat.le_of_ble_eq_true rfl) ?_
  refine V_aload_n (i := 0) F dX4_does_9 rfl rfl ?_
  refine V_getf F dX4_does_10 fc_X4_51_X4 (.inl hm) h_told ?_
  refine V_iload_n (i := 1) F dX4_does_13 rfl rfl ?_
  refine V_iconst (v := nI 2) F dX4_does_14 rfl ?_
  refine V_iaddN F dX4_does_15 ?_
  refine V_ialdG F dX4_does_16 (.inl hto) (by omega) (by decide) rfl ?_
  refine V_istore_n (i := 3) F dX4_does_17 rfl (Nat.le_of_ble_eq_true rfl) (Nat.le_of_ble_eq_true rfl) ?_
  refine V_aload_n (i := 0) F dX4_does_18 rfl rfl ?_
  refine V_getf F dX4_does_19 fc_X4_51_X4 (.inl hm) h_told ?_
  refine V_iload_n (i := 1) F dX4_does_22 rfl rfl ?_
  refine V_iconst (v := nI 3) F dX4_does_23 rfl ?_
  refine V_iaddN F dX4_does_24 ?_
  refine V_ialdG F dX4_does_25 (.inl hto) (by omega) (by decide) rfl ?_
  refine V_istore (i := 4) F dX4_does_26 (Nat.le_of_ble_eq_true rfl) (Nat.le_of_ble_eq_true rfl) ?_
  refine V_aload_n (i := 0) F dX4_does_28 rfl rfl ?_
  refine V_getf F dX4_does_29 fc_X4_51_X4 (.inl hm) h_told ?_
  refine V_iload_n (i := 1) F dX4_does_32 rfl rfl ?_
  refine V_ialdG F dX4_does_33 (.inl hto) (by omega) (by decide) rfl ?_
  refine VV.stk (st' := [.int (nI 2)]) (by rw [hk]) ?_
  refine V_tableIn (off := 65) (tgt := 99) F dX4_does_34 (by decide) (by decide) rfl (by decide) ?_
  refine V_aload_n (i := 0) F dX4_does_99 rfl rfl ?_
  refine V_iload_n (i := 2) F dX4_does_100 rfl rfl ?_
  refine V_iload_n (i := 3) F dX4_does_101 rfl rfl ?_
  refine V_iload (i := 4) F dX4_does_102 rfl ?_
  refine V_aload_n (i := 0) F dX4_does_104 rfl rfl ?_
  refine V_getf F dX4_does_105 fc_X4_51_X4 (.inl hm) h_told ?_
  refine V_iload_n (i := 1) F dX4_does_108 rfl rfl ?_
  refine V_iconst (v := nI 4) F dX4_does_109 rfl ?_
  refine V_iaddN F dX4_does_110 ?_
  refine V_ialdG F dX4_does_111 (.inl hto) (by omega) (by decide) rfl ?_
  refine V_cV4 F dX4_does_112 lk_X4_268 (hc) ⟨0, _, _, _, rfl, (.inl hm)⟩ (Nat.le_of_ble_eq_true rfl) (Nat.le_of_ble_eq_true rfl) (Nat.le_of_ble_eq_true rfl) (Nat.le_of_ble_eq_true rfl) (Nat.le_of_ble_eq_true rfl) ?_
  intro v h2 hp
  obtain ⟨x, rfl⟩ := hpi v h2 hp
  exact V_iret F dX4_does_115 rfl (Nat.le_of_ble_eq_true rfl) (Nat.le_of_ble_eq_true rfl) hp
theorem ct_does3 {G : GG} {l : Launch} {h : AH} {m : Nat} {fs : List Value} {aL p : Nat} {τ : Nat → Nat} {Post : Option Value → AH → Prop} (hm : h m = some (.inr (0, fs))) (h_told : fs[23]? = some (.ref aL)) (hto : h aL = some (iA G 155 (fun i => nI (τ i)))) (hp4 : p + 4 < 155) (hk : τ p = 3) (hpi : ∀ v h2, Post v h2 → ∃ y : Int32, v = some (.int y)) (hc : Ct G l yX4_delayTrain cX4_delayTrain 4 (some .int) 2 0 0 [.ref m, .int (nI (τ (p + 1))), .int (nI (τ (p + 2)))] h Post) : Ct G l yX4_does cX4_does 5 (some .int) 3 0 0 [.ref m, .int (nI p)] h (Post) := by
  refine Ct.of (by decide) (Nat.le_of_ble_eq_true rfl) (cat1 rfl) (fun X hXl F HN => ?_)
  subst hXl
  refine V_aload_n (i := 0) F dX4_does_0 rfl rfl ?_
  refine V_getf F dX4_does_1 fc_X4_51_X4 (.inl hm) h_told ?_
  refine V_iload_n (i := 1) F dX4_does_4 rfl rfl ?_
  refine V_iconst (v := nI 1) F dX4_does_5 rfl ?_
  refine V_iaddN F dX4_does_6 ?_
  refine V_ialdG F dX4_does_7 (.inl hto) (by omega) (by decide) rfl ?_
  refine V_istore_n (i := 2) F dX4_does_8 rfl (Nat.le_of_ble_eq_true rfl) (Nat.le_of_ble_eq_true rfl) ?_
  refine V_aload_n (i := 0) F dX4_does_9 rfl rfl ?_
  refine V_getf F dX4_does_10 fc_X4_51_X4 (.inl hm) h_told ?_
  refine V_iload_n (i := 1) F dX4_does_13 rfl rfl ?_
  refine V_iconst (v := nI 2) F dX4_does_14 rfl ?_
  refine V_iaddN F dX4_does_15 ?_
  refine V_ialdG F dX4_does_16 (.inl hto) (by omega) (by decide) rfl ?_
  refine V_istore_n (i := 3) F dX4_does_17 rfl (Nat.le_of_ble_eq_true rfl) (Nat.le_of_ble_eq_true rfl) ?_
  refine V_aload_n (i := 0) F dX4_does_18 rfl rfl ?_
  refine V_getf F dX4_does_19 fc_X4_51_X4 (.inl hm) h_told ?_
  refine V_iload_n (i := 1) F dX4_does_22 rfl rfl ?_
  refine V_iconst (v := nI 3) F dX4_does_23 rfl ?_
  refine V_iaddN F dX4_does_24 ?_
  refine V_ialdG F dX4_does_25 (.inl hto) (by omega) (by decide) rfl ?_
  refine V_istore (i := 4) F dX4_does_26 (Nat.le_of_ble_eq_true rfl) (Nat.le_of_ble_eq_true rfl) ?_
  refine V_aload_n (i := 0) F dX4_does_28 rfl rfl ?_
  refine V_getf F dX4_does_29 fc_X4_51_X4 (.inl hm) h_told ?_
  refine V_iload_n (i := 1) F dX4_does_32 rfl rfl ?_
  refine V_ialdG F dX4_does_33 (.inl hto) (by omega) (by decide) rfl ?_
  refine VV.stk (st' := [.int (nI 3)]) (by rw [hk]) ?_
  refine V_tableIn (off := 82) (tgt := 116) F dX4_does_34 (by decide) (by decide) rfl (by decide) ?_
  refine V_aload_n (i := 0) F dX4_does_116 rfl rfl ?_
  refine V_iload_n (i := 2) F dX4_does_117 rfl rfl ?_
  refine V_iload_n (i := 3) F dX4_does_118 rfl rfl ?_
  refine V_cV2 F dX4_does_119 lk_X4_272 (hc) ⟨0, _, _, _, rfl, (.inl hm)⟩ (Nat.le_of_ble_eq_true rfl) (Nat.le_of_ble_eq_true rfl) (Nat.le_of_ble_eq_true rfl) (Nat.le_of_ble_eq_true rfl) (Nat.le_of_ble_eq_true rfl) ?_
  intro v h2 hp
  obtain ⟨x, rfl⟩ := hpi v h2 hp
  exact V_iret F dX4_does_122 rfl (Nat.le_of_ble_eq_true rfl) (Nat.le_of_ble_eq_true rfl) hp
theorem ct_does4 {G : GG} {l : Launch} {h : AH} {m : Nat} {fs : List Value} {aL p : Nat} {τ : Nat → Nat} {Post : Option Value → AH → Prop} (hm : h m = some (.inr (0, fs))) (h_told : fs[23]? = some (.ref aL)) (hto : h aL = some (iA G 155 (fun i => nI (τ i)))) (hp4 : p + 4 < 155) (hk : τ p = 4) (hpi : ∀ v h2, Post v h2 → ∃ y : Int32, v = some (.int y)) (hc : Ct G l yX4_addSuitcase cX4_addSuitcase 5 (some .int) 2 0 0 [.ref m, .int (nI (τ (p + 1))), .int (nI (τ (p + 2))), .int (nI (τ (p + 3)))] h Post) : Ct G l yX4_does cX4_does 5 (some .int) 3 0 0 [.ref m, .int (nI p)] h (Post) := by
  refine Ct.of (by decide) (Nat.le_of_ble_eq_true rfl) (cat1 rfl) (fun X hXl F HN => ?_)
  subst hXl
  refine V_aload_n (i := 0) F dX4_does_0 rfl rfl ?_
  refine V_getf F dX4_does_1 fc_X4_51_X4 (.inl hm) h_told ?_
  refine V_iload_n (i := 1) F dX4_does_4 rfl rfl ?_
  refine V_iconst (v := nI 1) F dX4_does_5 rfl ?_
  refine V_iaddN F dX4_does_6 ?_
  refine V_ialdG F dX4_does_7 (.inl hto) (by omega) (by decide) rfl ?_
  refine V_istore_n (i := 2) F dX4_does_8 rfl (Nat.le_of_ble_eq_true rfl) (Nat.le_of_ble_eq_true rfl) ?_
  refine V_aload_n (i := 0) F dX4_does_9 rfl rfl ?_
  refine V_getf F dX4_does_10 fc_X4_51_X4 (.inl hm) h_told ?_
  refine V_iload_n (i := 1) F dX4_does_13 rfl rfl ?_
  refine V_iconst (v := nI 2) F dX4_does_14 rfl ?_
  refine V_iaddN F dX4_does_15 ?_
  refine V_ialdG F dX4_does_16 (.inl hto) (by omega) (by decide) rfl ?_
  refine V_istore_n (i := 3) F dX4_does_17 rfl (Nat.le_of_ble_eq_true rfl) (Nat.le_of_ble_eq_true rfl) ?_
  refine V_aload_n (i := 0) F dX4_does_18 rfl rfl ?_
  refine V_getf F dX4_does_19 fc_X4_51_X4 (.inl hm) h_told ?_
  refine V_iload_n (i := 1) F dX4_does_22 rfl rfl ?_
  refine V_iconst (v := nI 3) F dX4_does_23 rfl ?_
  refine V_iaddN F dX4_does_24 ?_
  refine V_ialdG F dX4_does_25 (.inl hto) (by omega) (by decide) rfl ?_
  refine V_istore (i := 4) F dX4_does_26 (Nat.le_of_ble_eq_true rfl) (Nat.le_of_ble_eq_true rfl) ?_
  refine V_aload_n (i := 0) F dX4_does_28 rfl rfl ?_
  refine V_getf F dX4_does_29 fc_X4_51_X4 (.inl hm) h_told ?_
  refine V_iload_n (i := 1) F dX4_does_32 rfl rfl ?_
  refine V_ialdG F dX4_does_33 (.inl hto) (by omega) (by decide) rfl ?_
  refine VV.stk (st' := [.int (nI 4)]) (by rw [hk]) ?_
  refine V_tableIn (off := 89) (tgt := 123) F dX4_does_34 (by decide) (by decide) rfl (by decide) ?_
  refine V_aload_n (i := 0) F dX4_does_123 rfl rfl ?_
  refine V_iload_n (i := 2) F dX4_does_124 rfl rfl ?_
  refine V_iload_n (i := 3) F dX4_does_125 rfl rfl ?_
  refine V_iload (i := 4) F dX4_does_126 rfl ?_
  refine V_cV3 F dX4_does_128 lk_X4_275 (hc) ⟨0, _, _, _, rfl, (.inl hm)⟩ (Nat.le_of_ble_eq_true rfl) (Nat.le_of_ble_eq_true rfl) (Nat.le_of_ble_eq_true rfl) (Nat.le_of_ble_eq_true rfl) (Nat.le_of_ble_eq_true rfl) ?_
  intro v h2 hp
  obtain ⟨x, rfl⟩ := hpi v h2 hp
  exact V_iret F dX4_does_131 rfl (Nat.le_of_ble_eq_true rfl) (Nat.le_of_ble_eq_true rfl) hp
theorem ct_does5 {G : GG} {l : Launch} {h : AH} {m : Nat} {fs : List Value} {aL p : Nat} {τ : Nat → Nat} {Post : Option Value → AH → Prop} (hm : h m = some (.inr (0, fs))) (h_told : fs[23]? = some (.ref aL)) (hto : h aL = some (iA G 155 (fun i => nI (τ i)))) (hp4 : p + 4 < 155) (hk : τ p = 5) (hpi : ∀ v h2, Post v h2 → ∃ y : Int32, v = some (.int y)) (hc : Ct G l yX4_relabel cX4_relabel 5 (some .int) 3 0 0 [.ref m, .int (nI (τ (p + 1))), .int (nI (τ (p + 2)))] h Post) : Ct G l yX4_does cX4_does 5 (some .int) 4 0 0 [.ref m, .int (nI p)] h (Post) := by
  refine Ct.of (by decide) (Nat.le_of_ble_eq_true rfl) (cat1 rfl) (fun X hXl F HN => ?_)
  subst hXl
  refine V_aload_n (i := 0) F dX4_does_0 rfl rfl ?_
  refine V_getf F dX4_does_1 fc_X4_51_X4 (.inl hm) h_told ?_
  refine V_iload_n (i := 1) F dX4_does_4 rfl rfl ?_
  refine V_iconst (v := nI 1) F dX4_does_5 rfl ?_
  refine V_iaddN F dX4_does_6 ?_
  refine V_ialdG F dX4_does_7 (.inl hto) (by omega) (by decide) rfl ?_
  refine V_istore_n (i := 2) F dX4_does_8 rfl (Nat.le_of_ble_eq_true rfl) (Nat.le_of_ble_eq_true rfl) ?_
  refine V_aload_n (i := 0) F dX4_does_9 rfl rfl ?_
  refine V_getf F dX4_does_10 fc_X4_51_X4 (.inl hm) h_told ?_
  refine V_iload_n (i := 1) F dX4_does_13 rfl rfl ?_
  refine V_iconst (v := nI 2) F dX4_does_14 rfl ?_
  refine V_iaddN F dX4_does_15 ?_
  refine V_ialdG F dX4_does_16 (.inl hto) (by omega) (by decide) rfl ?_
  refine V_istore_n (i := 3) F dX4_does_17 rfl (Nat.le_of_ble_eq_true rfl) (Nat.le_of_ble_eq_true rfl) ?_
  refine V_aload_n (i := 0) F dX4_does_18 rfl rfl ?_
  refine V_getf F dX4_does_19 fc_X4_51_X4 (.inl hm) h_told ?_
  refine V_iload_n (i := 1) F dX4_does_22 rfl rfl ?_
  refine V_iconst (v := nI 3) F dX4_does_23 rfl ?_
  refine V_iaddN F dX4_does_24 ?_
  refine V_ialdG F dX4_does_25 (.inl hto) (by omega) (by decide) rfl ?_
  refine V_istore (i := 4) F dX4_does_26 (Nat.le_of_ble_eq_true rfl) (Nat.le_of_ble_eq_true rfl) ?_
  refine V_aload_n (i := 0) F dX4_does_28 rfl rfl ?_
  refine V_getf F dX4_does_29 fc_X4_51_X4 (.inl hm) h_told ?_
  refine V_iload_n (i := 1) F dX4_does_32 rfl rfl ?_
  refine V_ialdG F dX4_does_33 (.inl hto) (by omega) (by decide) rfl ?_
  refine VV.stk (st' := [.int (nI 5)]) (by rw [hk]) ?_
  refine V_tableIn (off := 98) (tgt := 132) F dX4_does_34 (by decide) (by decide) rfl (by decide) ?_
  refine V_aload_n (i := 0) F dX4_does_132 rfl rfl ?_
  refine V_iload_n (i := 2) F dX4_does_133 rfl rfl ?_
  refine V_iload_n (i := 3) F dX4_does_134 rfl rfl ?_
  refine V_cV2 F dX4_does_135 lk_X4_278 (hc) ⟨0, _, _, _, rfl, (.inl hm)⟩ (Nat.le_of_ble_eq_true rfl) (Nat.le_of_ble_eq_true rfl) (Nat.le_of_ble_eq_true rfl) (Nat.le_of_ble_eq_true rfl) (Nat.le_of_ble_eq_true rfl) ?_
  intro v h2 hp
  obtain ⟨x, rfl⟩ := hpi v h2 hp
  exact V_iret F dX4_does_138 rfl (Nat.le_of_ble_eq_true rfl) (Nat.le_of_ble_eq_true rfl) hp
theorem ct_does6_3 {G : GG} {l : Launch} {h : AH} {m : Nat} {fs : List Value} {aL p : Nat} {τ : Nat → Nat} {Post : Option Value → AH → Prop} (hm : h m = some (.inr (0, fs))) (h_told : fs[23]? = some (.ref aL)) (hto : h aL = some (iA G 155 (fun i => nI (τ i)))) (hp4 : p + 4 < 155) (hk : τ p = 6) (hpi : ∀ v h2, Post v h2 → ∃ y : Int32, v = some (.int y)) (hc : Ct G l yX4_send cX4_send 6 (some .int) 3 0 0 [.ref m, .int (nI (τ (p + 1)))] h Post) : Ct G l yX4_does cX4_does 5 (some .int) 4 0 0 [.ref m, .int (nI p)] h (Post) := by
  refine Ct.of (by decide) (Nat.le_of_ble_eq_true rfl) (cat1 rfl) (fun X hXl F HN => ?_)
  subst hXl
  refine V_aload_n (i := 0) F dX4_does_0 rfl rfl ?_
  refine V_getf F dX4_does_1 fc_X4_51_X4 (.inl hm) h_told ?_
  refine V_iload_n (i := 1) F dX4_does_4 rfl rfl ?_
  refine V_iconst (v := nI 1) F dX4_does_5 rfl ?_
  refine V_iaddN F dX4_does_6 ?_
  refine V_ialdG F dX4_does_7 (.inl hto) (by omega) (by decide) rfl ?_
  refine V_istore_n (i := 2) F dX4_does_8 rfl (Nat.le_of_ble_eq_true rfl) (Nat.le_of_ble_eq_true rfl) ?_
  refine V_aload_n (i := 0) F dX4_does_9 rfl rfl ?_
  refine V_getf F dX4_does_10 fc_X4_51_X4 (.inl hm) h_told ?_
  refine V_iload_n (i := 1) F dX4_does_13 rfl rfl ?_
  refine V_iconst (v := nI 2) F dX4_does_14 rfl ?_
  refine V_iaddN F dX4_does_15 ?_
  refine V_ialdG F dX4_does_16 (.inl hto) (by omega) (by decide) rfl ?_
  refine V_istore_n (i := 3) F dX4_does_17 rfl (Nat.le_of_ble_eq_true rfl) (Nat.le_of_ble_eq_true rfl) ?_
  refine V_aload_n (i := 0) F dX4_does_18 rfl rfl ?_
  refine V_getf F dX4_does_19 fc_X4_51_X4 (.inl hm) h_told ?_
  refine V_iload_n (i := 1) F dX4_does_22 rfl rfl ?_
  refine V_iconst (v := nI 3) F dX4_does_23 rfl ?_
  refine V_iaddN F dX4_does_24 ?_
  refine V_ialdG F dX4_does_25 (.inl hto) (by omega) (by decide) rfl ?_
  refine V_istore (i := 4) F dX4_does_26 (Nat.le_of_ble_eq_true rfl) (Nat.le_of_ble_eq_true rfl) ?_
  refine V_aload_n (i := 0) F dX4_does_28 rfl rfl ?_
  refine V_getf F dX4_does_29 fc_X4_51_X4 (.inl hm) h_told ?_
  refine V_iload_n (i := 1) F dX4_does_32 rfl rfl ?_
  refine V_ialdG F dX4_does_33 (.inl hto) (by omega) (by decide) rfl ?_
  refine VV.stk (st' := [.int (nI 6)]) (by rw [hk]) ?_
  refine V_tableIn (off := 105) (tgt := 139) F dX4_does_34 (by decide) (by decide) rfl (by decide) ?_
  refine V_aload_n (i := 0) F dX4_does_139 rfl rfl ?_
  refine V_iload_n (i := 2) F dX4_does_140 rfl rfl ?_
  refine V_cV1 F dX4_does_141 lk_X4_281 (hc) ⟨0, _, _, _, rfl, (.inl hm)⟩ (Nat.le_of_ble_eq_true rfl) (Nat.le_of_ble_eq_true rfl) (Nat.le_of_ble_eq_true rfl) (Nat.le_of_ble_eq_true rfl) (Nat.le_of_ble_eq_true rfl) ?_
  intro v h2 hp
  obtain ⟨x, rfl⟩ := hpi v h2 hp
  exact V_iret F dX4_does_144 rfl (Nat.le_of_ble_eq_true rfl) (Nat.le_of_ble_eq_true rfl) hp
theorem ct_does6_6 {G : GG} {l : Launch} {h : AH} {m : Nat} {fs : List Value} {aL p : Nat} {τ : Nat → Nat} {Post : Option Value → AH → Prop} (hm : h m = some (.inr (0, fs))) (h_told : fs[23]? = some (.ref aL)) (hto : h aL = some (iA G 155 (fun i => nI (τ i)))) (hp4 : p + 4 < 155) (hk : τ p = 6) (hpi : ∀ v h2, Post v h2 → ∃ y : Int32, v = some (.int y)) (hc : Ct G l yX4_send cX4_send 6 (some .int) 6 0 0 [.ref m, .int (nI (τ (p + 1)))] h Post) : Ct G l yX4_does cX4_does 5 (some .int) 7 0 0 [.ref m, .int (nI p)] h (Post) := by
  refine Ct.of (by decide) (Nat.le_of_ble_eq_true rfl) (cat1 rfl) (fun X hXl F HN => ?_)
  subst hXl
  refine V_aload_n (i := 0) F dX4_does_0 rfl rfl ?_
  refine V_getf F dX4_does_1 fc_X4_51_X4 (.inl hm) h_told ?_
  refine V_iload_n (i := 1) F dX4_does_4 rfl rfl ?_
  refine V_iconst (v := nI 1) F dX4_does_5 rfl ?_
  refine V_iaddN F dX4_does_6 ?_
  refine V_ialdG F dX4_does_7 (.inl hto) (by omega) (by decide) rfl ?_
  refine V_istore_n (i := 2) F dX4_does_8 rfl (Nat.le_of_ble_eq_true rfl) (Nat.le_of_ble_eq_true rfl) ?_
  refine V_aload_n (i := 0) F dX4_does_9 rfl rfl ?_
  refine V_getf F dX4_does_10 fc_X4_51_X4 (.inl hm) h_told ?_
  refine V_iload_n (i := 1) F dX4_does_13 rfl rfl ?_
  refine V_iconst (v := nI 2) F dX4_does_14 rfl ?_
  refine V_iaddN F dX4_does_15 ?_
  refine V_ialdG F dX4_does_16 (.inl hto) (by omega) (by decide) rfl ?_
  refine V_istore_n (i := 3) F dX4_does_17 rfl (Nat.le_of_ble_eq_true rfl) (Nat.le_of_ble_eq_true rfl) ?_
  refine V_aload_n (i := 0) F dX4_does_18 rfl rfl ?_
  refine V_getf F dX4_does_19 fc_X4_51_X4 (.inl hm) h_told ?_
  refine V_iload_n (i := 1) F dX4_does_22 rfl rfl ?_
  refine V_iconst (v := nI 3) F dX4_does_23 rfl ?_
  refine V_iaddN F dX4_does_24 ?_
  refine V_ialdG F dX4_does_25 (.inl hto) (by omega) (by decide) rfl ?_
  refine V_istore (i := 4) F dX4_does_26 (Nat.le_of_ble_eq_true rfl) (Nat.le_of_ble_eq_true rfl) ?_
  refine V_aload_n (i := 0) F dX4_does_28 rfl rfl ?_
  refine V_getf F dX4_does_29 fc_X4_51_X4 (.inl hm) h_told ?_
  refine V_iload_n (i := 1) F dX4_does_32 rfl rfl ?_
  refine V_ialdG F dX4_does_33 (.inl hto) (by omega) (by decide) rfl ?_
  refine VV.stk (st' := [.int (nI 6)]) (by rw [hk]) ?_
  refine V_tableIn (off := 105) (tgt := 139) F dX4_does_34 (by decide) (by decide) rfl (by decide) ?_
  refine V_aload_n (i := 0) F dX4_does_139 rfl rfl ?_
  refine V_iload_n (i := 2) F dX4_does_140 rfl rfl ?_
  refine V_cV1 F dX4_does_141 lk_X4_281 (hc) ⟨0, _, _, _, rfl, (.inl hm)⟩ (Nat.le_of_ble_eq_true rfl) (Nat.le_of_ble_eq_true rfl) (Nat.le_of_ble_eq_true rfl) (Nat.le_of_ble_eq_true rfl) (Nat.le_of_ble_eq_true rfl) ?_
  intro v h2 hp
  obtain ⟨x, rfl⟩ := hpi v h2 hp
  exact V_iret F dX4_does_144 rfl (Nat.le_of_ble_eq_true rfl) (Nat.le_of_ble_eq_true rfl) hp
theorem ct_does7 {G : GG} {l : Launch} {h : AH} {m : Nat} {fs : List Value} {aL p : Nat} {τ : Nat → Nat} {Post : Option Value → AH → Prop} (hm : h m = some (.inr (0, fs))) (h_told : fs[23]? = some (.ref aL)) (hto : h aL = some (iA G 155 (fun i => nI (τ i)))) (hp4 : p + 4 < 155) (hk : τ p = 7) (hpi : ∀ v h2, Post v h2 → ∃ y : Int32, v = some (.int y)) (hc : Ct G l yX4_collect cX4_collect 3 (some .int) 3 0 0 [.ref m, .int (nI (τ (p + 1)))] h Post) : Ct G l yX4_does cX4_does 5 (some .int) 4 0 0 [.ref m, .int (nI p)] h (Post) := by
  refine Ct.of (by decide) (Nat.le_of_ble_eq_true rfl) (cat1 rfl) (fun X hXl F HN => ?_)
  subst hXl
  refine V_aload_n (i := 0) F dX4_does_0 rfl rfl ?_
  refine V_getf F dX4_does_1 fc_X4_51_X4 (.inl hm) h_told ?_
  refine V_iload_n (i := 1) F dX4_does_4 rfl rfl ?_
  refine V_iconst (v := nI 1) F dX4_does_5 rfl ?_
  refine V_iaddN F dX4_does_6 ?_
  refine V_ialdG F dX4_does_7 (.inl hto) (by omega) (by decide) rfl ?_
  refine V_istore_n (i := 2) F dX4_does_8 rfl (Nat.le_of_ble_eq_true rfl) (Nat.le_of_ble_eq_true rfl) ?_
  refine V_aload_n (i := 0) F dX4_does_9 rfl rfl ?_
  refine V_getf F dX4_does_10 fc_X4_51_X4 (.inl hm) h_told ?_
  refine V_iload_n (i := 1) F dX4_does_13 rfl rfl ?_
  refine V_iconst (v := nI 2) F dX4_does_14 rfl ?_
  refine V_iaddN F dX4_does_15 ?_
  refine V_ialdG F dX4_does_16 (.inl hto) (by omega) (by decide) rfl ?_
  refine V_istore_n (i := 3) F dX4_does_17 rfl (Nat.le_of_ble_eq_true rfl) (Nat.le_of_ble_eq_true rfl) ?_
  refine V_aload_n (i := 0) F dX4_does_18 rfl rfl ?_
  refine V_getf F dX4_does_19 fc_X4_51_X4 (.inl hm) h_told ?_
  refine V_iload_n (i := 1) F dX4_does_22 rfl rfl ?_
  refine V_iconst (v := nI 3) F dX4_does_23 rfl ?_
  refine V_iaddN F dX4_does_24 ?_
  refine V_ialdG F dX4_does_25 (.inl hto) (by omega) (by decide) rfl ?_
  refine V_istore (i := 4) F dX4_does_26 (Nat.le_of_ble_eq_true rfl) (Nat.le_of_ble_eq_true rfl) ?_
  refine V_aload_n (i := 0) F dX4_does_28 rfl rfl ?_
  refine V_getf F dX4_does_29 fc_X4_51_X4 (.inl hm) h_told ?_
  refine V_iload_n (i := 1) F dX4_does_32 rfl rfl ?_
  refine V_ialdG F dX4_does_33 (.inl hto) (by omega) (by decide) rfl ?_
  refine VV.stk (st' := [.int (nI 7)]) (by rw [hk]) ?_
  refine V_tableIn (off := 111) (tgt := 145) F dX4_does_34 (by decide) (by decide) rfl (by decide) ?_
  refine V_aload_n (i := 0) F dX4_does_145 rfl rfl ?_
  refine V_iload_n (i := 2) F dX4_does_146 rfl rfl ?_
  refine V_cV1 F dX4_does_147 lk_X4_284 (hc) ⟨0, _, _, _, rfl, (.inl hm)⟩ (Nat.le_of_ble_eq_true rfl) (Nat.le_of_ble_eq_true rfl) (Nat.le_of_ble_eq_true rfl) (Nat.le_of_ble_eq_true rfl) (Nat.le_of_ble_eq_true rfl) ?_
  intro v h2 hp
  obtain ⟨x, rfl⟩ := hpi v h2 hp
  exact V_iret F dX4_does_150 rfl (Nat.le_of_ble_eq_true rfl) (Nat.le_of_ble_eq_true rfl) hp
theorem ct_does8 {G : GG} {l : Launch} {h : AH} {m : Nat} {fs : List Value} {aL p : Nat} {τ : Nat → Nat} {Post : Option Value → AH → Prop} (hm : h m = some (.inr (0, fs))) (h_told : fs[23]? = some (.ref aL)) (hto : h aL = some (iA G 155 (fun i => nI (τ i)))) (hp4 : p + 4 < 155) (hk : τ p = 8) (hpi : ∀ v h2, Post v h2 → ∃ y : Int32, v = some (.int y)) (hc : Ct G l yX4_book cX4_book 6 (some .int) 4 0 0 [.ref m, .int (nI (τ (p + 1))), .int (nI (τ (p + 2))), .int (nI (τ (p + 3)))] h Post) : Ct G l yX4_does cX4_does 5 (some .int) 5 0 0 [.ref m, .int (nI p)] h (Post) := by
  refine Ct.of (by decide) (Nat.le_of_ble_eq_true rfl) (cat1 rfl) (fun X hXl F HN => ?_)
  subst hXl
  refine V_aload_n (i := 0) F dX4_does_0 rfl rfl ?_
  refine V_getf F dX4_does_1 fc_X4_51_X4 (.inl hm) h_told ?_
  refine V_iload_n (i := 1) F dX4_does_4 rfl rfl ?_
  refine V_iconst (v := nI 1) F dX4_does_5 rfl ?_
  refine V_iaddN F dX4_does_6 ?_
  refine V_ialdG F dX4_does_7 (.inl hto) (by omega) (by decide) rfl ?_
  refine V_istore_n (i := 2) F dX4_does_8 rfl (Nat.le_of_ble_eq_true rfl) (Nat.le_of_ble_eq_true rfl) ?_
  refine V_aload_n (i := 0) F dX4_does_9 rfl rfl ?_
  refine V_getf F dX4_does_10 fc_X4_51_X4 (.inl hm) h_told ?_
  refine V_iload_n (i := 1) F dX4_does_13 rfl rfl ?_
  refine V_iconst (v := nI 2) F dX4_does_14 rfl ?_
  refine V_iaddN F dX4_does_15 ?_
  refine V_ialdG F dX4_does_16 (.inl hto) (by omega) (by decide) rfl ?_
  refine V_istore_n (i := 3) F dX4_does_17 rfl (Nat.le_of_ble_eq_true rfl) (Nat.le_of_ble_eq_true rfl) ?_
  refine V_aload_n (i := 0) F dX4_does_18 rfl rfl ?_
  refine V_getf F dX4_does_19 fc_X4_51_X4 (.inl hm) h_told ?_
  refine V_iload_n (i := 1) F dX4_does_22 rfl rfl ?_
  refine V_iconst (v := nI 3) F dX4_does_23 rfl ?_
  refine V_iaddN F dX4_does_24 ?_
  refine V_ialdG F dX4_does_25 (.inl hto) (by omega) (by decide) rfl ?_
  refine V_istore (i := 4) F dX4_does_26 (Nat.le_of_ble_eq_true rfl) (Nat.le_of_ble_eq_true rfl) ?_
  refine V_aload_n (i := 0) F dX4_does_28 rfl rfl ?_
  refine V_getf F dX4_does_29 fc_X4_51_X4 (.inl hm) h_told ?_
  refine V_iload_n (i := 1) F dX4_does_32 rfl rfl ?_
  refine V_ialdG F dX4_does_33 (.inl hto) (by omega) (by decide) rfl ?_
  refine VV.stk (st' := [.int (nI 8)]) (by rw [hk]) ?_
  refine V_tableIn (off := 117) (tgt := 151) F dX4_does_34 (by decide) (by decide) rfl (by decide) ?_
  refine V_aload_n (i := 0) F dX4_does_151 rfl rfl ?_
  refine V_iload_n (i := 2) F dX4_does_152 rfl rfl ?_
  refine V_iload_n (i := 3) F dX4_does_153 rfl rfl ?_
  refine V_iload (i := 4) F dX4_does_154 rfl ?_
  refine V_cV3 F dX4_does_156 lk_X4_287 (hc) ⟨0, _, _, _, rfl, (.inl hm)⟩ (Nat.le_of_ble_eq_true rfl) (Nat.le_of_ble_eq_true rfl) (Nat.le_of_ble_eq_true rfl) (Nat.le_of_ble_eq_true rfl) (Nat.le_of_ble_eq_true rfl) ?_
  intro v h2 hp
  obtain ⟨x, rfl⟩ := hpi v h2 hp
  exact V_iret F dX4_does_159 rfl (Nat.le_of_ble_eq_true rfl) (Nat.le_of_ble_eq_true rfl) hp
theorem ct_does9 {G : GG} {l : Launch} {h : AH} {m : Nat} {fs : List Value} {aL p : Nat} {τ : Nat → Nat} {Post : Option Value → AH → Prop} (hm : h m = some (.inr (0, fs))) (h_told : fs[23]? = some (.ref aL)) (hto : h aL = some (iA G 155 (fun i => nI (τ i)))) (hp4 : p + 4 < 155) (hk : 9 ≤ τ p) (hk2 : τ p < 2 ^ 31) (hpi : ∀ v h2, Post v h2 → ∃ y : Int32, v = some (.int y)) (hc : Ct G l yX4_cancelBooking cX4_cancelBooking 3 (some .int) 2 0 0 [.ref m, .int (nI (τ (p + 1)))] h Post) : Ct G l yX4_does cX4_does 5 (some .int) 3 0 0 [.ref m, .int (nI p)] h (Post) := by
  refine Ct.of (by decide) (Nat.le_of_ble_eq_true rfl) (cat1 rfl) (fun X hXl F HN => ?_)
  subst hXl
  refine V_aload_n (i := 0) F dX4_does_0 rfl rfl ?_
  refine V_getf F dX4_does_1 fc_X4_51_X4 (.inl hm) h_told ?_
  refine V_iload_n (i := 1) F dX4_does_4 rfl rfl ?_
  refine V_iconst (v := nI 1) F dX4_does_5 rfl ?_
  refine V_iaddN F dX4_does_6 ?_
  refine V_ialdG F dX4_does_7 (.inl hto) (by omega) (by decide) rfl ?_
  refine V_istore_n (i := 2) F dX4_does_8 rfl (Nat.le_of_ble_eq_true rfl) (Nat.le_of_ble_eq_true rfl) ?_
  refine V_aload_n (i := 0) F dX4_does_9 rfl rfl ?_
  refine V_getf F dX4_does_10 fc_X4_51_X4 (.inl hm) h_told ?_
  refine V_iload_n (i := 1) F dX4_does_13 rfl rfl ?_
  refine V_iconst (v := nI 2) F dX4_does_14 rfl ?_
  refine V_iaddN F dX4_does_15 ?_
  refine V_ialdG F dX4_does_16 (.inl hto) (by omega) (by decide) rfl ?_
  refine V_istore_n (i := 3) F dX4_does_17 rfl (Nat.le_of_ble_eq_true rfl) (Nat.le_of_ble_eq_true rfl) ?_
  refine V_aload_n (i := 0) F dX4_does_18 rfl rfl ?_
  refine V_getf F dX4_does_19 fc_X4_51_X4 (.inl hm) h_told ?_
  refine V_iload_n (i := 1) F dX4_does_22 rfl rfl ?_
  refine V_iconst (v := nI 3) F dX4_does_23 rfl ?_
  refine V_iaddN F dX4_does_24 ?_
  refine V_ialdG F dX4_does_25 (.inl hto) (by omega) (by decide) rfl ?_
  refine V_istore (i := 4) F dX4_does_26 (Nat.le_of_ble_eq_true rfl) (Nat.le_of_ble_eq_true rfl) ?_
  refine V_aload_n (i := 0) F dX4_does_28 rfl rfl ?_
  refine V_getf F dX4_does_29 fc_X4_51_X4 (.inl hm) h_told ?_
  refine V_iload_n (i := 1) F dX4_does_32 rfl rfl ?_
  refine V_ialdG F dX4_does_33 (.inl hto) (by omega) (by decide) rfl ?_
  refine V_tableOut (tgt := 160) F dX4_does_34 (Or.inr (by rw [nI_toInt hk2]; omega)) (by decide) ?_
  refine V_aload_n (i := 0) F dX4_does_160 rfl rfl ?_
  refine V_iload_n (i := 2) F dX4_does_161 rfl rfl ?_
  refine V_cV1 F dX4_does_162 lk_X4_290 (hc) ⟨0, _, _, _, rfl, (.inl hm)⟩ (Nat.le_of_ble_eq_true rfl) (Nat.le_of_ble_eq_true rfl) (Nat.le_of_ble_eq_true rfl) (Nat.le_of_ble_eq_true rfl) (Nat.le_of_ble_eq_true rfl) ?_
  intro v h2 hp
  obtain ⟨x, rfl⟩ := hpi v h2 hp
  exact V_iret F dX4_does_165 rfl (Nat.le_of_ble_eq_true rfl) (Nat.le_of_ble_eq_true rfl) hp
