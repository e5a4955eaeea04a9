set_option maxRecDepth 100000
theorem ct_stationCount {G : GG} {l : Launch} {h : AH} {m : Nat} {fs : List Value} {aG : Nat} {g : Nat → Nat}  (hm : h m = some (.inr (0, fs))) (h_g : fs[0]? = some (.ref aG)) (hg : h aG = some (iA G 304 (fun i => nI (g i)))) (hlen : fs.length = 25) : Ct G l yX4_stationCount cX4_stationCount 1 (some .int) 0 0 0 [.ref m] h (PR (.int (nI (g 0))) (hset h m (.inr (0, fs.set 7 (.int (nI 0)))))) := by
  refine Ct.of (by decide) (Nat.le_of_ble_eq_true rfl) (cat1 rfl) (fun X hXl F HN => ?_)
  subst hXl
  refine V_aload_n (i := 0) F dX4_stationCount_0 rfl rfl ?_
  refine V_iconst (v := nI 0) F dX4_stationCount_1 rfl ?_
  refine V_putf F dX4_stationCount_2 fp_X4_54_X4 hm rfl rfl (lenk hlen (by decide)) ?_
  refine V_aload_n (i := 0) F dX4_stationCount_5 rfl rfl ?_
  refine V_getf F dX4_stationCount_6 fc_X4_7_X4 (.inl hset_self) (gset h_g (by decide)) ?_
  refine V_iconst (v := nI 0) F dX4_stationCount_9 rfl ?_
  refine V_ialdG F dX4_stationCount_10 (.inl ((hset_ne (ne_ao hg hm)).trans hg)) (by omega) (by decide) rfl ?_
  exact V_iret F dX4_stationCount_11 rfl (Nat.le_of_ble_eq_true rfl) (Nat.le_of_ble_eq_true rfl) ⟨rfl, rfl⟩
theorem ct_trainCount {G : GG} {l : Launch} {h : AH} {m : Nat} {fs : List Value} {aG : Nat} {g : Nat → Nat}  (hm : h m = some (.inr (0, fs))) (h_g : fs[0]? = some (.ref aG)) (hg : h aG = some (iA G 304 (fun i => nI (g i)))) (hlen : fs.length = 25) : Ct G l yX4_trainCount cX4_trainCount 1 (some .int) 0 0 0 [.ref m] h (PR (.int (nI (g 1))) (hset h m (.inr (0, fs.set 7 (.int (nI 0)))))) := by
  refine Ct.of (by decide) (Nat.le_of_ble_eq_true rfl) (cat1 rfl) (fun X hXl F HN => ?_)
  subst hXl
  refine V_aload_n (i := 0) F dX4_trainCount_0 rfl rfl ?_
  refine V_iconst (v := nI 0) F dX4_trainCount_1 rfl ?_
  refine V_putf F dX4_trainCount_2 fp_X4_54_X4 hm rfl rfl (lenk hlen (by decide)) ?_
  refine V_aload_n (i := 0) F dX4_trainCount_5 rfl rfl ?_
  refine V_getf F dX4_trainCount_6 fc_X4_7_X4 (.inl hset_self) (gset h_g (by decide)) ?_
  refine V_iconst (v := nI 1) F dX4_trainCount_9 rfl ?_
  refine V_ialdG F dX4_trainCount_10 (.inl ((hset_ne (ne_ao hg hm)).trans hg)) (by omega) (by decide) rfl ?_
  exact V_iret F dX4_trainCount_11 rfl (Nat.le_of_ble_eq_true rfl) (Nat.le_of_ble_eq_true rfl) ⟨rfl, rfl⟩
theorem ct_suitcaseCount {G : GG} {l : Launch} {h : AH} {m : Nat} {fs : List Value} {aG : Nat} {g : Nat → Nat}  (hm : h m = some (.inr (0, fs))) (h_g : fs[0]? = some (.ref aG)) (hg : h aG = some (iA G 304 (fun i => nI (g i)))) (hlen : fs.length = 25) : Ct G l yX4_suitcaseCount cX4_suitcaseCount 1 (some .int) 0 0 0 [.ref m] h (PR (.int (nI (g 2))) (hset h m (.inr (0, fs.set 7 (.int (nI 0)))))) := by
  refine Ct.of (by decide) (Nat.le_of_ble_eq_true rfl) (cat1 rfl) (fun X hXl F HN => ?_)
  subst hXl
  refine V_aload_n (i := 0) F dX4_suitcaseCount_0 rfl rfl ?_
  refine V_iconst (v := nI 0) F dX4_suitcaseCount_1 rfl ?_
  refine V_putf F dX4_suitcaseCount_2 fp_X4_54_X4 hm rfl rfl (lenk hlen (by decide)) ?_
  refine V_aload_n (i := 0) F dX4_suitcaseCount_5 rfl rfl ?_
  refine V_getf F dX4_suitcaseCount_6 fc_X4_7_X4 (.inl hset_self) (gset h_g (by decide)) ?_
  refine V_iconst (v := nI 2) F dX4_suitcaseCount_9 rfl ?_
  refine V_ialdG F dX4_suitcaseCount_10 (.inl ((hset_ne (ne_ao hg hm)).trans hg)) (by omega) (by decide) rfl ?_
  exact V_iret F dX4_suitcaseCount_11 rfl (Nat.le_of_ble_eq_true rfl) (Nat.le_of_ble_eq_true rfl) ⟨rfl, rfl⟩
theorem ct_bookingCount {G : GG} {l : Launch} {h : AH} {m : Nat} {fs : List Value} {aG : Nat} {g : Nat → Nat}  (hm : h m = some (.inr (0, fs))) (h_g : fs[0]? = some (.ref aG)) (hg : h aG = some (iA G 304 (fun i => nI (g i)))) (hlen : fs.length = 25) : Ct G l yX4_bookingCount cX4_bookingCount 1 (some .int) 0 0 0 [.ref m] h (PR (.int (nI (g 3))) (hset h m (.inr (0, fs.set 7 (.int (nI 0)))))) := by
  refine Ct.of (by decide) (Nat.le_of_ble_eq_true rfl) (cat1 rfl) (fun X hXl F HN => ?_)
  subst hXl
  refine V_aload_n (i := 0) F dX4_bookingCount_0 rfl rfl ?_
  refine V_iconst (v := nI 0) F dX4_bookingCount_1 rfl ?_
  refine V_putf F dX4_bookingCount_2 fp_X4_54_X4 hm rfl rfl (lenk hlen (by decide)) ?_
  refine V_aload_n (i := 0) F dX4_bookingCount_5 rfl rfl ?_
  refine V_getf F dX4_bookingCount_6 fc_X4_7_X4 (.inl hset_self) (gset h_g (by decide)) ?_
  refine V_iconst (v := nI 3) F dX4_bookingCount_9 rfl ?_
  refine V_ialdG F dX4_bookingCount_10 (.inl ((hset_ne (ne_ao hg hm)).trans hg)) (by omega) (by decide) rfl ?_
  exact V_iret F dX4_bookingCount_11 rfl (Nat.le_of_ble_eq_true rfl) (Nat.le_of_ble_eq_true rfl) ⟨rfl, rfl⟩
theorem ct_coins {G : GG} {l : Launch} {h : AH} {m : Nat} {fs : List Value} {aG : Nat} {g : Nat → Nat}  (hm : h m = some (.inr (0, fs))) (h_g : fs[0]? = some (.ref aG)) (hg : h aG = some (iA G 304 (fun i => nI (g i)))) (hlen : fs.length = 25) : Ct G l yX4_coins cX4_coins 1 (some .int) 0 0 0 [.ref m] h (PR (.int (nI (g 6))) (hset h m (.inr (0, fs.set 7 (.int (nI 0)))))) := by
  refine Ct.of (by decide) (Nat.le_of_ble_eq_true rfl) (cat1 rfl) (fun X hXl F HN => ?_)
  subst hXl
  refine V_aload_n (i := 0) F dX4_coins_0 rfl rfl ?_
  refine V_iconst (v := nI 0) F dX4_coins_1 rfl ?_
  refine V_putf F dX4_coins_2 fp_X4_54_X4 hm rfl rfl (lenk hlen (by decide)) ?_
  refine V_aload_n (i := 0) F dX4_coins_5 rfl rfl ?_
  refine V_getf F dX4_coins_6 fc_X4_7_X4 (.inl hset_self) (gset h_g (by decide)) ?_
  refine V_bipush (v := nI 6) F dX4_coins_9 rfl ?_
  refine V_ialdG F dX4_coins_11 (.inl ((hset_ne (ne_ao hg hm)).trans hg)) (by omega) (by decide) rfl ?_
  exact V_iret F dX4_coins_12 rfl (Nat.le_of_ble_eq_true rfl) (Nat.le_of_ble_eq_true rfl) ⟨rfl, rfl⟩
theorem ct_collectedTotal {G : GG} {l : Launch} {h : AH} {m : Nat} {fs : List Value} {aG : Nat} {g : Nat → Nat}  (hm : h m = some (.inr (0, fs))) (h_g : fs[0]? = some (.ref aG)) (hg : h aG = some (iA G 304 (fun i => nI (g i)))) (hlen : fs.length = 25) : Ct G l yX4_collectedTotal cX4_collectedTotal 1 (some .int) 0 0 0 [.ref m] h (PR (.int (nI (g 7))) (hset h m (.inr (0, fs.set 7 (.int (nI 0)))))) := by
  refine Ct.of (by decide) (Nat.le_of_ble_eq_true rfl) (cat1 rfl) (fun X hXl F HN => ?_)
  subst hXl
  refine V_aload_n (i := 0) F dX4_collectedTotal_0 rfl rfl ?_
  refine V_iconst (v := nI 0) F dX4_collectedTotal_1 rfl ?_
  refine V_putf F dX4_collectedTotal_2 fp_X4_54_X4 hm rfl rfl (lenk hlen (by decide)) ?_
  refine V_aload_n (i := 0) F dX4_collectedTotal_5 rfl rfl ?_
  refine V_getf F dX4_collectedTotal_6 fc_X4_7_X4 (.inl hset_self) (gset h_g (by decide)) ?_
  refine V_bipush (v := nI 7) F dX4_collectedTotal_9 rfl ?_
  refine V_ialdG F dX4_collectedTotal_11 (.inl ((hset_ne (ne_ao hg hm)).trans hg)) (by omega) (by decide) rfl ?_
  exact V_iret F dX4_collectedTotal_12 rfl (Nat.le_of_ble_eq_true rfl) (Nat.le_of_ble_eq_true rfl) ⟨rfl, rfl⟩
theorem ct_transferTime {G : GG} {l : Launch} {h : AH} {m : Nat} {fs : List Value} {aG : Nat} {g : Nat → Nat} {p : Int32} (hm : h m = some (.inr (0, fs))) (h_g : fs[0]? = some (.ref aG)) (hg : h aG = some (iA G 304 (fun i => nI (g i)))) (hlen : fs.length = 25) (hI : GW g)  : Ct G l yX4_transferTime cX4_transferTime 2 (some .int) 2 0 0 [.ref m, .int (p)] h (PX (if ¬ iR p (g 0) then 1 else 0) (fun k => hset h m (.inr (0, fs.set 7 (.int (nI k))))) (.int (nI (g (8 + tn p)))) (hset h m (.inr (0, fs.set 7 (.int (nI 0)))))) := by
  refine Ct.of (by decide) (Nat.le_of_ble_eq_true rfl) (cat1 rfl) (fun X hXl F HN => ?_)
  subst hXl
  obtain ⟨hB, hn0, hn1, hn2, hn3, hst, hpl⟩ := hI
  refine V_aload_n (i := 0) F dX4_transferTime_0 rfl rfl ?_
  refine V_aload_n (i := 0) F dX4_transferTime_1 rfl rfl ?_
  refine V_iload_n (i := 1) F dX4_transferTime_2 rfl rfl ?_
  refine V_cV1r F dX4_transferTime_3 lk_X4_99 (ct_isStation hm h_g hg hB.lt) ⟨0, _, _, _, rfl, (.inl hm)⟩ (Nat.le_of_ble_eq_true rfl) (Nat.le_of_ble_eq_true rfl) (Nat.le_of_ble_eq_true rfl) (Nat.le_of_ble_eq_true rfl) (Nat.le_of_ble_eq_true rfl) ?_
  refine V_if_eqB (tgt := 13) F dX4_transferTime_6 (by decide) (fun c_6 => ?_) (fun c_6 => ?_)
  · refine V_iconst (v := nI 1) F dX4_transferTime_13 rfl ?_
    refine V_cV1r F dX4_transferTime_14 lk_X4_92 (ct_failsP 1 hm hlen (by decide)) ⟨0, _, _, _, rfl, (.inl hm)⟩ (Nat.le_of_ble_eq_true rfl) (Nat.le_of_ble_eq_true rfl) (Nat.le_of_ble_eq_true rfl) (Nat.le_of_ble_eq_true rfl) (Nat.le_of_ble_eq_true rfl) ?_
    refine V_if_eqN (tgt := 24) F dX4_transferTime_17 (by decide) (by omega) (fun c_17 => absurd c_17 (by decide)) (fun c_17 => ?_)
    refine V_iconst (v := nI 0) F dX4_transferTime_20 rfl ?_
    refine V_goto (tgt := 33) F dX4_transferTime_21 (by decide) ?_
    exact V_iret F dX4_transferTime_33 rfl (Nat.le_of_ble_eq_true rfl) (Nat.le_of_ble_eq_true rfl) (PX.fail 1 (if_pos c_6) (by decide) rfl)
  · obtain ⟨c, hc, rfl⟩ := iR_of c_6 hB.lt
    refine V_iconst (v := nI 0) F dX4_transferTime_9 rfl ?_
    refine V_goto (tgt := 14) F dX4_transferTime_10 (by decide) ?_
    refine V_cV1r F dX4_transferTime_14 lk_X4_92 (ct_fails0 hm hlen) ⟨0, _, _, _, rfl, (.inl hm)⟩ (Nat.le_of_ble_eq_true rfl) (Nat.le_of_ble_eq_true rfl) (Nat.le_of_ble_eq_true rfl) (Nat.le_of_ble_eq_true rfl) (Nat.le_of_ble_eq_true rfl) ?_
    refine V_if_eqN (tgt := 24) F dX4_transferTime_17 (by decide) (by omega) (fun c_17 => ?_) (fun c_17 => absurd c_17 (by decide))
    refine V_aload_n (i := 0) F dX4_transferTime_24 rfl rfl ?_
    refine V_getf F dX4_transferTime_25 fc_X4_7_X4 (.inl hset_self) (gset h_g (by decide)) ?_
    refine V_bipush (v := nI 8) F dX4_transferTime_28 rfl ?_
    refine V_iload_n (i := 1) F dX4_transferTime_30 rfl rfl ?_
    refine V_iaddN F dX4_transferTime_31 ?_
    refine V_ialdG F dX4_transferTime_32 (.inl ((hset_ne (ne_ao hg hm)).trans hg)) (by omega) (by decide) rfl ?_
    exact V_iret F dX4_transferTime_33 rfl (Nat.le_of_ble_eq_true rfl) (Nat.le_of_ble_eq_true rfl) (PX.ok (if_neg (not_not_intro c_6)) (by first | rfl | (simp (disch := omega) only [tn_nI])) rfl)
theorem ct_ofTrain3 {G : GG} {l : Launch} {h : AH} {m : Nat} {fs : List Value} {aG : Nat} {g : Nat → Nat} {p : Int32} (hm : h m = some (.inr (0, fs))) (h_g : fs[0]? = some (.ref aG)) (hg : h aG = some (iA G 304 (fun i => nI (g i)))) (hlen : fs.length = 25) (hI : GW g)  : Ct G l yX4_ofTrain cX4_ofTrain 3 (some .int) 2 0 0 [.ref m, .int (p), .int (nI (3))] h (PX (if ¬ iR p (g 1) then 1 else 0) (fun k => hset h m (.inr (0, fs.set 7 (.int (nI k))))) (.int (nI (g (16 + 36 * tn p + 3)))) (hset h m (.inr (0, fs.set 7 (.int (nI 0)))))) := by
  refine Ct.of (by decide) (Nat.le_of_ble_eq_true rfl) (cat1 rfl) (fun X hXl F HN => ?_)
  subst hXl
  obtain ⟨hB, hn0, hn1, hn2, hn3, hst, hpl⟩ := hI
  refine V_aload_n (i := 0) F dX4_ofTrain_0 rfl rfl ?_
  refine V_aload_n (i := 0) F dX4_ofTrain_1 rfl rfl ?_
  refine V_iload_n (i := 1) F dX4_ofTrain_2 rfl rfl ?_
  refine V_cV1r F dX4_ofTrain_3 lk_X4_72 (ct_isTrain hm h_g hg hB.lt) ⟨0, _, _, _, rfl, (.inl hm)⟩ (Nat.le_of_ble_eq_true rfl) (Nat.le_of_ble_eq_true rfl) (Nat.le_of_ble_eq_true rfl) (Nat.le_of_ble_eq_true rfl) (Nat.le_of_ble_eq_true rfl) ?_
  refine V_if_eqB (tgt := 13) F dX4_ofTrain_6 (by decide) (fun c_6 => ?_) (fun c_6 => ?_)
  · refine V_iconst (v := nI 1) F dX4_ofTrain_13 rfl ?_
    refine V_cV1r F dX4_ofTrain_14 lk_X4_92 (ct_failsP 1 hm hlen (by decide)) ⟨0, _, _, _, rfl, (.inl hm)⟩ (Nat.le_of_ble_eq_true rfl) (Nat.le_of_ble_eq_true rfl) (Nat.le_of_ble_eq_true rfl) (Nat.le_of_ble_eq_true rfl) (Nat.le_of_ble_eq_true rfl) ?_
    refine V_if_eqN (tgt := 24) F dX4_ofTrain_17 (by decide) (by omega) (fun c_17 => absurd c_17 (by decide)) (fun c_17 => ?_)
    refine V_iconst (v := nI 0) F dX4_ofTrain_20 rfl ?_
    refine V_goto (tgt := 30) F dX4_ofTrain_21 (by decide) ?_
    exact V_iret F dX4_ofTrain_30 rfl (Nat.le_of_ble_eq_true rfl) (Nat.le_of_ble_eq_true rfl) (PX.fail 1 (if_pos c_6) (by decide) rfl)
  · obtain ⟨c, hc, rfl⟩ := iR_of c_6 hB.lt
    refine V_iconst (v := nI 0) F dX4_ofTrain_9 rfl ?_
    refine V_goto (tgt := 14) F dX4_ofTrain_10 (by decide) ?_
    refine V_cV1r F dX4_ofTrain_14 lk_X4_92 (ct_fails0 hm hlen) ⟨0, _, _, _, rfl, (.inl hm)⟩ (Nat.le_of_ble_eq_true rfl) (Nat.le_of_ble_eq_true rfl) (Nat.le_of_ble_eq_true rfl) (Nat.le_of_ble_eq_true rfl) (Nat.le_of_ble_eq_true rfl) ?_
    refine V_if_eqN (tgt := 24) F dX4_ofTrain_17 (by decide) (by omega) (fun c_17 => ?_) (fun c_17 => absurd c_17 (by decide))
    refine V_aload_n (i := 0) F dX4_ofTrain_24 rfl rfl ?_
    refine V_iload_n (i := 1) F dX4_ofTrain_25 rfl rfl ?_
    refine V_iload_n (i := 2) F dX4_ofTrain_26 rfl rfl ?_
    refine V_cV2r F dX4_ofTrain_27 lk_X4_76 (ct_of hset_self (gset h_g (by decide)) ((hset_ne (ne_ao hg hm)).trans hg) (by omega)) ⟨0, _, _, _, rfl, (.inl hset_self)⟩ (Nat.le_of_ble_eq_true rfl) (Nat.le_of_ble_eq_true rfl) (Nat.le_of_ble_eq_true rfl) (Nat.le_of_ble_eq_true rfl) (Nat.le_of_ble_eq_true rfl) ?_
    exact V_iret F dX4_ofTrain_30 rfl (Nat.le_of_ble_eq_true rfl) (Nat.le_of_ble_eq_true rfl) (PX.ok (if_neg (not_not_intro c_6)) (by first | rfl | (simp (disch := omega) only [tn_nI])) rfl)
theorem PX.int {cd : Nat} {hF : Nat → AH} {x : Int32} {hS h' : AH} {v : Option Value} (h : PX cd hF (.int x) hS v h') : ∃ y : Int32, v = some (.int y) := by
  by_cases hc : cd = 0
  · exact ⟨x, (h.2 hc).1⟩
  · exact ⟨nI 0, (h.1 hc).1⟩
theorem ct_stopCount {G : GG} {l : Launch} {h : AH} {m : Nat} {fs : List Value} {aG : Nat} {g : Nat → Nat} {p : Int32} (hm : h m = some (.inr (0, fs))) (h_g : fs[0]? = some (.ref aG)) (hg : h aG = some (iA G 304 (fun i => nI (g i)))) (hlen : fs.length = 25) (hI : GW g) : Ct G l yX4_stopCount cX4_stopCount 2 (some .int) 3 0 0 [.ref m, .int p] h (PX (if ¬ iR p (g 1) then 1 else 0) (fun k => hset h m (.inr (0, fs.set 7 (.int (nI k))))) (.int (nI (g (16 + 36 * tn p + 3)))) (hset h m (.inr (0, fs.set 7 (.int (nI 0)))))) := by
  refine Ct.of (by decide) (Nat.le_of_ble_eq_true rfl) (cat1 rfl) (fun X hXl F HN => ?_)
  subst hXl
  refine V_aload_n (i := 0) F dX4_stopCount_0 rfl rfl ?_
  refine V_iload_n (i := 1) F dX4_stopCount_1 rfl rfl ?_
  refine V_iconst (v := nI 3) F dX4_stopCount_2 rfl ?_
  refine V_cV2 F dX4_stopCount_3 lk_X4_170 (ct_ofTrain3 hm h_g hg hlen hI) ⟨0, _, _, _, rfl, .inl hm⟩ (Nat.le_of_ble_eq_true rfl) (Nat.le_of_ble_eq_true rfl) (Nat.le_of_ble_eq_true rfl) (Nat.le_of_ble_eq_true rfl) (Nat.le_of_ble_eq_true rfl) (fun v h2 hp => ?_)
  obtain ⟨x, rfl⟩ := PX.int hp
  exact V_iret F dX4_stopCount_6 rfl (Nat.le_of_ble_eq_true rfl) (Nat.le_of_ble_eq_true rfl) hp
theorem ct_ofTrain0 {G : GG} {l : Launch} {h : AH} {m : Nat} {fs : List Value} {aG : Nat} {g : Nat → Nat} {p : Int32} (hm : h m = some (.inr (0, fs))) (h_g : fs[0]? = some (.ref aG)) (hg : h aG = some (iA G 304 (fun i => nI (g i)))) (hlen : fs.length = 25) (hI : GW g)  : Ct G l yX4_ofTrain cX4_ofTrain 3 (some .int) 2 0 0 [.ref m, .int (p), .int (nI (0))] h (PX (if ¬ iR p (g 1) then 1 else 0) (fun k => hset h m (.inr (0, fs.set 7 (.int (nI k))))) (.int (nI (g (16 + 36 * tn p + 0)))) (hset h m (.inr (0, fs.set 7 (.int (nI 0)))))) := by
  refine Ct.of (by decide) (Nat.le_of_ble_eq_true rfl) (cat1 rfl) (fun X hXl F HN => ?_)
  subst hXl
  obtain ⟨hB, hn0, hn1, hn2, hn3, hst, hpl⟩ := hI
  refine V_aload_n (i := 0) F dX4_ofTrain_0 rfl rfl ?_
  refine V_aload_n (i := 0) F dX4_ofTrain_1 rfl rfl ?_
  refine V_iload_n (i := 1) F dX4_ofTrain_2 rfl rfl ?_
  refine V_cV1r F dX4_ofTrain_3 lk_X4_72 (ct_isTrain hm h_g hg hB.lt) ⟨0, _, _, _, rfl, (.inl hm)⟩ (Nat.le_of_ble_eq_true rfl) (Nat.le_of_ble_eq_true rfl) (Nat.le_of_ble_eq_true rfl) (Nat.le_of_ble_eq_true rfl) (Nat.le_of_ble_eq_true rfl) ?_
  refine V_if_eqB (tgt := 13) F dX4_ofTrain_6 (by decide) (fun c_6 => ?_) (fun c_6 => ?_)
  · refine V_iconst (v := nI 1) F dX4_ofTrain_13 rfl ?_
    refine V_cV1r F dX4_ofTrain_14 lk_X4_92 (ct_failsP 1 hm hlen (by decide)) ⟨0, _, _, _, rfl, (.inl hm)⟩ (Nat.le_of_ble_eq_true rfl) (Nat.le_of_ble_eq_true rfl) (Nat.le_of_ble_eq_true rfl) (Nat.le_of_ble_eq_true rfl) (Nat.le_of_ble_eq_true rfl) ?_
    refine V_if_eqN (tgt := 24) F dX4_ofTrain_17 (by decide) (by omega) (fun c_17 => absurd c_17 (by decide)) (fun c_17 => ?_)
    refine V_iconst (v := nI 0) F dX4_ofTrain_20 rfl ?_
    refine V_goto (tgt := 30) F dX4_ofTrain_21 (by decide) ?_
    exact V_iret F dX4_ofTrain_30 rfl (Nat.le_of_ble_eq_true rfl) (Nat.le_of_ble_eq_true rfl) (PX.fail 1 (if_pos c_6) (by decide) rfl)
  · obtain ⟨c, hc, rfl⟩ := iR_of c_6 hB.lt
    refine V_iconst (v := nI 0) F dX4_ofTrain_9 rfl ?_
    refine V_goto (tgt := 14) F dX4_ofTrain_10 (by decide) ?_
    refine V_cV1r F dX4_ofTrain_14 lk_X4_92 (ct_fails0 hm hlen) ⟨0, _, _, _, rfl, (.inl hm)⟩ (Nat.le_of_ble_eq_true rfl) (Nat.le_of_ble_eq_true rfl) (Nat.le_of_ble_eq_true rfl) (Nat.le_of_ble_eq_true rfl) (Nat.le_of_ble_eq_true rfl) ?_
    refine V_if_eqN (tgt := 24) F dX4_ofTrain_17 (by decide) (by omega) (fun c_17 => ?_) (fun c_17 => absurd c_17 (by decide))
    refine V_aload_n (i := 0) F dX4_ofTrain_24 rfl rfl ?_
    refine V_iload_n (i := 1) F dX4_ofTrain_25 rfl rfl ?_
    refine V_iload_n (i := 2) F dX4_ofTrain_26 rfl rfl ?_
    refine V_cV2r F dX4_ofTrain_27 lk_X4_76 (ct_of hset_self (gset h_g (by decide)) ((hset_ne (ne_ao hg hm)).trans hg) (by omega)) ⟨0, _, _, _, rfl, (.inl hset_self)⟩ (Nat.le_of_ble_eq_true rfl) (Nat.le_of_ble_eq_true rfl) (Nat.le_of_ble_eq_true rfl) (Nat.le_of_ble_eq_true rfl) (Nat.le_of_ble_eq_true rfl) ?_
    exact V_iret F dX4_ofTrain_30 rfl (Nat.le_of_ble_eq_true rfl) (Nat.le_of_ble_eq_true rfl) (PX.ok (if_neg (not_not_intro c_6)) (by first | rfl | (simp (disch := omega) only [tn_nI])) rfl)
theorem ct_capacity {G : GG} {l : Launch} {h : AH} {m : Nat} {fs : List Value} {aG : Nat} {g : Nat → Nat} {p : Int32} (hm : h m = some (.inr (0, fs))) (h_g : fs[0]? = some (.ref aG)) (hg : h aG = some (iA G 304 (fun i => nI (g i)))) (hlen : fs.length = 25) (hI : GW g) : Ct G l yX4_capacity cX4_capacity 2 (some .int) 3 0 0 [.ref m, .int p] h (PX (if ¬ iR p (g 1) then 1 else 0) (fun k => hset h m (.inr (0, fs.set 7 (.int (nI k))))) (.int (nI (g (16 + 36 * tn p + 0)))) (hset h m (.inr (0, fs.set 7 (.int (nI 0)))))) := by
  refine Ct.of (by decide) (Nat.le_of_ble_eq_true rfl) (cat1 rfl) (fun X hXl F HN => ?_)
  subst hXl
  refine V_aload_n (i := 0) F dX4_capacity_0 rfl rfl ?_
  refine V_iload_n (i := 1) F dX4_capacity_1 rfl rfl ?_
  refine V_iconst (v := nI 0) F dX4_capacity_2 rfl ?_
  refine V_cV2 F dX4_capacity_3 lk_X4_170 (ct_ofTrain0 hm h_g hg hlen hI) ⟨0, _, _, _, rfl, .inl hm⟩ (Nat.le_of_ble_eq_true rfl) (Nat.le_of_ble_eq_true rfl) (Nat.le_of_ble_eq_true rfl) (Nat.le_of_ble_eq_true rfl) (Nat.le_of_ble_eq_true rfl) (fun v h2 hp => ?_)
  obtain ⟨x, rfl⟩ := PX.int hp
  exact V_iret F dX4_capacity_6 rfl (Nat.le_of_ble_eq_true rfl) (Nat.le_of_ble_eq_true rfl) hp
theorem ct_ofTrain2 {G : GG} {l : Launch} {h : AH} {m : Nat} {fs : List Value} {aG : Nat} {g : Nat → Nat} {p : Int32} (hm : h m = some (.inr (0, fs))) (h_g : fs[0]? = some (.ref aG)) (hg : h aG = some (iA G 304 (fun i => nI (g i)))) (hlen : fs.length = 25) (hI : GW g)  : Ct G l yX4_ofTrain cX4_ofTrain 3 (some .int) 2 0 0 [.ref m, .int (p), .int (nI (2))] h (PX (if ¬ iR p (g 1) then 1 else 0) (fun k => hset h m (.inr (0, fs.set 7 (.int (nI k))))) (.int (nI (g (16 + 36 * tn p + 2)))) (hset h m (.inr (0, fs.set 7 (.int (nI 0)))))) := by
  refine Ct.of (by decide) (Nat.le_of_ble_eq_true rfl) (cat1 rfl) (fun X hXl F HN => ?_)
  subst hXl
  obtain ⟨hB, hn0, hn1, hn2, hn3, hst, hpl⟩ := hI
  refine V_aload_n (i := 0) F dX4_ofTrain_0 rfl rfl ?_
  refine V_aload_n (i := 0) F dX4_ofTrain_1 rfl rfl ?_
  refine V_iload_n (i := 1) F dX4_ofTrain_2 rfl rfl ?_
  refine V_cV1r F dX4_ofTrain_3 lk_X4_72 (ct_isTrain hm h_g hg hB.lt) ⟨0, _, _, _, rfl, (.inl hm)⟩ (Nat.le_of_ble_eq_true rfl) (Nat.le_of_ble_eq_true rfl) (Nat.le_of_ble_eq_true rfl) (Nat.le_of_ble_eq_true rfl) (Nat.le_of_ble_eq_true rfl) ?_
  refine V_if_eqB (tgt := 13) F dX4_ofTrain_6 (by decide) (fun c_6 => ?_) (fun c_6 => ?_)
  · refine V_iconst (v := nI 1) F dX4_ofTrain_13 rfl ?_
    refine V_cV1r F dX4_ofTrain_14 lk_X4_92 (ct_failsP 1 hm hlen (by decide)) ⟨0, _, _, _, rfl, (.inl hm)⟩ (Nat.le_of_ble_eq_true rfl) (Nat.le_of_ble_eq_true rfl) (Nat.le_of_ble_eq_true rfl) (Nat.le_of_ble_eq_true rfl) (Nat.le_of_ble_eq_true rfl) ?_
    refine V_if_eqN (tgt := 24) F dX4_ofTrain_17 (by decide) (by omega) (fun c_17 => absurd c_17 (by decide)) (fun c_17 => ?_)
    refine V_iconst (v := nI 0) F dX4_ofTrain_20 rfl ?_
    refine V_goto (tgt := 30) F dX4_ofTrain_21 (by decide) ?_
    exact V_iret F dX4_ofTrain_30 rfl (Nat.le_of_ble_eq_true rfl) (Nat.le_of_ble_eq_true rfl) (PX.fail 1 (if_pos c_6) (by decide) rfl)
  · obtain ⟨c, hc, rfl⟩ := iR_of c_6 hB.lt
    refine V_iconst (v := nI 0) F dX4_ofTrain_9 rfl ?_
    refine V_goto (tgt := 14) F dX4_ofTrain_10 (by decide) ?_
    refine V_cV1r F dX4_ofTrain_14 lk_X4_92 (ct_fails0 hm hlen) ⟨0, _, _, _, rfl, (.inl hm)⟩ (Nat.le_of_ble_eq_true rfl) (Nat.le_of_ble_eq_true rfl) (Nat.le_of_ble_eq_true rfl) (Nat.le_of_ble_eq_true rfl) (Nat.le_of_ble_eq_true rfl) ?_
    refine V_if_eqN (tgt := 24) F dX4_ofTrain_17 (by decide) (by omega) (fun c_17 => ?_) (fun c_17 => absurd c_17 (by decide))
    refine V_aload_n (i := 0) F dX4_ofTrain_24 rfl rfl ?_
    refine V_iload_n (i := 1) F dX4_ofTrain_25 rfl rfl ?_
    refine V_iload_n (i := 2) F dX4_ofTrain_26 rfl rfl ?_
    refine V_cV2r F dX4_ofTrain_27 lk_X4_76 (ct_of hset_self (gset h_g (by decide)) ((hset_ne (ne_ao hg hm)).trans hg) (by omega)) ⟨0, _, _, _, rfl, (.inl hset_self)⟩ (Nat.le_of_ble_eq_true rfl) (Nat.le_of_ble_eq_true rfl) (Nat.le_of_ble_eq_true rfl) (Nat.le_of_ble_eq_true rfl) (Nat.le_of_ble_eq_true rfl) ?_
    exact V_iret F dX4_ofTrain_30 rfl (Nat.le_of_ble_eq_true rfl) (Nat.le_of_ble_eq_true rfl) (PX.ok (if_neg (not_not_intro c_6)) (by first | rfl | (simp (disch := omega) only [tn_nI])) rfl)
theorem ct_delayOf {G : GG} {l : Launch} {h : AH} {m : Nat} {fs : List Value} {aG : Nat} {g : Nat → Nat} {p : Int32} (hm : h m = some (.inr (0, fs))) (h_g : fs[0]? = some (.ref aG)) (hg : h aG = some (iA G 304 (fun i => nI (g i)))) (hlen : fs.length = 25) (hI : GW g) : Ct G l yX4_delayOf cX4_delayOf 2 (some .int) 3 0 0 [.ref m, .int p] h (PX (if ¬ iR p (g 1) then 1 else 0) (fun k => hset h m (.inr (0, fs.set 7 (.int (nI k))))) (.int (nI (g (16 + 36 * tn p + 2)))) (hset h m (.inr (0, fs.set 7 (.int (nI 0)))))) := by
  refine Ct.of (by decide) (Nat.le_of_ble_eq_true rfl) (cat1 rfl) (fun X hXl F HN => ?_)
  subst hXl
  refine V_aload_n (i := 0) F dX4_delayOf_0 rfl rfl ?_
  refine V_iload_n (i := 1) F dX4_delayOf_1 rfl rfl ?_
  refine V_iconst (v := nI 2) F dX4_delayOf_2 rfl ?_
  refine V_cV2 F dX4_delayOf_3 lk_X4_170 (ct_ofTrain2 hm h_g hg hlen hI) ⟨0, _, _, _, rfl, .inl hm⟩ (Nat.le_of_ble_eq_true rfl) (Nat.le_of_ble_eq_true rfl) (Nat.le_of_ble_eq_true rfl) (Nat.le_of_ble_eq_true rfl) (Nat.le_of_ble_eq_true rfl) (fun v h2 hp => ?_)
  obtain ⟨x, rfl⟩ := PX.int hp
  exact V_iret F dX4_delayOf_6 rfl (Nat.le_of_ble_eq_true rfl) (Nat.le_of_ble_eq_true rfl) hp
theorem ct_stationAt {G : GG} {l : Launch} {h : AH} {m : Nat} {fs : List Value} {aG : Nat} {g : Nat → Nat} {s p : Int32} (hm : h m = some (.inr (0, fs))) (h_g : fs[0]? = some (.ref aG)) (hg : h aG = some (iA G 304 (fun i => nI (g i)))) (hlen : fs.length = 25) (hI : GW g)  : Ct G l yX4_stationAt cX4_stationAt 3 (some .int) 3 0 0 [.ref m, .int (s), .int (p)] h (PX (if ¬ (iR (s) (g 1) ∧ iR (p) (g (16 + 36 * (s : Int32).toInt.toNat + 3))) then 1 else 0) (fun k => hset h m (.inr (0, fs.set 7 (.int (nI k))))) (.int (nI (plG g (tn s) (tn p)))) (hset h m (.inr (0, fs.set 7 (.int (nI 0)))))) := by
  refine Ct.of (by decide) (Nat.le_of_ble_eq_true rfl) (cat1 rfl) (fun X hXl F HN => ?_)
  subst hXl
  obtain ⟨hB, hn0, hn1, hn2, hn3, hst, hpl⟩ := hI
  refine V_aload_n (i := 0) F dX4_stationAt_0 rfl rfl ?_
  refine V_aload_n (i := 0) F dX4_stationAt_1 rfl rfl ?_
  refine V_iload_n (i := 1) F dX4_stationAt_2 rfl rfl ?_
  refine V_iload_n (i := 2) F dX4_stationAt_3 rfl rfl ?_
  refine V_cV2r F dX4_stationAt_4 lk_X4_164 (ct_isStop hm h_g hg hn1 hB) ⟨0, _, _, _, rfl, (.inl hm)⟩ (Nat.le_of_ble_eq_true rfl) (Nat.le_of_ble_eq_true rfl) (Nat.le_of_ble_eq_true rfl) (Nat.le_of_ble_eq_true rfl) (Nat.le_of_ble_eq_true rfl) ?_
  refine V_if_eqB (tgt := 14) F dX4_stationAt_7 (by decide) (fun c_7 => ?_) (fun c_7 => ?_)
  · refine V_iconst (v := nI 1) F dX4_stationAt_14 rfl ?_
    refine V_cV1r F dX4_stationAt_15 lk_X4_92 (ct_failsP 1 hm hlen (by decide)) ⟨0, _, _, _, rfl, (.inl hm)⟩ (Nat.le_of_ble_eq_true rfl) (Nat.le_of_ble_eq_true rfl) (Nat.le_of_ble_eq_true rfl) (Nat.le_of_ble_eq_true rfl) (Nat.le_of_ble_eq_true rfl) ?_
    refine V_if_eqN (tgt := 25) F dX4_stationAt_18 (by decide) (by omega) (fun c_18 => absurd c_18 (by decide)) (fun c_18 => ?_)
    refine V_iconst (v := nI 0) F dX4_stationAt_21 rfl ?_
    refine V_goto (tgt := 31) F dX4_stationAt_22 (by decide) ?_
    exact V_iret F dX4_stationAt_31 rfl (Nat.le_of_ble_eq_true rfl) (Nat.le_of_ble_eq_true rfl) (PX.fail 1 (if_pos c_7) (by decide) rfl)
  · obtain ⟨b, hb, rfl⟩ := iR_of c_7.1 hB.lt
    have hsb := hst b hb
    have hz1 := c_7.2
    rw [toNat_nI (by omega)] at hz1
    obtain ⟨c, hc, rfl⟩ := iR_of hz1 hB.lt
    refine V_iconst (v := nI 0) F dX4_stationAt_10 rfl ?_
    refine V_goto (tgt := 15) F dX4_stationAt_11 (by decide) ?_
    refine V_cV1r F dX4_stationAt_15 lk_X4_92 (ct_fails0 hm hlen) ⟨0, _, _, _, rfl, (.inl hm)⟩ (Nat.le_of_ble_eq_true rfl) (Nat.le_of_ble_eq_true rfl) (Nat.le_of_ble_eq_true rfl) (Nat.le_of_ble_eq_true rfl) (Nat.le_of_ble_eq_true rfl) ?_
    refine V_if_eqN (tgt := 25) F dX4_stationAt_18 (by decide) (by omega) (fun c_18 => ?_) (fun c_18 => absurd c_18 (by decide))
    refine V_aload_n (i := 0) F dX4_stationAt_25 rfl rfl ?_
    refine V_iload_n (i := 1) F dX4_stationAt_26 rfl rfl ?_
    refine V_iload_n (i := 2) F dX4_stationAt_27 rfl rfl ?_
    refine V_cV2r F dX4_stationAt_28 lk_X4_102 (ct_place hset_self (gset h_g (by decide)) ((hset_ne (ne_ao hg hm)).trans hg) (by omega) (by omega)) ⟨0, _, _, _, rfl, (.inl hset_self)⟩ (Nat.le_of_ble_eq_true rfl) (Nat.le_of_ble_eq_true rfl) (Nat.le_of_ble_eq_true rfl) (Nat.le_of_ble_eq_true rfl) (Nat.le_of_ble_eq_true rfl) ?_
    exact V_iret F dX4_stationAt_31 rfl (Nat.le_of_ble_eq_true rfl) (Nat.le_of_ble_eq_true rfl) (PX.ok (if_neg (not_not_intro c_7)) (by first | rfl | (simp (disch := omega) only [tn_nI])) rfl)
theorem ct_arrivalAt {G : GG} {l : Launch} {h : AH} {m : Nat} {fs : List Value} {aG : Nat} {g : Nat → Nat} {s p : Int32} (hm : h m = some (.inr (0, fs))) (h_g : fs[0]? = some (.ref aG)) (hg : h aG = some (iA G 304 (fun i => nI (g i)))) (hlen : fs.length = 25) (hI : GW g)  : Ct G l yX4_arrivalAt cX4_arrivalAt 3 (some .int) 3 0 0 [.ref m, .int (s), .int (p)] h (PX (if ¬ (iR (s) (g 1) ∧ iR (p) (g (16 + 36 * (s : Int32).toInt.toNat + 3))) then 1 else if tn p = 0 then 2 else 0) (fun k => hset h m (.inr (0, fs.set 7 (.int (nI k))))) (.int (nI (CmG g (tn s) (tn p)))) (hset h m (.inr (0, fs.set 7 (.int (nI 0)))))) := by
  refine Ct.of (by decide) (Nat.le_of_ble_eq_true rfl) (cat1 rfl) (fun X hXl F HN => ?_)
  subst hXl
  obtain ⟨hB, hn0, hn1, hn2, hn3, hst, hpl⟩ := hI
  refine V_aload_n (i := 0) F dX4_arrivalAt_0 rfl rfl ?_
  refine V_aload_n (i := 0) F dX4_arrivalAt_1 rfl rfl ?_
  refine V_iload_n (i := 1) F dX4_arrivalAt_2 rfl rfl ?_
  refine V_iload_n (i := 2) F dX4_arrivalAt_3 rfl rfl ?_
  refine V_cV2r F dX4_arrivalAt_4 lk_X4_164 (ct_isStop hm h_g hg hn1 hB) ⟨0, _, _, _, rfl, (.inl hm)⟩ (Nat.le_of_ble_eq_true rfl) (Nat.le_of_ble_eq_true rfl) (Nat.le_of_ble_eq_true rfl) (Nat.le_of_ble_eq_true rfl) (Nat.le_of_ble_eq_true rfl) ?_
  refine V_if_neB (tgt := 14) F dX4_arrivalAt_7 (by decide) (fun c_7 => ?_) (fun c_7 => ?_)
  · obtain ⟨b, hb, rfl⟩ := iR_of c_7.1 hB.lt
    have hsb := hst b hb
    have hz1 := c_7.2
    rw [toNat_nI (by omega)] at hz1
    obtain ⟨c, hc, rfl⟩ := iR_of hz1 hB.lt
    refine V_iload_n (i := 2) F dX4_arrivalAt_14 rfl rfl ?_
    refine V_if_neN (tgt := 22) F dX4_arrivalAt_15 (by decide) (by omega) (fun c_15 => ?_) (fun c_15 => ?_)
    · refine V_iconst (v := nI 0) F dX4_arrivalAt_22 rfl ?_
      refine V_cV1r F dX4_arrivalAt_23 lk_X4_92 (ct_fails0 hm hlen) ⟨0, _, _, _, rfl, (.inl hm)⟩ (Nat.le_of_ble_eq_true rfl) (Nat.le_of_ble_eq_true rfl) (Nat.le_of_ble_eq_true rfl) (Nat.le_of_ble_eq_true rfl) (Nat.le_of_ble_eq_true rfl) ?_
      refine V_if_eqN (tgt := 33) F dX4_arrivalAt_26 (by decide) (by omega) (fun c_26 => ?_) (fun c_26 => absurd c_26 (by decide))
      refine V_aload_n (i := 0) F dX4_arrivalAt_33 rfl rfl ?_
      refine V_iload_n (i := 1) F dX4_arrivalAt_34 rfl rfl ?_
      refine V_iload_n (i := 2) F dX4_arrivalAt_35 rfl rfl ?_
      refine V_cV2r F dX4_arrivalAt_36 lk_X4_120 (ct_comes hset_self (gset h_g (by decide)) ((hset_ne (ne_ao hg hm)).trans hg) (by omega) (by omega) (by omega)) ⟨0, _, _, _, rfl, (.inl hset_self)⟩ (Nat.le_of_ble_eq_true rfl) (Nat.le_of_ble_eq_true rfl) (Nat.le_of_ble_eq_true rfl) (Nat.le_of_ble_eq_true rfl) (Nat.le_of_ble_eq_true rfl) ?_
      exact V_iret F dX4_arrivalAt_39 rfl (Nat.le_of_ble_eq_true rfl) (Nat.le_of_ble_eq_true rfl) (PX.ok ((if_neg (not_not_intro c_7)).trans (if_neg (by simp (disch := omega) only [tn_nI]; first | exact c_15 | omega))) (by first | rfl | (simp (disch := omega) only [tn_nI])) rfl)
    · refine V_iconst (v := nI 2) F dX4_arrivalAt_18 rfl ?_
      refine V_goto (tgt := 23) F dX4_arrivalAt_19 (by decide) ?_
      refine V_cV1r F dX4_arrivalAt_23 lk_X4_92 (ct_failsP 2 hm hlen (by decide)) ⟨0, _, _, _, rfl, (.inl hm)⟩ (Nat.le_of_ble_eq_true rfl) (Nat.le_of_ble_eq_true rfl) (Nat.le_of_ble_eq_true rfl) (Nat.le_of_ble_eq_true rfl) (Nat.le_of_ble_eq_true rfl) ?_
      refine V_if_eqN (tgt := 33) F dX4_arrivalAt_26 (by decide) (by omega) (fun c_26 => absurd c_26 (by decide)) (fun c_26 => ?_)
      refine V_iconst (v := nI 0) F dX4_arrivalAt_29 rfl ?_
      refine V_goto (tgt := 39) F dX4_arrivalAt_30 (by decide) ?_
      exact V_iret F dX4_arrivalAt_39 rfl (Nat.le_of_ble_eq_true rfl) (Nat.le_of_ble_eq_true rfl) (PX.fail 2 ((if_neg (not_not_intro c_7)).trans (if_pos (by simp (disch := omega) only [tn_nI]; exact c_15))) (by decide) rfl)
  · refine V_iconst (v := nI 1) F dX4_arrivalAt_10 rfl ?_
    refine V_goto (tgt := 23) F dX4_arrivalAt_11 (by decide) ?_
    refine V_cV1r F dX4_arrivalAt_23 lk_X4_92 (ct_failsP 1 hm hlen (by decide)) ⟨0, _, _, _, rfl, (.inl hm)⟩ (Nat.le_of_ble_eq_true rfl) (Nat.le_of_ble_eq_true rfl) (Nat.le_of_ble_eq_true rfl) (Nat.le_of_ble_eq_true rfl) (Nat.le_of_ble_eq_true rfl) ?_
    refine V_if_eqN (tgt := 33) F dX4_arrivalAt_26 (by decide) (by omega) (fun c_26 => absurd c_26 (by decide)) (fun c_26 => ?_)
    refine V_iconst (v := nI 0) F dX4_arrivalAt_29 rfl ?_
    refine V_goto (tgt := 39) F dX4_arrivalAt_30 (by decide) ?_
    exact V_iret F dX4_arrivalAt_39 rfl (Nat.le_of_ble_eq_true rfl) (Nat.le_of_ble_eq_true rfl) (PX.fail 1 (if_pos c_7) (by decide) rfl)
theorem ct_departureAt {G : GG} {l : Launch} {h : AH} {m : Nat} {fs : List Value} {aG : Nat} {g : Nat → Nat} {s p : Int32} (hm : h m = some (.inr (0, fs))) (h_g : fs[0]? = some (.ref aG)) (hg : h aG = some (iA G 304 (fun i => nI (g i)))) (hlen : fs.length = 25) (hI : GW g)  : Ct G l yX4_departureAt cX4_departureAt 3 (some .int) 3 0 0 [.ref m, .int (s), .int (p)] h (PX (if ¬ (iR (s) (g 1) ∧ iR (p) (g (16 + 36 * (s : Int32).toInt.toNat + 3))) then 1 else if tn p = g (16 + 36 * tn s + 3) - 1 then 2 else 0) (fun k => hset h m (.inr (0, fs.set 7 (.int (nI k))))) (.int (nI (LvG g (tn s) (tn p)))) (hset h m (.inr (0, fs.set 7 (.int (nI 0)))))) := by
  refine Ct.of (by decide) (Nat.le_of_ble_eq_true rfl) (cat1 rfl) (fun X hXl F HN => ?_)
  subst hXl
  obtain ⟨hB, hn0, hn1, hn2, hn3, hst, hpl⟩ := hI
  refine V_aload_n (i := 0) F dX4_departureAt_0 rfl rfl ?_
  refine V_aload_n (i := 0) F dX4_departureAt_1 rfl rfl ?_
  refine V_iload_n (i := 1) F dX4_departureAt_2 rfl rfl ?_
  refine V_iload_n (i := 2) F dX4_departureAt_3 rfl rfl ?_
  refine V_cV2r F dX4_departureAt_4 lk_X4_164 (ct_isStop hm h_g hg hn1 hB) ⟨0, _, _, _, rfl, (.inl hm)⟩ (Nat.le_of_ble_eq_true rfl) (Nat.le_of_ble_eq_true rfl) (Nat.le_of_ble_eq_true rfl) (Nat.le_of_ble_eq_true rfl) (Nat.le_of_ble_eq_true rfl) ?_
  refine V_if_neB (tgt := 14) F dX4_departureAt_7 (by decide) (fun c_7 => ?_) (fun c_7 => ?_)
  · obtain ⟨b, hb, rfl⟩ := iR_of c_7.1 hB.lt
    have hsb := hst b hb
    have hz1 := c_7.2
    rw [toNat_nI (by omega)] at hz1
    obtain ⟨c, hc, rfl⟩ := iR_of hz1 hB.lt
    refine V_iload_n (i := 2) F dX4_departureAt_14 rfl rfl ?_
    refine V_aload_n (i := 0) F dX4_departureAt_15 rfl rfl ?_
    refine V_iload_n (i := 1) F dX4_departureAt_16 rfl rfl ?_
    refine V_iconst (v := nI 3) F dX4_departureAt_17 rfl ?_
    refine V_cV2r F dX4_departureAt_18 lk_X4_76 (ct_of hm h_g hg (by omega)) ⟨0, _, _, _, rfl, (.inl hm)⟩ (Nat.le_of_ble_eq_true rfl) (Nat.le_of_ble_eq_true rfl) (Nat.le_of_ble_eq_true rfl) (Nat.le_of_ble_eq_true rfl) (Nat.le_of_ble_eq_true rfl) ?_
    refine V_iconst (v := nI 1) F dX4_departureAt_21 rfl ?_
    refine V_isubN F dX4_departureAt_22 (by omega) ?_
    refine V_icmp_neN (tgt := 30) F dX4_departureAt_23 (by decide) (by omega) (by omega) (fun c_23 => ?_) (fun c_23 => ?_)
    · refine V_iconst (v := nI 0) F dX4_departureAt_30 rfl ?_
      refine V_cV1r F dX4_departureAt_31 lk_X4_92 (ct_fails0 hm hlen) ⟨0, _, _, _, rfl, (.inl hm)⟩ (Nat.le_of_ble_eq_true rfl) (Nat.le_of_ble_eq_true rfl) (Nat.le_of_ble_eq_true rfl) (Nat.le_of_ble_eq_true rfl) (Nat.le_of_ble_eq_true rfl) ?_
      refine V_if_eqN (tgt := 41) F dX4_departureAt_34 (by decide) (by omega) (fun c_34 => ?_) (fun c_34 => absurd c_34 (by decide))
      refine V_aload_n (i := 0) F dX4_departureAt_41 rfl rfl ?_
      refine V_iload_n (i := 1) F dX4_departureAt_42 rfl rfl ?_
      refine V_iload_n (i := 2) F dX4_departureAt_43 rfl rfl ?_
      refine V_cV2r F dX4_departureAt_44 lk_X4_80 (ct_leaves hset_self (gset h_g (by decide)) ((hset_ne (ne_ao hg hm)).trans hg) (by omega) (by omega)) ⟨0, _, _, _, rfl, (.inl hset_self)⟩ (Nat.le_of_ble_eq_true rfl) (Nat.le_of_ble_eq_true rfl) (Nat.le_of_ble_eq_true rfl) (Nat.le_of_ble_eq_true rfl) (Nat.le_of_ble_eq_true rfl) ?_
      exact V_iret F dX4_departureAt_47 rfl (Nat.le_of_ble_eq_true rfl) (Nat.le_of_ble_eq_true rfl) (PX.ok ((if_neg (not_not_intro c_7)).trans (if_neg (by simp (disch := omega) only [tn_nI]; first | exact c_23 | omega))) (by first | rfl | (simp (disch := omega) only [tn_nI])) rfl)
    · refine V_iconst (v := nI 2) F dX4_departureAt_26 rfl ?_
      refine V_goto (tgt := 31) F dX4_departureAt_27 (by decide) ?_
      refine V_cV1r F dX4_departureAt_31 lk_X4_92 (ct_failsP 2 hm hlen (by decide)) ⟨0, _, _, _, rfl, (.inl hm)⟩ (Nat.le_of_ble_eq_true rfl) (Nat.le_of_ble_eq_true rfl) (Nat.le_of_ble_eq_true rfl) (Nat.le_of_ble_eq_true rfl) (Nat.le_of_ble_eq_true rfl) ?_
      refine V_if_eqN (tgt := 41) F dX4_departureAt_34 (by decide) (by omega) (fun c_34 => absurd c_34 (by decide)) (fun c_34 => ?_)
      refine V_iconst (v := nI 0) F dX4_departureAt_37 rfl ?_
      refine V_goto (tgt := 47) F dX4_departureAt_38 (by decide) ?_
      exact V_iret F dX4_departureAt_47 rfl (Nat.le_of_ble_eq_true rfl) (Nat.le_of_ble_eq_true rfl) (PX.fail 2 ((if_neg (not_not_intro c_7)).trans (if_pos (by simp (disch := omega) only [tn_nI]; exact c_23))) (by decide) rfl)
  · refine V_iconst (v := nI 1) F dX4_departureAt_10 rfl ?_
    refine V_goto (tgt := 31) F dX4_departureAt_11 (by decide) ?_
    refine V_cV1r F dX4_departureAt_31 lk_X4_92 (ct_failsP 1 hm hlen (by decide)) ⟨0, _, _, _, rfl, (.inl hm)⟩ (Nat.le_of_ble_eq_true rfl) (Nat.le_of_ble_eq_true rfl) (Nat.le_of_ble_eq_true rfl) (Nat.le_of_ble_eq_true rfl) (Nat.le_of_ble_eq_true rfl) ?_
    refine V_if_eqN (tgt := 41) F dX4_departureAt_34 (by decide) (by omega) (fun c_34 => absurd c_34 (by decide)) (fun c_34 => ?_)
    refine V_iconst (v := nI 0) F dX4_departureAt_37 rfl ?_
    refine V_goto (tgt := 47) F dX4_departureAt_38 (by decide) ?_
    exact V_iret F dX4_departureAt_47 rfl (Nat.le_of_ble_eq_true rfl) (Nat.le_of_ble_eq_true rfl) (PX.fail 1 (if_pos c_7) (by decide) rfl)
theorem ct_load {G : GG} {l : Launch} {h : AH} {m : Nat} {fs : List Value} {aG : Nat} {g : Nat → Nat} {s p : Int32} (hm : h m = some (.inr (0, fs))) (h_g : fs[0]? = some (.ref aG)) (hg : h aG = some (iA G 304 (fun i => nI (g i)))) (hlen : fs.length = 25) (hI : GW g)  : Ct G l yX4_load cX4_load 3 (some .int) 3 0 0 [.ref m, .int (s), .int (p)] h (PX (if ¬ (iR (s) (g 1) ∧ iR (p) (g (16 + 36 * (s : Int32).toInt.toNat + 3) - 1)) then 1 else 0) (fun k => hset h m (.inr (0, fs.set 7 (.int (nI k))))) (.int (nI (ldG g (tn s) (tn p)))) (hset h m (.inr (0, fs.set 7 (.int (nI 0)))))) := by
  refine Ct.of (by decide) (Nat.le_of_ble_eq_true rfl) (cat1 rfl) (fun X hXl F HN => ?_)
  subst hXl
  obtain ⟨hB, hn0, hn1, hn2, hn3, hst, hpl⟩ := hI
  refine V_aload_n (i := 0) F dX4_load_0 rfl rfl ?_
  refine V_aload_n (i := 0) F dX4_load_1 rfl rfl ?_
  refine V_iload_n (i := 1) F dX4_load_2 rfl rfl ?_
  refine V_iload_n (i := 2) F dX4_load_3 rfl rfl ?_
  refine V_cV2r F dX4_load_4 lk_X4_173 (ct_isLeg hm h_g hg hn1 hB) ⟨0, _, _, _, rfl, (.inl hm)⟩ (Nat.le_of_ble_eq_true rfl) (Nat.le_of_ble_eq_true rfl) (Nat.le_of_ble_eq_true rfl) (Nat.le_of_ble_eq_true rfl) (Nat.le_of_ble_eq_true rfl) ?_
  refine V_if_eqB (tgt := 14) F dX4_load_7 (by decide) (fun c_7 => ?_) (fun c_7 => ?_)
  · refine V_iconst (v := nI 1) F dX4_load_14 rfl ?_
    refine V_cV1r F dX4_load_15 lk_X4_92 (ct_failsP 1 hm hlen (by decide)) ⟨0, _, _, _, rfl, (.inl hm)⟩ (Nat.le_of_ble_eq_true rfl) (Nat.le_of_ble_eq_true rfl) (Nat.le_of_ble_eq_true rfl) (Nat.le_of_ble_eq_true rfl) (Nat.le_of_ble_eq_true rfl) ?_
    refine V_if_eqN (tgt := 25) F dX4_load_18 (by decide) (by omega) (fun c_18 => absurd c_18 (by decide)) (fun c_18 => ?_)
    refine V_iconst (v := nI 0) F dX4_load_21 rfl ?_
    refine V_goto (tgt := 31) F dX4_load_22 (by decide) ?_
    exact V_iret F dX4_load_31 rfl (Nat.le_of_ble_eq_true rfl) (Nat.le_of_ble_eq_true rfl) (PX.fail 1 (if_pos c_7) (by decide) rfl)
  · obtain ⟨b, hb, rfl⟩ := iR_of c_7.1 hB.lt
    have hsb := hst b hb
    have hz1 := c_7.2
    rw [toNat_nI (by omega)] at hz1
    obtain ⟨c, hc, rfl⟩ := iR_of hz1 (Nat.lt_of_le_of_lt (Nat.sub_le _ _) hB.lt)
    refine V_iconst (v := nI 0) F dX4_load_10 rfl ?_
    refine V_goto (tgt := 15) F dX4_load_11 (by decide) ?_
    refine V_cV1r F dX4_load_15 lk_X4_92 (ct_fails0 hm hlen) ⟨0, _, _, _, rfl, (.inl hm)⟩ (Nat.le_of_ble_eq_true rfl) (Nat.le_of_ble_eq_true rfl) (Nat.le_of_ble_eq_true rfl) (Nat.le_of_ble_eq_true rfl) (Nat.le_of_ble_eq_true rfl) ?_
    refine V_if_eqN (tgt := 25) F dX4_load_18 (by decide) (by omega) (fun c_18 => ?_) (fun c_18 => absurd c_18 (by decide))
    refine V_aload_n (i := 0) F dX4_load_25 rfl rfl ?_
    refine V_iload_n (i := 1) F dX4_load_26 rfl rfl ?_
    refine V_iload_n (i := 2) F dX4_load_27 rfl rfl ?_
    refine V_cV2r F dX4_load_28 lk_X4_89 (ct_carries hset_self (gset h_g (by decide)) ((hset_ne (ne_ao hg hm)).trans hg) (by omega) (by omega) hn3 hB) ⟨0, _, _, _, rfl, (.inl hset_self)⟩ (Nat.le_of_ble_eq_true rfl) (Nat.le_of_ble_eq_true rfl) (Nat.le_of_ble_eq_true rfl) (Nat.le_of_ble_eq_true rfl) (Nat.le_of_ble_eq_true rfl) ?_
    exact V_iret F dX4_load_31 rfl (Nat.le_of_ble_eq_true rfl) (Nat.le_of_ble_eq_true rfl) (PX.ok (if_neg (not_not_intro c_7)) (by first | rfl | (simp (disch := omega) only [tn_nI])) rfl)
theorem ct_suitcaseAt {G : GG} {l : Launch} {h : AH} {m : Nat} {fs : List Value} {aG : Nat} {g : Nat → Nat} {p : Int32} (hm : h m = some (.inr (0, fs))) (h_g : fs[0]? = some (.ref aG)) (hg : h aG = some (iA G 304 (fun i => nI (g i)))) (hlen : fs.length = 25) (hI : GW g)  : Ct G l yX4_suitcaseAt cX4_suitcaseAt 2 (some .int) 1 0 0 [.ref m, .int (p)] h (PX (if ¬ iR p (g 2) then 1 else 0) (fun k => hset h m (.inr (0, fs.set 7 (.int (nI k))))) (.int (nI (g (232 + 4 * tn p + 0)))) (hset h m (.inr (0, fs.set 7 (.int (nI 0)))))) := by
  refine Ct.of (by decide) (Nat.le_of_ble_eq_true rfl) (cat1 rfl) (fun X hXl F HN => ?_)
  subst hXl
  obtain ⟨hB, hn0, hn1, hn2, hn3, hst, hpl⟩ := hI
  refine V_aload_n (i := 0) F dX4_suitcaseAt_0 rfl rfl ?_
  refine V_iload_n (i := 1) F dX4_suitcaseAt_1 rfl rfl ?_
  refine V_iconst (v := nI 0) F dX4_suitcaseAt_2 rfl ?_
  refine V_aload_n (i := 0) F dX4_suitcaseAt_3 rfl rfl ?_
  refine V_getf F dX4_suitcaseAt_4 fc_X4_7_X4 (.inl hm) h_g ?_
  refine V_iconst (v := nI 2) F dX4_suitcaseAt_7 rfl ?_
  refine V_ialdG F dX4_suitcaseAt_8 (.inl hg) (by omega) (by decide) rfl ?_
  refine V_iconst (v := nI 1) F dX4_suitcaseAt_9 rfl ?_
  refine V_isub F dX4_suitcaseAt_10 ?_
  refine V_cS3r F dX4_suitcaseAt_11 lk_X4_68 (ct_in ) (Nat.le_of_ble_eq_true rfl) (Nat.le_of_ble_eq_true rfl) (Nat.le_of_ble_eq_true rfl) (Nat.le_of_ble_eq_true rfl) (Nat.le_of_ble_eq_true rfl) ?_
  refine V_if_eqB (tgt := 21) F dX4_suitcaseAt_14 (by decide) (fun c_14 => ?_) (fun c_14 => ?_)
  · refine V_iconst (v := nI 1) F dX4_suitcaseAt_21 rfl ?_
    refine V_cV1r F dX4_suitcaseAt_22 lk_X4_92 (ct_failsP 1 hm hlen (by decide)) ⟨0, _, _, _, rfl, (.inl hm)⟩ (Nat.le_of_ble_eq_true rfl) (Nat.le_of_ble_eq_true rfl) (Nat.le_of_ble_eq_true rfl) (Nat.le_of_ble_eq_true rfl) (Nat.le_of_ble_eq_true rfl) ?_
    refine V_if_eqN (tgt := 32) F dX4_suitcaseAt_25 (by decide) (by omega) (fun c_25 => absurd c_25 (by decide)) (fun c_25 => ?_)
    refine V_iconst (v := nI 0) F dX4_suitcaseAt_28 rfl ?_
    refine V_goto (tgt := 38) F dX4_suitcaseAt_29 (by decide) ?_
    exact V_iret F dX4_suitcaseAt_38 rfl (Nat.le_of_ble_eq_true rfl) (Nat.le_of_ble_eq_true rfl) (PX.fail 1 (if_pos (fun z => c_14 ((iR_in hB.lt).mpr z))) (by decide) rfl)
  · obtain ⟨c, hc, rfl⟩ := iR_of ((iR_in hB.lt).mp c_14) hB.lt
    refine V_iconst (v := nI 0) F dX4_suitcaseAt_17 rfl ?_
    refine V_goto (tgt := 22) F dX4_suitcaseAt_18 (by decide) ?_
    refine V_cV1r F dX4_suitcaseAt_22 lk_X4_92 (ct_fails0 hm hlen) ⟨0, _, _, _, rfl, (.inl hm)⟩ (Nat.le_of_ble_eq_true rfl) (Nat.le_of_ble_eq_true rfl) (Nat.le_of_ble_eq_true rfl) (Nat.le_of_ble_eq_true rfl) (Nat.le_of_ble_eq_true rfl) ?_
    refine V_if_eqN (tgt := 32) F dX4_suitcaseAt_25 (by decide) (by omega) (fun c_25 => ?_) (fun c_25 => absurd c_25 (by decide))
    refine V_aload_n (i := 0) F dX4_suitcaseAt_32 rfl rfl ?_
    refine V_iload_n (i := 1) F dX4_suitcaseAt_33 rfl rfl ?_
    refine V_iconst (v := nI 0) F dX4_suitcaseAt_34 rfl ?_
    refine V_cV2r F dX4_suitcaseAt_35 lk_X4_141 (ct_the hset_self (gset h_g (by decide)) ((hset_ne (ne_ao hg hm)).trans hg) (by omega)) ⟨0, _, _, _, rfl, (.inl hset_self)⟩ (Nat.le_of_ble_eq_true rfl) (Nat.le_of_ble_eq_true rfl) (Nat.le_of_ble_eq_true rfl) (Nat.le_of_ble_eq_true rfl) (Nat.le_of_ble_eq_true rfl) ?_
    exact V_iret F dX4_suitcaseAt_38 rfl (Nat.le_of_ble_eq_true rfl) (Nat.le_of_ble_eq_true rfl) (PX.ok (if_neg (not_not_intro ((iR_in hB.lt).mp c_14))) (by first | rfl | (simp (disch := omega) only [tn_nI])) rfl)
theorem ct_bookingAt {G : GG} {l : Launch} {h : AH} {m : Nat} {fs : List Value} {aG : Nat} {g : Nat → Nat} {p : Int32} (hm : h m = some (.inr (0, fs))) (h_g : fs[0]? = some (.ref aG)) (hg : h aG = some (iA G 304 (fun i => nI (g i)))) (hlen : fs.length = 25) (hI : GW g)  : Ct G l yX4_bookingAt cX4_bookingAt 2 (some .int) 1 0 0 [.ref m, .int (p)] h (PX (if ¬ iR p (g 3) then 1 else 0) (fun k => hset h m (.inr (0, fs.set 7 (.int (nI k))))) (.int (nI (g (264 + 4 * tn p + 0)))) (hset h m (.inr (0, fs.set 7 (.int (nI 0)))))) := by
  refine Ct.of (by decide) (Nat.le_of_ble_eq_true rfl) (cat1 rfl) (fun X hXl F HN => ?_)
  subst hXl
  obtain ⟨hB, hn0, hn1, hn2, hn3, hst, hpl⟩ := hI
  refine V_aload_n (i := 0) F dX4_bookingAt_0 rfl rfl ?_
  refine V_iload_n (i := 1) F dX4_bookingAt_1 rfl rfl ?_
  refine V_iconst (v := nI 0) F dX4_bookingAt_2 rfl ?_
  refine V_aload_n (i := 0) F dX4_bookingAt_3 rfl rfl ?_
  refine V_getf F dX4_bookingAt_4 fc_X4_7_X4 (.inl hm) h_g ?_
  refine V_iconst (v := nI 3) F dX4_bookingAt_7 rfl ?_
  refine V_ialdG F dX4_bookingAt_8 (.inl hg) (by omega) (by decide) rfl ?_
  refine V_iconst (v := nI 1) F dX4_bookingAt_9 rfl ?_
  refine V_isub F dX4_bookingAt_10 ?_
  refine V_cS3r F dX4_bookingAt_11 lk_X4_68 (ct_in ) (Nat.le_of_ble_eq_true rfl) (Nat.le_of_ble_eq_true rfl) (Nat.le_of_ble_eq_true rfl) (Nat.le_of_ble_eq_true rfl) (Nat.le_of_ble_eq_true rfl) ?_
  refine V_if_eqB (tgt := 21) F dX4_bookingAt_14 (by decide) (fun c_14 => ?_) (fun c_14 => ?_)
  · refine V_iconst (v := nI 1) F dX4_bookingAt_21 rfl ?_
    refine V_cV1r F dX4_bookingAt_22 lk_X4_92 (ct_failsP 1 hm hlen (by decide)) ⟨0, _, _, _, rfl, (.inl hm)⟩ (Nat.le_of_ble_eq_true rfl) (Nat.le_of_ble_eq_true rfl) (Nat.le_of_ble_eq_true rfl) (Nat.le_of_ble_eq_true rfl) (Nat.le_of_ble_eq_true rfl) ?_
    refine V_if_eqN (tgt := 32) F dX4_bookingAt_25 (by decide) (by omega) (fun c_25 => absurd c_25 (by decide)) (fun c_25 => ?_)
    refine V_iconst (v := nI 0) F dX4_bookingAt_28 rfl ?_
    refine V_goto (tgt := 38) F dX4_bookingAt_29 (by decide) ?_
    exact V_iret F dX4_bookingAt_38 rfl (Nat.le_of_ble_eq_true rfl) (Nat.le_of_ble_eq_true rfl) (PX.fail 1 (if_pos (fun z => c_14 ((iR_in hB.lt).mpr z))) (by decide) rfl)
  · obtain ⟨c, hc, rfl⟩ := iR_of ((iR_in hB.lt).mp c_14) hB.lt
    refine V_iconst (v := nI 0) F dX4_bookingAt_17 rfl ?_
    refine V_goto (tgt := 22) F dX4_bookingAt_18 (by decide) ?_
    refine V_cV1r F dX4_bookingAt_22 lk_X4_92 (ct_fails0 hm hlen) ⟨0, _, _, _, rfl, (.inl hm)⟩ (Nat.le_of_ble_eq_true rfl) (Nat.le_of_ble_eq_true rfl) (Nat.le_of_ble_eq_true rfl) (Nat.le_of_ble_eq_true rfl) (Nat.le_of_ble_eq_true rfl) ?_
    refine V_if_eqN (tgt := 32) F dX4_bookingAt_25 (by decide) (by omega) (fun c_25 => ?_) (fun c_25 => absurd c_25 (by decide))
    refine V_aload_n (i := 0) F dX4_bookingAt_32 rfl rfl ?_
    refine V_iload_n (i := 1) F dX4_bookingAt_33 rfl rfl ?_
    refine V_iconst (v := nI 0) F dX4_bookingAt_34 rfl ?_
    refine V_cV2r F dX4_bookingAt_35 lk_X4_83 (ct_by hset_self (gset h_g (by decide)) ((hset_ne (ne_ao hg hm)).trans hg) (by omega)) ⟨0, _, _, _, rfl, (.inl hset_self)⟩ (Nat.le_of_ble_eq_true rfl) (Nat.le_of_ble_eq_true rfl) (Nat.le_of_ble_eq_true rfl) (Nat.le_of_ble_eq_true rfl) (Nat.le_of_ble_eq_true rfl) ?_
    exact V_iret F dX4_bookingAt_38 rfl (Nat.le_of_ble_eq_true rfl) (Nat.le_of_ble_eq_true rfl) (PX.ok (if_neg (not_not_intro ((iR_in hB.lt).mp c_14))) (by first | rfl | (simp (disch := omega) only [tn_nI])) rfl)
