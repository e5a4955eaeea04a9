set_option maxRecDepth 100000
def fdP (P : Nat → Prop) [DecidablePred P] (n : Nat) : Option Nat := (List.range n).find? (fun k => decide (P k))
theorem fdP_some {P : Nat → Prop} [DecidablePred P] {n j : Nat} (hj : j < n) (hp : P j) (ha : ∀ i, i < j → ¬ P i) : fdP P n = some j := by
  unfold fdP
  rw [List.find?_range_eq_some]
  exact ⟨by simpa using hp, by simp [hj], fun i hi => by simpa using ha i hi⟩
theorem fdP_none {P : Nat → Prop} [DecidablePred P] {n : Nat} (ha : ∀ i, i < n → ¬ P i) : fdP P n = none := by
  unfold fdP
  rw [List.find?_eq_none]
  intro x hx
  simpa using ha x (List.mem_range.mp hx)
theorem fdP_lt {P : Nat → Prop} [DecidablePred P] {n j : Nat} (h : fdP P n = some j) : j < n ∧ P j := by
  unfold fdP at h
  rw [List.find?_range_eq_some] at h
  exact ⟨by simpa using h.2.1, by simpa using h.1⟩
/-- how many cases stand ahead of case k -/
def rkC (g : Nat → Nat) (k o : Nat) : Nat := if g (232 + 4 * o + 3) < g (232 + 4 * k + 3) ∨ (g (232 + 4 * o + 3) = g (232 + 4 * k + 3) ∧ o < k) then 1 else 0
def rkG (g : Nat → Nat) (k : Nat) : Nat → Nat
  | 0 => 0
  | o + 1 => rkG g k o + rkC g k o
/-- legs in all; loads of suitcases twice -/
def lgG (g : Nat → Nat) : Nat → Nat
  | 0 => 0
  | t + 1 => lgG g t + (g (16 + 36 * t + 3) - 1)
def clI (g : Nat → Nat) (t a : Nat) : Nat → Nat
  | 0 => a
  | k + 1 => clI g t a k + 2 * g (16 + 36 * t + (28 + k))
def clG (g : Nat → Nat) : Nat → Nat
  | 0 => 0
  | t + 1 => clI g t (clG g t) (g (16 + 36 * t + 3) - 1)
/-- the most bookings on a leg -/
def ndG (g : Nat → Nat) (t : Nat) : Nat → Nat
  | 0 => 0
  | k + 1 => if ndG g t k < bkG g t k (g 3) then bkG g t k (g 3) else ndG g t k
theorem ndG_le {g : Nat → Nat} {t : Nat} (h3 : g 3 ≤ 10) : ∀ k, ndG g t k ≤ 10
  | 0 => Nat.zero_le _
  | k + 1 => by
    unfold ndG
    have := bkG_le (g := g) (t := t) (k := k) (n := g 3)
    have := ndG_le (t := t) h3 k
    split <;> omega
/-- the first train: found, and when it leaves -/
def ntI (g : Nat → Nat) (s v t : Nat) (a : Option Nat × Nat) : Nat → Option Nat × Nat
  | 0 => a
  | k + 1 => if plG g t k = s ∧ v ≤ LvG g t k ∧ LvG g t k < (ntI g s v t a k).2 then (some t, LvG g t k) else ntI g s v t a k
def ntO (g : Nat → Nat) (s v : Nat) : Nat → Option Nat × Nat
  | 0 => (none, 1000000)
  | t + 1 => ntI g s v t (ntO g s v t) (g (16 + 36 * t + 3) - 1)
def rO (o : Option Nat) : Int32 := match o with | some k => nI k | none => -1
theorem ntI_le {g : Nat → Nat} {s v t : Nat} {a : Option Nat × Nat} (ha : a.2 ≤ 1000000) : ∀ k, (ntI g s v t a k).2 ≤ 1000000
  | 0 => ha
  | k + 1 => by
    have := ntI_le (g := g) (s := s) (v := v) (t := t) ha k
    unfold ntI
    split
    · next h => exact Nat.le_trans (Nat.le_of_lt h.2.2) this
    · exact this
theorem ntO_le {g : Nat → Nat} {s v : Nat} : ∀ t, (ntO g s v t).2 ≤ 1000000
  | 0 => Nat.le_refl _
  | t + 1 => ntI_le (ntO_le t) _
theorem ntI_o {g : Nat → Nat} {s v t : Nat} {a : Option Nat × Nat} (ha : ∀ x, a.1 = some x → x < 6) (ht : t < 6) : ∀ k x, (ntI g s v t a k).1 = some x → x < 6
  | 0, x, h => ha x h
  | k + 1, x, h => by
    unfold ntI at h
    split at h
    · cases h; exact ht
    · exact ntI_o ha ht k x h
theorem ntO_o {g : Nat → Nat} {s v : Nat} : ∀ t, t ≤ 6 → ∀ x, (ntO g s v t).1 = some x → x < 6
  | 0, _, x, h => by cases h
  | t + 1, ht, x, h => ntI_o (ntO_o t (by omega)) (by omega) _ x h
def smI (g : Nat → Nat) (t a : Nat) : Nat → Nat
  | 0 => a
  | k + 1 => smI g t a k + ldG g t k
def smG (g : Nat → Nat) : Nat → Nat
  | 0 => 0
  | t + 1 => smI g t (smG g t) (g (16 + 36 * t + 3) - 1)
def fuC (g : Nat → Nat) (t k : Nat) : Nat := if g (16 + 36 * t + 0) ≤ ldG g t k then 1 else 0
def fuI (g : Nat → Nat) (t a : Nat) : Nat → Nat
  | 0 => a
  | k + 1 => fuI g t a k + fuC g t k
def fuG (g : Nat → Nat) : Nat → Nat
  | 0 => 0
  | t + 1 => fuI g t (fuG g t) (g (16 + 36 * t + 3) - 1)

theorem ct_isFull {G : GG} {l : Launch} {h : AH} {m : Nat} {fs : List Value} {aG : Nat} {g : Nat → Nat} {s p : Int32} (hm : h m = some (.inr (0, fs))) (h_g : fs[0]? = some (.ref aG)) (hg : h aG = some (iA G 304 (fun i => nI (g i)))) (hlen : fs.length = 25) (hI : GW g)  : Ct G l yX4_isFull cX4_isFull 3 (some .boolean) 4 0 0 [.ref m, .int (s), .int (p)] h (PX (if ¬ (iR (s) (g 1) ∧ iR (p) (g (16 + 36 * (s : Int32).toInt.toNat + 3) - 1)) then 1 else 0) (fun k => hset h m (.inr (0, fs.set 7 (.int (nI k))))) (.int (b2 (g (16 + 36 * tn s + 0) ≤ ldG g (tn s) (tn p)))) (hset h m (.inr (0, fs.set 7 (.int (nI 0)))))) := by
  refine Ct.of (by decide) (Nat.le_of_ble_eq_true rfl) (cat1 rfl) (fun X hXl F HN => ?_)
  subst hXl
  obtain ⟨hB, hn0, hn1, hn2, hn3, hst, hpl⟩ := hI
  refine V_aload_n (i := 0) F dX4_isFull_0 rfl rfl ?_
  refine V_aload_n (i := 0) F dX4_isFull_1 rfl rfl ?_
  refine V_iload_n (i := 1) F dX4_isFull_2 rfl rfl ?_
  refine V_iload_n (i := 2) F dX4_isFull_3 rfl rfl ?_
  refine V_cV2r F dX4_isFull_4 lk_X4_173 (ct_isLeg hm h_g hg hn1 hB) ⟨0, _, _, _, rfl, (.inl hm)⟩ (Nat.le_of_ble_eq_true rfl) (Nat.le_of_ble_eq_true rfl) (Nat.le_of_ble_eq_true rfl) (Nat.le_of_ble_eq_true rfl) (Nat.le_of_ble_eq_true rfl) ?_
  refine V_if_eqB (tgt := 14) F dX4_isFull_7 (by decide) (fun c_7 => ?_) (fun c_7 => ?_)
  · refine V_iconst (v := nI 1) F dX4_isFull_14 rfl ?_
    refine V_cV1r F dX4_isFull_15 lk_X4_92 (ct_failsP 1 hm hlen (by decide)) ⟨0, _, _, _, rfl, (.inl hm)⟩ (Nat.le_of_ble_eq_true rfl) (Nat.le_of_ble_eq_true rfl) (Nat.le_of_ble_eq_true rfl) (Nat.le_of_ble_eq_true rfl) (Nat.le_of_ble_eq_true rfl) ?_
    refine V_if_neN (tgt := 34) F dX4_isFull_18 (by decide) (by omega) (fun c_18 => ?_) (fun c_18 => absurd c_18 (by decide))
    refine V_iconst (v := nI 0) F dX4_isFull_34 rfl ?_
    exact V_iret F dX4_isFull_35 rfl (Nat.le_of_ble_eq_true rfl) (Nat.le_of_ble_eq_true rfl) (PX.fail 1 (if_pos c_7) (by decide) rfl)
  · obtain ⟨b, hb, rfl⟩ := iR_of c_7.1 hB.lt
    have hsb := hst b hb
    have hz1 := c_7.2
    rw [toNat_nI (by omega)] at hz1
    obtain ⟨c, hc, rfl⟩ := iR_of hz1 (Nat.lt_of_le_of_lt (Nat.sub_le _ _) hB.lt)
    refine V_iconst (v := nI 0) F dX4_isFull_10 rfl ?_
    refine V_goto (tgt := 15) F dX4_isFull_11 (by decide) ?_
    refine V_cV1r F dX4_isFull_15 lk_X4_92 (ct_fails0 hm hlen) ⟨0, _, _, _, rfl, (.inl hm)⟩ (Nat.le_of_ble_eq_true rfl) (Nat.le_of_ble_eq_true rfl) (Nat.le_of_ble_eq_true rfl) (Nat.le_of_ble_eq_true rfl) (Nat.le_of_ble_eq_true rfl) ?_
    refine V_if_neN (tgt := 34) F dX4_isFull_18 (by decide) (by omega) (fun c_18 => absurd c_18 (by decide)) (fun c_18 => ?_)
    refine V_aload_n (i := 0) F dX4_isFull_21 rfl rfl ?_
    refine V_iload_n (i := 1) F dX4_isFull_22 rfl rfl ?_
    refine V_iload_n (i := 2) F dX4_isFull_23 rfl rfl ?_
    refine V_cV2r F dX4_isFull_24 lk_X4_116 (ct_isTaken hset_self (gset h_g (by decide)) ((hset_ne (ne_ao hg hm)).trans hg) (by omega) (by omega) hn3 hB) ⟨0, _, _, _, rfl, (.inl hset_self)⟩ (Nat.le_of_ble_eq_true rfl) (Nat.le_of_ble_eq_true rfl) (Nat.le_of_ble_eq_true rfl) (Nat.le_of_ble_eq_true rfl) (Nat.le_of_ble_eq_true rfl) ?_
    refine V_if_eqB (tgt := 34) F dX4_isFull_27 (by decide) (fun c_27 => ?_) (fun c_27 => ?_)
    · refine V_iconst (v := nI 0) F dX4_isFull_34 rfl ?_
      exact V_iret F dX4_isFull_35 rfl (Nat.le_of_ble_eq_true rfl) (Nat.le_of_ble_eq_true rfl) (PX.ok (if_neg (not_not_intro c_7)) (by simp (disch := omega) only [tn_nI]; exact congrArg Value.int (b2_f c_27).symm) rfl)
    · refine V_iconst (v := nI 1) F dX4_isFull_30 rfl ?_
      refine V_goto (tgt := 35) F dX4_isFull_31 (by decide) ?_
      exact V_iret F dX4_isFull_35 rfl (Nat.le_of_ble_eq_true rfl) (Nat.le_of_ble_eq_true rfl) (PX.ok (if_neg (not_not_intro c_7)) (by simp (disch := omega) only [tn_nI]; exact congrArg Value.int (b2_t c_27).symm) rfl)
theorem ct_ofCaseN {G : GG} {l : Launch} {h : AH} {m : Nat} {fs : List Value} {aG : Nat} {g : Nat → Nat} {p : Int32} {w : Nat} (hm : h m = some (.inr (0, fs))) (h_g : fs[0]? = some (.ref aG)) (hg : h aG = some (iA G 304 (fun i => nI (g i)))) (hlen : fs.length = 25) (hI : GW g) (hfo : fdO g 232 p (g 2) = none) : Ct G l yX4_ofCase cX4_ofCase 3 (some .int) 3 0 0 [.ref m, .int (p), .int (nI (w))] h (PR (.int (nI 0)) (hset h m (.inr (0, fs.set 7 (.int (nI 1)))))) := by
  refine Ct.of (by decide) (Nat.le_of_ble_eq_true rfl) (cat1 rfl) (fun X hXl F HN => ?_)
  subst hXl
  obtain ⟨hB, hn0, hn1, hn2, hn3, hst, hpl⟩ := hI
  refine V_aload_n (i := 0) F dX4_ofCase_0 rfl rfl ?_
  refine V_iload_n (i := 1) F dX4_ofCase_1 rfl rfl ?_
  refine V_cV1r F dX4_ofCase_2 lk_X4_148 (ct_isLostN hm h_g hg hlen hn2 hB hfo) ⟨0, _, _, _, rfl, (.inl hm)⟩ (Nat.le_of_ble_eq_true rfl) (Nat.le_of_ble_eq_true rfl) (Nat.le_of_ble_eq_true rfl) (Nat.le_of_ble_eq_true rfl) (Nat.le_of_ble_eq_true rfl) ?_
  refine V_if_eqN (tgt := 12) F dX4_ofCase_5 (by decide) (by omega) (fun c_5 => absurd c_5 (by decide)) (fun c_5 => ?_)
  refine V_iconst (v := nI 0) F dX4_ofCase_8 rfl ?_
  refine V_goto (tgt := 22) F dX4_ofCase_9 (by decide) ?_
  exact V_iret F dX4_ofCase_22 rfl (Nat.le_of_ble_eq_true rfl) (Nat.le_of_ble_eq_true rfl) ⟨rfl, rfl⟩
theorem ct_ofCaseS {G : GG} {l : Launch} {h : AH} {m : Nat} {fs : List Value} {aG : Nat} {g : Nat → Nat} {p : Int32} {w k : Nat} (hm : h m = some (.inr (0, fs))) (h_g : fs[0]? = some (.ref aG)) (hg : h aG = some (iA G 304 (fun i => nI (g i)))) (hlen : fs.length = 25) (hI : GW g) (hwl : w < 4) (hfo : fdO g 232 p (g 2) = some k) : Ct G l yX4_ofCase cX4_ofCase 3 (some .int) 3 0 0 [.ref m, .int (p), .int (nI (w))] h (PR (.int (nI (g (232 + 4 * k + w)))) (hset h m (.inr (0, fs.set 7 (.int (nI 0)))))) := by
  refine Ct.of (by decide) (Nat.le_of_ble_eq_true rfl) (cat1 rfl) (fun X hXl F HN => ?_)
  subst hXl
  obtain ⟨hB, hn0, hn1, hn2, hn3, hst, hpl⟩ := hI
  have hk2 := (fdO_lt hfo).1
  refine V_aload_n (i := 0) F dX4_ofCase_0 rfl rfl ?_
  refine V_iload_n (i := 1) F dX4_ofCase_1 rfl rfl ?_
  refine V_cV1r F dX4_ofCase_2 lk_X4_148 (ct_isLostS hm h_g hg hlen hn2 hB hfo) ⟨0, _, _, _, rfl, (.inl hm)⟩ (Nat.le_of_ble_eq_true rfl) (Nat.le_of_ble_eq_true rfl) (Nat.le_of_ble_eq_true rfl) (Nat.le_of_ble_eq_true rfl) (Nat.le_of_ble_eq_true rfl) ?_
  refine V_if_eqN (tgt := 12) F dX4_ofCase_5 (by decide) (by omega) (fun c_5 => ?_) (fun c_5 => absurd c_5 (by decide))
  refine V_aload_n (i := 0) F dX4_ofCase_12 rfl rfl ?_
  refine V_aload_n (i := 0) F dX4_ofCase_13 rfl rfl ?_
  refine V_iload_n (i := 1) F dX4_ofCase_14 rfl rfl ?_
  refine V_cV1r F dX4_ofCase_15 lk_X4_144 (ct_foundS hset_self (gset h_g (by decide)) ((hset_ne (ne_ao hg hm)).trans hg) hn2 hB hfo) ⟨0, _, _, _, rfl, (.inl hset_self)⟩ (Nat.le_of_ble_eq_true rfl) (Nat.le_of_ble_eq_true rfl) (Nat.le_of_ble_eq_true rfl) (Nat.le_of_ble_eq_true rfl) (Nat.le_of_ble_eq_true rfl) ?_
  refine V_iload_n (i := 2) F dX4_ofCase_18 rfl rfl ?_
  refine V_cV2r F dX4_ofCase_19 lk_X4_141 (ct_the hset_self (gset h_g (by decide)) ((hset_ne (ne_ao hg hm)).trans hg) (by omega)) ⟨0, _, _, _, rfl, (.inl hset_self)⟩ (Nat.le_of_ble_eq_true rfl) (Nat.le_of_ble_eq_true rfl) (Nat.le_of_ble_eq_true rfl) (Nat.le_of_ble_eq_true rfl) (Nat.le_of_ble_eq_true rfl) ?_
  exact V_iret F dX4_ofCase_22 rfl (Nat.le_of_ble_eq_true rfl) (Nat.le_of_ble_eq_true rfl) ⟨rfl, rfl⟩
theorem ct_stationOfN {G : GG} {l : Launch} {h : AH} {m : Nat} {fs : List Value} {aG : Nat} {g : Nat → Nat} {p : Int32} (hm : h m = some (.inr (0, fs))) (h_g : fs[0]? = some (.ref aG)) (hg : h aG = some (iA G 304 (fun i => nI (g i)))) (hlen : fs.length = 25) (hI : GW g) (hfo : fdO g 232 p (g 2) = none) : Ct G l yX4_stationOf cX4_stationOf 2 (some .int) 4 0 0 [.ref m, .int (p)] h (PR (.int (nI 0)) (hset h m (.inr (0, fs.set 7 (.int (nI 1)))))) := by
  refine Ct.of (by decide) (Nat.le_of_ble_eq_true rfl) (cat1 rfl) (fun X hXl F HN => ?_)
  subst hXl
  obtain ⟨hB, hn0, hn1, hn2, hn3, hst, hpl⟩ := hI
  refine V_aload_n (i := 0) F dX4_stationOf_0 rfl rfl ?_
  refine V_iload_n (i := 1) F dX4_stationOf_1 rfl rfl ?_
  refine V_iconst (v := nI 1) F dX4_stationOf_2 rfl ?_
  refine V_cV2r F dX4_stationOf_3 lk_X4_176 (ct_ofCaseN hm h_g hg hlen ⟨hB, hn0, hn1, hn2, hn3, hst, hpl⟩ hfo) ⟨0, _, _, _, rfl, (.inl hm)⟩ (Nat.le_of_ble_eq_true rfl) (Nat.le_of_ble_eq_true rfl) (Nat.le_of_ble_eq_true rfl) (Nat.le_of_ble_eq_true rfl) (Nat.le_of_ble_eq_true rfl) ?_
  exact V_iret F dX4_stationOf_6 rfl (Nat.le_of_ble_eq_true rfl) (Nat.le_of_ble_eq_true rfl) ⟨rfl, rfl⟩
theorem ct_stationOfS {G : GG} {l : Launch} {h : AH} {m : Nat} {fs : List Value} {aG : Nat} {g : Nat → Nat} {p : Int32} {k : Nat} (hm : h m = some (.inr (0, fs))) (h_g : fs[0]? = some (.ref aG)) (hg : h aG = some (iA G 304 (fun i => nI (g i)))) (hlen : fs.length = 25) (hI : GW g) (hfo : fdO g 232 p (g 2) = some k) : Ct G l yX4_stationOf cX4_stationOf 2 (some .int) 4 0 0 [.ref m, .int (p)] h (PR (.int (nI (g (232 + 4 * k + 1)))) (hset h m (.inr (0, fs.set 7 (.int (nI 0)))))) := by
  refine Ct.of (by decide) (Nat.le_of_ble_eq_true rfl) (cat1 rfl) (fun X hXl F HN => ?_)
  subst hXl
  obtain ⟨hB, hn0, hn1, hn2, hn3, hst, hpl⟩ := hI
  have hk2 := (fdO_lt hfo).1
  refine V_aload_n (i := 0) F dX4_stationOf_0 rfl rfl ?_
  refine V_iload_n (i := 1) F dX4_stationOf_1 rfl rfl ?_
  refine V_iconst (v := nI 1) F dX4_stationOf_2 rfl ?_
  refine V_cV2r F dX4_stationOf_3 lk_X4_176 (ct_ofCaseS hm h_g hg hlen ⟨hB, hn0, hn1, hn2, hn3, hst, hpl⟩ (by decide) hfo) ⟨0, _, _, _, rfl, (.inl hm)⟩ (Nat.le_of_ble_eq_true rfl) (Nat.le_of_ble_eq_true rfl) (Nat.le_of_ble_eq_true rfl) (Nat.le_of_ble_eq_true rfl) (Nat.le_of_ble_eq_true rfl) ?_
  exact V_iret F dX4_stationOf_6 rfl (Nat.le_of_ble_eq_true rfl) (Nat.le_of_ble_eq_true rfl) ⟨rfl, rfl⟩
theorem ct_destinationOfN {G : GG} {l : Launch} {h : AH} {m : Nat} {fs : List Value} {aG : Nat} {g : Nat → Nat} {p : Int32} (hm : h m = some (.inr (0, fs))) (h_g : fs[0]? = some (.ref aG)) (hg : h aG = some (iA G 304 (fun i => nI (g i)))) (hlen : fs.length = 25) (hI : GW g) (hfo : fdO g 232 p (g 2) = none) : Ct G l yX4_destinationOf cX4_destinationOf 2 (some .int) 4 0 0 [.ref m, .int (p)] h (PR (.int (nI 0)) (hset h m (.inr (0, fs.set 7 (.int (nI 1)))))) := by
  refine Ct.of (by decide) (Nat.le_of_ble_eq_true rfl) (cat1 rfl) (fun X hXl F HN => ?_)
  subst hXl
  obtain ⟨hB, hn0, hn1, hn2, hn3, hst, hpl⟩ := hI
  refine V_aload_n (i := 0) F dX4_destinationOf_0 rfl rfl ?_
  refine V_iload_n (i := 1) F dX4_destinationOf_1 rfl rfl ?_
  refine V_iconst (v := nI 2) F dX4_destinationOf_2 rfl ?_
  refine V_cV2r F dX4_destinationOf_3 lk_X4_176 (ct_ofCaseN hm h_g hg hlen ⟨hB, hn0, hn1, hn2, hn3, hst, hpl⟩ hfo) ⟨0, _, _, _, rfl, (.inl hm)⟩ (Nat.le_of_ble_eq_true rfl) (Nat.le_of_ble_eq_true rfl) (Nat.le_of_ble_eq_true rfl) (Nat.le_of_ble_eq_true rfl) (Nat.le_of_ble_eq_true rfl) ?_
  exact V_iret F dX4_destinationOf_6 rfl (Nat.le_of_ble_eq_true rfl) (Nat.le_of_ble_eq_true rfl) ⟨rfl, rfl⟩
theorem ct_destinationOfS {G : GG} {l : Launch} {h : AH} {m : Nat} {fs : List Value} {aG : Nat} {g : Nat → Nat} {p : Int32} {k : Nat} (hm : h m = some (.inr (0, fs))) (h_g : fs[0]? = some (.ref aG)) (hg : h aG = some (iA G 304 (fun i => nI (g i)))) (hlen : fs.length = 25) (hI : GW g) (hfo : fdO g 232 p (g 2) = some k) : Ct G l yX4_destinationOf cX4_destinationOf 2 (some .int) 4 0 0 [.ref m, .int (p)] h (PR (.int (nI (g (232 + 4 * k + 2)))) (hset h m (.inr (0, fs.set 7 (.int (nI 0)))))) := by
  refine Ct.of (by decide) (Nat.le_of_ble_eq_true rfl) (cat1 rfl) (fun X hXl F HN => ?_)
  subst hXl
  obtain ⟨hB, hn0, hn1, hn2, hn3, hst, hpl⟩ := hI
  have hk2 := (fdO_lt hfo).1
  refine V_aload_n (i := 0) F dX4_destinationOf_0 rfl rfl ?_
  refine V_iload_n (i := 1) F dX4_destinationOf_1 rfl rfl ?_
  refine V_iconst (v := nI 2) F dX4_destinationOf_2 rfl ?_
  refine V_cV2r F dX4_destinationOf_3 lk_X4_176 (ct_ofCaseS hm h_g hg hlen ⟨hB, hn0, hn1, hn2, hn3, hst, hpl⟩ (by decide) hfo) ⟨0, _, _, _, rfl, (.inl hm)⟩ (Nat.le_of_ble_eq_true rfl) (Nat.le_of_ble_eq_true rfl) (Nat.le_of_ble_eq_true rfl) (Nat.le_of_ble_eq_true rfl) (Nat.le_of_ble_eq_true rfl) ?_
  exact V_iret F dX4_destinationOf_6 rfl (Nat.le_of_ble_eq_true rfl) (Nat.le_of_ble_eq_true rfl) ⟨rfl, rfl⟩
theorem ct_readyAtN {G : GG} {l : Launch} {h : AH} {m : Nat} {fs : List Value} {aG : Nat} {g : Nat → Nat} {p : Int32} (hm : h m = some (.inr (0, fs))) (h_g : fs[0]? = some (.ref aG)) (hg : h aG = some (iA G 304 (fun i => nI (g i)))) (hlen : fs.length = 25) (hI : GW g) (hfo : fdO g 232 p (g 2) = none) : Ct G l yX4_readyAt cX4_readyAt 2 (some .int) 4 0 0 [.ref m, .int (p)] h (PR (.int (nI 0)) (hset h m (.inr (0, fs.set 7 (.int (nI 1)))))) := by
  refine Ct.of (by decide) (Nat.le_of_ble_eq_true rfl) (cat1 rfl) (fun X hXl F HN => ?_)
  subst hXl
  obtain ⟨hB, hn0, hn1, hn2, hn3, hst, hpl⟩ := hI
  refine V_aload_n (i := 0) F dX4_readyAt_0 rfl rfl ?_
  refine V_iload_n (i := 1) F dX4_readyAt_1 rfl rfl ?_
  refine V_iconst (v := nI 3) F dX4_readyAt_2 rfl ?_
  refine V_cV2r F dX4_readyAt_3 lk_X4_176 (ct_ofCaseN hm h_g hg hlen ⟨hB, hn0, hn1, hn2, hn3, hst, hpl⟩ hfo) ⟨0, _, _, _, rfl, (.inl hm)⟩ (Nat.le_of_ble_eq_true rfl) (Nat.le_of_ble_eq_true rfl) (Nat.le_of_ble_eq_true rfl) (Nat.le_of_ble_eq_true rfl) (Nat.le_of_ble_eq_true rfl) ?_
  exact V_iret F dX4_readyAt_6 rfl (Nat.le_of_ble_eq_true rfl) (Nat.le_of_ble_eq_true rfl) ⟨rfl, rfl⟩
theorem ct_readyAtS {G : GG} {l : Launch} {h : AH} {m : Nat} {fs : List Value} {aG : Nat} {g : Nat → Nat} {p : Int32} {k : Nat} (hm : h m = some (.inr (0, fs))) (h_g : fs[0]? = some (.ref aG)) (hg : h aG = some (iA G 304 (fun i => nI (g i)))) (hlen : fs.length = 25) (hI : GW g) (hfo : fdO g 232 p (g 2) = some k) : Ct G l yX4_readyAt cX4_readyAt 2 (some .int) 4 0 0 [.ref m, .int (p)] h (PR (.int (nI (g (232 + 4 * k + 3)))) (hset h m (.inr (0, fs.set 7 (.int (nI 0)))))) := by
  refine Ct.of (by decide) (Nat.le_of_ble_eq_true rfl) (cat1 rfl) (fun X hXl F HN => ?_)
  subst hXl
  obtain ⟨hB, hn0, hn1, hn2, hn3, hst, hpl⟩ := hI
  have hk2 := (fdO_lt hfo).1
  refine V_aload_n (i := 0) F dX4_readyAt_0 rfl rfl ?_
  refine V_iload_n (i := 1) F dX4_readyAt_1 rfl rfl ?_
  refine V_iconst (v := nI 3) F dX4_readyAt_2 rfl ?_
  refine V_cV2r F dX4_readyAt_3 lk_X4_176 (ct_ofCaseS hm h_g hg hlen ⟨hB, hn0, hn1, hn2, hn3, hst, hpl⟩ (by decide) hfo) ⟨0, _, _, _, rfl, (.inl hm)⟩ (Nat.le_of_ble_eq_true rfl) (Nat.le_of_ble_eq_true rfl) (Nat.le_of_ble_eq_true rfl) (Nat.le_of_ble_eq_true rfl) (Nat.le_of_ble_eq_true rfl) ?_
  exact V_iret F dX4_readyAt_6 rfl (Nat.le_of_ble_eq_true rfl) (Nat.le_of_ble_eq_true rfl) ⟨rfl, rfl⟩
theorem ct_isThereN {G : GG} {l : Launch} {h : AH} {m : Nat} {fs : List Value} {aG : Nat} {g : Nat → Nat} {p : Int32} (hm : h m = some (.inr (0, fs))) (h_g : fs[0]? = some (.ref aG)) (hg : h aG = some (iA G 304 (fun i => nI (g i)))) (hlen : fs.length = 25) (hI : GW g) (hfo : fdO g 232 p (g 2) = none) : Ct G l yX4_isThere cX4_isThere 2 (some .boolean) 3 0 0 [.ref m, .int (p)] h (PR (.int (nI 0)) (hset h m (.inr (0, fs.set 7 (.int (nI 1)))))) := by
  refine Ct.of (by decide) (Nat.le_of_ble_eq_true rfl) (cat1 rfl) (fun X hXl F HN => ?_)
  subst hXl
  obtain ⟨hB, hn0, hn1, hn2, hn3, hst, hpl⟩ := hI
  refine V_aload_n (i := 0) F dX4_isThere_0 rfl rfl ?_
  refine V_iload_n (i := 1) F dX4_isThere_1 rfl rfl ?_
  refine V_cV1r F dX4_isThere_2 lk_X4_148 (ct_isLostN hm h_g hg hlen hn2 hB hfo) ⟨0, _, _, _, rfl, (.inl hm)⟩ (Nat.le_of_ble_eq_true rfl) (Nat.le_of_ble_eq_true rfl) (Nat.le_of_ble_eq_true rfl) (Nat.le_of_ble_eq_true rfl) (Nat.le_of_ble_eq_true rfl) ?_
  refine V_if_neN (tgt := 35) F dX4_isThere_5 (by decide) (by omega) (fun c_5 => ?_) (fun c_5 => absurd c_5 (by decide))
  refine V_iconst (v := nI 0) F dX4_isThere_35 rfl ?_
  exact V_iret F dX4_isThere_36 rfl (Nat.le_of_ble_eq_true rfl) (Nat.le_of_ble_eq_true rfl) ⟨rfl, rfl⟩
theorem ct_isThereS {G : GG} {l : Launch} {h : AH} {m : Nat} {fs : List Value} {aG : Nat} {g : Nat → Nat} {p : Int32} {k : Nat} (hm : h m = some (.inr (0, fs))) (h_g : fs[0]? = some (.ref aG)) (hg : h aG = some (iA G 304 (fun i => nI (g i)))) (hlen : fs.length = 25) (hI : GW g) (hfo : fdO g 232 p (g 2) = some k) : Ct G l yX4_isThere cX4_isThere 2 (some .boolean) 3 0 0 [.ref m, .int (p)] h (PR (.int (b2 (g (232 + 4 * k + 1) = g (232 + 4 * k + 2)))) (hset h m (.inr (0, fs.set 7 (.int (nI 0)))))) := by
  refine Ct.of (by decide) (Nat.le_of_ble_eq_true rfl) (cat1 rfl) (fun X hXl F HN => ?_)
  subst hXl
  obtain ⟨hB, hn0, hn1, hn2, hn3, hst, hpl⟩ := hI
  have hk2 := (fdO_lt hfo).1
  refine V_aload_n (i := 0) F dX4_isThere_0 rfl rfl ?_
  refine V_iload_n (i := 1) F dX4_isThere_1 rfl rfl ?_
  refine V_cV1r F dX4_isThere_2 lk_X4_148 (ct_isLostS hm h_g hg hlen hn2 hB hfo) ⟨0, _, _, _, rfl, (.inl hm)⟩ (Nat.le_of_ble_eq_true rfl) (Nat.le_of_ble_eq_true rfl) (Nat.le_of_ble_eq_true rfl) (Nat.le_of_ble_eq_true rfl) (Nat.le_of_ble_eq_true rfl) ?_
  refine V_if_neN (tgt := 35) F dX4_isThere_5 (by decide) (by omega) (fun c_5 => absurd c_5 (by decide)) (fun c_5 => ?_)
  refine V_aload_n (i := 0) F dX4_isThere_8 rfl rfl ?_
  refine V_aload_n (i := 0) F dX4_isThere_9 rfl rfl ?_
  refine V_iload_n (i := 1) F dX4_isThere_10 rfl rfl ?_
  refine V_cV1r F dX4_isThere_11 lk_X4_144 (ct_foundS hset_self (gset h_g (by decide)) ((hset_ne (ne_ao hg hm)).trans hg) hn2 hB hfo) ⟨0, _, _, _, rfl, (.inl hset_self)⟩ (Nat.le_of_ble_eq_true rfl) (Nat.le_of_ble_eq_true rfl) (Nat.le_of_ble_eq_true rfl) (Nat.le_of_ble_eq_true rfl) (Nat.le_of_ble_eq_true rfl) ?_
  refine V_iconst (v := nI 1) F dX4_isThere_14 rfl ?_
  refine V_cV2r F dX4_isThere_15 lk_X4_141 (ct_the hset_self (gset h_g (by decide)) ((hset_ne (ne_ao hg hm)).trans hg) (by omega)) ⟨0, _, _, _, rfl, (.inl hset_self)⟩ (Nat.le_of_ble_eq_true rfl) (Nat.le_of_ble_eq_true rfl) (Nat.le_of_ble_eq_true rfl) (Nat.le_of_ble_eq_true rfl) (Nat.le_of_ble_eq_true rfl) ?_
  refine V_aload_n (i := 0) F dX4_isThere_18 rfl rfl ?_
  refine V_aload_n (i := 0) F dX4_isThere_19 rfl rfl ?_
  refine V_iload_n (i := 1) F dX4_isThere_20 rfl rfl ?_
  refine V_cV1r F dX4_isThere_21 lk_X4_144 (ct_foundS hset_self (gset h_g (by decide)) ((hset_ne (ne_ao hg hm)).trans hg) hn2 hB hfo) ⟨0, _, _, _, rfl, (.inl hset_self)⟩ (Nat.le_of_ble_eq_true rfl) (Nat.le_of_ble_eq_true rfl) (Nat.le_of_ble_eq_true rfl) (Nat.le_of_ble_eq_true rfl) (Nat.le_of_ble_eq_true rfl) ?_
  refine V_iconst (v := nI 2) F dX4_isThere_24 rfl ?_
  refine V_cV2r F dX4_isThere_25 lk_X4_141 (ct_the hset_self (gset h_g (by decide)) ((hset_ne (ne_ao hg hm)).trans hg) (by omega)) ⟨0, _, _, _, rfl, (.inl hset_self)⟩ (Nat.le_of_ble_eq_true rfl) (Nat.le_of_ble_eq_true rfl) (Nat.le_of_ble_eq_true rfl) (Nat.le_of_ble_eq_true rfl) (Nat.le_of_ble_eq_true rfl) ?_
  refine V_icmp_neN (tgt := 35) F dX4_isThere_28 (by decide) hB.lt hB.lt (fun c_28 => ?_) (fun c_28 => ?_)
  · refine V_iconst (v := nI 0) F dX4_isThere_35 rfl ?_
    exact V_iret F dX4_isThere_36 rfl (Nat.le_of_ble_eq_true rfl) (Nat.le_of_ble_eq_true rfl) ⟨congrArg some (congrArg Value.int (b2_f c_28).symm), rfl⟩
  · refine V_iconst (v := nI 1) F dX4_isThere_31 rfl ?_
    refine V_goto (tgt := 36) F dX4_isThere_32 (by decide) ?_
    exact V_iret F dX4_isThere_36 rfl (Nat.le_of_ble_eq_true rfl) (Nat.le_of_ble_eq_true rfl) ⟨congrArg some (congrArg Value.int (b2_t c_28).symm), rfl⟩
theorem ct_legs {G : GG} {l : Launch} {h : AH} {m : Nat} {fs : List Value} {aG : Nat} {g : Nat → Nat}  (hm : h m = some (.inr (0, fs))) (h_g : fs[0]? = some (.ref aG)) (hg : h aG = some (iA G 304 (fun i => nI (g i)))) (hlen : fs.length = 25) (hI : GW g)  : Ct G l yX4_legs cX4_legs 3 (some .int) 1 0 0 [.ref m] h (PR (.int (nI (lgG g (g 1)))) h) := by
  refine Ct.of (by decide) (Nat.le_of_ble_eq_true rfl) (cat1 rfl) (fun X hXl F HN => ?_)
  subst hXl
  obtain ⟨hB, hn0, hn1, hn2, hn3, hst, hpl⟩ := hI
  refine V_iconst (v := nI 0) F dX4_legs_0 rfl ?_
  refine V_istore_n (i := 1) F dX4_legs_1 rfl (Nat.le_of_ble_eq_true rfl) (Nat.le_of_ble_eq_true rfl) ?_
  refine V_iconst (v := nI 0) F dX4_legs_2 rfl ?_
  refine V_istore_n (i := 2) F dX4_legs_3 rfl (Nat.le_of_ble_eq_true rfl) (Nat.le_of_ble_eq_true rfl) ?_
  have loop_4 : ∀ (nn : Nat) (j : Nat), g 1 < j + nn → j ≤ g 1 → VV G X 3 (EQ G X 0 0 (PR (.int (nI (lgG g (g 1)))) h)) h 0 0 [some (.ref (m)), some (.int (nI (lgG g j))), some (.int (nI (j)))] [] 4 := by
    intro nn
    induction nn with
    | zero => intro j hn hj; exact absurd hn (by omega)
    | succ nn ih_4 =>
      intro j hn hj
      refine V_iload_n (i := 2) F dX4_legs_4 rfl rfl ?_
      refine V_aload_n (i := 0) F dX4_legs_5 rfl rfl ?_
      refine V_getf F dX4_legs_6 fc_X4_7_X4 (.inl hm) h_g ?_
      refine V_iconst (v := nI 1) F dX4_legs_9 rfl ?_
      refine V_ialdG F dX4_legs_10 (.inl hg) (by omega) (by decide) rfl ?_
      refine V_icmp_geN (tgt := 31) F dX4_legs_11 (by decide) (by omega) hB.lt (fun c_11 => ?_) (fun c_11 => ?_)
      · refine V_iload_n (i := 1) F dX4_legs_31 rfl rfl ?_
        exact V_iret F dX4_legs_32 rfl (Nat.le_of_ble_eq_true rfl) (Nat.le_of_ble_eq_true rfl) ⟨by rw [show j = g 1 by omega], rfl⟩
      · refine V_iload_n (i := 1) F dX4_legs_14 rfl rfl ?_
        refine V_aload_n (i := 0) F dX4_legs_15 rfl rfl ?_
        refine V_iload_n (i := 2) F dX4_legs_16 rfl rfl ?_
        refine V_iconst (v := nI 3) F dX4_legs_17 rfl ?_
        refine V_cV2r F dX4_legs_18 lk_X4_76 (ct_of hm h_g hg (by omega)) ⟨0, _, _, _, rfl, (.inl hm)⟩ (Nat.le_of_ble_eq_true rfl) (Nat.le_of_ble_eq_true rfl) (Nat.le_of_ble_eq_true rfl) (Nat.le_of_ble_eq_true rfl) (Nat.le_of_ble_eq_true rfl) ?_
        refine V_iconst (v := nI 1) F dX4_legs_21 rfl ?_
        refine V_isubN F dX4_legs_22 (hst j (by omega)).1 ?_
        refine V_iaddN F dX4_legs_23 ?_
        refine V_istore_n (i := 1) F dX4_legs_24 rfl (Nat.le_of_ble_eq_true rfl) (Nat.le_of_ble_eq_true rfl) ?_
        refine V_iinc (i := 2) (v := nI (j + 1)) F dX4_legs_25 rfl (nI_add (j) 1) (Nat.le_of_ble_eq_true rfl) ?_
        refine V_goto (tgt := 4) F dX4_legs_28 (by decide) ?_
        refine VV.weak (L' := [some (.ref (m)), some (.int (nI (lgG g (j + 1)))), some (.int (nI (j + 1)))]) (LW.c1 (LW.c1 (LW.c1 LW.nil))) ?_
        exact ih_4 (j + 1) (by omega) (by omega)
  refine VV.weak (L' := [some (.ref (m)), some (.int (nI (0))), some (.int (nI (0)))]) (LW.c1 (LW.c1 (LW.c1 LW.nil))) ?_
  exact loop_4 (g 1 + 1) 0 (by omega) (by omega)
theorem ct_coinsByLoads {G : GG} {l : Launch} {h : AH} {m : Nat} {fs : List Value} {aG : Nat} {g : Nat → Nat}  (hm : h m = some (.inr (0, fs))) (h_g : fs[0]? = some (.ref aG)) (hg : h aG = some (iA G 304 (fun i => nI (g i)))) (hlen : fs.length = 25) (hI : GW g)  : Ct G l yX4_coinsByLoads cX4_coinsByLoads 4 (some .int) 1 0 0 [.ref m] h (PR (.int (nI (clG g (g 1)))) (hset h m (.inr (0, fs.set 7 (.int (nI 0)))))) := by
  refine Ct.of (by decide) (Nat.le_of_ble_eq_true rfl) (cat1 rfl) (fun X hXl F HN => ?_)
  subst hXl
  obtain ⟨hB, hn0, hn1, hn2, hn3, hst, hpl⟩ := hI
  refine V_aload_n (i := 0) F dX4_coinsByLoads_0 rfl rfl ?_
  refine V_iconst (v := nI 0) F dX4_coinsByLoads_1 rfl ?_
  refine V_putf F dX4_coinsByLoads_2 fp_X4_54_X4 hm rfl rfl (lenk hlen (by decide)) ?_
  refine V_iconst (v := nI 0) F dX4_coinsByLoads_5 rfl ?_
  refine V_istore_n (i := 1) F dX4_coinsByLoads_6 rfl (Nat.le_of_ble_eq_true rfl) (Nat.le_of_ble_eq_true rfl) ?_
  refine V_iconst (v := nI 0) F dX4_coinsByLoads_7 rfl ?_
  refine V_istore_n (i := 2) F dX4_coinsByLoads_8 rfl (Nat.le_of_ble_eq_true rfl) (Nat.le_of_ble_eq_true rfl) ?_
  have loop_9 : ∀ (nn : Nat) (j : Nat), g 1 < j + nn → j ≤ g 1 → VV G X 4 (EQ G X 0 0 (PR (.int (nI (clG g (g 1)))) (hset h m (.inr (0, fs.set 7 (.int (nI 0))))))) (hset h (m) (.inr (0, (fs).set 7 (.int (nI (0)))))) 0 0 [some (.ref (m)), some (.int (nI (clG g j))), some (.int (nI (j))), none] [] 9 := by
    intro nn
    induction nn with
    | zero => intro j hn hj; exact absurd hn (by omega)
    | succ nn ih_9 =>
      intro j hn hj
      refine V_iload_n (i := 2) F dX4_coinsByLoads_9 rfl rfl ?_
      refine V_aload_n (i := 0) F dX4_coinsByLoads_10 rfl rfl ?_
      refine V_getf F dX4_coinsByLoads_11 fc_X4_7_X4 (.inl hset_self) (gset h_g (by decide)) ?_
      refine V_iconst (v := nI 1) F dX4_coinsByLoads_14 rfl ?_
      refine V_ialdG F dX4_coinsByLoads_15 (.inl ((hset_ne (ne_ao hg hm)).trans hg)) (by omega) (by decide) rfl ?_
      refine V_icmp_geN (tgt := 59) F dX4_coinsByLoads_16 (by decide) (by omega) hB.lt (fun c_16 => ?_) (fun c_16 => ?_)
      · refine V_iload_n (i := 1) F dX4_coinsByLoads_59 rfl rfl ?_
        exact V_iret F dX4_coinsByLoads_60 rfl (Nat.le_of_ble_eq_true rfl) (Nat.le_of_ble_eq_true rfl) ⟨by rw [show j = g 1 by omega], rfl⟩
      · have hsj := hst j (by omega)
        refine V_iconst (v := nI 0) F dX4_coinsByLoads_19 rfl ?_
        refine V_istore_n (i := 3) F dX4_coinsByLoads_20 rfl (Nat.le_of_ble_eq_true rfl) (Nat.le_of_ble_eq_true rfl) ?_
        have loop_21 : ∀ (nn : Nat) (q : Nat), g (16 + 36 * j + 3) - 1 < q + nn → q ≤ g (16 + 36 * j + 3) - 1 → VV G X 4 (EQ G X 0 0 (PR (.int (nI (clG g (g 1)))) (hset h m (.inr (0, fs.set 7 (.int (nI 0))))))) (hset h (m) (.inr (0, (fs).set 7 (.int (nI (0)))))) 0 0 [some (.ref (m)), some (.int (nI (clI g j (clG g j) q))), some (.int (nI (j))), some (.int (nI (q)))] [] 21 := by
          intro nn
          induction nn with
          | zero => intro q hn2 hq; exact absurd hn2 (by omega)
          | succ nn ih_21 =>
            intro q hn2 hq
            refine V_iload_n (i := 3) F dX4_coinsByLoads_21 rfl rfl ?_
            refine V_aload_n (i := 0) F dX4_coinsByLoads_22 rfl rfl ?_
            refine V_iload_n (i := 2) F dX4_coinsByLoads_23 rfl rfl ?_
            refine V_iconst (v := nI 3) F dX4_coinsByLoads_24 rfl ?_
            refine V_cV2r F dX4_coinsByLoads_25 lk_X4_76 (ct_of hset_self (gset h_g (by decide)) ((hset_ne (ne_ao hg hm)).trans hg) (by omega)) ⟨0, _, _, _, rfl, (.inl hset_self)⟩ (Nat.le_of_ble_eq_true rfl) (Nat.le_of_ble_eq_true rfl) (Nat.le_of_ble_eq_true rfl) (Nat.le_of_ble_eq_true rfl) (Nat.le_of_ble_eq_true rfl) ?_
            refine V_iconst (v := nI 1) F dX4_coinsByLoads_28 rfl ?_
            refine V_isubN F dX4_coinsByLoads_29 (by omega) ?_
            refine V_icmp_geN (tgt := 53) F dX4_coinsByLoads_30 (by decide) (by omega) (by omega) (fun c_30 => ?_) (fun c_30 => ?_)
            · obtain rfl : q = g (16 + 36 * j + 3) - 1 := by omega
              refine V_iinc (i := 2) (v := nI (j + 1)) F dX4_coinsByLoads_53 rfl (nI_add (j) 1) (Nat.le_of_ble_eq_true rfl) ?_
              refine V_goto (tgt := 9) F dX4_coinsByLoads_56 (by decide) ?_
              refine VV.weak (L' := [some (.ref (m)), some (.int (nI (clG g (j + 1)))), some (.int (nI (j + 1))), none]) (LW.c1 (LW.c1 (LW.c1 (LW.c0 LW.nil)))) ?_
              exact ih_9 (j + 1) (by omega) (by omega)
            · refine V_iload_n (i := 1) F dX4_coinsByLoads_33 rfl rfl ?_
              refine V_iconst (v := nI 2) F dX4_coinsByLoads_34 rfl ?_
              refine V_aload_n (i := 0) F dX4_coinsByLoads_35 rfl rfl ?_
              refine V_iload_n (i := 2) F dX4_coinsByLoads_36 rfl rfl ?_
              refine V_bipush (v := nI 28) F dX4_coinsByLoads_37 rfl ?_
              refine V_iload_n (i := 3) F dX4_coinsByLoads_39 rfl rfl ?_
              refine V_iaddN F dX4_coinsByLoads_40 ?_
              refine V_cV2r F dX4_coinsByLoads_41 lk_X4_76 (ct_of hset_self (gset h_g (by decide)) ((hset_ne (ne_ao hg hm)).trans hg) (by omega)) ⟨0, _, _, _, rfl, (.inl hset_self)⟩ (Nat.le_of_ble_eq_true rfl) (Nat.le_of_ble_eq_true rfl) (Nat.le_of_ble_eq_true rfl) (Nat.le_of_ble_eq_true rfl) (Nat.le_of_ble_eq_true rfl) ?_
              refine V_imulN F dX4_coinsByLoads_44 ?_
              refine V_iaddN F dX4_coinsByLoads_45 ?_
              refine V_istore_n (i := 1) F dX4_coinsByLoads_46 rfl (Nat.le_of_ble_eq_true rfl) (Nat.le_of_ble_eq_true rfl) ?_
              refine V_iinc (i := 3) (v := nI (q + 1)) F dX4_coinsByLoads_47 rfl (nI_add (q) 1) (Nat.le_of_ble_eq_true rfl) ?_
              refine V_goto (tgt := 21) F dX4_coinsByLoads_50 (by decide) ?_
              refine VV.weak (L' := [some (.ref (m)), some (.int (nI (clI g j (clG g j) (q + 1)))), some (.int (nI (j))), some (.int (nI (q + 1)))]) (LW.c1 (LW.c1 (LW.c1 (LW.c1 LW.nil)))) ?_
              exact ih_21 (q + 1) (by omega) (by omega)
        refine VV.weak (L' := [some (.ref (m)), some (.int (nI (clG g j))), some (.int (nI (j))), some (.int (nI (0)))]) (LW.c1 (LW.c1 (LW.c1 (LW.c1 LW.nil)))) ?_
        exact loop_21 (g (16 + 36 * j + 3) - 1 + 1) 0 (by omega) (by omega)
  refine VV.weak (L' := [some (.ref (m)), some (.int (nI (0))), some (.int (nI (0))), none]) (LW.c1 (LW.c1 (LW.c1 (LW.c0 LW.nil)))) ?_
  exact loop_9 (g 1 + 1) 0 (by omega) (by omega)
theorem ct_needs {G : GG} {l : Launch} {h : AH} {m : Nat} {fs : List Value} {aG : Nat} {g : Nat → Nat} {p : Int32} (hm : h m = some (.inr (0, fs))) (h_g : fs[0]? = some (.ref aG)) (hg : h aG = some (iA G 304 (fun i => nI (g i)))) (hlen : fs.length = 25) (hI : GW g)  : Ct G l yX4_needs cX4_needs 4 (some .int) 2 0 0 [.ref m, .int (p)] h (PX (if ¬ iR p (g 1) then 1 else 0) (fun k => hset h m (.inr (0, fs.set 7 (.int (nI k))))) (.int (nI (ndG g (tn p) 8))) (hset h m (.inr (0, fs.set 7 (.int (nI 0)))))) := by
  refine Ct.of (by decide) (Nat.le_of_ble_eq_true rfl) (cat1 rfl) (fun X hXl F HN => ?_)
  subst hXl
  obtain ⟨hB, hn0, hn1, hn2, hn3, hst, hpl⟩ := hI
  refine V_aload_n (i := 0) F dX4_needs_0 rfl rfl ?_
  refine V_aload_n (i := 0) F dX4_needs_1 rfl rfl ?_
  refine V_iload_n (i := 1) F dX4_needs_2 rfl rfl ?_
  refine V_cV1r F dX4_needs_3 lk_X4_72 (ct_isTrain hm h_g hg hB.lt) ⟨0, _, _, _, rfl, (.inl hm)⟩ (Nat.le_of_ble_eq_true rfl) (Nat.le_of_ble_eq_true rfl) (Nat.le_of_ble_eq_true rfl) (Nat.le_of_ble_eq_true rfl) (Nat.le_of_ble_eq_true rfl) ?_
  refine V_if_eqB (tgt := 13) F dX4_needs_6 (by decide) (fun c_6 => ?_) (fun c_6 => ?_)
  · refine V_iconst (v := nI 1) F dX4_needs_13 rfl ?_
    refine V_cV1r F dX4_needs_14 lk_X4_92 (ct_failsP 1 hm hlen (by decide)) ⟨0, _, _, _, rfl, (.inl hm)⟩ (Nat.le_of_ble_eq_true rfl) (Nat.le_of_ble_eq_true rfl) (Nat.le_of_ble_eq_true rfl) (Nat.le_of_ble_eq_true rfl) (Nat.le_of_ble_eq_true rfl) ?_
    refine V_if_eqN (tgt := 22) F dX4_needs_17 (by decide) (by omega) (fun c_17 => absurd c_17 (by decide)) (fun c_17 => ?_)
    refine V_iconst (v := nI 0) F dX4_needs_20 rfl ?_
    exact V_iret F dX4_needs_21 rfl (Nat.le_of_ble_eq_true rfl) (Nat.le_of_ble_eq_true rfl) (PX.fail 1 (if_pos c_6) (by decide) rfl)
  · obtain ⟨c, hc, rfl⟩ := iR_of c_6 hB.lt
    refine V_iconst (v := nI 0) F dX4_needs_9 rfl ?_
    refine V_goto (tgt := 14) F dX4_needs_10 (by decide) ?_
    refine V_cV1r F dX4_needs_14 lk_X4_92 (ct_fails0 hm hlen) ⟨0, _, _, _, rfl, (.inl hm)⟩ (Nat.le_of_ble_eq_true rfl) (Nat.le_of_ble_eq_true rfl) (Nat.le_of_ble_eq_true rfl) (Nat.le_of_ble_eq_true rfl) (Nat.le_of_ble_eq_true rfl) ?_
    refine V_if_eqN (tgt := 22) F dX4_needs_17 (by decide) (by omega) (fun c_17 => ?_) (fun c_17 => absurd c_17 (by decide))
    refine V_iconst (v := nI 0) F dX4_needs_22 rfl ?_
    refine V_istore_n (i := 2) F dX4_needs_23 rfl (Nat.le_of_ble_eq_true rfl) (Nat.le_of_ble_eq_true rfl) ?_
    refine V_iconst (v := nI 0) F dX4_needs_24 rfl ?_
    refine V_istore_n (i := 3) F dX4_needs_25 rfl (Nat.le_of_ble_eq_true rfl) (Nat.le_of_ble_eq_true rfl) ?_
    have loop_26 : ∀ (nn : Nat) (j : Nat), 8 < j + nn → j ≤ 8 → VV G X 4 (EQ G X 0 0 (PX (if ¬ iR (nI c) (g 1) then 1 else 0) (fun k => hset h m (.inr (0, fs.set 7 (.int (nI k))))) (.int (nI (ndG g (tn (nI c)) 8))) (hset h m (.inr (0, fs.set 7 (.int (nI 0))))))) (hset h (m) (.inr (0, (fs).set 7 (.int (nI (0)))))) 0 0 [some (.ref (m)), some (.int (nI (c))), some (.int (nI (ndG g c j))), some (.int (nI (j)))] [] 26 := by
      intro nn
      induction nn with
      | zero => intro j hn hj; exact absurd hn (by omega)
      | succ nn ih_26 =>
        intro j hn hj
        refine V_iload_n (i := 3) F dX4_needs_26 rfl rfl ?_
        refine V_bipush (v := nI 8) F dX4_needs_27 rfl ?_
        refine V_icmp_geN (tgt := 59) F dX4_needs_29 (by decide) (by omega) (by omega) (fun c_29 => ?_) (fun c_29 => ?_)
        · refine V_iload_n (i := 2) F dX4_needs_59 rfl rfl ?_
          exact V_iret F dX4_needs_60 rfl (Nat.le_of_ble_eq_true rfl) (Nat.le_of_ble_eq_true rfl) (PX.ok (if_neg (not_not_intro c_6)) (by rw [tn_nI (by omega), show j = 8 by omega]) rfl)
        · refine V_aload_n (i := 0) F dX4_needs_32 rfl rfl ?_
          refine V_iload_n (i := 1) F dX4_needs_33 rfl rfl ?_
          refine V_iload_n (i := 3) F dX4_needs_34 rfl rfl ?_
          refine V_cV2r F dX4_needs_35 lk_X4_86 (ct_booked hset_self (gset h_g (by decide)) ((hset_ne (ne_ao hg hm)).trans hg) (by omega) (by omega) hn3 hB) ⟨0, _, _, _, rfl, (.inl hset_self)⟩ (Nat.le_of_ble_eq_true rfl) (Nat.le_of_ble_eq_true rfl) (Nat.le_of_ble_eq_true rfl) (Nat.le_of_ble_eq_true rfl) (Nat.le_of_ble_eq_true rfl) ?_
          refine V_iload_n (i := 2) F dX4_needs_38 rfl rfl ?_
          refine V_icmp_leN (tgt := 51) F dX4_needs_39 (by decide) (Nat.lt_of_le_of_lt bkG_le (by omega)) (Nat.lt_of_le_of_lt (ndG_le hn3 j) (by decide)) (fun c_39 => ?_) (fun c_39 => ?_)
          · have hcc : ndG g c (j + 1) = ndG g c j := if_neg (by omega)
            refine V_iload_n (i := 2) F dX4_needs_51 rfl rfl ?_
            refine VV.stk (st' := [.int (nI (ndG g c (j + 1)))]) (by rw [hcc]) ?_
            refine V_istore_n (i := 2) F dX4_needs_52 rfl (Nat.le_of_ble_eq_true rfl) (Nat.le_of_ble_eq_true rfl) ?_
            refine V_iinc (i := 3) (v := nI (j + 1)) F dX4_needs_53 rfl (nI_add (j) 1) (Nat.le_of_ble_eq_true rfl) ?_
            refine V_goto (tgt := 26) F dX4_needs_56 (by decide) ?_
            refine VV.weak (L' := [some (.ref (m)), some (.int (nI (c))), some (.int (nI (ndG g c (j + 1)))), some (.int (nI (j + 1)))]) (LW.c1 (LW.c1 (LW.c1 (LW.c1 LW.nil)))) ?_
            exact ih_26 (j + 1) (by omega) (by omega)
          · have hcc : ndG g c (j + 1) = bkG g c j (g 3) := if_pos (by omega)
            refine V_aload_n (i := 0) F dX4_needs_42 rfl rfl ?_
            refine V_iload_n (i := 1) F dX4_needs_43 rfl rfl ?_
            refine V_iload_n (i := 3) F dX4_needs_44 rfl rfl ?_
            refine V_cV2r F dX4_needs_45 lk_X4_86 (ct_booked hset_self (gset h_g (by decide)) ((hset_ne (ne_ao hg hm)).trans hg) (by omega) (by omega) hn3 hB) ⟨0, _, _, _, rfl, (.inl hset_self)⟩ (Nat.le_of_ble_eq_true rfl) (Nat.le_of_ble_eq_true rfl) (Nat.le_of_ble_eq_true rfl) (Nat.le_of_ble_eq_true rfl) (Nat.le_of_ble_eq_true rfl) ?_
            refine V_goto (tgt := 52) F dX4_needs_48 (by decide) ?_
            refine VV.stk (st' := [.int (nI (ndG g c (j + 1)))]) (by rw [hcc]) ?_
            refine V_istore_n (i := 2) F dX4_needs_52 rfl (Nat.le_of_ble_eq_true rfl) (Nat.le_of_ble_eq_true rfl) ?_
            refine V_iinc (i := 3) (v := nI (j + 1)) F dX4_needs_53 rfl (nI_add (j) 1) (Nat.le_of_ble_eq_true rfl) ?_
            refine V_goto (tgt := 26) F dX4_needs_56 (by decide) ?_
            refine VV.weak (L' := [some (.ref (m)), some (.int (nI (c))), some (.int (nI (ndG g c (j + 1)))), some (.int (nI (j + 1)))]) (LW.c1 (LW.c1 (LW.c1 (LW.c1 LW.nil)))) ?_
            exact ih_26 (j + 1) (by omega) (by omega)
    refine VV.weak (L' := [some (.ref (m)), some (.int (nI (c))), some (.int (nI (0))), some (.int (nI (0)))]) (LW.c1 (LW.c1 (LW.c1 (LW.c1 LW.nil)))) ?_
    exact loop_26 9 0 (by omega) (by omega)
theorem ct_berthsNeeded {G : GG} {l : Launch} {h : AH} {m : Nat} {fs : List Value} {aG : Nat} {g : Nat → Nat} {p : Int32} (hm : h m = some (.inr (0, fs))) (h_g : fs[0]? = some (.ref aG)) (hg : h aG = some (iA G 304 (fun i => nI (g i)))) (hlen : fs.length = 25) (hI : GW g) : Ct G l yX4_berthsNeeded cX4_berthsNeeded 2 (some .int) 3 0 0 [.ref m, .int p] h (PX (if ¬ iR p (g 1) then 1 else 0) (fun k => hset h m (.inr (0, fs.set 7 (.int (nI k))))) (.int (nI (ndG g (tn p) 8))) (hset h m (.inr (0, fs.set 7 (.int (nI 0)))))) := by
  refine Ct.of (by decide) (Nat.le_of_ble_eq_true rfl) (cat1 rfl) (fun X hXl F HN => ?_)
  subst hXl
  refine V_aload_n (i := 0) F dX4_berthsNeeded_0 rfl rfl ?_
  refine V_iload_n (i := 1) F dX4_berthsNeeded_1 rfl rfl ?_
  refine V_cV1 F dX4_berthsNeeded_2 lk_X4_179 (ct_needs hm h_g hg hlen hI) ⟨0, _, _, _, rfl, .inl hm⟩ (Nat.le_of_ble_eq_true rfl) (Nat.le_of_ble_eq_true rfl) (Nat.le_of_ble_eq_true rfl) (Nat.le_of_ble_eq_true rfl) (Nat.le_of_ble_eq_true rfl) (fun v h2 hp => ?_)
  obtain ⟨x, rfl⟩ := PX.int hp
  exact V_iret F dX4_berthsNeeded_5 rfl (Nat.le_of_ble_eq_true rfl) (Nat.le_of_ble_eq_true rfl) hp
theorem ct_berthsNeededByLegs {G : GG} {l : Launch} {h : AH} {m : Nat} {fs : List Value} {aG : Nat} {g : Nat → Nat} {p : Int32} (hm : h m = some (.inr (0, fs))) (h_g : fs[0]? = some (.ref aG)) (hg : h aG = some (iA G 304 (fun i => nI (g i)))) (hlen : fs.length = 25) (hI : GW g) : Ct G l yX4_berthsNeededByLegs cX4_berthsNeededByLegs 2 (some .int) 3 0 0 [.ref m, .int p] h (PX (if ¬ iR p (g 1) then 1 else 0) (fun k => hset h m (.inr (0, fs.set 7 (.int (nI k))))) (.int (nI (ndG g (tn p) 8))) (hset h m (.inr (0, fs.set 7 (.int (nI 0)))))) := by
  refine Ct.of (by decide) (Nat.le_of_ble_eq_true rfl) (cat1 rfl) (fun X hXl F HN => ?_)
  subst hXl
  refine V_aload_n (i := 0) F dX4_berthsNeededByLegs_0 rfl rfl ?_
  refine V_iload_n (i := 1) F dX4_berthsNeededByLegs_1 rfl rfl ?_
  refine V_cV1 F dX4_berthsNeededByLegs_2 lk_X4_179 (ct_needs hm h_g hg hlen hI) ⟨0, _, _, _, rfl, .inl hm⟩ (Nat.le_of_ble_eq_true rfl) (Nat.le_of_ble_eq_true rfl) (Nat.le_of_ble_eq_true rfl) (Nat.le_of_ble_eq_true rfl) (Nat.le_of_ble_eq_true rfl) (fun v h2 hp => ?_)
  obtain ⟨x, rfl⟩ := PX.int hp
  exact V_iret F dX4_berthsNeededByLegs_5 rfl (Nat.le_of_ble_eq_true rfl) (Nat.le_of_ble_eq_true rfl) hp
theorem ct_nextTrain {G : GG} {l : Launch} {h : AH} {m : Nat} {fs : List Value} {aG : Nat} {g : Nat → Nat} {p q0 : Int32} (hm : h m = some (.inr (0, fs))) (h_g : fs[0]? = some (.ref aG)) (hg : h aG = some (iA G 304 (fun i => nI (g i)))) (hlen : fs.length = 25) (hI : GW g)  : Ct G l yX4_nextTrain cX4_nextTrain 7 (some .int) 2 0 0 [.ref m, .int (p), .int (q0)] h (PX (if ¬ iR p (g 0) then 1 else if ¬ (nI 0 ≤ q0 ∧ q0 ≤ nI 9999) then 2 else if (ntO g (tn p) (tn q0) (g 1)).1 = none then 3 else 0) (fun k => hset h m (.inr (0, fs.set 7 (.int (nI k))))) (.int (rO (ntO g (tn p) (tn q0) (g 1)).1)) (hset h m (.inr (0, fs.set 7 (.int (nI 0)))))) := by
  refine Ct.of (by decide) (Nat.le_of_ble_eq_true rfl) (cat1 rfl) (fun X hXl F HN => ?_)
  subst hXl
  obtain ⟨hB, hn0, hn1, hn2, hn3, hst, hpl⟩ := hI
  refine V_aload_n (i := 0) F dX4_nextTrain_0 rfl rfl ?_
  refine V_aload_n (i := 0) F dX4_nextTrain_1 rfl rfl ?_
  refine V_iload_n (i := 1) F dX4_nextTrain_2 rfl rfl ?_
  refine V_cV1r F dX4_nextTrain_3 lk_X4_99 (ct_isStation hm h_g hg hB.lt) ⟨0, _, _, _, rfl, (.inl hm)⟩ (Nat.le_of_ble_eq_true rfl) (Nat.le_of_ble_eq_true rfl) (Nat.le_of_ble_eq_true rfl) (Nat.le_of_ble_eq_true rfl) (Nat.le_of_ble_eq_true rfl) ?_
  refine V_if_neB (tgt := 13) F dX4_nextTrain_6 (by decide) (fun c_6 => ?_) (fun c_6 => ?_)
  · obtain ⟨b, hb, rfl⟩ := iR_of c_6 hB.lt
    refine V_iload_n (i := 2) F dX4_nextTrain_13 rfl rfl ?_
    refine V_iconst (v := nI 0) F dX4_nextTrain_14 rfl ?_
    refine V_sipush (v := nI 9999) F dX4_nextTrain_15 rfl ?_
    refine V_cS3r F dX4_nextTrain_18 lk_X4_68 (ct_in ) (Nat.le_of_ble_eq_true rfl) (Nat.le_of_ble_eq_true rfl) (Nat.le_of_ble_eq_true rfl) (Nat.le_of_ble_eq_true rfl) (Nat.le_of_ble_eq_true rfl) ?_
    refine V_if_eqB (tgt := 28) F dX4_nextTrain_21 (by decide) (fun c_21 => ?_) (fun c_21 => ?_)
    · refine V_iconst (v := nI 2) F dX4_nextTrain_28 rfl ?_
      refine V_cV1r F dX4_nextTrain_29 lk_X4_92 (ct_failsP 2 hm hlen (by decide)) ⟨0, _, _, _, rfl, (.inl hm)⟩ (Nat.le_of_ble_eq_true rfl) (Nat.le_of_ble_eq_true rfl) (Nat.le_of_ble_eq_true rfl) (Nat.le_of_ble_eq_true rfl) (Nat.le_of_ble_eq_true rfl) ?_
      refine V_if_eqN (tgt := 37) F dX4_nextTrain_32 (by decide) (by omega) (fun c_32 => absurd c_32 (by decide)) (fun c_32 => ?_)
      refine V_iconst (v := nI 0) F dX4_nextTrain_35 rfl ?_
      exact V_iret F dX4_nextTrain_36 rfl (Nat.le_of_ble_eq_true rfl) (Nat.le_of_ble_eq_true rfl) (PX.fail 2 ((if_neg (not_not_intro c_6)).trans (if_pos c_21)) (by decide) rfl)
    · obtain ⟨c, hc1, hc2, rfl⟩ := nI_btw c_21 (by decide) (by decide)
      refine V_iconst (v := nI 0) F dX4_nextTrain_24 rfl ?_
      refine V_goto (tgt := 29) F dX4_nextTrain_25 (by decide) ?_
      refine V_cV1r F dX4_nextTrain_29 lk_X4_92 (ct_fails0 hm hlen) ⟨0, _, _, _, rfl, (.inl hm)⟩ (Nat.le_of_ble_eq_true rfl) (Nat.le_of_ble_eq_true rfl) (Nat.le_of_ble_eq_true rfl) (Nat.le_of_ble_eq_true rfl) (Nat.le_of_ble_eq_true rfl) ?_
      refine V_if_eqN (tgt := 37) F dX4_nextTrain_32 (by decide) (by omega) (fun c_32 => ?_) (fun c_32 => absurd c_32 (by decide))
      refine V_iconst (v := -1) F dX4_nextTrain_37 rfl ?_
      refine V_istore_n (i := 3) F dX4_nextTrain_38 rfl (Nat.le_of_ble_eq_true rfl) (Nat.le_of_ble_eq_true rfl) ?_
      refine V_ldc (v := nI 1000000) F dX4_nextTrain_39 q3842 ?_
      refine V_istore (i := 4) F dX4_nextTrain_41 (Nat.le_of_ble_eq_true rfl) (Nat.le_of_ble_eq_true rfl) ?_
      refine V_iconst (v := nI 0) F dX4_nextTrain_43 rfl ?_
      refine V_istore (i := 5) F dX4_nextTrain_44 (Nat.le_of_ble_eq_true rfl) (Nat.le_of_ble_eq_true rfl) ?_
      have loop_46 : ∀ (nn : Nat) (j : Nat), g 1 < j + nn → j ≤ g 1 → VV G X 7 (EQ G X 0 0 (PX (if ¬ iR (nI b) (g 0) then 1 else if ¬ (nI 0 ≤ (nI c) ∧ (nI c) ≤ nI 9999) then 2 else if (ntO g (tn (nI b)) (tn (nI c)) (g 1)).1 = none then 3 else 0) (fun k => hset h m (.inr (0, fs.set 7 (.int (nI k))))) (.int (rO (ntO g (tn (nI b)) (tn (nI c)) (g 1)).1)) (hset h m (.inr (0, fs.set 7 (.int (nI 0))))))) (hset h (m) (.inr (0, (fs).set 7 (.int (nI (0)))))) 0 0 [some (.ref (m)), some (.int (nI (b))), some (.int (nI (c))), some (.int (rO (ntO g b c j).1)), some (.int (nI ((ntO g b c j).2))), some (.int (nI (j))), none] [] 46 := by
        intro nn
        induction nn with
        | zero => intro j hn hj; exact absurd hn (by omega)
        | succ nn ih_46 =>
          intro j hn hj
          refine V_iload (i := 5) F dX4_nextTrain_46 rfl ?_
          refine V_aload_n (i := 0) F dX4_nextTrain_48 rfl rfl ?_
          refine V_getf F dX4_nextTrain_49 fc_X4_7_X4 (.inl hset_self) (gset h_g (by decide)) ?_
          refine V_iconst (v := nI 1) F dX4_nextTrain_52 rfl ?_
          refine V_ialdG F dX4_nextTrain_53 (.inl ((hset_ne (ne_ao hg hm)).trans hg)) (by omega) (by decide) rfl ?_
          refine V_icmp_geN (tgt := 139) F dX4_nextTrain_54 (by decide) (by omega) hB.lt (fun c_54 => ?_) (fun c_54 => ?_)
          · rcases hnt : (ntO g b c j).1 with _ | y
            · refine V_aload_n (i := 0) F dX4_nextTrain_139 rfl rfl ?_
              refine V_iload_n (i := 3) F dX4_nextTrain_140 rfl rfl ?_
              refine V_if_ge (tgt := 148) F dX4_nextTrain_141 (by decide) (fun c_141 => absurd c_141 (by decide)) (fun c_141 => ?_)
              refine V_iconst (v := nI 3) F dX4_nextTrain_144 rfl ?_
              refine V_goto (tgt := 149) F dX4_nextTrain_145 (by decide) ?_
              refine V_cV1r F dX4_nextTrain_149 lk_X4_92 (ct_failsP 3 hset_self (lens hlen) (by decide)) ⟨0, _, _, _, rfl, (.inl hset_self)⟩ (Nat.le_of_ble_eq_true rfl) (Nat.le_of_ble_eq_true rfl) (Nat.le_of_ble_eq_true rfl) (Nat.le_of_ble_eq_true rfl) (Nat.le_of_ble_eq_true rfl) ?_
              refine VV.heap (h' := hset h m (.inr (0, fs.set 7 (.int (nI (3)))))) (by rw [hset_hset, List.set_set]) ?_
              refine V_if_eqN (tgt := 159) F dX4_nextTrain_152 (by decide) (by omega) (fun c_152 => absurd c_152 (by decide)) (fun c_152 => ?_)
              refine V_iconst (v := nI 0) F dX4_nextTrain_155 rfl ?_
              refine V_goto (tgt := 160) F dX4_nextTrain_156 (by decide) ?_
              exact V_iret F dX4_nextTrain_160 rfl (Nat.le_of_ble_eq_true rfl) (Nat.le_of_ble_eq_true rfl) (PX.fail 3 ((if_neg (not_not_intro c_6)).trans ((if_neg (not_not_intro c_21)).trans (if_pos (by rw [tn_nI (a := b) (by omega), tn_nI (a := c) (by omega), ← show j = g 1 by omega]; exact hnt)))) (by decide) rfl)
            · refine V_aload_n (i := 0) F dX4_nextTrain_139 rfl rfl ?_
              refine V_iload_n (i := 3) F dX4_nextTrain_140 rfl rfl ?_
              refine V_if_geN (tgt := 148) F dX4_nextTrain_141 (by decide) (by have := ntO_o j (by omega) y hnt; omega) ?_
              refine V_iconst (v := nI 0) F dX4_nextTrain_148 rfl ?_
              refine V_cV1r F dX4_nextTrain_149 lk_X4_92 (ct_fails0 hset_self (lens hlen)) ⟨0, _, _, _, rfl, (.inl hset_self)⟩ (Nat.le_of_ble_eq_true rfl) (Nat.le_of_ble_eq_true rfl) (Nat.le_of_ble_eq_true rfl) (Nat.le_of_ble_eq_true rfl) (Nat.le_of_ble_eq_true rfl) ?_
              refine VV.heap (h' := hset h m (.inr (0, fs.set 7 (.int (nI (0)))))) (by rw [hset_hset, List.set_set]) ?_
              refine V_if_eqN (tgt := 159) F dX4_nextTrain_152 (by decide) (by omega) (fun c_152 => ?_) (fun c_152 => absurd c_152 (by decide))
              refine V_iload_n (i := 3) F dX4_nextTrain_159 rfl rfl ?_
              exact V_iret F dX4_nextTrain_160 rfl (Nat.le_of_ble_eq_true rfl) (Nat.le_of_ble_eq_true rfl) (PX.ok ((if_neg (not_not_intro c_6)).trans ((if_neg (not_not_intro c_21)).trans (if_neg (by rw [tn_nI (a := b) (by omega), tn_nI (a := c) (by omega), ← show j = g 1 by omega, hnt]; simp)))) (by rw [tn_nI (a := b) (by omega), tn_nI (a := c) (by omega), ← show j = g 1 by omega, hnt]) rfl)
          · have hsj := hst j (by omega)
            refine V_iconst (v := nI 0) F dX4_nextTrain_57 rfl ?_
            refine V_istore (i := 6) F dX4_nextTrain_58 (Nat.le_of_ble_eq_true rfl) (Nat.le_of_ble_eq_true rfl) ?_
            have loop_60 : ∀ (nn : Nat) (q : Nat), g (16 + 36 * j + 3) - 1 < q + nn → q ≤ g (16 + 36 * j + 3) - 1 → VV G X 7 (EQ G X 0 0 (PX (if ¬ iR (nI b) (g 0) then 1 else if ¬ (nI 0 ≤ (nI c) ∧ (nI c) ≤ nI 9999) then 2 else if (ntO g (tn (nI b)) (tn (nI c)) (g 1)).1 = none then 3 else 0) (fun k => hset h m (.inr (0, fs.set 7 (.int (nI k))))) (.int (rO (ntO g (tn (nI b)) (tn (nI c)) (g 1)).1)) (hset h m (.inr (0, fs.set 7 (.int (nI 0))))))) (hset h (m) (.inr (0, (fs).set 7 (.int (nI (0)))))) 0 0 [some (.ref (m)), some (.int (nI (b))), some (.int (nI (c))), some (.int (rO (ntI g b c j (ntO g b c j) q).1)), some (.int (nI ((ntI g b c j (ntO g b c j) q).2))), some (.int (nI (j))), some (.int (nI (q)))] [] 60 := by
              intro nn
              induction nn with
              | zero => intro q hn2 hq; exact absurd hn2 (by omega)
              | succ nn ih_60 =>
                intro q hn2 hq
                refine V_iload (i := 6) F dX4_nextTrain_60 rfl ?_
                refine V_aload_n (i := 0) F dX4_nextTrain_62 rfl rfl ?_
                refine V_iload (i := 5) F dX4_nextTrain_63 rfl ?_
                refine V_iconst (v := nI 3) F dX4_nextTrain_65 rfl ?_
                refine V_cV2r F dX4_nextTrain_66 lk_X4_76 (ct_of hset_self (gset h_g (by decide)) ((hset_ne (ne_ao hg hm)).trans hg) (by omega)) ⟨0, _, _, _, rfl, (.inl hset_self)⟩ (Nat.le_of_ble_eq_true rfl) (Nat.le_of_ble_eq_true rfl) (Nat.le_of_ble_eq_true rfl) (Nat.le_of_ble_eq_true rfl) (Nat.le_of_ble_eq_true rfl) ?_
                refine V_iconst (v := nI 1) F dX4_nextTrain_69 rfl ?_
                refine V_isubN F dX4_nextTrain_70 (by omega) ?_
                refine V_icmp_geN (tgt := 133) F dX4_nextTrain_71 (by decide) (by omega) (by omega) (fun c_71 => ?_) (fun c_71 => ?_)
                · obtain rfl : q = g (16 + 36 * j + 3) - 1 := by omega
                  refine V_iinc (i := 5) (v := nI (j + 1)) F dX4_nextTrain_133 rfl (nI_add (j) 1) (Nat.le_of_ble_eq_true rfl) ?_
                  refine V_goto (tgt := 46) F dX4_nextTrain_136 (by decide) ?_
                  refine VV.weak (L' := [some (.ref (m)), some (.int (nI (b))), some (.int (nI (c))), some (.int (rO (ntO g b c (j + 1)).1)), some (.int (nI ((ntO g b c (j + 1)).2))), some (.int (nI (j + 1))), none]) (LW.c1 (LW.c1 (LW.c1 (LW.c1 (LW.c1 (LW.c1 (LW.c0 LW.nil))))))) ?_
                  exact ih_46 (j + 1) (by omega) (by omega)
                · refine V_aload_n (i := 0) F dX4_nextTrain_74 rfl rfl ?_
                  refine V_iload (i := 5) F dX4_nextTrain_75 rfl ?_
                  refine V_iload (i := 6) F dX4_nextTrain_77 rfl ?_
                  refine V_cV2r F dX4_nextTrain_79 lk_X4_102 (ct_place hset_self (gset h_g (by decide)) ((hset_ne (ne_ao hg hm)).trans hg) (by omega) (by omega)) ⟨0, _, _, _, rfl, (.inl hset_self)⟩ (Nat.le_of_ble_eq_true rfl) (Nat.le_of_ble_eq_true rfl) (Nat.le_of_ble_eq_true rfl) (Nat.le_of_ble_eq_true rfl) (Nat.le_of_ble_eq_true rfl) ?_
                  refine V_iload_n (i := 1) F dX4_nextTrain_82 rfl rfl ?_
                  refine V_icmp_neN (tgt := 127) F dX4_nextTrain_83 (by decide) hB.lt (by omega) (fun c_83 => ?_) (fun c_83 => ?_)
                  · have hcc : ntI g b c j (ntO g b c j) (q + 1) = ntI g b c j (ntO g b c j) q := if_neg (fun z => absurd z.1 c_83)
                    refine VV.weak (L' := [some (.ref (m)), some (.int (nI (b))), some (.int (nI (c))), some (.int (rO (ntI g b c j (ntO g b c j) (q + 1)).1)), some (.int (nI ((ntI g b c j (ntO g b c j) (q + 1)).2))), some (.int (nI (j))), some (.int (nI (q)))]) (by rw [hcc]; exact LW.c1 (LW.c1 (LW.c1 (LW.c1 (LW.c1 (LW.c1 (LW.c1 LW.nil))))))) ?_
                    refine V_iinc (i := 6) (v := nI (q + 1)) F dX4_nextTrain_127 rfl (nI_add (q) 1) (Nat.le_of_ble_eq_true rfl) ?_
                    refine V_goto (tgt := 60) F dX4_nextTrain_130 (by decide) ?_
                    refine VV.weak (L' := [some (.ref (m)), some (.int (nI (b))), some (.int (nI (c))), some (.int (rO (ntI g b c j (ntO g b c j) (q + 1)).1)), some (.int (nI ((ntI g b c j (ntO g b c j) (q + 1)).2))), some (.int (nI (j))), some (.int (nI (q + 1)))]) (LW.c1 (LW.c1 (LW.c1 (LW.c1 (LW.c1 (LW.c1 (LW.c1 LW.nil))))))) ?_
                    exact ih_60 (q + 1) (by omega) (by omega)
                  · refine V_aload_n (i := 0) F dX4_nextTrain_86 rfl rfl ?_
                    refine V_iload (i := 5) F dX4_nextTrain_87 rfl ?_
                    refine V_iload (i := 6) F dX4_nextTrain_89 rfl ?_
                    refine V_cV2r F dX4_nextTrain_91 lk_X4_80 (ct_leaves hset_self (gset h_g (by decide)) ((hset_ne (ne_ao hg hm)).trans hg) (by omega) (by omega)) ⟨0, _, _, _, rfl, (.inl hset_self)⟩ (Nat.le_of_ble_eq_true rfl) (Nat.le_of_ble_eq_true rfl) (Nat.le_of_ble_eq_true rfl) (Nat.le_of_ble_eq_true rfl) (Nat.le_of_ble_eq_true rfl) ?_
                    refine V_iload_n (i := 2) F dX4_nextTrain_94 rfl rfl ?_
                    refine V_icmp_ltN (tgt := 127) F dX4_nextTrain_95 (by decide) (by have := LvG_31 hB (t := j) (k := q) (by omega); omega) (by omega) (fun c_95 => ?_) (fun c_95 => ?_)
                    · have hcc : ntI g b c j (ntO g b c j) (q + 1) = ntI g b c j (ntO g b c j) q := if_neg (fun z => absurd z.2.1 (by omega))
                      refine VV.weak (L' := [some (.ref (m)), some (.int (nI (b))), some (.int (nI (c))), some (.int (rO (ntI g b c j (ntO g b c j) (q + 1)).1)), some (.int (nI ((ntI g b c j (ntO g b c j) (q + 1)).2))), some (.int (nI (j))), some (.int (nI (q)))]) (by rw [hcc]; exact LW.c1 (LW.c1 (LW.c1 (LW.c1 (LW.c1 (LW.c1 (LW.c1 LW.nil))))))) ?_
                      refine V_iinc (i := 6) (v := nI (q + 1)) F dX4_nextTrain_127 rfl (nI_add (q) 1) (Nat.le_of_ble_eq_true rfl) ?_
                      refine V_goto (tgt := 60) F dX4_nextTrain_130 (by decide) ?_
                      refine VV.weak (L' := [some (.ref (m)), some (.int (nI (b))), some (.int (nI (c))), some (.int (rO (ntI g b c j (ntO g b c j) (q + 1)).1)), some (.int (nI ((ntI g b c j (ntO g b c j) (q + 1)).2))), some (.int (nI (j))), some (.int (nI (q + 1)))]) (LW.c1 (LW.c1 (LW.c1 (LW.c1 (LW.c1 (LW.c1 (LW.c1 LW.nil))))))) ?_
                      exact ih_60 (q + 1) (by omega) (by omega)
                    · refine V_aload_n (i := 0) F dX4_nextTrain_98 rfl rfl ?_
                      refine V_iload (i := 5) F dX4_nextTrain_99 rfl ?_
                      refine V_iload (i := 6) F dX4_nextTrain_101 rfl ?_
                      refine V_cV2r F dX4_nextTrain_103 lk_X4_80 (ct_leaves hset_self (gset h_g (by decide)) ((hset_ne (ne_ao hg hm)).trans hg) (by omega) (by omega)) ⟨0, _, _, _, rfl, (.inl hset_self)⟩ (Nat.le_of_ble_eq_true rfl) (Nat.le_of_ble_eq_true rfl) (Nat.le_of_ble_eq_true rfl) (Nat.le_of_ble_eq_true rfl) (Nat.le_of_ble_eq_true rfl) ?_
                      refine V_iload (i := 4) F dX4_nextTrain_106 rfl ?_
                      refine V_icmp_ltN (tgt := 114) F dX4_nextTrain_108 (by decide) (by have := LvG_31 hB (t := j) (k := q) (by omega); omega) (Nat.lt_of_le_of_lt (ntI_le (ntO_le j) q) (by decide)) (fun c_108 => ?_) (fun c_108 => ?_)
                      · refine V_aload_n (i := 0) F dX4_nextTrain_114 rfl rfl ?_
                        refine V_iload (i := 5) F dX4_nextTrain_115 rfl ?_
                        refine V_iload (i := 6) F dX4_nextTrain_117 rfl ?_
                        refine V_cV2r F dX4_nextTrain_119 lk_X4_80 (ct_leaves hset_self (gset h_g (by decide)) ((hset_ne (ne_ao hg hm)).trans hg) (by omega) (by omega)) ⟨0, _, _, _, rfl, (.inl hset_self)⟩ (Nat.le_of_ble_eq_true rfl) (Nat.le_of_ble_eq_true rfl) (Nat.le_of_ble_eq_true rfl) (Nat.le_of_ble_eq_true rfl) (Nat.le_of_ble_eq_true rfl) ?_
                        refine V_istore (i := 4) F dX4_nextTrain_122 (Nat.le_of_ble_eq_true rfl) (Nat.le_of_ble_eq_true rfl) ?_
                        refine V_iload (i := 5) F dX4_nextTrain_124 rfl ?_
                        refine V_istore_n (i := 3) F dX4_nextTrain_126 rfl (Nat.le_of_ble_eq_true rfl) (Nat.le_of_ble_eq_true rfl) ?_
                        have hcc : ntI g b c j (ntO g b c j) (q + 1) = (some j, LvG g j q) := if_pos ⟨c_83, by omega, by omega⟩
                        refine VV.weak (L' := [some (.ref (m)), some (.int (nI (b))), some (.int (nI (c))), some (.int (rO (ntI g b c j (ntO g b c j) (q + 1)).1)), some (.int (nI ((ntI g b c j (ntO g b c j) (q + 1)).2))), some (.int (nI (j))), some (.int (nI (q)))]) (by rw [hcc]; exact LW.c1 (LW.c1 (LW.c1 (LW.c1 (LW.c1 (LW.c1 (LW.c1 LW.nil))))))) ?_
                        refine V_iinc (i := 6) (v := nI (q + 1)) F dX4_nextTrain_127 rfl (nI_add (q) 1) (Nat.le_of_ble_eq_true rfl) ?_
                        refine V_goto (tgt := 60) F dX4_nextTrain_130 (by decide) ?_
                        refine VV.weak (L' := [some (.ref (m)), some (.int (nI (b))), some (.int (nI (c))), some (.int (rO (ntI g b c j (ntO g b c j) (q + 1)).1)), some (.int (nI ((ntI g b c j (ntO g b c j) (q + 1)).2))), some (.int (nI (j))), some (.int (nI (q + 1)))]) (LW.c1 (LW.c1 (LW.c1 (LW.c1 (LW.c1 (LW.c1 (LW.c1 LW.nil))))))) ?_
                        exact ih_60 (q + 1) (by omega) (by omega)
                      · refine V_goto (tgt := 127) F dX4_nextTrain_111 (by decide) ?_
                        have hcc : ntI g b c j (ntO g b c j) (q + 1) = ntI g b c j (ntO g b c j) q := if_neg (fun z => absurd z.2.2 (by omega))
                        refine VV.weak (L' := [some (.ref (m)), some (.int (nI (b))), some (.int (nI (c))), some (.int (rO (ntI g b c j (ntO g b c j) (q + 1)).1)), some (.int (nI ((ntI g b c j (ntO g b c j) (q + 1)).2))), some (.int (nI (j))), some (.int (nI (q)))]) (by rw [hcc]; exact LW.c1 (LW.c1 (LW.c1 (LW.c1 (LW.c1 (LW.c1 (LW.c1 LW.nil))))))) ?_
                        refine V_iinc (i := 6) (v := nI (q + 1)) F dX4_nextTrain_127 rfl (nI_add (q) 1) (Nat.le_of_ble_eq_true rfl) ?_
                        refine V_goto (tgt := 60) F dX4_nextTrain_130 (by decide) ?_
                        refine VV.weak (L' := [some (.ref (m)), some (.int (nI (b))), some (.int (nI (c))), some (.int (rO (ntI g b c j (ntO g b c j) (q + 1)).1)), some (.int (nI ((ntI g b c j (ntO g b c j) (q + 1)).2))), some (.int (nI (j))), some (.int (nI (q + 1)))]) (LW.c1 (LW.c1 (LW.c1 (LW.c1 (LW.c1 (LW.c1 (LW.c1 LW.nil))))))) ?_
                        exact ih_60 (q + 1) (by omega) (by omega)
            refine VV.weak (L' := [some (.ref (m)), some (.int (nI (b))), some (.int (nI (c))), some (.int (rO (ntO g b c j).1)), some (.int (nI ((ntO g b c j).2))), some (.int (nI (j))), some (.int (nI (0)))]) (LW.c1 (LW.c1 (LW.c1 (LW.c1 (LW.c1 (LW.c1 (LW.c1 LW.nil))))))) ?_
            exact loop_60 (g (16 + 36 * j + 3) - 1 + 1) 0 (by omega) (by omega)
      refine VV.weak (L' := [some (.ref (m)), some (.int (nI (b))), some (.int (nI (c))), some (.int (-1)), some (.int (nI (1000000))), some (.int (nI (0))), none]) (LW.c1 (LW.c1 (LW.c1 (LW.c1 (LW.c1 (LW.c1 (LW.c0 LW.nil))))))) ?_
      exact loop_46 (g 1 + 1) 0 (by omega) (by omega)
  · refine V_iconst (v := nI 1) F dX4_nextTrain_9 rfl ?_
    refine V_goto (tgt := 29) F dX4_nextTrain_10 (by decide) ?_
    refine V_cV1r F dX4_nextTrain_29 lk_X4_92 (ct_failsP 1 hm hlen (by decide)) ⟨0, _, _, _, rfl, (.inl hm)⟩ (Nat.le_of_ble_eq_true rfl) (Nat.le_of_ble_eq_true rfl) (Nat.le_of_ble_eq_true rfl) (Nat.le_of_ble_eq_true rfl) (Nat.le_of_ble_eq_true rfl) ?_
    refine V_if_eqN (tgt := 37) F dX4_nextTrain_32 (by decide) (by omega) (fun c_32 => absurd c_32 (by decide)) (fun c_32 => ?_)
    refine V_iconst (v := nI 0) F dX4_nextTrain_35 rfl ?_
    exact V_iret F dX4_nextTrain_36 rfl (Nat.le_of_ble_eq_true rfl) (Nat.le_of_ble_eq_true rfl) (PX.fail 1 (if_pos c_6) (by decide) rfl)
