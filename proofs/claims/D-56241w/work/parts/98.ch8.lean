/-- one more (one less) on the legs from a on, below b -/
def tkI (f : Nat → Nat) (a b : Nat) : Nat → Nat := fun k => if a ≤ k ∧ k < b then f k + 1 else f k
def tkD (f : Nat → Nat) (a b : Nat) : Nat → Nat := fun k => if a ≤ k ∧ k < b then f k - 1 else f k
theorem tkI_0 {f : Nat → Nat} {a : Nat} : tkI f a a = f := by funext k; unfold tkI; rw [if_neg (by omega)]
theorem tkD_0 {f : Nat → Nat} {a : Nat} : tkD f a a = f := by funext k; unfold tkD; rw [if_neg (by omega)]
theorem tkI_k {f : Nat → Nat} {a b : Nat} : tkI f a b b = f b := by unfold tkI; rw [if_neg (by omega)]
theorem tkD_k {f : Nat → Nat} {a b : Nat} : tkD f a b b = f b := by unfold tkD; rw [if_neg (by omega)]
theorem tkI_s {f : Nat → Nat} {a b : Nat} (h : a ≤ b) : up (tkI f a b) b (f b + 1) = tkI f a (b + 1) := by
  funext k
  by_cases e : k = b
  · subst e; rw [up_s]; unfold tkI; rw [if_pos (by omega)]
  · rw [up_n e]; unfold tkI
    by_cases c : a ≤ k ∧ k < b
    · rw [if_pos c, if_pos (by omega)]
    · rw [if_neg c, if_neg (by omega)]
theorem tkD_s {f : Nat → Nat} {a b : Nat} (h : a ≤ b) : up (tkD f a b) b (f b - 1) = tkD f a (b + 1) := by
  funext k
  by_cases e : k = b
  · subst e; rw [up_s]; unfold tkD; rw [if_pos (by omega)]
  · rw [up_n e]; unfold tkD
    by_cases c : a ≤ k ∧ k < b
    · rw [if_pos c, if_pos (by omega)]
    · rw [if_neg c, if_neg (by omega)]
theorem ct_RW_takeI {G : GG} {l : Launch} {h : AH} {x b0 b1 b2 b3 b4 a b : Nat} {c0 c6 c7 : Int32} {f : Nat → Nat}  (hx : h x = some (.inr (4, [.int c0, .ref b0, .ref b1, .ref b2, .ref b3, .ref b4, .int c6, .int c7]))) (hb : h b4 = some (iA G 8 (fun i => nI (f i)))) (hab : a ≤ b) (hb8 : b ≤ 8) : Ct G l yX2_takeLegs cX2_takeLegs 5 none 0 (0) (0) [.ref x, .int (nI a), .int (nI b), .int (nI 1)] h (fun r h2 => r = none ∧ h2 b4 = some (iA G 8 (fun i => nI (tkI f a b i))) ∧ Fr (m1 b4) h h2) := by
  refine Ct.of (by decide) (Nat.le_of_ble_eq_true rfl) (cat1 rfl) (fun X hXl F HN => ?_)
  subst hXl
  refine V_iload_n (i := 1) F dX2_takeLegs_0 rfl rfl ?_
  refine V_istore (i := 4) F dX2_takeLegs_1 (Nat.le_of_ble_eq_true rfl) (Nat.le_of_ble_eq_true rfl) ?_
  have loop_3 : ∀ (nn : Nat) (k : Nat) (hh : AH), b - k < nn → a ≤ k → k ≤ b → hh x = some (.inr (4, [.int c0, .ref b0, .ref b1, .ref b2, .ref b3, .ref b4, .int c6, .int c7])) → hh b4 = some (iA G 8 (fun i => nI (tkI f a k i))) → Fr (m1 b4) h hh → VV G X 5 ((EQ G X (0) (0) (fun r h2 => r = none ∧ h2 b4 = some (iA G 8 (fun i => nI (tkI f a b i))) ∧ Fr (m1 b4) h h2))) hh (0) (0) [some (.ref (x)), some (.int (nI (a))), some (.int (nI (b))), some (.int (nI (1))), some (.int (nI (k)))] [] 3 := by
    intro nn
    induction nn with
    | zero => intro k hh hm hak hkb hxh hbh hF; exact absurd hm (by omega)
    | succ nn ih_3 =>
      intro k hh hm hak hkb hxh hbh hF
      refine V_iload (i := 4) F dX2_takeLegs_3 rfl ?_
      refine V_iload_n (i := 2) F dX2_takeLegs_5 rfl rfl ?_
      refine V_icmp_geN (tgt := 26) F dX2_takeLegs_6 (by decide) (by omega) (by omega) (fun c_6 => ?_) (fun c_6 => ?_)
      · have hkb2 : k = b := by omega
        subst hkb2
        exact V_vret F dX2_takeLegs_26 (by first | exact Nat.le_of_ble_eq_true rfl | omega) (by first | exact Nat.le_of_ble_eq_true rfl | omega) ⟨rfl, hbh, hF⟩
      · refine V_aload_n (i := 0) F dX2_takeLegs_9 rfl rfl ?_
        refine V_getn F dX2_takeLegs_10 fc_X2_237_X5 (.inl hxh) rfl ?_
        refine V_iload (i := 4) F dX2_takeLegs_13 rfl ?_
        refine V_dup2 F dX2_takeLegs_15 rfl rfl ?_
        refine V_ialdG F dX2_takeLegs_16 (.inl hbh) (by omega) (by decide) tkI_k ?_
        refine V_iload_n (i := 3) F dX2_takeLegs_17 rfl rfl ?_
        refine V_iaddN F dX2_takeLegs_18 ?_
        refine V_iastG F dX2_takeLegs_19 hbh (by omega) (by decide) ?_
        refine V_iinc (i := 4) (v := nI (k + 1)) F dX2_takeLegs_20 rfl (nI_add (k) 1) (Nat.le_of_ble_eq_true rfl) ?_
        refine V_goto (tgt := 3) F dX2_takeLegs_23 (by decide) ?_
        refine VV.weak (L' := [some (.ref (x)), some (.int (nI (a))), some (.int (nI (b))), some (.int (nI (1))), some (.int (nI (k + 1)))]) (LW.c1 (LW.c1 (LW.c1 (LW.c1 (LW.c1 LW.nil))))) ?_
        have pe : (hset hh (b4) (.inl (G.2.1 0, 8, .inl (fun i => nI (((up (tkI f a k) k ((f k) + 1))) i))))) b4 = some (.inl (G.2.1 0, 8, .inl (fun i => nI (((up (tkI f a k) k ((f k) + 1))) i)))) := (hset_self (e := .inl (G.2.1 0, 8, .inl (fun i => nI (((up (tkI f a k) k ((f k) + 1))) i)))))
        have px : (hset hh (b4) (.inl (G.2.1 0, 8, .inl (fun i => nI (((up (tkI f a k) k ((f k) + 1))) i))))) x = some (.inr (4, [.int (c0), .ref (b0), .ref (b1), .ref (b2), .ref (b3), .ref (b4), .int (c6), .int (c7)])) := ((hset_ne (ne_oa hxh hbh)).trans hxh)
        exact ih_3 (k + 1) _ (by omega) (by omega) (by omega) px (pe.trans (by rw [tkI_s hak])) (hF.put (x := .inl (G.2.1 0, 8, .inl (fun i => nI (((up (tkI f a k) k ((f k) + 1))) i)))) hbh ⟨rfl, rfl⟩ rfl (Or.inl rfl))
  refine VV.weak (L' := [some (.ref (x)), some (.int (nI (a))), some (.int (nI (b))), some (.int (nI (1))), some (.int (nI (a)))]) (LW.c1 (LW.c1 (LW.c1 (LW.c1 (LW.c1 LW.nil))))) ?_
  exact loop_3 (b - a + 1) a h (by omega) (Nat.le_refl _) hab hx (hb.trans (by rw [tkI_0])) Fr.rf
theorem ct_RW_takeD {G : GG} {l : Launch} {h : AH} {x b0 b1 b2 b3 b4 a b : Nat} {c0 c6 c7 : Int32} {f : Nat → Nat}  (hx : h x = some (.inr (4, [.int c0, .ref b0, .ref b1, .ref b2, .ref b3, .ref b4, .int c6, .int c7]))) (hb : h b4 = some (iA G 8 (fun i => nI (f i)))) (hab : a ≤ b) (hb8 : b ≤ 8) (hpos : ∀ k, a ≤ k → k < b → 0 < f k) : Ct G l yX2_takeLegs cX2_takeLegs 5 none 0 (0) (0) [.ref x, .int (nI a), .int (nI b), .int (-1)] h (fun r h2 => r = none ∧ h2 b4 = some (iA G 8 (fun i => nI (tkD f a b i))) ∧ Fr (m1 b4) h h2) := by
  refine Ct.of (by decide) (Nat.le_of_ble_eq_true rfl) (cat1 rfl) (fun X hXl F HN => ?_)
  subst hXl
  refine V_iload_n (i := 1) F dX2_takeLegs_0 rfl rfl ?_
  refine V_istore (i := 4) F dX2_takeLegs_1 (Nat.le_of_ble_eq_true rfl) (Nat.le_of_ble_eq_true rfl) ?_
  have loop_3 : ∀ (nn : Nat) (k : Nat) (hh : AH), b - k < nn → a ≤ k → k ≤ b → hh x = some (.inr (4, [.int c0, .ref b0, .ref b1, .ref b2, .ref b3, .ref b4, .int c6, .int c7])) → hh b4 = some (iA G 8 (fun i => nI (tkD f a k i))) → Fr (m1 b4) h hh → VV G X 5 ((EQ G X (0) (0) (fun r h2 => r = none ∧ h2 b4 = some (iA G 8 (fun i => nI (tkD f a b i))) ∧ Fr (m1 b4) h h2))) hh (0) (0) [some (.ref (x)), some (.int (nI (a))), some (.int (nI (b))), some (.int (-1)), some (.int (nI (k)))] [] 3 := by
    intro nn
    induction nn with
    | zero => intro k hh hm hak hkb hxh hbh hF; exact absurd hm (by omega)
    | succ nn ih_3 =>
      intro k hh hm hak hkb hxh hbh hF
      refine V_iload (i := 4) F dX2_takeLegs_3 rfl ?_
      refine V_iload_n (i := 2) F dX2_takeLegs_5 rfl rfl ?_
      refine V_icmp_geN (tgt := 26) F dX2_takeLegs_6 (by decide) (by omega) (by omega) (fun c_6 => ?_) (fun c_6 => ?_)
      · have hkb2 : k = b := by omega
        subst hkb2
        exact V_vret F dX2_takeLegs_26 (by first | exact Nat.le_of_ble_eq_true rfl | omega) (by first | exact Nat.le_of_ble_eq_true rfl | omega) ⟨rfl, hbh, hF⟩
      · refine V_aload_n (i := 0) F dX2_takeLegs_9 rfl rfl ?_
        refine V_getn F dX2_takeLegs_10 fc_X2_237_X5 (.inl hxh) rfl ?_
        refine V_iload (i := 4) F dX2_takeLegs_13 rfl ?_
        refine V_dup2 F dX2_takeLegs_15 rfl rfl ?_
        refine V_ialdG F dX2_takeLegs_16 (.inl hbh) (by omega) (by decide) tkD_k ?_
        refine V_iload_n (i := 3) F dX2_takeLegs_17 rfl rfl ?_
        refine V_iadd F dX2_takeLegs_18 ?_
        refine VV.stk (st' := [.int (nI (f k - 1)), .int (nI (k)), .ref (b4)]) (by rw [nI_sub1 (hpos k (by omega) (by omega))]) ?_
        refine V_iastG F dX2_takeLegs_19 hbh (by omega) (by decide) ?_
        refine V_iinc (i := 4) (v := nI (k + 1)) F dX2_takeLegs_20 rfl (nI_add (k) 1) (Nat.le_of_ble_eq_true rfl) ?_
        refine V_goto (tgt := 3) F dX2_takeLegs_23 (by decide) ?_
        refine VV.weak (L' := [some (.ref (x)), some (.int (nI (a))), some (.int (nI (b))), some (.int (-1)), some (.int (nI (k + 1)))]) (LW.c1 (LW.c1 (LW.c1 (LW.c1 (LW.c1 LW.nil))))) ?_
        have pe : (hset hh (b4) (.inl (G.2.1 0, 8, .inl (fun i => nI (((up (tkD f a k) k (f k - 1))) i))))) b4 = some (.inl (G.2.1 0, 8, .inl (fun i => nI (((up (tkD f a k) k (f k - 1))) i)))) := (hset_self (e := .inl (G.2.1 0, 8, .inl (fun i => nI (((up (tkD f a k) k (f k - 1))) i)))))
        have px : (hset hh (b4) (.inl (G.2.1 0, 8, .inl (fun i => nI (((up (tkD f a k) k (f k - 1))) i))))) x = some (.inr (4, [.int (c0), .ref (b0), .ref (b1), .ref (b2), .ref (b3), .ref (b4), .int (c6), .int (c7)])) := ((hset_ne (ne_oa hxh hbh)).trans hxh)
        exact ih_3 (k + 1) _ (by omega) (by omega) (by omega) px (pe.trans (by rw [tkD_s hak])) (hF.put (x := .inl (G.2.1 0, 8, .inl (fun i => nI (((up (tkD f a k) k (f k - 1))) i)))) hbh ⟨rfl, rfl⟩ rfl (Or.inl rfl))
  refine VV.weak (L' := [some (.ref (x)), some (.int (nI (a))), some (.int (nI (b))), some (.int (-1)), some (.int (nI (a)))]) (LW.c1 (LW.c1 (LW.c1 (LW.c1 (LW.c1 LW.nil))))) ?_
  exact loop_3 (b - a + 1) a h (by omega) (Nat.le_refl _) hab hx (hb.trans (by rw [tkD_0])) Fr.rf
