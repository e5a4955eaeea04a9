set_option maxRecDepth 100000
/-- changed once and the arrivals small, and smaller than before if changed -/
def okR (e : Nat → Nat) (c : Nat) (f : Nat → Nat) : Prop := c < 2 ∧ (∀ i, f i < 2 ^ 27) ∧ smE 8 f + c ≤ smE 8 e
theorem rsG_ok {R : (Nat → Nat) → Nat → Nat} {g e : Nat → Nat} {a v t k : Nat} {x : Nat × Nat × (Nat → Nat)} (hI : GW g) (ht : t < g 1) (hk : k + 1 < g (16 + 36 * t + 3)) (h : okR e x.2.1 x.2.2) : okR e (rsG R g a v t k x).2.1 (rsG R g a v t k x).2.2 := by
  obtain ⟨hB, hn0, hn1, hn2, hn3, hst, hpl⟩ := hI
  obtain ⟨h1, h2, h3⟩ := h
  have h8 := (hst t ht).2
  have hcm : CmG g t (k + 1) < 2 ^ 27 := by have := CmG_31 hB (t := t) (k := k + 1) (by omega); omega
  have hp8 := Nat.lt_of_lt_of_le (hpl t (k + 1) ht hk) hn0
  unfold rsG
  split
  · next hc =>
    refine ⟨Nat.lt_succ_self 1, fun i => ?_, ?_⟩
    · show up x.2.2 (plG g t (k + 1)) (CmG g t (k + 1)) i < _
      unfold up; split
      · exact hcm
      · exact h2 i
    · show smE 8 (up x.2.2 (plG g t (k + 1)) (CmG g t (k + 1))) + 1 ≤ _
      have := smE_up hp8 hc.2
      omega
  · exact ⟨h1, h2, h3⟩
theorem riI_ok {R : (Nat → Nat) → Nat → Nat} {g e : Nat → Nat} {a v t : Nat} {y : Nat × (Nat → Nat)} (hI : GW g) (ht : t < g 1) (h : okR e y.1 y.2) : ∀ k, k + 1 ≤ g (16 + 36 * t + 3) → okR e (riI R g a v t y k).2.1 (riI R g a v t y k).2.2
  | 0, _ => h
  | k + 1, hk => rsG_ok hI ht (by omega) (riI_ok hI ht h k (by omega))
theorem riO_ok {R : (Nat → Nat) → Nat → Nat} {g e : Nat → Nat} {a v : Nat} {y : Nat × (Nat → Nat)} (hI : GW g) (h : okR e y.1 y.2) : ∀ t, t ≤ g 1 → okR e (riO R g a v y t).1 (riO R g a v y t).2
  | 0, _ => h
  | t + 1, ht => riI_ok hI (by omega) (riO_ok hI h t (by omega)) _ (by have := (hI.2.2.2.2.2.1 t (by omega)).1; omega)
/-- the first arrivals, of n stations -/
def bgP (a v : Nat) (e : Nat → Nat) (n : Nat) : Nat → Nat := fun i => if i < n then if i = a then v else 1000000 else e i
theorem bgP_0 {a v : Nat} {e : Nat → Nat} : bgP a v e 0 = e := by funext i; exact if_neg (Nat.not_lt_zero _)
theorem bgP_s {a v x n : Nat} {e : Nat → Nat} (hx : x = if n = a then v else 1000000) : up (bgP a v e n) n x = bgP a v e (n + 1) := by
  funext i; unfold up bgP
  by_cases h1 : i = n
  · rw [if_pos h1, if_pos (by omega), hx, h1]
  · rw [if_neg h1]
    by_cases h2 : i < n
    · rw [if_pos h2, if_pos (show i < n + 1 by omega)]
    · rw [if_neg h2, if_neg (by omega)]
theorem bgP_27 {a v : Nat} {e : Nat → Nat} (hv : v < 2 ^ 27) (he : ∀ i, e i < 2 ^ 27) : ∀ n i, bgP a v e n i < 2 ^ 27 := by
  intro n i; unfold bgP
  split
  · split
    · exact hv
    · decide
  · exact he i
/-- ridden until nothing changes -/
def goF (g : Nat → Nat) (a v : Nat) : Nat → (Nat → Nat) → Nat → Nat
  | 0, e => e
  | n + 1, e => if (riO (fun f => f) g a v (0, e) (g 1)).1 = 1 then goF g a v n (riO (fun f => f) g a v (0, e) (g 1)).2 else (riO (fun f => f) g a v (0, e) (g 1)).2
def goE (g : Nat → Nat) (a v : Nat) (e : Nat → Nat) : Nat → Nat := goF g a v (smE 8 (bgP a v e 8) + 1) (bgP a v e 8)
theorem goF_27 {g : Nat → Nat} {a v : Nat} (hI : GW g) : ∀ n e, (∀ i, e i < 2 ^ 27) → ∀ i, goF g a v n e i < 2 ^ 27
  | 0, e, h => h
  | n + 1, e, h => by
    have ho := riO_ok (R := fun f => f) (a := a) (v := v) hI (e := e) (y := (0, e)) ⟨Nat.zero_lt_two, h, Nat.le_refl _⟩ (g 1) (Nat.le_refl _)
    unfold goF
    split
    · exact goF_27 hI n _ ho.2.1
    · exact ho.2.1
theorem goE_27 {g e : Nat → Nat} {a v : Nat} (hI : GW g) (hv : v < 2 ^ 27) (he : ∀ i, e i < 2 ^ 27) : ∀ i, goE g a v e i < 2 ^ 27 := goF_27 hI _ _ (bgP_27 hv he 8)
abbrev bgF (fs : List Value) (a v : Nat) : List Value := (fs.set 16 (.int (nI a))).set 17 (.int (nI v))
def bgH (G : GG) (h : AH) (m : Nat) (fs : List Value) (a v aE : Nat) (e : Nat → Nat) : AH := hset (hset h m (.inr (0, bgF fs a v))) aE (iA G 8 (fun i => nI (e i)))
theorem bgH_m {G : GG} {h : AH} {m : Nat} {fs : List Value} {a v aE : Nat} {e : Nat → Nat} (hn : m ≠ aE) : bgH G h m fs a v aE e m = some (.inr (0, bgF fs a v)) := (hset_ne hn).trans hset_self
theorem bgH_e {G : GG} {h : AH} {m : Nat} {fs : List Value} {a v aE : Nat} {e : Nat → Nat} : bgH G h m fs a v aE e aE = some (iA G 8 (fun i => nI (e i))) := hset_self
theorem bgH_o {G : GG} {h : AH} {m : Nat} {fs : List Value} {a v aE b : Nat} {e : Nat → Nat} (h1 : b ≠ m) (h2 : b ≠ aE) : bgH G h m fs a v aE e b = h b := (hset_ne h2).trans (hset_ne h1)
theorem bgH_h {G : GG} {h : AH} {m : Nat} {fs fs2 : List Value} {a v aE : Nat} {e : Nat → Nat} : bgH G (hset h m (.inr (0, fs2))) m fs a v aE e = bgH G h m fs a v aE e := by unfold bgH; rw [hset_hset]
/-- asked of two stations and a minute -/
def cdJ (g : Nat → Nat) (p q u : Int32) : Nat := if ¬ iR p (g 0) ∨ ¬ iR q (g 0) then 1 else if ¬ (nI 0 ≤ u ∧ u ≤ nI 9999) then 2 else 0
theorem cdJ_0 {g : Nat → Nat} {p q u : Int32} (h : cdJ g p q u = 0) : iR p (g 0) ∧ iR q (g 0) ∧ nI 0 ≤ u ∧ u ≤ nI 9999 := by
  unfold cdJ at h
  split at h
  · cases h
  · next h1 =>
    split at h
    · cases h
    · next h2 => exact ⟨Decidable.byContradiction (fun z => h1 (Or.inl z)), Decidable.byContradiction (fun z => h1 (Or.inr z)), (Decidable.not_not.mp h2).1, (Decidable.not_not.mp h2).2⟩
theorem cdJ_3 {g : Nat → Nat} {p q u : Int32} : cdJ g p q u ≠ 3 := by
  unfold cdJ; split
  · decide
  · split <;> decide
def mxN (e f : Nat → Nat) (n : Nat) : Nat → Nat := fun i => if i < n then e i else f i
theorem mxN_0 {e f : Nat → Nat} : mxN e f 0 = f := by funext i; exact if_neg (Nat.not_lt_zero _)
theorem mxN_s {e f : Nat → Nat} {n : Nat} : up (mxN e f n) n (e n) = mxN e f (n + 1) := by
  funext i; unfold up mxN
  by_cases h1 : i = n
  · rw [if_pos h1, if_pos (by omega), h1]
  · rw [if_neg h1]
    by_cases h2 : i < n
    · rw [if_pos h2, if_pos (by omega)]
    · rw [if_neg h2, if_neg (by omega)]
theorem mxN_27 {e f : Nat → Nat} {n : Nat} (he : ∀ i, e i < 2 ^ 27) (hf : ∀ i, f i < 2 ^ 27) : ∀ i, mxN e f n i < 2 ^ 27 := by
  intro i; unfold mxN; split
  · exact he i
  · exact hf i
theorem smE_mx {e f : Nat → Nat} {m : Nat} : ∀ n, n ≤ m → smE n (mxN e f m) = smE n e
  | 0, _ => rfl
  | n + 1, h => by unfold smE; rw [smE_mx n (by omega)]; unfold mxN; rw [if_pos (by omega)]
/-- ridden round by round, until the station is reached: rounds, the two rows -/
def bdL (g : Nat → Nat) (a v c : Nat) : Nat → Nat → Nat → (Nat → Nat) → (Nat → Nat) → Nat × (Nat → Nat) × (Nat → Nat)
  | 0, n, _, e, f => (n, e, f)
  | K + 1, n, s, e, f => if s = 1 ∧ e c = 1000000 then bdL g a v c K (n + 1) (riO (fun _ => e) g a v (0, mxN e f 8) (g 1)).1 (mxN (riO (fun _ => e) g a v (0, mxN e f 8) (g 1)).2 e 8) (riO (fun _ => e) g a v (0, mxN e f 8) (g 1)).2 else (n, e, f)
theorem bdL_end {g : Nat → Nat} {a v c n s K : Nat} {e f : Nat → Nat} (h : ¬ (s = 1 ∧ e c = 1000000)) : bdL g a v c K n s e f = (n, e, f) := by
  cases K with
  | zero => rfl
  | succ K => unfold bdL; rw [if_neg h]
def bdR (g : Nat → Nat) (a v c : Nat) (e f : Nat → Nat) : Nat × (Nat → Nat) × (Nat → Nat) := bdL g a v c (smE 8 (bgP a v e 8) + 1) 0 1 (bgP a v e 8) f
def bdH (G : GG) (h : AH) (m : Nat) (fs : List Value) (a v aE aT : Nat) (e f : Nat → Nat) : AH := hset (bgH G h m fs a v aE e) aT (iA G 8 (fun i => nI (f i)))
theorem bdH_m {G : GG} {h : AH} {m : Nat} {fs : List Value} {a v aE aT : Nat} {e f : Nat → Nat} (hn : m ≠ aE) (ht : m ≠ aT) : bdH G h m fs a v aE aT e f m = some (.inr (0, bgF fs a v)) := (hset_ne ht).trans (bgH_m hn)
theorem bdH_e {G : GG} {h : AH} {m : Nat} {fs : List Value} {a v aE aT : Nat} {e f : Nat → Nat} (ht : aE ≠ aT) : bdH G h m fs a v aE aT e f aE = some (iA G 8 (fun i => nI (e i))) := (hset_ne ht).trans bgH_e
theorem bdH_t {G : GG} {h : AH} {m : Nat} {fs : List Value} {a v aE aT : Nat} {e f : Nat → Nat} : bdH G h m fs a v aE aT e f aT = some (iA G 8 (fun i => nI (f i))) := hset_self
theorem bdH_o {G : GG} {h : AH} {m : Nat} {fs : List Value} {a v aE aT b : Nat} {e f : Nat → Nat} (h1 : b ≠ m) (h2 : b ≠ aE) (h3 : b ≠ aT) : bdH G h m fs a v aE aT e f b = h b := (hset_ne h3).trans (bgH_o h1 h2)
theorem bdH_sT {G : GG} {h : AH} {m : Nat} {fs : List Value} {a v aE aT : Nat} {e f f2 : Nat → Nat} : hset (bdH G h m fs a v aE aT e f) aT (iA G 8 (fun i => nI (f2 i))) = bdH G h m fs a v aE aT e f2 := hset_hset
theorem bdH_sE {G : GG} {h : AH} {m : Nat} {fs : List Value} {a v aE aT : Nat} {e e2 f : Nat → Nat} (ht : aE ≠ aT) : hset (bdH G h m fs a v aE aT e f) aE (iA G 8 (fun i => nI (e2 i))) = bdH G h m fs a v aE aT e2 f := by
  unfold bdH bgH; rw [hset_comm (Ne.symm ht), hset_hset]
def cdAR (g : Nat → Nat) (p q u : Int32) (e : Nat → Nat) : Nat := if cdJ g p q u ≠ 0 then cdJ g p q u else if goE g (tn p) (tn u) e (tn q) = 1000000 then 3 else 0
def cdBD (g : Nat → Nat) (p q u : Int32) (e f : Nat → Nat) : Nat := if cdJ g p q u ≠ 0 then cdJ g p q u else if (bdR g (tn p) (tn u) (tn q) e f).2.1 (tn q) = 1000000 then 3 else 0

theorem ct_begins {G : GG} {l : Launch} {h : AH} {m : Nat} {fs : List Value} {aE : Nat} {ge : Nat → Nat} {a v : Nat} (hm : h m = some (.inr (0, fs))) (h_early : fs[14]? = some (.ref aE)) (hea : h aE = some (iA G 8 (fun i => nI (ge i)))) (hlen : fs.length = 25) (ha : a < 2 ^ 31) : Ct G l yX4_begins cX4_begins 4 none 0 0 0 [.ref m, .int (nI (a)), .int (nI (v))] h (PV (bgH G h m fs a v aE (bgP a v ge 8))) := by
  refine Ct.of (by decide) (Nat.le_of_ble_eq_true rfl) (cat1 rfl) (fun X hXl F HN => ?_)
  subst hXl
  have hmE : m ≠ aE := ne_oa hm hea
  refine V_aload_n (i := 0) F dX4_begins_0 rfl rfl ?_
  refine V_iload_n (i := 1) F dX4_begins_1 rfl rfl ?_
  refine V_putf F dX4_begins_2 fp_X4_105_X4 hm rfl rfl (lenk hlen (by decide)) ?_
  refine V_aload_n (i := 0) F dX4_begins_5 rfl rfl ?_
  refine V_iload_n (i := 2) F dX4_begins_6 rfl rfl ?_
  refine V_putf F dX4_begins_7 fp_X4_108_X4 hset_self rfl rfl (glen (lenk hlen (by decide))) ?_
  refine V_iconst (v := nI 0) F dX4_begins_10 rfl ?_
  refine V_istore_n (i := 3) F dX4_begins_11 rfl (Nat.le_of_ble_eq_true rfl) (Nat.le_of_ble_eq_true rfl) ?_
  have loop_12 : ∀ (nn : Nat) (j : Nat), 8 < j + nn → j ≤ 8 → VV G X 4 (EQ G X 0 0 (PV (bgH G h m fs a v aE (bgP a v ge 8)))) (bgH G h m fs a v aE (bgP a v ge j)) 0 0 [some (.ref (m)), some (.int (nI (a))), some (.int (nI (v))), some (.int (nI (j)))] [] 12 := by
    intro nn
    induction nn with
    | zero => intro j hn hj; exact absurd hn (by omega)
    | succ nn ih_12 =>
      intro j hn hj
      refine V_iload_n (i := 3) F dX4_begins_12 rfl rfl ?_
      refine V_bipush (v := nI 8) F dX4_begins_13 rfl ?_
      refine V_icmp_geN (tgt := 41) F dX4_begins_15 (by decide) (by omega) (by omega) (fun c_15 => ?_) (fun c_15 => ?_)
      · exact V_vret F dX4_begins_41 (Nat.le_of_ble_eq_true rfl) (Nat.le_of_ble_eq_true rfl) ⟨rfl, by rw [show j = 8 by omega]⟩
      · refine V_aload_n (i := 0) F dX4_begins_18 rfl rfl ?_
        refine V_getf F dX4_begins_19 fc_X4_36_X4 (.inl (bgH_m hmE)) (gset (gset h_early (by decide)) (by decide)) ?_
        refine V_iload_n (i := 3) F dX4_begins_22 rfl rfl ?_
        refine V_iload_n (i := 3) F dX4_begins_23 rfl rfl ?_
        refine V_iload_n (i := 1) F dX4_begins_24 rfl rfl ?_
        refine V_icmp_neN (tgt := 32) F dX4_begins_25 (by decide) (by omega) ha (fun c_25 => ?_) (fun c_25 => ?_)
        · refine V_ldc (v := nI 1000000) F dX4_begins_32 q3842 ?_
          refine V_iastG F dX4_begins_34 bgH_e (by omega) (by decide) ?_
          refine V_iinc (i := 3) (v := nI (j + 1)) F dX4_begins_35 rfl (nI_add (j) 1) (Nat.le_of_ble_eq_true rfl) ?_
          refine V_goto (tgt := 12) F dX4_begins_38 (by decide) ?_
          refine VV.weak (L' := [some (.ref (m)), some (.int (nI (a))), some (.int (nI (v))), some (.int (nI (j + 1)))]) (LW.c1 (LW.c1 (LW.c1 (LW.c1 LW.nil)))) ?_
          refine VV.heap (by unfold bgH; rw [hset_hset, bgP_s (by rw [if_neg c_25])]) ?_
          exact ih_12 (j + 1) (by omega) (by omega)
        · refine V_iload_n (i := 2) F dX4_begins_28 rfl rfl ?_
          refine V_goto (tgt := 34) F dX4_begins_29 (by decide) ?_
          refine V_iastG F dX4_begins_34 bgH_e (by omega) (by decide) ?_
          refine V_iinc (i := 3) (v := nI (j + 1)) F dX4_begins_35 rfl (nI_add (j) 1) (Nat.le_of_ble_eq_true rfl) ?_
          refine V_goto (tgt := 12) F dX4_begins_38 (by decide) ?_
          refine VV.weak (L' := [some (.ref (m)), some (.int (nI (a))), some (.int (nI (v))), some (.int (nI (j + 1)))]) (LW.c1 (LW.c1 (LW.c1 (LW.c1 LW.nil)))) ?_
          refine VV.heap (by unfold bgH; rw [hset_hset, bgP_s (by rw [if_pos c_25])]) ?_
          exact ih_12 (j + 1) (by omega) (by omega)
  refine VV.weak (L' := [some (.ref (m)), some (.int (nI (a))), some (.int (nI (v))), some (.int (nI (0)))]) (LW.c1 (LW.c1 (LW.c1 (LW.c1 LW.nil)))) ?_
  refine VV.heap (h' := bgH G h m fs a v aE (bgP a v ge 0)) (by unfold bgH; rw [hset_hset, bgP_0]; exact (hset_id ((hset_ne (Ne.symm hmE)).trans hea)).symm) ?_
  exact loop_12 9 0 (by omega) (by omega)
theorem ct_goes {G : GG} {l : Launch} {h : AH} {m : Nat} {fs : List Value} {aG : Nat} {g : Nat → Nat} {aE : Nat} {ge : Nat → Nat} {a v : Nat} (hm : h m = some (.inr (0, fs))) (h_g : fs[0]? = some (.ref aG)) (hg : h aG = some (iA G 304 (fun i => nI (g i)))) (h_early : fs[14]? = some (.ref aE)) (hea : h aE = some (iA G 8 (fun i => nI (ge i)))) (hlen : fs.length = 25) (hI : GW g) (hGE : aG ≠ aE) (he0 : ∀ i, ge i < 2 ^ 27) (ha : a < 2 ^ 27) (hv : v < 2 ^ 27) : Ct G l yX4_goes cX4_goes 4 none 5 0 0 [.ref m, .int (nI (a)), .int (nI (v))] h (PV (bgH G h m fs a v aE (goE g a v ge))) := by
  refine Ct.of (by decide) (Nat.le_of_ble_eq_true rfl) (cat1 rfl) (fun X hXl F HN => ?_)
  subst hXl
  have hmE : m ≠ aE := ne_oa hm hea
  have hI9 := hI
  obtain ⟨hB, hn0, hn1, hn2, hn3, hst, hpl⟩ := hI
  refine V_aload_n (i := 0) F dX4_goes_0 rfl rfl ?_
  refine V_iload_n (i := 1) F dX4_goes_1 rfl rfl ?_
  refine V_iload_n (i := 2) F dX4_goes_2 rfl rfl ?_
  refine V_cV2v F dX4_goes_3 lk_X4_123 (ct_begins hm h_early hea hlen (by omega)) ⟨0, _, _, _, rfl, (.inl hm)⟩ (Nat.le_of_ble_eq_true rfl) (Nat.le_of_ble_eq_true rfl) (Nat.le_of_ble_eq_true rfl) (Nat.le_of_ble_eq_true rfl) (Nat.le_of_ble_eq_true rfl) ?_
  refine V_iconst (v := nI 1) F dX4_goes_6 rfl ?_
  refine V_istore_n (i := 3) F dX4_goes_7 rfl (Nat.le_of_ble_eq_true rfl) (Nat.le_of_ble_eq_true rfl) ?_
  have loop_8 : ∀ (nn : Nat) (c K : Nat) (e : Nat → Nat), smE 8 e + c < nn → c < 2 → (∀ i, e i < 2 ^ 27) → (c = 1 → smE 8 e < K) → (if c = 1 then goF g a v K e else e) = goE g a v ge → VV G X 4 (EQ G X 0 0 (PV (bgH G h m fs a v aE (goE g a v ge)))) (bgH G h m fs a v aE e) 0 0 [some (.ref (m)), some (.int (nI (a))), some (.int (nI (v))), some (.int (nI (c)))] [] 8 := by
    intro nn
    induction nn with
    | zero => intro c K e hn hc he hK hR; exact absurd hn (by omega)
    | succ nn ih_8 =>
      intro c K e hn hc he hK hR
      refine V_iload_n (i := 3) F dX4_goes_8 rfl rfl ?_
      refine V_if_eqN (tgt := 28) F dX4_goes_9 (by decide) (by omega) (fun c_9 => ?_) (fun c_9 => ?_)
      · exact V_vret F dX4_goes_28 (Nat.le_of_ble_eq_true rfl) (Nat.le_of_ble_eq_true rfl) ⟨rfl, by rw [← hR, if_neg (by omega)]⟩
      · refine V_aload_n (i := 0) F dX4_goes_12 rfl rfl ?_
        refine V_aload_n (i := 0) F dX4_goes_13 rfl rfl ?_
        refine V_getf F dX4_goes_14 fc_X4_36_X4 (.inl (bgH_m hmE)) (gset (gset h_early (by decide)) (by decide)) ?_
        refine V_aload_n (i := 0) F dX4_goes_17 rfl rfl ?_
        refine V_getf F dX4_goes_18 fc_X4_36_X4 (.inl (bgH_m hmE)) (gset (gset h_early (by decide)) (by decide)) ?_
        refine V_cV2r F dX4_goes_21 lk_X4_127 (ct_ridesA (bgH_m hmE) (gset (gset h_g (by decide)) (by decide)) ((bgH_o (ne_ao hg hm) hGE).trans hg) (gset (gself (lenk hlen (by decide))) (by decide)) (gself (lenk (lens hlen) (by decide))) bgH_e hGE he (by exact ⟨hB, hn0, hn1, hn2, hn3, hst, hpl⟩) (by omega) (by omega)) ⟨0, _, _, _, rfl, (.inl (bgH_m hmE))⟩ (Nat.le_of_ble_eq_true rfl) (Nat.le_of_ble_eq_true rfl) (Nat.le_of_ble_eq_true rfl) (Nat.le_of_ble_eq_true rfl) (Nat.le_of_ble_eq_true rfl) ?_
        refine VV.heap (h' := bgH G h m fs a v aE (riO (fun f => f) g a v (0, e) (g 1)).2) hset_hset ?_
        refine V_istore_n (i := 3) F dX4_goes_24 rfl (Nat.le_of_ble_eq_true rfl) (Nat.le_of_ble_eq_true rfl) ?_
        refine V_goto (tgt := 8) F dX4_goes_25 (by decide) ?_
        refine VV.weak (L' := [some (.ref (m)), some (.int (nI (a))), some (.int (nI (v))), some (.int (nI ((riO (fun f => f) g a v (0, e) (g 1)).1)))]) (LW.c1 (LW.c1 (LW.c1 (LW.c1 LW.nil)))) ?_
        have ho := riO_ok (R := fun f => f) (a := a) (v := v) hI9 (e := e) (y := (0, e)) ⟨Nat.zero_lt_two, he, Nat.le_refl _⟩ (g 1) (Nat.le_refl _)
        have h01 := ho.1
        have hsm := ho.2.2
        obtain ⟨K2, rfl⟩ : ∃ K2, K = K2 + 1 := ⟨K - 1, by have := hK (by omega); omega⟩
        have hK9 := hK (by omega)
        exact ih_8 (riO (fun f => f) g a v (0, e) (g 1)).1 K2 (riO (fun f => f) g a v (0, e) (g 1)).2 (by omega) ho.1 ho.2.1 (fun z => by omega) (by rw [← hR, if_pos (show c = 1 by omega)]; rfl)
  refine VV.weak (L' := [some (.ref (m)), some (.int (nI (a))), some (.int (nI (v))), some (.int (nI (1)))]) (LW.c1 (LW.c1 (LW.c1 (LW.c1 LW.nil)))) ?_
  exact loop_8 (smE 8 (bgP a v ge 8) + 2) 1 (smE 8 (bgP a v ge 8) + 1) (bgP a v ge 8) (by omega) (by decide) (bgP_27 hv he0 8) (fun _ => Nat.lt_succ_self _) (if_pos rfl)
theorem ct_isAsked {G : GG} {l : Launch} {h : AH} {m : Nat} {fs : List Value} {aG : Nat} {g : Nat → Nat} {p q u : Int32} (hm : h m = some (.inr (0, fs))) (h_g : fs[0]? = some (.ref aG)) (hg : h aG = some (iA G 304 (fun i => nI (g i)))) (hlen : fs.length = 25) (hI : GW g) : Ct G l yX4_isAsked cX4_isAsked 4 (some .boolean) 2 0 0 [.ref m, .int p, .int q, .int u] h (PR (.int (b2 (cdJ g p q u = 0))) (hset h m (.inr (0, fs.set 7 (.int (nI (cdJ g p q u))))))) := by
  refine Ct.of (by decide) (Nat.le_of_ble_eq_true rfl) (cat1 rfl) (fun X hXl F HN => ?_)
  subst hXl
  obtain ⟨hB, hn0, hn1, hn2, hn3, hst, hpl⟩ := hI
  refine V_aload_n (i := 0) F dX4_isAsked_0 rfl rfl ?_
  refine V_aload_n (i := 0) F dX4_isAsked_1 rfl rfl ?_
  refine V_iload_n (i := 1) F dX4_isAsked_2 rfl rfl ?_
  refine V_cV1r F dX4_isAsked_3 lk_X4_99 (ct_isStation hm h_g hg hB.lt) ⟨0, _, _, _, rfl, (.inl hm)⟩ (Nat.le_of_ble_eq_true rfl) (Nat.le_of_ble_eq_true rfl) (Nat.le_of_ble_eq_true rfl) (Nat.le_of_ble_eq_true rfl) (Nat.le_of_ble_eq_true rfl) ?_
  refine V_if_eqB (tgt := 17) F dX4_isAsked_6 (by decide) (fun c_6 => ?_) (fun c_6 => ?_)
  · refine V_iconst (v := nI 1) F dX4_isAsked_17 rfl ?_
    refine V_goto (tgt := 37) F dX4_isAsked_18 (by decide) ?_
    refine V_cV1r F dX4_isAsked_37 lk_X4_92 (ct_failsP 1 hm hlen (by decide)) ⟨0, _, _, _, rfl, (.inl hm)⟩ (Nat.le_of_ble_eq_true rfl) (Nat.le_of_ble_eq_true rfl) (Nat.le_of_ble_eq_true rfl) (Nat.le_of_ble_eq_true rfl) (Nat.le_of_ble_eq_true rfl) ?_
    refine V_if_neN (tgt := 47) F dX4_isAsked_40 (by decide) (by omega) (fun c_40 => ?_) (fun c_40 => absurd c_40 (by decide))
    refine V_iconst (v := nI 0) F dX4_isAsked_47 rfl ?_
    have hcd : cdJ g p q u = 1 := if_pos (by first | exact Or.inl c_6 | exact Or.inr c_14)
    exact V_iret F dX4_isAsked_48 rfl (Nat.le_of_ble_eq_true rfl) (Nat.le_of_ble_eq_true rfl) ⟨by rw [b2_f (by rw [hcd]; decide)]; rfl, by rw [hcd]⟩
  · refine V_aload_n (i := 0) F dX4_isAsked_9 rfl rfl ?_
    refine V_iload_n (i := 2) F dX4_isAsked_10 rfl rfl ?_
    refine V_cV1r F dX4_isAsked_11 lk_X4_99 (ct_isStation hm h_g hg hB.lt) ⟨0, _, _, _, rfl, (.inl hm)⟩ (Nat.le_of_ble_eq_true rfl) (Nat.le_of_ble_eq_true rfl) (Nat.le_of_ble_eq_true rfl) (Nat.le_of_ble_eq_true rfl) (Nat.le_of_ble_eq_true rfl) ?_
    refine V_if_neB (tgt := 21) F dX4_isAsked_14 (by decide) (fun c_14 => ?_) (fun c_14 => ?_)
    · refine V_iload_n (i := 3) F dX4_isAsked_21 rfl rfl ?_
      refine V_iconst (v := nI 0) F dX4_isAsked_22 rfl ?_
      refine V_sipush (v := nI 9999) F dX4_isAsked_23 rfl ?_
      refine V_cS3r F dX4_isAsked_26 lk_X4_68 (ct_in ) (Nat.le_of_ble_eq_true rfl) (Nat.le_of_ble_eq_true rfl) (Nat.le_of_ble_eq_true rfl) (Nat.le_of_ble_eq_true rfl) (Nat.le_of_ble_eq_true rfl) ?_
      refine V_if_eqB (tgt := 36) F dX4_isAsked_29 (by decide) (fun c_29 => ?_) (fun c_29 => ?_)
      · refine V_iconst (v := nI 2) F dX4_isAsked_36 rfl ?_
        refine V_cV1r F dX4_isAsked_37 lk_X4_92 (ct_failsP 2 hm hlen (by decide)) ⟨0, _, _, _, rfl, (.inl hm)⟩ (Nat.le_of_ble_eq_true rfl) (Nat.le_of_ble_eq_true rfl) (Nat.le_of_ble_eq_true rfl) (Nat.le_of_ble_eq_true rfl) (Nat.le_of_ble_eq_true rfl) ?_
        refine V_if_neN (tgt := 47) F dX4_isAsked_40 (by decide) (by omega) (fun c_40 => ?_) (fun c_40 => absurd c_40 (by decide))
        refine V_iconst (v := nI 0) F dX4_isAsked_47 rfl ?_
        have hcd : cdJ g p q u = 2 := (if_neg (not_or.mpr ⟨not_not_intro c_6, not_not_intro c_14⟩)).trans (if_pos c_29)
        exact V_iret F dX4_isAsked_48 rfl (Nat.le_of_ble_eq_true rfl) (Nat.le_of_ble_eq_true rfl) ⟨by rw [b2_f (by rw [hcd]; decide)]; rfl, by rw [hcd]⟩
      · refine V_iconst (v := nI 0) F dX4_isAsked_32 rfl ?_
        refine V_goto (tgt := 37) F dX4_isAsked_33 (by decide) ?_
        refine V_cV1r F dX4_isAsked_37 lk_X4_92 (ct_fails0 hm hlen) ⟨0, _, _, _, rfl, (.inl hm)⟩ (Nat.le_of_ble_eq_true rfl) (Nat.le_of_ble_eq_true rfl) (Nat.le_of_ble_eq_true rfl) (Nat.le_of_ble_eq_true rfl) (Nat.le_of_ble_eq_true rfl) ?_
        refine V_if_neN (tgt := 47) F dX4_isAsked_40 (by decide) (by omega) (fun c_40 => absurd c_40 (by decide)) (fun c_40 => ?_)
        refine V_iconst (v := nI 1) F dX4_isAsked_43 rfl ?_
        refine V_goto (tgt := 48) F dX4_isAsked_44 (by decide) ?_
        have hcd : cdJ g p q u = 0 := (if_neg (not_or.mpr ⟨not_not_intro c_6, not_not_intro c_14⟩)).trans (if_neg (not_not_intro c_29))
        exact V_iret F dX4_isAsked_48 rfl (Nat.le_of_ble_eq_true rfl) (Nat.le_of_ble_eq_true rfl) ⟨by rw [b2_t (by rw [hcd])]; rfl, by rw [hcd]⟩
    · refine V_iconst (v := nI 1) F dX4_isAsked_17 rfl ?_
      refine V_goto (tgt := 37) F dX4_isAsked_18 (by decide) ?_
      refine V_cV1r F dX4_isAsked_37 lk_X4_92 (ct_failsP 1 hm hlen (by decide)) ⟨0, _, _, _, rfl, (.inl hm)⟩ (Nat.le_of_ble_eq_true rfl) (Nat.le_of_ble_eq_true rfl) (Nat.le_of_ble_eq_true rfl) (Nat.le_of_ble_eq_true rfl) (Nat.le_of_ble_eq_true rfl) ?_
      refine V_if_neN (tgt := 47) F dX4_isAsked_40 (by decide) (by omega) (fun c_40 => ?_) (fun c_40 => absurd c_40 (by decide))
      refine V_iconst (v := nI 0) F dX4_isAsked_47 rfl ?_
      have hcd : cdJ g p q u = 1 := if_pos (by first | exact Or.inl c_6 | exact Or.inr c_14)
      exact V_iret F dX4_isAsked_48 rfl (Nat.le_of_ble_eq_true rfl) (Nat.le_of_ble_eq_true rfl) ⟨by rw [b2_f (by rw [hcd]; decide)]; rfl, by rw [hcd]⟩
theorem ct_canReach {G : GG} {l : Launch} {h : AH} {m : Nat} {fs : List Value} {aG : Nat} {g : Nat → Nat} {aE : Nat} {ge : Nat → Nat} {p q u : Int32} (hm : h m = some (.inr (0, fs))) (h_g : fs[0]? = some (.ref aG)) (hg : h aG = some (iA G 304 (fun i => nI (g i)))) (h_early : fs[14]? = some (.ref aE)) (hea : h aE = some (iA G 8 (fun i => nI (ge i)))) (hlen : fs.length = 25) (hI : GW g) (hGE : aG ≠ aE) (he0 : ∀ i, ge i < 2 ^ 27)  : Ct G l yX4_canReach cX4_canReach 4 (some .boolean) 6 0 0 [.ref m, .int p, .int q, .int u] h (PX (cdJ g p q u) (fun k => hset h m (.inr (0, fs.set 7 (.int (nI k))))) (.int (b2 (goE g (tn p) (tn u) ge (tn q) < 1000000))) (bgH G h m (fs.set 7 (.int (nI 0))) (tn p) (tn u) aE (goE g (tn p) (tn u) ge))) := by
  refine Ct.of (by decide) (Nat.le_of_ble_eq_true rfl) (cat1 rfl) (fun X hXl F HN => ?_)
  subst hXl
  have hmE : m ≠ aE := ne_oa hm hea
  have hI9 := hI
  obtain ⟨hB, hn0, hn1, hn2, hn3, hst, hpl⟩ := hI
  refine V_aload_n (i := 0) F dX4_canReach_0 rfl rfl ?_
  refine V_iload_n (i := 1) F dX4_canReach_1 rfl rfl ?_
  refine V_iload_n (i := 2) F dX4_canReach_2 rfl rfl ?_
  refine V_iload_n (i := 3) F dX4_canReach_3 rfl rfl ?_
  refine V_cV3r F dX4_canReach_4 lk_X4_131 (ct_isAsked hm h_g hg hlen ⟨hB, hn0, hn1, hn2, hn3, hst, hpl⟩) ⟨0, _, _, _, rfl, (.inl hm)⟩ (Nat.le_of_ble_eq_true rfl) (Nat.le_of_ble_eq_true rfl) (Nat.le_of_ble_eq_true rfl) (Nat.le_of_ble_eq_true rfl) (Nat.le_of_ble_eq_true rfl) ?_
  refine V_if_neB (tgt := 12) F dX4_canReach_7 (by decide) (fun c_7 => ?_) (fun c_7 => ?_)
  · obtain ⟨hp9, hq9, hu9⟩ := cdJ_0 c_7
    refine VV.heap (h' := hset h m (.inr (0, fs.set 7 (.int (nI (0)))))) (by rw [c_7]) ?_
    obtain ⟨b, hb, rfl⟩ := iR_of hp9 hB.lt
    obtain ⟨c, hc, rfl⟩ := iR_of hq9 hB.lt
    obtain ⟨d, hd1, hd2, rfl⟩ := nI_btw hu9 (by decide) (by decide)
    refine V_aload_n (i := 0) F dX4_canReach_12 rfl rfl ?_
    refine V_iload_n (i := 1) F dX4_canReach_13 rfl rfl ?_
    refine V_iload_n (i := 3) F dX4_canReach_14 rfl rfl ?_
    refine V_cV2v F dX4_canReach_15 lk_X4_134 (ct_goes hset_self (gset h_g (by decide)) ((hset_ne (ne_ao hg hm)).trans hg) (gset h_early (by decide)) ((hset_ne (ne_ao hea hm)).trans hea) (lens hlen) hI9 hGE he0 (by omega) (by omega)) ⟨0, _, _, _, rfl, (.inl hset_self)⟩ (Nat.le_of_ble_eq_true rfl) (Nat.le_of_ble_eq_true rfl) (Nat.le_of_ble_eq_true rfl) (Nat.le_of_ble_eq_true rfl) (Nat.le_of_ble_eq_true rfl) ?_
    refine VV.heap (h' := bgH G h m ((fs).set 7 (.int (nI (0)))) b d aE (goE g b d ge)) bgH_h ?_
    refine V_aload_n (i := 0) F dX4_canReach_18 rfl rfl ?_
    refine V_getf F dX4_canReach_19 fc_X4_36_X4 (.inl (bgH_m hmE)) (gset (gset (gset h_early (by decide)) (by decide)) (by decide)) ?_
    refine V_iload_n (i := 2) F dX4_canReach_22 rfl rfl ?_
    refine V_ialdG F dX4_canReach_23 (.inl bgH_e) (by omega) (by decide) rfl ?_
    refine V_ldc (v := nI 1000000) F dX4_canReach_24 q3842 ?_
    refine V_icmp_geN (tgt := 33) F dX4_canReach_26 (by decide) (by have := goE_27 (a := b) hI9 (show d < 2 ^ 27 by omega) he0 c; omega) (by decide) (fun c_26 => ?_) (fun c_26 => ?_)
    · refine V_iconst (v := nI 0) F dX4_canReach_33 rfl ?_
      exact V_iret F dX4_canReach_34 rfl (Nat.le_of_ble_eq_true rfl) (Nat.le_of_ble_eq_true rfl) (PX.ok c_7 (by simp (disch := omega) only [tn_nI]; exact congrArg Value.int (b2_f (by omega)).symm) (by simp (disch := omega) only [tn_nI]))
    · refine V_iconst (v := nI 1) F dX4_canReach_29 rfl ?_
      refine V_goto (tgt := 34) F dX4_canReach_30 (by decide) ?_
      exact V_iret F dX4_canReach_34 rfl (Nat.le_of_ble_eq_true rfl) (Nat.le_of_ble_eq_true rfl) (PX.ok c_7 (by simp (disch := omega) only [tn_nI]; exact congrArg Value.int (b2_t (by omega)).symm) (by simp (disch := omega) only [tn_nI]))
  · refine V_iconst (v := nI 0) F dX4_canReach_10 rfl ?_
    exact V_iret F dX4_canReach_11 rfl (Nat.le_of_ble_eq_true rfl) (Nat.le_of_ble_eq_true rfl) (PX.fail (cdJ g p q u) rfl c_7 rfl)
theorem ct_arrives {G : GG} {l : Launch} {h : AH} {m : Nat} {fs : List Value} {aG : Nat} {g : Nat → Nat} {aE : Nat} {ge : Nat → Nat} {p q u : Int32} (hm : h m = some (.inr (0, fs))) (h_g : fs[0]? = some (.ref aG)) (hg : h aG = some (iA G 304 (fun i => nI (g i)))) (h_early : fs[14]? = some (.ref aE)) (hea : h aE = some (iA G 8 (fun i => nI (ge i)))) (hlen : fs.length = 25) (hI : GW g) (hGE : aG ≠ aE) (he0 : ∀ i, ge i < 2 ^ 27)  : Ct G l yX4_arrives cX4_arrives 4 (some .int) 6 0 0 [.ref m, .int p, .int q, .int u] h (PX (cdAR g p q u ge) (fun k => if k = 3 then hset (bgH G h m (fs.set 7 (.int (nI 0))) (tn p) (tn u) aE (goE g (tn p) (tn u) ge)) m (.inr (0, (bgF (fs.set 7 (.int (nI 0))) (tn p) (tn u)).set 7 (.int (nI 3)))) else hset h m (.inr (0, fs.set 7 (.int (nI k))))) (.int (nI (goE g (tn p) (tn u) ge (tn q)))) (hset (bgH G h m (fs.set 7 (.int (nI 0))) (tn p) (tn u) aE (goE g (tn p) (tn u) ge)) m (.inr (0, (bgF (fs.set 7 (.int (nI 0))) (tn p) (tn u)).set 7 (.int (nI 0)))))) := by
  refine Ct.of (by decide) (Nat.le_of_ble_eq_true rfl) (cat1 rfl) (fun X hXl F HN => ?_)
  subst hXl
  have hmE : m ≠ aE := ne_oa hm hea
  have hI9 := hI
  obtain ⟨hB, hn0, hn1, hn2, hn3, hst, hpl⟩ := hI
  refine V_aload_n (i := 0) F dX4_arrives_0 rfl rfl ?_
  refine V_iload_n (i := 1) F dX4_arrives_1 rfl rfl ?_
  refine V_iload_n (i := 2) F dX4_arrives_2 rfl rfl ?_
  refine V_iload_n (i := 3) F dX4_arrives_3 rfl rfl ?_
  refine V_cV3r F dX4_arrives_4 lk_X4_131 (ct_isAsked hm h_g hg hlen ⟨hB, hn0, hn1, hn2, hn3, hst, hpl⟩) ⟨0, _, _, _, rfl, (.inl hm)⟩ (Nat.le_of_ble_eq_true rfl) (Nat.le_of_ble_eq_true rfl) (Nat.le_of_ble_eq_true rfl) (Nat.le_of_ble_eq_true rfl) (Nat.le_of_ble_eq_true rfl) ?_
  refine V_if_neB (tgt := 12) F dX4_arrives_7 (by decide) (fun c_7 => ?_) (fun c_7 => ?_)
  · obtain ⟨hp9, hq9, hu9⟩ := cdJ_0 c_7
    refine VV.heap (h' := hset h m (.inr (0, fs.set 7 (.int (nI (0)))))) (by rw [c_7]) ?_
    obtain ⟨b, hb, rfl⟩ := iR_of hp9 hB.lt
    obtain ⟨c, hc, rfl⟩ := iR_of hq9 hB.lt
    obtain ⟨d, hd1, hd2, rfl⟩ := nI_btw hu9 (by decide) (by decide)
    refine V_aload_n (i := 0) F dX4_arrives_12 rfl rfl ?_
    refine V_iload_n (i := 1) F dX4_arrives_13 rfl rfl ?_
    refine V_iload_n (i := 3) F dX4_arrives_14 rfl rfl ?_
    refine V_cV2v F dX4_arrives_15 lk_X4_134 (ct_goes hset_self (gset h_g (by decide)) ((hset_ne (ne_ao hg hm)).trans hg) (gset h_early (by decide)) ((hset_ne (ne_ao hea hm)).trans hea) (lens hlen) hI9 hGE he0 (by omega) (by omega)) ⟨0, _, _, _, rfl, (.inl hset_self)⟩ (Nat.le_of_ble_eq_true rfl) (Nat.le_of_ble_eq_true rfl) (Nat.le_of_ble_eq_true rfl) (Nat.le_of_ble_eq_true rfl) (Nat.le_of_ble_eq_true rfl) ?_
    refine VV.heap (h' := bgH G h m ((fs).set 7 (.int (nI (0)))) b d aE (goE g b d ge)) bgH_h ?_
    refine V_aload_n (i := 0) F dX4_arrives_18 rfl rfl ?_
    refine V_aload_n (i := 0) F dX4_arrives_19 rfl rfl ?_
    refine V_getf F dX4_arrives_20 fc_X4_36_X4 (.inl (bgH_m hmE)) (gset (gset (gset h_early (by decide)) (by decide)) (by decide)) ?_
    refine V_iload_n (i := 2) F dX4_arrives_23 rfl rfl ?_
    refine V_ialdG F dX4_arrives_24 (.inl bgH_e) (by omega) (by decide) rfl ?_
    refine V_ldc (v := nI 1000000) F dX4_arrives_25 q3842 ?_
    refine V_icmp_neN (tgt := 34) F dX4_arrives_27 (by decide) (by have := goE_27 (a := b) hI9 (show d < 2 ^ 27 by omega) he0 c; omega) (by decide) (fun c_27 => ?_) (fun c_27 => ?_)
    · refine V_iconst (v := nI 0) F dX4_arrives_34 rfl ?_
      refine V_cV1r F dX4_arrives_35 lk_X4_92 (ct_fails0 (bgH_m hmE) (lens (lens (lens hlen)))) ⟨0, _, _, _, rfl, (.inl (bgH_m hmE))⟩ (Nat.le_of_ble_eq_true rfl) (Nat.le_of_ble_eq_true rfl) (Nat.le_of_ble_eq_true rfl) (Nat.le_of_ble_eq_true rfl) (Nat.le_of_ble_eq_true rfl) ?_
      refine V_if_eqN (tgt := 45) F dX4_arrives_38 (by decide) (by omega) (fun c_38 => ?_) (fun c_38 => absurd c_38 (by decide))
      refine V_aload_n (i := 0) F dX4_arrives_45 rfl rfl ?_
      refine V_getf F dX4_arrives_46 fc_X4_36_X4 (.inl hset_self) (gset (gset (gset (gset h_early (by decide)) (by decide)) (by decide)) (by decide)) ?_
      refine V_iload_n (i := 2) F dX4_arrives_49 rfl rfl ?_
      refine V_ialdG F dX4_arrives_50 (.inl ((hset_ne (ne_ao hea hm)).trans bgH_e)) (by omega) (by decide) rfl ?_
      exact V_iret F dX4_arrives_51 rfl (Nat.le_of_ble_eq_true rfl) (Nat.le_of_ble_eq_true rfl) (PX.ok ((if_neg (not_not_intro c_7)).trans (if_neg (by simp (disch := omega) only [tn_nI]; exact c_27))) (by simp (disch := omega) only [tn_nI]) (by simp (disch := omega) only [tn_nI]))
    · refine V_iconst (v := nI 3) F dX4_arrives_30 rfl ?_
      refine V_goto (tgt := 35) F dX4_arrives_31 (by decide) ?_
      refine V_cV1r F dX4_arrives_35 lk_X4_92 (ct_failsP 3 (bgH_m hmE) (lens (lens (lens hlen))) (by decide)) ⟨0, _, _, _, rfl, (.inl (bgH_m hmE))⟩ (Nat.le_of_ble_eq_true rfl) (Nat.le_of_ble_eq_true rfl) (Nat.le_of_ble_eq_true rfl) (Nat.le_of_ble_eq_true rfl) (Nat.le_of_ble_eq_true rfl) ?_
      refine V_if_eqN (tgt := 45) F dX4_arrives_38 (by decide) (by omega) (fun c_38 => absurd c_38 (by decide)) (fun c_38 => ?_)
      refine V_iconst (v := nI 0) F dX4_arrives_41 rfl ?_
      refine V_goto (tgt := 51) F dX4_arrives_42 (by decide) ?_
      exact V_iret F dX4_arrives_51 rfl (Nat.le_of_ble_eq_true rfl) (Nat.le_of_ble_eq_true rfl) (PX.fail 3 ((if_neg (not_not_intro c_7)).trans (if_pos (by simp (disch := omega) only [tn_nI]; exact c_27))) (by decide) (by rw [if_pos rfl]; simp (disch := omega) only [tn_nI]))
  · refine V_iconst (v := nI 0) F dX4_arrives_10 rfl ?_
    exact V_iret F dX4_arrives_11 rfl (Nat.le_of_ble_eq_true rfl) (Nat.le_of_ble_eq_true rfl) (PX.fail (cdJ g p q u) (if_pos c_7) c_7 (if_neg cdJ_3).symm)
theorem ct_arrival {G : GG} {l : Launch} {h : AH} {m : Nat} {fs : List Value} {aG : Nat} {g : Nat → Nat} {aE : Nat} {ge : Nat → Nat} {p q u : Int32} (hm : h m = some (.inr (0, fs))) (h_g : fs[0]? = some (.ref aG)) (hg : h aG = some (iA G 304 (fun i => nI (g i)))) (h_early : fs[14]? = some (.ref aE)) (hea : h aE = some (iA G 8 (fun i => nI (ge i)))) (hlen : fs.length = 25) (hI : GW g) (hGE : aG ≠ aE) (he0 : ∀ i, ge i < 2 ^ 27) : Ct G l yX4_arrival cX4_arrival 4 (some .int) 7 0 0 [.ref m, .int p, .int q, .int u] h (PX (cdAR g p q u ge) (fun k => if k = 3 then hset (bgH G h m (fs.set 7 (.int (nI 0))) (tn p) (tn u) aE (goE g (tn p) (tn u) ge)) m (.inr (0, (bgF (fs.set 7 (.int (nI 0))) (tn p) (tn u)).set 7 (.int (nI 3)))) else hset h m (.inr (0, fs.set 7 (.int (nI k))))) (.int (nI (goE g (tn p) (tn u) ge (tn q)))) (hset (bgH G h m (fs.set 7 (.int (nI 0))) (tn p) (tn u) aE (goE g (tn p) (tn u) ge)) m (.inr (0, (bgF (fs.set 7 (.int (nI 0))) (tn p) (tn u)).set 7 (.int (nI 0)))))) := by
  refine Ct.of (by decide) (Nat.le_of_ble_eq_true rfl) (cat1 rfl) (fun X hXl F HN => ?_)
  subst hXl
  refine V_aload_n (i := 0) F dX4_arrival_0 rfl rfl ?_
  refine V_iload_n (i := 1) F dX4_arrival_1 rfl rfl ?_
  refine V_iload_n (i := 2) F dX4_arrival_2 rfl rfl ?_
  refine V_iload_n (i := 3) F dX4_arrival_3 rfl rfl ?_
  refine V_cV3 F dX4_arrival_4 lk_X4_137 (ct_arrives hm h_g hg h_early hea hlen hI hGE he0) ⟨0, _, _, _, rfl, .inl hm⟩ (Nat.le_of_ble_eq_true rfl) (Nat.le_of_ble_eq_true rfl) (Nat.le_of_ble_eq_true rfl) (Nat.le_of_ble_eq_true rfl) (Nat.le_of_ble_eq_true rfl) (fun v h2 hp => ?_)
  obtain ⟨x, rfl⟩ := PX.int hp
  exact V_iret F dX4_arrival_7 rfl (Nat.le_of_ble_eq_true rfl) (Nat.le_of_ble_eq_true rfl) hp
theorem ct_arrivalByScanning {G : GG} {l : Launch} {h : AH} {m : Nat} {fs : List Value} {aG : Nat} {g : Nat → Nat} {aE : Nat} {ge : Nat → Nat} {p q u : Int32} (hm : h m = some (.inr (0, fs))) (h_g : fs[0]? = some (.ref aG)) (hg : h aG = some (iA G 304 (fun i => nI (g i)))) (h_early : fs[14]? = some (.ref aE)) (hea : h aE = some (iA G 8 (fun i => nI (ge i)))) (hlen : fs.length = 25) (hI : GW g) (hGE : aG ≠ aE) (he0 : ∀ i, ge i < 2 ^ 27) : Ct G l yX4_arrivalByScanning cX4_arrivalByScanning 4 (some .int) 7 0 0 [.ref m, .int p, .int q, .int u] h (PX (cdAR g p q u ge) (fun k => if k = 3 then hset (bgH G h m (fs.set 7 (.int (nI 0))) (tn p) (tn u) aE (goE g (tn p) (tn u) ge)) m (.inr (0, (bgF (fs.set 7 (.int (nI 0))) (tn p) (tn u)).set 7 (.int (nI 3)))) else hset h m (.inr (0, fs.set 7 (.int (nI k))))) (.int (nI (goE g (tn p) (tn u) ge (tn q)))) (hset (bgH G h m (fs.set 7 (.int (nI 0))) (tn p) (tn u) aE (goE g (tn p) (tn u) ge)) m (.inr (0, (bgF (fs.set 7 (.int (nI 0))) (tn p) (tn u)).set 7 (.int (nI 0)))))) := by
  refine Ct.of (by decide) (Nat.le_of_ble_eq_true rfl) (cat1 rfl) (fun X hXl F HN => ?_)
  subst hXl
  refine V_aload_n (i := 0) F dX4_arrivalByScanning_0 rfl rfl ?_
  refine V_iload_n (i := 1) F dX4_arrivalByScanning_1 rfl rfl ?_
  refine V_iload_n (i := 2) F dX4_arrivalByScanning_2 rfl rfl ?_
  refine V_iload_n (i := 3) F dX4_arrivalByScanning_3 rfl rfl ?_
  refine V_cV3 F dX4_arrivalByScanning_4 lk_X4_137 (ct_arrives hm h_g hg h_early hea hlen hI hGE he0) ⟨0, _, _, _, rfl, .inl hm⟩ (Nat.le_of_ble_eq_true rfl) (Nat.le_of_ble_eq_true rfl) (Nat.le_of_ble_eq_true rfl) (Nat.le_of_ble_eq_true rfl) (Nat.le_of_ble_eq_true rfl) (fun v h2 hp => ?_)
  obtain ⟨x, rfl⟩ := PX.int hp
  exact V_iret F dX4_arrivalByScanning_7 rfl (Nat.le_of_ble_eq_true rfl) (Nat.le_of_ble_eq_true rfl) hp
theorem ct_boardings {G : GG} {l : Launch} {h : AH} {m : Nat} {fs : List Value} {aG : Nat} {g : Nat → Nat} {aE : Nat} {ge : Nat → Nat} {aT : Nat} {gt : Nat → Nat} {p q u : Int32} (hm : h m = some (.inr (0, fs))) (h_g : fs[0]? = some (.ref aG)) (hg : h aG = some (iA G 304 (fun i => nI (g i)))) (h_early : fs[14]? = some (.ref aE)) (hea : h aE = some (iA G 8 (fun i => nI (ge i)))) (h_then : fs[15]? = some (.ref aT)) (hth : h aT = some (iA G 8 (fun i => nI (gt i)))) (hlen : fs.length = 25) (hI : GW g) (hGE : aG ≠ aE) (he0 : ∀ i, ge i < 2 ^ 27) (hGT : aG ≠ aT) (hET : aE ≠ aT) (hf0 : ∀ i, gt i < 2 ^ 27) : Ct G l yX4_boardings cX4_boardings 7 (some .int) 5 0 0 [.ref m, .int p, .int q, .int u] h (PX (cdBD g p q u ge gt) (fun k => if k = 3 then hset (bdH G h m (fs.set 7 (.int (nI 0))) (tn p) (tn u) aE aT (bdR g (tn p) (tn u) (tn q) ge gt).2.1 (bdR g (tn p) (tn u) (tn q) ge gt).2.2) m (.inr (0, (bgF (fs.set 7 (.int (nI 0))) (tn p) (tn u)).set 7 (.int (nI 3)))) else hset h m (.inr (0, fs.set 7 (.int (nI k))))) (.int (nI (bdR g (tn p) (tn u) (tn q) ge gt).1)) (hset (bdH G h m (fs.set 7 (.int (nI 0))) (tn p) (tn u) aE aT (bdR g (tn p) (tn u) (tn q) ge gt).2.1 (bdR g (tn p) (tn u) (tn q) ge gt).2.2) m (.inr (0, (bgF (fs.set 7 (.int (nI 0))) (tn p) (tn u)).set 7 (.int (nI 0)))))) := by
  refine Ct.of (by decide) (Nat.le_of_ble_eq_true rfl) (cat1 rfl) (fun X hXl F HN => ?_)
  subst hXl
  have hmE : m ≠ aE := ne_oa hm hea
  have hI9 := hI
  obtain ⟨hB, hn0, hn1, hn2, hn3, hst, hpl⟩ := hI
  have hmT : m ≠ aT := ne_oa hm hth
  refine V_aload_n (i := 0) F dX4_boardings_0 rfl rfl ?_
  refine V_iload_n (i := 1) F dX4_boardings_1 rfl rfl ?_
  refine V_iload_n (i := 2) F dX4_boardings_2 rfl rfl ?_
  refine V_iload_n (i := 3) F dX4_boardings_3 rfl rfl ?_
  refine V_cV3r F dX4_boardings_4 lk_X4_131 (ct_isAsked hm h_g hg hlen ⟨hB, hn0, hn1, hn2, hn3, hst, hpl⟩) ⟨0, _, _, _, rfl, (.inl hm)⟩ (Nat.le_of_ble_eq_true rfl) (Nat.le_of_ble_eq_true rfl) (Nat.le_of_ble_eq_true rfl) (Nat.le_of_ble_eq_true rfl) (Nat.le_of_ble_eq_true rfl) ?_
  refine V_if_neB (tgt := 12) F dX4_boardings_7 (by decide) (fun c_7 => ?_) (fun c_7 => ?_)
  · obtain ⟨hp9, hq9, hu9⟩ := cdJ_0 c_7
    refine VV.heap (h' := hset h m (.inr (0, fs.set 7 (.int (nI (0)))))) (by rw [c_7]) ?_
    obtain ⟨b, hb, rfl⟩ := iR_of hp9 hB.lt
    obtain ⟨c, hc, rfl⟩ := iR_of hq9 hB.lt
    obtain ⟨d, hd1, hd2, rfl⟩ := nI_btw hu9 (by decide) (by decide)
    refine V_aload_n (i := 0) F dX4_boardings_12 rfl rfl ?_
    refine V_iload_n (i := 1) F dX4_boardings_13 rfl rfl ?_
    refine V_iload_n (i := 3) F dX4_boardings_14 rfl rfl ?_
    refine V_cV2v F dX4_boardings_15 lk_X4_123 (ct_begins hset_self (gset h_early (by decide)) ((hset_ne (ne_ao hea hm)).trans hea) (lens hlen) (by omega)) ⟨0, _, _, _, rfl, (.inl hset_self)⟩ (Nat.le_of_ble_eq_true rfl) (Nat.le_of_ble_eq_true rfl) (Nat.le_of_ble_eq_true rfl) (Nat.le_of_ble_eq_true rfl) (Nat.le_of_ble_eq_true rfl) ?_
    refine VV.heap (h' := bgH G h m ((fs).set 7 (.int (nI (0)))) b d aE (bgP b d ge 8)) bgH_h ?_
    refine V_iconst (v := nI 0) F dX4_boardings_18 rfl ?_
    refine V_istore (i := 4) F dX4_boardings_19 (Nat.le_of_ble_eq_true rfl) (Nat.le_of_ble_eq_true rfl) ?_
    refine V_iconst (v := nI 1) F dX4_boardings_21 rfl ?_
    refine V_istore (i := 5) F dX4_boardings_22 (Nat.le_of_ble_eq_true rfl) (Nat.le_of_ble_eq_true rfl) ?_
    have loop_24 : ∀ (nn : Nat) (n s9 K : Nat) (e f : Nat → Nat), smE 8 e + s9 < nn → s9 < 2 → (∀ i, e i < 2 ^ 27) → (∀ i, f i < 2 ^ 27) → (s9 = 1 → smE 8 e < K) → bdL g b d c K n s9 e f = bdR g b d c ge gt → VV G X 7 (EQ G X 0 0 (PX (cdBD g (nI b) (nI c) (nI d) ge gt) (fun k => if k = 3 then hset (bdH G h m (fs.set 7 (.int (nI 0))) (tn (nI b)) (tn (nI d)) aE aT (bdR g (tn (nI b)) (tn (nI d)) (tn (nI c)) ge gt).2.1 (bdR g (tn (nI b)) (tn (nI d)) (tn (nI c)) ge gt).2.2) m (.inr (0, (bgF (fs.set 7 (.int (nI 0))) (tn (nI b)) (tn (nI d))).set 7 (.int (nI 3)))) else hset h m (.inr (0, fs.set 7 (.int (nI k))))) (.int (nI (bdR g (tn (nI b)) (tn (nI d)) (tn (nI c)) ge gt).1)) (hset (bdH G h m (fs.set 7 (.int (nI 0))) (tn (nI b)) (tn (nI d)) aE aT (bdR g (tn (nI b)) (tn (nI d)) (tn (nI c)) ge gt).2.1 (bdR g (tn (nI b)) (tn (nI d)) (tn (nI c)) ge gt).2.2) m (.inr (0, (bgF (fs.set 7 (.int (nI 0))) (tn (nI b)) (tn (nI d))).set 7 (.int (nI 0))))))) (bdH G h m (fs.set 7 (.int (nI 0))) b d aE aT e f) 0 0 [some (.ref (m)), some (.int (nI (b))), some (.int (nI (c))), some (.int (nI (d))), some (.int (nI (n))), some (.int (nI (s9))), none] [] 24 := by
      intro nn
      induction nn with
      | zero => intro n s9 K e f hn hs9 he hf hK hR; exact absurd hn (by omega)
      | succ nn ih_24 =>
        intro n s9 K e f hn hs9 he hf hK hR
        refine V_iload (i := 5) F dX4_boardings_24 rfl ?_
        refine V_if_eqN (tgt := 120) F dX4_boardings_26 (by decide) (by omega) (fun c_26 => ?_) (fun c_26 => ?_)
        · refine V_aload_n (i := 0) F dX4_boardings_120 rfl rfl ?_
          refine V_aload_n (i := 0) F dX4_boardings_121 rfl rfl ?_
          refine V_getf F dX4_boardings_122 fc_X4_36_X4 (.inl (bdH_m hmE hmT)) (gset (gset (gset h_early (by decide)) (by decide)) (by decide)) ?_
          refine V_iload_n (i := 2) F dX4_boardings_125 rfl rfl ?_
          refine V_ialdG F dX4_boardings_126 (.inl (bdH_e hET)) (by omega) (by decide) rfl ?_
          refine V_ldc (v := nI 1000000) F dX4_boardings_127 q3842 ?_
          refine V_icmp_neN (tgt := 136) F dX4_boardings_129 (by decide) (by have := he c; omega) (by decide) (fun c_129 => ?_) (fun c_129 => ?_)
          · refine V_iconst (v := nI 0) F dX4_boardings_136 rfl ?_
            refine V_cV1r F dX4_boardings_137 lk_X4_92 (ct_fails0 (bdH_m hmE hmT) (lens (lens (lens hlen)))) ⟨0, _, _, _, rfl, (.inl (bdH_m hmE hmT))⟩ (Nat.le_of_ble_eq_true rfl) (Nat.le_of_ble_eq_true rfl) (Nat.le_of_ble_eq_true rfl) (Nat.le_of_ble_eq_true rfl) (Nat.le_of_ble_eq_true rfl) ?_
            refine V_if_eqN (tgt := 147) F dX4_boardings_140 (by decide) (by omega) (fun c_140 => ?_) (fun c_140 => absurd c_140 (by decide))
            refine V_iload (i := 4) F dX4_boardings_147 rfl ?_
            have hfin : bdR g b d c ge gt = (n, e, f) := hR.symm.trans (bdL_end (by first | exact (fun z => absurd z.2 c_37) | exact (fun z => absurd z.1 (by omega))))
            exact V_iret F dX4_boardings_149 rfl (Nat.le_of_ble_eq_true rfl) (Nat.le_of_ble_eq_true rfl) (PX.ok ((if_neg (not_not_intro c_7)).trans (if_neg (by simp (disch := omega) only [tn_nI]; rw [hfin]; exact c_129))) (by simp (disch := omega) only [tn_nI]; rw [hfin]) (by simp (disch := omega) only [tn_nI]; rw [hfin]))
          · refine V_iconst (v := nI 3) F dX4_boardings_132 rfl ?_
            refine V_goto (tgt := 137) F dX4_boardings_133 (by decide) ?_
            refine V_cV1r F dX4_boardings_137 lk_X4_92 (ct_failsP 3 (bdH_m hmE hmT) (lens (lens (lens hlen))) (by decide)) ⟨0, _, _, _, rfl, (.inl (bdH_m hmE hmT))⟩ (Nat.le_of_ble_eq_true rfl) (Nat.le_of_ble_eq_true rfl) (Nat.le_of_ble_eq_true rfl) (Nat.le_of_ble_eq_true rfl) (Nat.le_of_ble_eq_true rfl) ?_
            refine V_if_eqN (tgt := 147) F dX4_boardings_140 (by decide) (by omega) (fun c_140 => absurd c_140 (by decide)) (fun c_140 => ?_)
            refine V_iconst (v := nI 0) F dX4_boardings_143 rfl ?_
            refine V_goto (tgt := 149) F dX4_boardings_144 (by decide) ?_
            have hfin : bdR g b d c ge gt = (n, e, f) := hR.symm.trans (bdL_end (by first | exact (fun z => absurd z.2 c_37) | exact (fun z => absurd z.1 (by omega))))
            exact V_iret F dX4_boardings_149 rfl (Nat.le_of_ble_eq_true rfl) (Nat.le_of_ble_eq_true rfl) (PX.fail 3 ((if_neg (not_not_intro c_7)).trans (if_pos (by simp (disch := omega) only [tn_nI]; rw [hfin]; exact c_129))) (by decide) (by rw [if_pos rfl]; simp (disch := omega) only [tn_nI]; rw [hfin]))
        · refine V_aload_n (i := 0) F dX4_boardings_29 rfl rfl ?_
          refine V_getf F dX4_boardings_30 fc_X4_36_X4 (.inl (bdH_m hmE hmT)) (gset (gset (gset h_early (by decide)) (by decide)) (by decide)) ?_
          refine V_iload_n (i := 2) F dX4_boardings_33 rfl rfl ?_
          refine V_ialdG F dX4_boardings_34 (.inl (bdH_e hET)) (by omega) (by decide) rfl ?_
          refine V_ldc (v := nI 1000000) F dX4_boardings_35 q3842 ?_
          refine V_icmp_neN (tgt := 120) F dX4_boardings_37 (by decide) (by have := he c; omega) (by decide) (fun c_37 => ?_) (fun c_37 => ?_)
          · refine V_aload_n (i := 0) F dX4_boardings_120 rfl rfl ?_
            refine V_aload_n (i := 0) F dX4_boardings_121 rfl rfl ?_
            refine V_getf F dX4_boardings_122 fc_X4_36_X4 (.inl (bdH_m hmE hmT)) (gset (gset (gset h_early (by decide)) (by decide)) (by decide)) ?_
            refine V_iload_n (i := 2) F dX4_boardings_125 rfl rfl ?_
            refine V_ialdG F dX4_boardings_126 (.inl (bdH_e hET)) (by omega) (by decide) rfl ?_
            refine V_ldc (v := nI 1000000) F dX4_boardings_127 q3842 ?_
            refine V_icmp_neN (tgt := 136) F dX4_boardings_129 (by decide) (by have := he c; omega) (by decide) (fun c_129 => ?_) (fun c_129 => ?_)
            · refine V_iconst (v := nI 0) F dX4_boardings_136 rfl ?_
              refine V_cV1r F dX4_boardings_137 lk_X4_92 (ct_fails0 (bdH_m hmE hmT) (lens (lens (lens hlen)))) ⟨0, _, _, _, rfl, (.inl (bdH_m hmE hmT))⟩ (Nat.le_of_ble_eq_true rfl) (Nat.le_of_ble_eq_true rfl) (Nat.le_of_ble_eq_true rfl) (Nat.le_of_ble_eq_true rfl) (Nat.le_of_ble_eq_true rfl) ?_
              refine V_if_eqN (tgt := 147) F dX4_boardings_140 (by decide) (by omega) (fun c_140 => ?_) (fun c_140 => absurd c_140 (by decide))
              refine V_iload (i := 4) F dX4_boardings_147 rfl ?_
              have hfin : bdR g b d c ge gt = (n, e, f) := hR.symm.trans (bdL_end (by first | exact (fun z => absurd z.2 c_37) | exact (fun z => absurd z.1 (by omega))))
              exact V_iret F dX4_boardings_149 rfl (Nat.le_of_ble_eq_true rfl) (Nat.le_of_ble_eq_true rfl) (PX.ok ((if_neg (not_not_intro c_7)).trans (if_neg (by simp (disch := omega) only [tn_nI]; rw [hfin]; exact c_129))) (by simp (disch := omega) only [tn_nI]; rw [hfin]) (by simp (disch := omega) only [tn_nI]; rw [hfin]))
            · refine V_iconst (v := nI 3) F dX4_boardings_132 rfl ?_
              refine V_goto (tgt := 137) F dX4_boardings_133 (by decide) ?_
              refine V_cV1r F dX4_boardings_137 lk_X4_92 (ct_failsP 3 (bdH_m hmE hmT) (lens (lens (lens hlen))) (by decide)) ⟨0, _, _, _, rfl, (.inl (bdH_m hmE hmT))⟩ (Nat.le_of_ble_eq_true rfl) (Nat.le_of_ble_eq_true rfl) (Nat.le_of_ble_eq_true rfl) (Nat.le_of_ble_eq_true rfl) (Nat.le_of_ble_eq_true rfl) ?_
              refine V_if_eqN (tgt := 147) F dX4_boardings_140 (by decide) (by omega) (fun c_140 => absurd c_140 (by decide)) (fun c_140 => ?_)
              refine V_iconst (v := nI 0) F dX4_boardings_143 rfl ?_
              refine V_goto (tgt := 149) F dX4_boardings_144 (by decide) ?_
              have hfin : bdR g b d c ge gt = (n, e, f) := hR.symm.trans (bdL_end (by first | exact (fun z => absurd z.2 c_37) | exact (fun z => absurd z.1 (by omega))))
              exact V_iret F dX4_boardings_149 rfl (Nat.le_of_ble_eq_true rfl) (Nat.le_of_ble_eq_true rfl) (PX.fail 3 ((if_neg (not_not_intro c_7)).trans (if_pos (by simp (disch := omega) only [tn_nI]; rw [hfin]; exact c_129))) (by decide) (by rw [if_pos rfl]; simp (disch := omega) only [tn_nI]; rw [hfin]))
          · refine V_iconst (v := nI 0) F dX4_boardings_40 rfl ?_
            refine V_istore (i := 6) F dX4_boardings_41 (Nat.le_of_ble_eq_true rfl) (Nat.le_of_ble_eq_true rfl) ?_
            have loop_43 : ∀ (nn : Nat) (j : Nat), 8 < j + nn → j ≤ 8 → VV G X 7 (EQ G X 0 0 (PX (cdBD g (nI b) (nI c) (nI d) ge gt) (fun k => if k = 3 then hset (bdH G h m (fs.set 7 (.int (nI 0))) (tn (nI b)) (tn (nI d)) aE aT (bdR g (tn (nI b)) (tn (nI d)) (tn (nI c)) ge gt).2.1 (bdR g (tn (nI b)) (tn (nI d)) (tn (nI c)) ge gt).2.2) m (.inr (0, (bgF (fs.set 7 (.int (nI 0))) (tn (nI b)) (tn (nI d))).set 7 (.int (nI 3)))) else hset h m (.inr (0, fs.set 7 (.int (nI k))))) (.int (nI (bdR g (tn (nI b)) (tn (nI d)) (tn (nI c)) ge gt).1)) (hset (bdH G h m (fs.set 7 (.int (nI 0))) (tn (nI b)) (tn (nI d)) aE aT (bdR g (tn (nI b)) (tn (nI d)) (tn (nI c)) ge gt).2.1 (bdR g (tn (nI b)) (tn (nI d)) (tn (nI c)) ge gt).2.2) m (.inr (0, (bgF (fs.set 7 (.int (nI 0))) (tn (nI b)) (tn (nI d))).set 7 (.int (nI 0))))))) (bdH G h m (fs.set 7 (.int (nI 0))) b d aE aT e (mxN e f j)) 0 0 [some (.ref (m)), some (.int (nI (b))), some (.int (nI (c))), some (.int (nI (d))), some (.int (nI (n))), some (.int (nI (s9))), some (.int (nI (j)))] [] 43 := by
              intro nn
              induction nn with
              | zero => intro j hn2 hj; exact absurd hn2 (by omega)
              | succ nn ih_43 =>
                intro j hn2 hj
                refine V_iload (i := 6) F dX4_boardings_43 rfl ?_
                refine V_bipush (v := nI 8) F dX4_boardings_45 rfl ?_
                refine V_icmp_geN (tgt := 70) F dX4_boardings_47 (by decide) (by omega) (by omega) (fun c_47 => ?_) (fun c_47 => ?_)
                · obtain rfl : j = 8 := by omega
                  refine V_aload_n (i := 0) F dX4_boardings_70 rfl rfl ?_
                  refine V_aload_n (i := 0) F dX4_boardings_71 rfl rfl ?_
                  refine V_getf F dX4_boardings_72 fc_X4_36_X4 (.inl (bdH_m hmE hmT)) (gset (gset (gset h_early (by decide)) (by decide)) (by decide)) ?_
                  refine V_aload_n (i := 0) F dX4_boardings_75 rfl rfl ?_
                  refine V_getf F dX4_boardings_76 fc_X4_39_X4 (.inl (bdH_m hmE hmT)) (gset (gset (gset h_then (by decide)) (by decide)) (by decide)) ?_
                  refine V_cV2r F dX4_boardings_79 lk_X4_127 (ct_ridesB (bdH_m hmE hmT) (gset (gset (gset h_g (by decide)) (by decide)) (by decide)) ((bdH_o (ne_ao hg hm) hGE hGT).trans hg) (gset (gself (lenk (lens hlen) (by decide))) (by decide)) (gself (lenk (lens (lens hlen)) (by decide))) bdH_t hGT (mxN_27 he hf) hI9 (by omega) (by omega) (bdH_e hET) hET he) ⟨0, _, _, _, rfl, .inl (bdH_m hmE hmT)⟩ (Nat.le_of_ble_eq_true rfl) (Nat.le_of_ble_eq_true rfl) (Nat.le_of_ble_eq_true rfl) (Nat.le_of_ble_eq_true rfl) (Nat.le_of_ble_eq_true rfl) ?_
                  refine VV.heap (h' := bdH G h m (fs.set 7 (.int (nI 0))) b d aE aT e (riO (fun _ => e) g b d (0, (mxN e f 8)) (g 1)).2) bdH_sT ?_
                  have ho := riO_ok (R := fun _ => e) (a := b) (v := d) hI9 (e := (mxN e f 8)) (y := (0, (mxN e f 8))) ⟨Nat.zero_lt_two, mxN_27 he hf, Nat.le_refl _⟩ (g 1) (Nat.le_refl _)
                  have ho1 := ho.1
                  refine V_istore (i := 5) F dX4_boardings_82 (Nat.le_of_ble_eq_true rfl) (Nat.le_of_ble_eq_true rfl) ?_
                  refine V_iconst (v := nI 0) F dX4_boardings_84 rfl ?_
                  refine V_istore (i := 6) F dX4_boardings_85 (Nat.le_of_ble_eq_true rfl) (Nat.le_of_ble_eq_true rfl) ?_
                  have loop_87 : ∀ (nn : Nat) (j : Nat), 8 < j + nn → j ≤ 8 → VV G X 7 (EQ G X 0 0 (PX (cdBD g (nI b) (nI c) (nI d) ge gt) (fun k => if k = 3 then hset (bdH G h m (fs.set 7 (.int (nI 0))) (tn (nI b)) (tn (nI d)) aE aT (bdR g (tn (nI b)) (tn (nI d)) (tn (nI c)) ge gt).2.1 (bdR g (tn (nI b)) (tn (nI d)) (tn (nI c)) ge gt).2.2) m (.inr (0, (bgF (fs.set 7 (.int (nI 0))) (tn (nI b)) (tn (nI d))).set 7 (.int (nI 3)))) else hset h m (.inr (0, fs.set 7 (.int (nI k))))) (.int (nI (bdR g (tn (nI b)) (tn (nI d)) (tn (nI c)) ge gt).1)) (hset (bdH G h m (fs.set 7 (.int (nI 0))) (tn (nI b)) (tn (nI d)) aE aT (bdR g (tn (nI b)) (tn (nI d)) (tn (nI c)) ge gt).2.1 (bdR g (tn (nI b)) (tn (nI d)) (tn (nI c)) ge gt).2.2) m (.inr (0, (bgF (fs.set 7 (.int (nI 0))) (tn (nI b)) (tn (nI d))).set 7 (.int (nI 0))))))) (bdH G h m (fs.set 7 (.int (nI 0))) b d aE aT (mxN (riO (fun _ => e) g b d (0, (mxN e f 8)) (g 1)).2 e j) (riO (fun _ => e) g b d (0, (mxN e f 8)) (g 1)).2) 0 0 [some (.ref (m)), some (.int (nI (b))), some (.int (nI (c))), some (.int (nI (d))), some (.int (nI (n))), some (.int (nI ((riO (fun _ => e) g b d (0, (mxN e f 8)) (g 1)).1))), some (.int (nI (j)))] [] 87 := by
                    intro nn
                    induction nn with
                    | zero => intro j hn3 hj; exact absurd hn3 (by omega)
                    | succ nn ih_87 =>
                      intro j hn3 hj
                      refine V_iload (i := 6) F dX4_boardings_87 rfl ?_
                      refine V_bipush (v := nI 8) F dX4_boardings_89 rfl ?_
                      refine V_icmp_geN (tgt := 114) F dX4_boardings_91 (by decide) (by omega) (by omega) (fun c_91 => ?_) (fun c_91 => ?_)
                      · refine V_iinc (i := 4) (v := nI (n + 1)) F dX4_boardings_114 rfl (nI_add (n) 1) (Nat.le_of_ble_eq_true rfl) ?_
                        refine V_goto (tgt := 24) F dX4_boardings_117 (by decide) ?_
                        refine VV.weak (L' := [some (.ref (m)), some (.int (nI (b))), some (.int (nI (c))), some (.int (nI (d))), some (.int (nI (n + 1))), some (.int (nI ((riO (fun _ => e) g b d (0, (mxN e f 8)) (g 1)).1))), none]) (LW.c1 (LW.c1 (LW.c1 (LW.c1 (LW.c1 (LW.c1 (LW.c0 LW.nil))))))) ?_
                        obtain rfl : j = 8 := by omega
                        obtain ⟨K2, rfl⟩ : ∃ K2, K = K2 + 1 := ⟨K - 1, by have := hK (by omega); omega⟩
                        have hK9 := hK (by omega)
                        have hs1 : smE 8 (mxN (riO (fun _ => e) g b d (0, (mxN e f 8)) (g 1)).2 e 8) = smE 8 (riO (fun _ => e) g b d (0, (mxN e f 8)) (g 1)).2 := smE_mx 8 (Nat.le_refl _)
                        have hs2 : smE 8 (mxN e f 8) = smE 8 e := smE_mx 8 (Nat.le_refl _)
                        have ho3 := ho.2.2
                        exact ih_24 (n + 1) (riO (fun _ => e) g b d (0, (mxN e f 8)) (g 1)).1 K2 (mxN (riO (fun _ => e) g b d (0, (mxN e f 8)) (g 1)).2 e 8) (riO (fun _ => e) g b d (0, (mxN e f 8)) (g 1)).2 (by omega) ho.1 (mxN_27 ho.2.1 he) ho.2.1 (fun z => by omega) (by rw [← hR, show s9 = 1 by omega]; exact (if_pos ⟨rfl, c_37⟩).symm)
                      · refine V_aload_n (i := 0) F dX4_boardings_94 rfl rfl ?_
                        refine V_getf F dX4_boardings_95 fc_X4_36_X4 (.inl (bdH_m hmE hmT)) (gset (gset (gset h_early (by decide)) (by decide)) (by decide)) ?_
                        refine V_iload (i := 6) F dX4_boardings_98 rfl ?_
                        refine V_aload_n (i := 0) F dX4_boardings_100 rfl rfl ?_
                        refine V_getf F dX4_boardings_101 fc_X4_39_X4 (.inl (bdH_m hmE hmT)) (gset (gset (gset h_then (by decide)) (by decide)) (by decide)) ?_
                        refine V_iload (i := 6) F dX4_boardings_104 rfl ?_
                        refine V_ialdG F dX4_boardings_106 (.inl bdH_t) (by omega) (by decide) rfl ?_
                        refine V_iastG F dX4_boardings_107 (bdH_e hET) (by omega) (by decide) ?_
                        refine V_iinc (i := 6) (v := nI (j + 1)) F dX4_boardings_108 rfl (nI_add (j) 1) (Nat.le_of_ble_eq_true rfl) ?_
                        refine V_goto (tgt := 87) F dX4_boardings_111 (by decide) ?_
                        refine VV.weak (L' := [some (.ref (m)), some (.int (nI (b))), some (.int (nI (c))), some (.int (nI (d))), some (.int (nI (n))), some (.int (nI ((riO (fun _ => e) g b d (0, (mxN e f 8)) (g 1)).1))), some (.int (nI (j + 1)))]) (LW.c1 (LW.c1 (LW.c1 (LW.c1 (LW.c1 (LW.c1 (LW.c1 LW.nil))))))) ?_
                        refine VV.heap (by rw [bdH_sE hET, mxN_s]) ?_
                        exact ih_87 (j + 1) (by omega) (by omega)
                  refine VV.weak (L' := [some (.ref (m)), some (.int (nI (b))), some (.int (nI (c))), some (.int (nI (d))), some (.int (nI (n))), some (.int (nI ((riO (fun _ => e) g b d (0, (mxN e f 8)) (g 1)).1))), some (.int (nI (0)))]) (LW.c1 (LW.c1 (LW.c1 (LW.c1 (LW.c1 (LW.c1 (LW.c1 LW.nil))))))) ?_
                  refine VV.heap (h' := bdH G h m (fs.set 7 (.int (nI 0))) b d aE aT (mxN (riO (fun _ => e) g b d (0, (mxN e f 8)) (g 1)).2 e 0) (riO (fun _ => e) g b d (0, (mxN e f 8)) (g 1)).2) (by rw [mxN_0]) ?_
                  exact loop_87 9 0 (by omega) (by omega)
                · refine V_aload_n (i := 0) F dX4_boardings_50 rfl rfl ?_
                  refine V_getf F dX4_boardings_51 fc_X4_39_X4 (.inl (bdH_m hmE hmT)) (gset (gset (gset h_then (by decide)) (by decide)) (by decide)) ?_
                  refine V_iload (i := 6) F dX4_boardings_54 rfl ?_
                  refine V_aload_n (i := 0) F dX4_boardings_56 rfl rfl ?_
                  refine V_getf F dX4_boardings_57 fc_X4_36_X4 (.inl (bdH_m hmE hmT)) (gset (gset (gset h_early (by decide)) (by decide)) (by decide)) ?_
                  refine V_iload (i := 6) F dX4_boardings_60 rfl ?_
                  refine V_ialdG F dX4_boardings_62 (.inl (bdH_e hET)) (by omega) (by decide) rfl ?_
                  refine V_iastG F dX4_boardings_63 bdH_t (by omega) (by decide) ?_
                  refine V_iinc (i := 6) (v := nI (j + 1)) F dX4_boardings_64 rfl (nI_add (j) 1) (Nat.le_of_ble_eq_true rfl) ?_
                  refine V_goto (tgt := 43) F dX4_boardings_67 (by decide) ?_
                  refine VV.weak (L' := [some (.ref (m)), some (.int (nI (b))), some (.int (nI (c))), some (.int (nI (d))), some (.int (nI (n))), some (.int (nI (s9))), some (.int (nI (j + 1)))]) (LW.c1 (LW.c1 (LW.c1 (LW.c1 (LW.c1 (LW.c1 (LW.c1 LW.nil))))))) ?_
                  refine VV.heap (by rw [bdH_sT, mxN_s]) ?_
                  exact ih_43 (j + 1) (by omega) (by omega)
            refine VV.weak (L' := [some (.ref (m)), some (.int (nI (b))), some (.int (nI (c))), some (.int (nI (d))), some (.int (nI (n))), some (.int (nI (s9))), some (.int (nI (0)))]) (LW.c1 (LW.c1 (LW.c1 (LW.c1 (LW.c1 (LW.c1 (LW.c1 LW.nil))))))) ?_
            refine VV.heap (h' := bdH G h m (fs.set 7 (.int (nI 0))) b d aE aT e (mxN e f 0)) (by rw [mxN_0]) ?_
            exact loop_43 9 0 (by omega) (by omega)
    refine VV.weak (L' := [some (.ref (m)), some (.int (nI (b))), some (.int (nI (c))), some (.int (nI (d))), some (.int (nI (0))), some (.int (nI (1))), none]) (LW.c1 (LW.c1 (LW.c1 (LW.c1 (LW.c1 (LW.c1 (LW.c0 LW.nil))))))) ?_
    refine VV.heap (h' := bdH G h m (fs.set 7 (.int (nI 0))) b d aE aT (bgP b d ge 8) gt) (hset_id ((bgH_o (ne_ao hth hm) (Ne.symm hET)).trans hth)).symm ?_
    exact loop_24 (smE 8 (bgP b d ge 8) + 2) 0 1 (smE 8 (bgP b d ge 8) + 1) (bgP b d ge 8) gt (by omega) (by decide) (bgP_27 (by omega) he0 8) hf0 (fun _ => Nat.lt_succ_self _) rfl
  · refine V_iconst (v := nI 0) F dX4_boardings_10 rfl ?_
    exact V_iret F dX4_boardings_11 rfl (Nat.le_of_ble_eq_true rfl) (Nat.le_of_ble_eq_true rfl) (PX.fail (cdJ g p q u) (if_pos c_7) c_7 (if_neg cdJ_3).symm)
