set_option maxRecDepth 100000
/-- p is one of 0 .. n-1 -/
abbrev iR (p : Int32) (n : Nat) : Prop := 0 ≤ p.toInt ∧ p.toInt < n
theorem iR_vp {p : Int32} {n : Nat} : iR p n ↔ vp_in p n := vp_in_iff.symm
theorem iR_of {p : Int32} {n : Nat} (h : iR p n) (hn : n < 2 ^ 31) : ∃ j : Nat, j < n ∧ p = nI j := vp_in_of (iR_vp.mp h) hn
theorem iR_nI {j n : Nat} (hj : j < 2 ^ 31) : iR (nI j) n ↔ j < n := by
  unfold iR; rw [nI_toInt hj]; omega
theorem lens {fs : List Value} {n k : Nat} {v : Value} (h : fs.length = n) : (fs.set k v).length = n := by rw [List.length_set]; exact h
theorem lenk {fs : List Value} {n k : Nat} (h : fs.length = n) (hk : k < n) : k < fs.length := by omega
theorem le_toInt {a b : Int32} : a ≤ b ↔ a.toInt ≤ b.toInt := Int32.le_iff_toInt_le
theorem lt_toInt {a b : Int32} : a < b ↔ a.toInt < b.toInt := Int32.lt_iff_toInt_lt
theorem nIsub1 {n : Nat} (hn : n < 2 ^ 31) : (nI n - nI 1).toInt = (n : Int) - 1 := by
  cases n with
  | zero => decide
  | succ k => rw [pk_sub (by omega), nI_toInt (by omega)]; omega
theorem nIsub2 {n : Nat} (hn : n < 2 ^ 31) : (nI n - nI 2).toInt = (n : Int) - 2 := by
  by_cases h : 2 ≤ n
  · rw [pk_sub h, nI_toInt (by omega)]; omega
  · have : n = 0 ∨ n = 1 := by omega
    rcases this with rfl | rfl <;> decide
theorem iR_in {p : Int32} {n : Nat} (hn : n < 2 ^ 31) : (nI 0 ≤ p ∧ p ≤ nI n - nI 1) ↔ iR p n := by
  unfold iR
  rw [le_toInt, le_toInt, nIsub1 hn, nI_toInt (by decide)]
  omega
theorem iR_in2 {p : Int32} {n : Nat} (hn : n < 2 ^ 31) : (nI 0 ≤ p ∧ p ≤ nI n - nI 2) ↔ iR p (n - 1) := by
  unfold iR
  rw [le_toInt, le_toInt, nIsub2 hn, nI_toInt (by decide)]
  omega
/-- all that changes is small -/
def GB (g : Nat → Nat) : Prop := ∀ i, g i < 2 ^ 20
/-- a train's word; when it leaves a stop; where the stop is -/
abbrev ofG (g : Nat → Nat) (t w : Nat) : Nat := g (16 + 36 * t + w)
def LvG (g : Nat → Nat) (t : Nat) : Nat → Nat
  | 0 => g (16 + 36 * t + 1) + g (16 + 36 * t + 2)
  | k + 1 => LvG g t k + (g (16 + 36 * t + (4 + 3 * (k + 1) + 1)) + g (16 + 36 * t + (4 + 3 * (k + 1) + 2)))
abbrev plG (g : Nat → Nat) (t k : Nat) : Nat := g (16 + 36 * t + (4 + 3 * k))
def CmG (g : Nat → Nat) (t k : Nat) : Nat := LvG g t (k - 1) + g (16 + 36 * t + (4 + 3 * k + 1))
theorem LvG_lt {g : Nat → Nat} (hB : GB g) (t k : Nat) : LvG g t k < 2 ^ 21 * (k + 1) := by
  induction k with
  | zero => have := hB (16 + 36 * t + 1); have := hB (16 + 36 * t + 2); unfold LvG; omega
  | succ k ih => have := hB (16 + 36 * t + (4 + 3 * (k + 1) + 1)); have := hB (16 + 36 * t + (4 + 3 * (k + 1) + 2)); unfold LvG; omega
theorem GB.lt {g : Nat → Nat} (hB : GB g) {i : Nat} : g i < 2 ^ 31 := Nat.lt_trans (hB i) (by decide)
theorem toNat_nI {t : Nat} (h : t < 2 ^ 31) : (nI t).toInt.toNat = t := by rw [nI_toInt h]; rfl
theorem LvG_31 {g : Nat → Nat} (hB : GB g) {t k : Nat} (hk : k < 8) : LvG g t k < 2 ^ 25 := by have := LvG_lt hB t k; omega
theorem CmG_31 {g : Nat → Nat} (hB : GB g) {t k : Nat} (hk : k < 9) : CmG g t k < 2 ^ 26 := by
  have := LvG_lt hB t (k - 1); have := hB (16 + 36 * t + (4 + 3 * k + 1)); unfold CmG; omega
abbrev byG (g : Nat → Nat) (b w : Nat) : Nat := g (264 + 4 * b + w)
def bkC (g : Nat → Nat) (t k b : Nat) : Nat := if byG g b 1 = t ∧ byG g b 2 ≤ k ∧ k < byG g b 3 then 1 else 0
def bkG (g : Nat → Nat) (t k : Nat) : Nat → Nat
  | 0 => 0
  | n + 1 => bkG g t k n + bkC g t k n
theorem bkG_le {g : Nat → Nat} {t k n : Nat} : bkG g t k n ≤ n := by
  induction n with
  | zero => exact Nat.le_refl _
  | succ n ih => unfold bkG bkC; split <;> omega
abbrev ldG (g : Nat → Nat) (t k : Nat) : Nat := bkG g t k (g 3) + g (16 + 36 * t + (28 + k))
theorem ldG_31 {g : Nat → Nat} (h3 : g 3 ≤ 10) (hB : GB g) {t k : Nat} : ldG g t k < 2 ^ 31 := by
  have := bkG_le (g := g) (t := t) (k := k) (n := g 3); have := hB (16 + 36 * t + (28 + k)); unfold ldG; omega

theorem ct_thrown {G : GG} {l : Launch} {h : AH} {m : Nat} {fs : List Value} {cd : Int32}  (hm : h m = some (.inr (0, fs))) (h_code : fs[7]? = some (.int (cd)))  : Ct G l yX4_thrown cX4_thrown 1 (some .int) 0 0 0 [.ref m] h (PR (.int cd) h) := by
  refine Ct.of (by decide) (Nat.le_of_ble_eq_true rfl) (cat1 rfl) (fun X hXl F HN => ?_)
  subst hXl
  refine V_aload_n (i := 0) F dX4_thrown_0 rfl rfl ?_
  refine V_getf F dX4_thrown_1 fc_X4_54_X4 (.inl hm) h_code ?_
  exact V_iret F dX4_thrown_4 rfl (Nat.le_of_ble_eq_true rfl) (Nat.le_of_ble_eq_true rfl) ⟨rfl, rfl⟩
theorem ct_in {G : GG} {l : Launch} {h : AH} {v lo hi : Int32}  : Ct G l yX4_in cX4_in 3 (some .boolean) 0 0 0 [.int (v), .int (lo), .int (hi)] h (PR (.int (b2 (lo ≤ v ∧ v ≤ hi))) h) := by
  refine Ct.of (by decide) (Nat.le_of_ble_eq_true rfl) (cat1 rfl) (fun X hXl F HN => ?_)
  subst hXl
  refine V_iload_n (i := 0) F dX4_in_0 rfl rfl ?_
  refine V_iload_n (i := 1) F dX4_in_1 rfl rfl ?_
  refine V_icmp_lt (tgt := 14) F dX4_in_2 (by decide) (fun c_2 => ?_) (fun c_2 => ?_)
  · refine V_iconst (v := nI 0) F dX4_in_14 rfl ?_
    exact V_iret F dX4_in_15 rfl (Nat.le_of_ble_eq_true rfl) (Nat.le_of_ble_eq_true rfl) ⟨by rw [b2_f (fun q => absurd q.1 (by rw [le_toInt]; rw [lt_toInt] at c_2; omega))]; rfl, rfl⟩
  · refine V_iload_n (i := 0) F dX4_in_5 rfl rfl ?_
    refine V_iload_n (i := 2) F dX4_in_6 rfl rfl ?_
    refine V_icmp_gt (tgt := 14) F dX4_in_7 (by decide) (fun c_7 => ?_) (fun c_7 => ?_)
    · refine V_iconst (v := nI 0) F dX4_in_14 rfl ?_
      exact V_iret F dX4_in_15 rfl (Nat.le_of_ble_eq_true rfl) (Nat.le_of_ble_eq_true rfl) ⟨by rw [b2_f (fun q => absurd q.2 (by rw [le_toInt]; rw [lt_toInt] at c_7; omega))]; rfl, rfl⟩
    · refine V_iconst (v := nI 1) F dX4_in_10 rfl ?_
      refine V_goto (tgt := 15) F dX4_in_11 (by decide) ?_
      exact V_iret F dX4_in_15 rfl (Nat.le_of_ble_eq_true rfl) (Nat.le_of_ble_eq_true rfl) ⟨by rw [b2_t ⟨by rw [le_toInt]; rw [lt_toInt] at c_2; omega, by rw [le_toInt]; rw [lt_toInt] at c_7; omega⟩]; rfl, rfl⟩
theorem ct_of {G : GG} {l : Launch} {h : AH} {m : Nat} {fs : List Value} {aG : Nat} {g : Nat → Nat} {t w : Nat} (hm : h m = some (.inr (0, fs))) (h_g : fs[0]? = some (.ref aG)) (hg : h aG = some (iA G 304 (fun i => nI (g i)))) (hlt : 16 + 36 * t + w < 304) : Ct G l yX4_of cX4_of 3 (some .int) 0 0 0 [.ref m, .int (nI (t)), .int (nI (w))] h (PR (.int (nI (g (16 + 36 * t + w)))) h) := by
  refine Ct.of (by decide) (Nat.le_of_ble_eq_true rfl) (cat1 rfl) (fun X hXl F HN => ?_)
  subst hXl
  refine V_aload_n (i := 0) F dX4_of_0 rfl rfl ?_
  refine V_getf F dX4_of_1 fc_X4_7_X4 (.inl hm) h_g ?_
  refine V_bipush (v := nI 16) F dX4_of_4 rfl ?_
  refine V_bipush (v := nI 36) F dX4_of_6 rfl ?_
  refine V_iload_n (i := 1) F dX4_of_8 rfl rfl ?_
  refine V_imulN F dX4_of_9 ?_
  refine V_iaddN F dX4_of_10 ?_
  refine V_iload_n (i := 2) F dX4_of_11 rfl rfl ?_
  refine V_iaddN F dX4_of_12 ?_
  refine V_ialdG F dX4_of_13 (.inl hg) (by omega) (by decide) rfl ?_
  exact V_iret F dX4_of_14 rfl (Nat.le_of_ble_eq_true rfl) (Nat.le_of_ble_eq_true rfl) ⟨rfl, rfl⟩
theorem ct_by {G : GG} {l : Launch} {h : AH} {m : Nat} {fs : List Value} {aG : Nat} {g : Nat → Nat} {t w : Nat} (hm : h m = some (.inr (0, fs))) (h_g : fs[0]? = some (.ref aG)) (hg : h aG = some (iA G 304 (fun i => nI (g i)))) (hlt : 264 + 4 * t + w < 304) : Ct G l yX4_by cX4_by 3 (some .int) 0 0 0 [.ref m, .int (nI (t)), .int (nI (w))] h (PR (.int (nI (g (264 + 4 * t + w)))) h) := by
  refine Ct.of (by decide) (Nat.le_of_ble_eq_true rfl) (cat1 rfl) (fun X hXl F HN => ?_)
  subst hXl
  refine V_aload_n (i := 0) F dX4_by_0 rfl rfl ?_
  refine V_getf F dX4_by_1 fc_X4_7_X4 (.inl hm) h_g ?_
  refine V_sipush (v := nI 264) F dX4_by_4 rfl ?_
  refine V_iconst (v := nI 4) F dX4_by_7 rfl ?_
  refine V_iload_n (i := 1) F dX4_by_8 rfl rfl ?_
  refine V_imulN F dX4_by_9 ?_
  refine V_iaddN F dX4_by_10 ?_
  refine V_iload_n (i := 2) F dX4_by_11 rfl rfl ?_
  refine V_iaddN F dX4_by_12 ?_
  refine V_ialdG F dX4_by_13 (.inl hg) (by omega) (by decide) rfl ?_
  exact V_iret F dX4_by_14 rfl (Nat.le_of_ble_eq_true rfl) (Nat.le_of_ble_eq_true rfl) ⟨rfl, rfl⟩
theorem ct_the {G : GG} {l : Launch} {h : AH} {m : Nat} {fs : List Value} {aG : Nat} {g : Nat → Nat} {t w : Nat} (hm : h m = some (.inr (0, fs))) (h_g : fs[0]? = some (.ref aG)) (hg : h aG = some (iA G 304 (fun i => nI (g i)))) (hlt : 232 + 4 * t + w < 304) : Ct G l yX4_the cX4_the 3 (some .int) 0 0 0 [.ref m, .int (nI (t)), .int (nI (w))] h (PR (.int (nI (g (232 + 4 * t + w)))) h) := by
  refine Ct.of (by decide) (Nat.le_of_ble_eq_true rfl) (cat1 rfl) (fun X hXl F HN => ?_)
  subst hXl
  refine V_aload_n (i := 0) F dX4_the_0 rfl rfl ?_
  refine V_getf F dX4_the_1 fc_X4_7_X4 (.inl hm) h_g ?_
  refine V_sipush (v := nI 232) F dX4_the_4 rfl ?_
  refine V_iconst (v := nI 4) F dX4_the_7 rfl ?_
  refine V_iload_n (i := 1) F dX4_the_8 rfl rfl ?_
  refine V_imulN F dX4_the_9 ?_
  refine V_iaddN F dX4_the_10 ?_
  refine V_iload_n (i := 2) F dX4_the_11 rfl rfl ?_
  refine V_iaddN F dX4_the_12 ?_
  refine V_ialdG F dX4_the_13 (.inl hg) (by omega) (by decide) rfl ?_
  exact V_iret F dX4_the_14 rfl (Nat.le_of_ble_eq_true rfl) (Nat.le_of_ble_eq_true rfl) ⟨rfl, rfl⟩
theorem ct_isStation {G : GG} {l : Launch} {h : AH} {m : Nat} {fs : List Value} {aG : Nat} {g : Nat → Nat} {p : Int32} (hm : h m = some (.inr (0, fs))) (h_g : fs[0]? = some (.ref aG)) (hg : h aG = some (iA G 304 (fun i => nI (g i)))) (hB : g 0 < 2 ^ 31) : Ct G l yX4_isStation cX4_isStation 2 (some .boolean) 1 0 0 [.ref m, .int (p)] h (PR (.int (b2 (iR p (g 0)))) h) := by
  refine Ct.of (by decide) (Nat.le_of_ble_eq_true rfl) (cat1 rfl) (fun X hXl F HN => ?_)
  subst hXl
  refine V_iload_n (i := 1) F dX4_isStation_0 rfl rfl ?_
  refine V_iconst (v := nI 0) F dX4_isStation_1 rfl ?_
  refine V_aload_n (i := 0) F dX4_isStation_2 rfl rfl ?_
  refine V_getf F dX4_isStation_3 fc_X4_7_X4 (.inl hm) h_g ?_
  refine V_iconst (v := nI 0) F dX4_isStation_6 rfl ?_
  refine V_ialdG F dX4_isStation_7 (.inl hg) (by omega) (by decide) rfl ?_
  refine V_iconst (v := nI 1) F dX4_isStation_8 rfl ?_
  refine V_isub F dX4_isStation_9 ?_
  refine V_cS3r F dX4_isStation_10 lk_X4_68 (ct_in ) (Nat.le_of_ble_eq_true rfl) (Nat.le_of_ble_eq_true rfl) (Nat.le_of_ble_eq_true rfl) (Nat.le_of_ble_eq_true rfl) (Nat.le_of_ble_eq_true rfl) ?_
  exact V_iret F dX4_isStation_13 nar_b2 (Nat.le_of_ble_eq_true rfl) (Nat.le_of_ble_eq_true rfl) ⟨by rw [b2_c (iR_in hB)], rfl⟩
theorem ct_isTrain {G : GG} {l : Launch} {h : AH} {m : Nat} {fs : List Value} {aG : Nat} {g : Nat → Nat} {p : Int32} (hm : h m = some (.inr (0, fs))) (h_g : fs[0]? = some (.ref aG)) (hg : h aG = some (iA G 304 (fun i => nI (g i)))) (hB : g 1 < 2 ^ 31) : Ct G l yX4_isTrain cX4_isTrain 2 (some .boolean) 1 0 0 [.ref m, .int (p)] h (PR (.int (b2 (iR p (g 1)))) h) := by
  refine Ct.of (by decide) (Nat.le_of_ble_eq_true rfl) (cat1 rfl) (fun X hXl F HN => ?_)
  subst hXl
  refine V_iload_n (i := 1) F dX4_isTrain_0 rfl rfl ?_
  refine V_iconst (v := nI 0) F dX4_isTrain_1 rfl ?_
  refine V_aload_n (i := 0) F dX4_isTrain_2 rfl rfl ?_
  refine V_getf F dX4_isTrain_3 fc_X4_7_X4 (.inl hm) h_g ?_
  refine V_iconst (v := nI 1) F dX4_isTrain_6 rfl ?_
  refine V_ialdG F dX4_isTrain_7 (.inl hg) (by omega) (by decide) rfl ?_
  refine V_iconst (v := nI 1) F dX4_isTrain_8 rfl ?_
  refine V_isub F dX4_isTrain_9 ?_
  refine V_cS3r F dX4_isTrain_10 lk_X4_68 (ct_in ) (Nat.le_of_ble_eq_true rfl) (Nat.le_of_ble_eq_true rfl) (Nat.le_of_ble_eq_true rfl) (Nat.le_of_ble_eq_true rfl) (Nat.le_of_ble_eq_true rfl) ?_
  exact V_iret F dX4_isTrain_13 nar_b2 (Nat.le_of_ble_eq_true rfl) (Nat.le_of_ble_eq_true rfl) ⟨by rw [b2_c (iR_in hB)], rfl⟩
theorem ct_place {G : GG} {l : Launch} {h : AH} {m : Nat} {fs : List Value} {aG : Nat} {g : Nat → Nat} {t k : Nat} (hm : h m = some (.inr (0, fs))) (h_g : fs[0]? = some (.ref aG)) (hg : h aG = some (iA G 304 (fun i => nI (g i)))) (ht : t < 6) (hk : k < 8) : Ct G l yX4_place cX4_place 3 (some .int) 1 0 0 [.ref m, .int (nI (t)), .int (nI (k))] h (PR (.int (nI (plG g t k))) h) := by
  refine Ct.of (by decide) (Nat.le_of_ble_eq_true rfl) (cat1 rfl) (fun X hXl F HN => ?_)
  subst hXl
  refine V_aload_n (i := 0) F dX4_place_0 rfl rfl ?_
  refine V_iload_n (i := 1) F dX4_place_1 rfl rfl ?_
  refine V_iconst (v := nI 4) F dX4_place_2 rfl ?_
  refine V_iconst (v := nI 3) F dX4_place_3 rfl ?_
  refine V_iload_n (i := 2) F dX4_place_4 rfl rfl ?_
  refine V_imulN F dX4_place_5 ?_
  refine V_iaddN F dX4_place_6 ?_
  refine V_cV2r F dX4_place_7 lk_X4_76 (ct_of hm h_g hg (by omega)) ⟨0, _, _, _, rfl, (.inl hm)⟩ (Nat.le_of_ble_eq_true rfl) (Nat.le_of_ble_eq_true rfl) (Nat.le_of_ble_eq_true rfl) (Nat.le_of_ble_eq_true rfl) (Nat.le_of_ble_eq_true rfl) ?_
  exact V_iret F dX4_place_10 rfl (Nat.le_of_ble_eq_true rfl) (Nat.le_of_ble_eq_true rfl) ⟨rfl, rfl⟩
theorem ct_leaves {G : GG} {l : Launch} {h : AH} {m : Nat} {fs : List Value} {aG : Nat} {g : Nat → Nat} {t k : Nat} (hm : h m = some (.inr (0, fs))) (h_g : fs[0]? = some (.ref aG)) (hg : h aG = some (iA G 304 (fun i => nI (g i)))) (ht : t < 6) (hk : k < 8) : Ct G l yX4_leaves cX4_leaves 5 (some .int) 1 0 0 [.ref m, .int (nI (t)), .int (nI (k))] h (PR (.int (nI (LvG g t k))) h) := by
  refine Ct.of (by decide) (Nat.le_of_ble_eq_true rfl) (cat1 rfl) (fun X hXl F HN => ?_)
  subst hXl
  refine V_aload_n (i := 0) F dX4_leaves_0 rfl rfl ?_
  refine V_iload_n (i := 1) F dX4_leaves_1 rfl rfl ?_
  refine V_iconst (v := nI 1) F dX4_leaves_2 rfl ?_
  refine V_cV2r F dX4_leaves_3 lk_X4_76 (ct_of hm h_g hg (by omega)) ⟨0, _, _, _, rfl, (.inl hm)⟩ (Nat.le_of_ble_eq_true rfl) (Nat.le_of_ble_eq_true rfl) (Nat.le_of_ble_eq_true rfl) (Nat.le_of_ble_eq_true rfl) (Nat.le_of_ble_eq_true rfl) ?_
  refine V_aload_n (i := 0) F dX4_leaves_6 rfl rfl ?_
  refine V_iload_n (i := 1) F dX4_leaves_7 rfl rfl ?_
  refine V_iconst (v := nI 2) F dX4_leaves_8 rfl ?_
  refine V_cV2r F dX4_leaves_9 lk_X4_76 (ct_of hm h_g hg (by omega)) ⟨0, _, _, _, rfl, (.inl hm)⟩ (Nat.le_of_ble_eq_true rfl) (Nat.le_of_ble_eq_true rfl) (Nat.le_of_ble_eq_true rfl) (Nat.le_of_ble_eq_true rfl) (Nat.le_of_ble_eq_true rfl) ?_
  refine V_iaddN F dX4_leaves_12 ?_
  refine V_istore_n (i := 3) F dX4_leaves_13 rfl (Nat.le_of_ble_eq_true rfl) (Nat.le_of_ble_eq_true rfl) ?_
  refine V_iconst (v := nI 1) F dX4_leaves_14 rfl ?_
  refine V_istore (i := 4) F dX4_leaves_15 (Nat.le_of_ble_eq_true rfl) (Nat.le_of_ble_eq_true rfl) ?_
  have loop_17 : ∀ (nn : Nat) (j : Nat), k < j + nn → j ≤ k → VV G X 5 (EQ G X 0 0 (PR (.int (nI (LvG g t k))) h)) h 0 0 [some (.ref (m)), some (.int (nI (t))), some (.int (nI (k))), some (.int (nI (LvG g t j))), some (.int (nI (j + 1)))] [] 17 := by
    intro nn
    induction nn with
    | zero => intro j hn hj; exact absurd hn (by omega)
    | succ nn ih_17 =>
      intro j hn hj
      refine V_iload (i := 4) F dX4_leaves_17 rfl ?_
      refine V_iload_n (i := 2) F dX4_leaves_19 rfl rfl ?_
      refine V_icmp_gtN (tgt := 59) F dX4_leaves_20 (by decide) (by omega) (by omega) (fun c_20 => ?_) (fun c_20 => ?_)
      · refine V_iload_n (i := 3) F dX4_leaves_59 rfl rfl ?_
        exact V_iret F dX4_leaves_60 rfl (Nat.le_of_ble_eq_true rfl) (Nat.le_of_ble_eq_true rfl) ⟨by rw [show j = k by omega], rfl⟩
      · refine V_iload_n (i := 3) F dX4_leaves_23 rfl rfl ?_
        refine V_aload_n (i := 0) F dX4_leaves_24 rfl rfl ?_
        refine V_iload_n (i := 1) F dX4_leaves_25 rfl rfl ?_
        refine V_iconst (v := nI 4) F dX4_leaves_26 rfl ?_
        refine V_iconst (v := nI 3) F dX4_leaves_27 rfl ?_
        refine V_iload (i := 4) F dX4_leaves_28 rfl ?_
        refine V_imulN F dX4_leaves_30 ?_
        refine V_iaddN F dX4_leaves_31 ?_
        refine V_iconst (v := nI 1) F dX4_leaves_32 rfl ?_
        refine V_iaddN F dX4_leaves_33 ?_
        refine V_cV2r F dX4_leaves_34 lk_X4_76 (ct_of hm h_g hg (by omega)) ⟨0, _, _, _, rfl, (.inl hm)⟩ (Nat.le_of_ble_eq_true rfl) (Nat.le_of_ble_eq_true rfl) (Nat.le_of_ble_eq_true rfl) (Nat.le_of_ble_eq_true rfl) (Nat.le_of_ble_eq_true rfl) ?_
        refine V_aload_n (i := 0) F dX4_leaves_37 rfl rfl ?_
        refine V_iload_n (i := 1) F dX4_leaves_38 rfl rfl ?_
        refine V_iconst (v := nI 4) F dX4_leaves_39 rfl ?_
        refine V_iconst (v := nI 3) F dX4_leaves_40 rfl ?_
        refine V_iload (i := 4) F dX4_leaves_41 rfl ?_
        refine V_imulN F dX4_leaves_43 ?_
        refine V_iaddN F dX4_leaves_44 ?_
        refine V_iconst (v := nI 2) F dX4_leaves_45 rfl ?_
        refine V_iaddN F dX4_leaves_46 ?_
        refine V_cV2r F dX4_leaves_47 lk_X4_76 (ct_of hm h_g hg (by omega)) ⟨0, _, _, _, rfl, (.inl hm)⟩ (Nat.le_of_ble_eq_true rfl) (Nat.le_of_ble_eq_true rfl) (Nat.le_of_ble_eq_true rfl) (Nat.le_of_ble_eq_true rfl) (Nat.le_of_ble_eq_true rfl) ?_
        refine V_iaddN F dX4_leaves_50 ?_
        refine V_iaddN F dX4_leaves_51 ?_
        refine V_istore_n (i := 3) F dX4_leaves_52 rfl (Nat.le_of_ble_eq_true rfl) (Nat.le_of_ble_eq_true rfl) ?_
        refine V_iinc (i := 4) (v := nI (j + 1 + 1)) F dX4_leaves_53 rfl (nI_add (j + 1) 1) (Nat.le_of_ble_eq_true rfl) ?_
        refine V_goto (tgt := 17) F dX4_leaves_56 (by decide) ?_
        refine VV.weak (L' := [some (.ref (m)), some (.int (nI (t))), some (.int (nI (k))), some (.int (nI (LvG g t (j + 1)))), some (.int (nI ((j + 1) + 1)))]) (LW.c1 (LW.c1 (LW.c1 (LW.c1 (LW.c1 LW.nil))))) ?_
        exact ih_17 (j + 1) (by omega) (by omega)
  refine VV.weak (L' := [some (.ref (m)), some (.int (nI (t))), some (.int (nI (k))), some (.int (nI (LvG g t 0))), some (.int (nI (0 + 1)))]) (LW.c1 (LW.c1 (LW.c1 (LW.c1 (LW.c1 LW.nil))))) ?_
  exact loop_17 (k + 1) 0 (by omega) (by omega)
theorem ct_comes {G : GG} {l : Launch} {h : AH} {m : Nat} {fs : List Value} {aG : Nat} {g : Nat → Nat} {t k : Nat} (hm : h m = some (.inr (0, fs))) (h_g : fs[0]? = some (.ref aG)) (hg : h aG = some (iA G 304 (fun i => nI (g i)))) (ht : t < 6) (hk : k < 8) (hk0 : 0 < k) : Ct G l yX4_comes cX4_comes 3 (some .int) 2 0 0 [.ref m, .int (nI (t)), .int (nI (k))] h (PR (.int (nI (CmG g t k))) h) := by
  refine Ct.of (by decide) (Nat.le_of_ble_eq_true rfl) (cat1 rfl) (fun X hXl F HN => ?_)
  subst hXl
  refine V_aload_n (i := 0) F dX4_comes_0 rfl rfl ?_
  refine V_iload_n (i := 1) F dX4_comes_1 rfl rfl ?_
  refine V_iload_n (i := 2) F dX4_comes_2 rfl rfl ?_
  refine V_iconst (v := nI 1) F dX4_comes_3 rfl ?_
  refine V_isubN F dX4_comes_4 (by omega) ?_
  refine V_cV2r F dX4_comes_5 lk_X4_80 (ct_leaves hm h_g hg (by omega) (by omega)) ⟨0, _, _, _, rfl, (.inl hm)⟩ (Nat.le_of_ble_eq_true rfl) (Nat.le_of_ble_eq_true rfl) (Nat.le_of_ble_eq_true rfl) (Nat.le_of_ble_eq_true rfl) (Nat.le_of_ble_eq_true rfl) ?_
  refine V_aload_n (i := 0) F dX4_comes_8 rfl rfl ?_
  refine V_iload_n (i := 1) F dX4_comes_9 rfl rfl ?_
  refine V_iconst (v := nI 4) F dX4_comes_10 rfl ?_
  refine V_iconst (v := nI 3) F dX4_comes_11 rfl ?_
  refine V_iload_n (i := 2) F dX4_comes_12 rfl rfl ?_
  refine V_imulN F dX4_comes_13 ?_
  refine V_iaddN F dX4_comes_14 ?_
  refine V_iconst (v := nI 1) F dX4_comes_15 rfl ?_
  refine V_iaddN F dX4_comes_16 ?_
  refine V_cV2r F dX4_comes_17 lk_X4_76 (ct_of hm h_g hg (by omega)) ⟨0, _, _, _, rfl, (.inl hm)⟩ (Nat.le_of_ble_eq_true rfl) (Nat.le_of_ble_eq_true rfl) (Nat.le_of_ble_eq_true rfl) (Nat.le_of_ble_eq_true rfl) (Nat.le_of_ble_eq_true rfl) ?_
  refine V_iaddN F dX4_comes_20 ?_
  exact V_iret F dX4_comes_21 rfl (Nat.le_of_ble_eq_true rfl) (Nat.le_of_ble_eq_true rfl) ⟨rfl, rfl⟩
theorem ct_booked {G : GG} {l : Launch} {h : AH} {m : Nat} {fs : List Value} {aG : Nat} {g : Nat → Nat} {t k : Nat} (hm : h m = some (.inr (0, fs))) (h_g : fs[0]? = some (.ref aG)) (hg : h aG = some (iA G 304 (fun i => nI (g i)))) (ht : t < 6) (hk : k < 9) (hn3 : g 3 ≤ 10) (hB : GB g) : Ct G l yX4_booked cX4_booked 5 (some .int) 1 0 0 [.ref m, .int (nI (t)), .int (nI (k))] h (PR (.int (nI (bkG g t k (g 3)))) h) := by
  refine Ct.of (by decide) (Nat.le_of_ble_eq_true rfl) (cat1 rfl) (fun X hXl F HN => ?_)
  subst hXl
  refine V_iconst (v := nI 0) F dX4_booked_0 rfl ?_
  refine V_istore_n (i := 3) F dX4_booked_1 rfl (Nat.le_of_ble_eq_true rfl) (Nat.le_of_ble_eq_true rfl) ?_
  refine V_iconst (v := nI 0) F dX4_booked_2 rfl ?_
  refine V_istore (i := 4) F dX4_booked_3 (Nat.le_of_ble_eq_true rfl) (Nat.le_of_ble_eq_true rfl) ?_
  have loop_5 : ∀ (nn : Nat) (j : Nat), g 3 < j + nn → j ≤ g 3 → VV G X 5 (EQ G X 0 0 (PR (.int (nI (bkG g t k (g 3)))) h)) h 0 0 [some (.ref (m)), some (.int (nI (t))), some (.int (nI (k))), some (.int (nI (bkG g t k j))), some (.int (nI (j)))] [] 5 := by
    intro nn
    induction nn with
    | zero => intro j hn hj; exact absurd hn (by omega)
    | succ nn ih_5 =>
      intro j hn hj
      refine V_iload (i := 4) F dX4_booked_5 rfl ?_
      refine V_aload_n (i := 0) F dX4_booked_7 rfl rfl ?_
      refine V_getf F dX4_booked_8 fc_X4_7_X4 (.inl hm) h_g ?_
      refine V_iconst (v := nI 3) F dX4_booked_11 rfl ?_
      refine V_ialdG F dX4_booked_12 (.inl hg) (by omega) (by decide) rfl ?_
      refine V_icmp_geN (tgt := 63) F dX4_booked_13 (by decide) (by omega) hB.lt (fun c_13 => ?_) (fun c_13 => ?_)
      · refine V_iload_n (i := 3) F dX4_booked_63 rfl rfl ?_
        exact V_iret F dX4_booked_64 rfl (Nat.le_of_ble_eq_true rfl) (Nat.le_of_ble_eq_true rfl) ⟨by rw [show j = g 3 by omega], rfl⟩
      · refine V_iload_n (i := 3) F dX4_booked_16 rfl rfl ?_
        refine V_aload_n (i := 0) F dX4_booked_17 rfl rfl ?_
        refine V_iload (i := 4) F dX4_booked_18 rfl ?_
        refine V_iconst (v := nI 1) F dX4_booked_20 rfl ?_
        refine V_cV2r F dX4_booked_21 lk_X4_83 (ct_by hm h_g hg (by omega)) ⟨0, _, _, _, rfl, (.inl hm)⟩ (Nat.le_of_ble_eq_true rfl) (Nat.le_of_ble_eq_true rfl) (Nat.le_of_ble_eq_true rfl) (Nat.le_of_ble_eq_true rfl) (Nat.le_of_ble_eq_true rfl) ?_
        refine V_iload_n (i := 1) F dX4_booked_24 rfl rfl ?_
        refine V_icmp_neN (tgt := 54) F dX4_booked_25 (by decide) hB.lt (by omega) (fun c_25 => ?_) (fun c_25 => ?_)
        · have hcc : bkC g t k j = 0 := if_neg (fun z => c_25 z.1)
          refine V_iconst (v := nI 0) F dX4_booked_54 rfl ?_
          refine VV.stk (st' := [.int (nI (bkC g t k j)), .int (nI (bkG g t k j))]) (by rw [hcc]) ?_
          refine V_iaddN F dX4_booked_55 ?_
          refine V_istore_n (i := 3) F dX4_booked_56 rfl (Nat.le_of_ble_eq_true rfl) (Nat.le_of_ble_eq_true rfl) ?_
          refine V_iinc (i := 4) (v := nI (j + 1)) F dX4_booked_57 rfl (nI_add (j) 1) (Nat.le_of_ble_eq_true rfl) ?_
          refine V_goto (tgt := 5) F dX4_booked_60 (by decide) ?_
          refine VV.weak (L' := [some (.ref (m)), some (.int (nI (t))), some (.int (nI (k))), some (.int (nI (bkG g t k (j + 1)))), some (.int (nI (j + 1)))]) (LW.c1 (LW.c1 (LW.c1 (LW.c1 (LW.c1 LW.nil))))) ?_
          exact ih_5 (j + 1) (by omega) (by omega)
        · refine V_aload_n (i := 0) F dX4_booked_28 rfl rfl ?_
          refine V_iload (i := 4) F dX4_booked_29 rfl ?_
          refine V_iconst (v := nI 2) F dX4_booked_31 rfl ?_
          refine V_cV2r F dX4_booked_32 lk_X4_83 (ct_by hm h_g hg (by omega)) ⟨0, _, _, _, rfl, (.inl hm)⟩ (Nat.le_of_ble_eq_true rfl) (Nat.le_of_ble_eq_true rfl) (Nat.le_of_ble_eq_true rfl) (Nat.le_of_ble_eq_true rfl) (Nat.le_of_ble_eq_true rfl) ?_
          refine V_iload_n (i := 2) F dX4_booked_35 rfl rfl ?_
          refine V_icmp_gtN (tgt := 54) F dX4_booked_36 (by decide) hB.lt (by omega) (fun c_36 => ?_) (fun c_36 => ?_)
          · have hcc : bkC g t k j = 0 := if_neg (fun z => absurd z.2.1 (Nat.not_le.mpr c_36))
            refine V_iconst (v := nI 0) F dX4_booked_54 rfl ?_
            refine VV.stk (st' := [.int (nI (bkC g t k j)), .int (nI (bkG g t k j))]) (by rw [hcc]) ?_
            refine V_iaddN F dX4_booked_55 ?_
            refine V_istore_n (i := 3) F dX4_booked_56 rfl (Nat.le_of_ble_eq_true rfl) (Nat.le_of_ble_eq_true rfl) ?_
            refine V_iinc (i := 4) (v := nI (j + 1)) F dX4_booked_57 rfl (nI_add (j) 1) (Nat.le_of_ble_eq_true rfl) ?_
            refine V_goto (tgt := 5) F dX4_booked_60 (by decide) ?_
            refine VV.weak (L' := [some (.ref (m)), some (.int (nI (t))), some (.int (nI (k))), some (.int (nI (bkG g t k (j + 1)))), some (.int (nI (j + 1)))]) (LW.c1 (LW.c1 (LW.c1 (LW.c1 (LW.c1 LW.nil))))) ?_
            exact ih_5 (j + 1) (by omega) (by omega)
          · refine V_iload_n (i := 2) F dX4_booked_39 rfl rfl ?_
            refine V_aload_n (i := 0) F dX4_booked_40 rfl rfl ?_
            refine V_iload (i := 4) F dX4_booked_41 rfl ?_
            refine V_iconst (v := nI 3) F dX4_booked_43 rfl ?_
            refine V_cV2r F dX4_booked_44 lk_X4_83 (ct_by hm h_g hg (by omega)) ⟨0, _, _, _, rfl, (.inl hm)⟩ (Nat.le_of_ble_eq_true rfl) (Nat.le_of_ble_eq_true rfl) (Nat.le_of_ble_eq_true rfl) (Nat.le_of_ble_eq_true rfl) (Nat.le_of_ble_eq_true rfl) ?_
            refine V_icmp_geN (tgt := 54) F dX4_booked_47 (by decide) (by omega) hB.lt (fun c_47 => ?_) (fun c_47 => ?_)
            · have hcc : bkC g t k j = 0 := if_neg (fun z => absurd z.2.2 (Nat.not_lt.mpr c_47))
              refine V_iconst (v := nI 0) F dX4_booked_54 rfl ?_
              refine VV.stk (st' := [.int (nI (bkC g t k j)), .int (nI (bkG g t k j))]) (by rw [hcc]) ?_
              refine V_iaddN F dX4_booked_55 ?_
              refine V_istore_n (i := 3) F dX4_booked_56 rfl (Nat.le_of_ble_eq_true rfl) (Nat.le_of_ble_eq_true rfl) ?_
              refine V_iinc (i := 4) (v := nI (j + 1)) F dX4_booked_57 rfl (nI_add (j) 1) (Nat.le_of_ble_eq_true rfl) ?_
              refine V_goto (tgt := 5) F dX4_booked_60 (by decide) ?_
              refine VV.weak (L' := [some (.ref (m)), some (.int (nI (t))), some (.int (nI (k))), some (.int (nI (bkG g t k (j + 1)))), some (.int (nI (j + 1)))]) (LW.c1 (LW.c1 (LW.c1 (LW.c1 (LW.c1 LW.nil))))) ?_
              exact ih_5 (j + 1) (by omega) (by omega)
            · have hcc : bkC g t k j = 1 := if_pos ⟨c_25, by omega, by omega⟩
              refine V_iconst (v := nI 1) F dX4_booked_50 rfl ?_
              refine V_goto (tgt := 55) F dX4_booked_51 (by decide) ?_
              refine VV.stk (st' := [.int (nI (bkC g t k j)), .int (nI (bkG g t k j))]) (by rw [hcc]) ?_
              refine V_iaddN F dX4_booked_55 ?_
              refine V_istore_n (i := 3) F dX4_booked_56 rfl (Nat.le_of_ble_eq_true rfl) (Nat.le_of_ble_eq_true rfl) ?_
              refine V_iinc (i := 4) (v := nI (j + 1)) F dX4_booked_57 rfl (nI_add (j) 1) (Nat.le_of_ble_eq_true rfl) ?_
              refine V_goto (tgt := 5) F dX4_booked_60 (by decide) ?_
              refine VV.weak (L' := [some (.ref (m)), some (.int (nI (t))), some (.int (nI (k))), some (.int (nI (bkG g t k (j + 1)))), some (.int (nI (j + 1)))]) (LW.c1 (LW.c1 (LW.c1 (LW.c1 (LW.c1 LW.nil))))) ?_
              exact ih_5 (j + 1) (by omega) (by omega)
  refine VV.weak (L' := [some (.ref (m)), some (.int (nI (t))), some (.int (nI (k))), some (.int (nI (bkG g t k 0))), some (.int (nI (0)))]) (LW.c1 (LW.c1 (LW.c1 (LW.c1 (LW.c1 LW.nil))))) ?_
  exact loop_5 (g 3 + 1) 0 (by omega) (by omega)
theorem ct_carries {G : GG} {l : Launch} {h : AH} {m : Nat} {fs : List Value} {aG : Nat} {g : Nat → Nat} {t k : Nat} (hm : h m = some (.inr (0, fs))) (h_g : fs[0]? = some (.ref aG)) (hg : h aG = some (iA G 304 (fun i => nI (g i)))) (ht : t < 6) (hk : k < 8) (hn3 : g 3 ≤ 10) (hB : GB g) : Ct G l yX4_carries cX4_carries 3 (some .int) 2 0 0 [.ref m, .int (nI (t)), .int (nI (k))] h (PR (.int (nI (ldG g t k))) h) := by
  refine Ct.of (by decide) (Nat.le_of_ble_eq_true rfl) (cat1 rfl) (fun X hXl F HN => ?_)
  subst hXl
  refine V_aload_n (i := 0) F dX4_carries_0 rfl rfl ?_
  refine V_iload_n (i := 1) F dX4_carries_1 rfl rfl ?_
  refine V_iload_n (i := 2) F dX4_carries_2 rfl rfl ?_
  refine V_cV2r F dX4_carries_3 lk_X4_86 (ct_booked hm h_g hg (by omega) (by omega) hn3 hB) ⟨0, _, _, _, rfl, (.inl hm)⟩ (Nat.le_of_ble_eq_true rfl) (Nat.le_of_ble_eq_true rfl) (Nat.le_of_ble_eq_true rfl) (Nat.le_of_ble_eq_true rfl) (Nat.le_of_ble_eq_true rfl) ?_
  refine V_aload_n (i := 0) F dX4_carries_6 rfl rfl ?_
  refine V_iload_n (i := 1) F dX4_carries_7 rfl rfl ?_
  refine V_bipush (v := nI 28) F dX4_carries_8 rfl ?_
  refine V_iload_n (i := 2) F dX4_carries_10 rfl rfl ?_
  refine V_iaddN F dX4_carries_11 ?_
  refine V_cV2r F dX4_carries_12 lk_X4_76 (ct_of hm h_g hg (by omega)) ⟨0, _, _, _, rfl, (.inl hm)⟩ (Nat.le_of_ble_eq_true rfl) (Nat.le_of_ble_eq_true rfl) (Nat.le_of_ble_eq_true rfl) (Nat.le_of_ble_eq_true rfl) (Nat.le_of_ble_eq_true rfl) ?_
  refine V_iaddN F dX4_carries_15 ?_
  exact V_iret F dX4_carries_16 rfl (Nat.le_of_ble_eq_true rfl) (Nat.le_of_ble_eq_true rfl) ⟨rfl, rfl⟩
theorem ct_isTaken {G : GG} {l : Launch} {h : AH} {m : Nat} {fs : List Value} {aG : Nat} {g : Nat → Nat} {t k : Nat} (hm : h m = some (.inr (0, fs))) (h_g : fs[0]? = some (.ref aG)) (hg : h aG = some (iA G 304 (fun i => nI (g i)))) (ht : t < 6) (hk : k < 8) (hn3 : g 3 ≤ 10) (hB : GB g) : Ct G l yX4_isTaken cX4_isTaken 3 (some .boolean) 3 0 0 [.ref m, .int (nI (t)), .int (nI (k))] h (PR (.int (b2 (g (16 + 36 * t + 0) ≤ ldG g t k))) h) := by
  refine Ct.of (by decide) (Nat.le_of_ble_eq_true rfl) (cat1 rfl) (fun X hXl F HN => ?_)
  subst hXl
  refine V_aload_n (i := 0) F dX4_isTaken_0 rfl rfl ?_
  refine V_iload_n (i := 1) F dX4_isTaken_1 rfl rfl ?_
  refine V_iload_n (i := 2) F dX4_isTaken_2 rfl rfl ?_
  refine V_cV2r F dX4_isTaken_3 lk_X4_89 (ct_carries hm h_g hg (by omega) (by omega) hn3 hB) ⟨0, _, _, _, rfl, (.inl hm)⟩ (Nat.le_of_ble_eq_true rfl) (Nat.le_of_ble_eq_true rfl) (Nat.le_of_ble_eq_true rfl) (Nat.le_of_ble_eq_true rfl) (Nat.le_of_ble_eq_true rfl) ?_
  refine V_aload_n (i := 0) F dX4_isTaken_6 rfl rfl ?_
  refine V_iload_n (i := 1) F dX4_isTaken_7 rfl rfl ?_
  refine V_iconst (v := nI 0) F dX4_isTaken_8 rfl ?_
  refine V_cV2r F dX4_isTaken_9 lk_X4_76 (ct_of hm h_g hg (by omega)) ⟨0, _, _, _, rfl, (.inl hm)⟩ (Nat.le_of_ble_eq_true rfl) (Nat.le_of_ble_eq_true rfl) (Nat.le_of_ble_eq_true rfl) (Nat.le_of_ble_eq_true rfl) (Nat.le_of_ble_eq_true rfl) ?_
  refine V_icmp_ltN (tgt := 19) F dX4_isTaken_12 (by decide) (ldG_31 hn3 hB) hB.lt (fun c_12 => ?_) (fun c_12 => ?_)
  · refine V_iconst (v := nI 0) F dX4_isTaken_19 rfl ?_
    exact V_iret F dX4_isTaken_20 rfl (Nat.le_of_ble_eq_true rfl) (Nat.le_of_ble_eq_true rfl) ⟨by rw [b2_f (by omega)]; rfl, rfl⟩
  · refine V_iconst (v := nI 1) F dX4_isTaken_15 rfl ?_
    refine V_goto (tgt := 20) F dX4_isTaken_16 (by decide) ?_
    exact V_iret F dX4_isTaken_20 rfl (Nat.le_of_ble_eq_true rfl) (Nat.le_of_ble_eq_true rfl) ⟨by rw [b2_t (by omega)]; rfl, rfl⟩
theorem ct_isStop {G : GG} {l : Launch} {h : AH} {m : Nat} {fs : List Value} {aG : Nat} {g : Nat → Nat} {p q : Int32} (hm : h m = some (.inr (0, fs))) (h_g : fs[0]? = some (.ref aG)) (hg : h aG = some (iA G 304 (fun i => nI (g i)))) (hn1 : g 1 ≤ 6) (hB : GB g) : Ct G l yX4_isStop cX4_isStop 3 (some .boolean) 2 0 0 [.ref m, .int (p), .int (q)] h (PR (.int (b2 (iR p (g 1) ∧ iR q (g (16 + 36 * p.toInt.toNat + 3))))) h) := by
  refine Ct.of (by decide) (Nat.le_of_ble_eq_true rfl) (cat1 rfl) (fun X hXl F HN => ?_)
  subst hXl
  refine V_aload_n (i := 0) F dX4_isStop_0 rfl rfl ?_
  refine V_iload_n (i := 1) F dX4_isStop_1 rfl rfl ?_
  refine V_cV1r F dX4_isStop_2 lk_X4_72 (ct_isTrain hm h_g hg hB.lt) ⟨0, _, _, _, rfl, (.inl hm)⟩ (Nat.le_of_ble_eq_true rfl) (Nat.le_of_ble_eq_true rfl) (Nat.le_of_ble_eq_true rfl) (Nat.le_of_ble_eq_true rfl) (Nat.le_of_ble_eq_true rfl) ?_
  refine V_if_eqB (tgt := 28) F dX4_isStop_5 (by decide) (fun c_5 => ?_) (fun c_5 => ?_)
  · refine V_iconst (v := nI 0) F dX4_isStop_28 rfl ?_
    exact V_iret F dX4_isStop_29 rfl (Nat.le_of_ble_eq_true rfl) (Nat.le_of_ble_eq_true rfl) ⟨by rw [b2_f (fun z => c_5 z.1)]; rfl, rfl⟩
  · obtain ⟨t, ht, rfl⟩ := iR_of c_5 hB.lt
    refine V_iload_n (i := 2) F dX4_isStop_8 rfl rfl ?_
    refine V_iconst (v := nI 0) F dX4_isStop_9 rfl ?_
    refine V_aload_n (i := 0) F dX4_isStop_10 rfl rfl ?_
    refine V_iload_n (i := 1) F dX4_isStop_11 rfl rfl ?_
    refine V_iconst (v := nI 3) F dX4_isStop_12 rfl ?_
    refine V_cV2r F dX4_isStop_13 lk_X4_76 (ct_of hm h_g hg (by omega)) ⟨0, _, _, _, rfl, (.inl hm)⟩ (Nat.le_of_ble_eq_true rfl) (Nat.le_of_ble_eq_true rfl) (Nat.le_of_ble_eq_true rfl) (Nat.le_of_ble_eq_true rfl) (Nat.le_of_ble_eq_true rfl) ?_
    refine V_iconst (v := nI 1) F dX4_isStop_16 rfl ?_
    refine V_isub F dX4_isStop_17 ?_
    refine V_cS3r F dX4_isStop_18 lk_X4_68 (ct_in ) (Nat.le_of_ble_eq_true rfl) (Nat.le_of_ble_eq_true rfl) (Nat.le_of_ble_eq_true rfl) (Nat.le_of_ble_eq_true rfl) (Nat.le_of_ble_eq_true rfl) ?_
    refine V_if_eqB (tgt := 28) F dX4_isStop_21 (by decide) (fun c_21 => ?_) (fun c_21 => ?_)
    · refine V_iconst (v := nI 0) F dX4_isStop_28 rfl ?_
      exact V_iret F dX4_isStop_29 rfl (Nat.le_of_ble_eq_true rfl) (Nat.le_of_ble_eq_true rfl) ⟨by rw [b2_f (fun z => c_21 ((iR_in hB.lt).mpr (by have z2 := z.2; rw [toNat_nI (by omega)] at z2; exact z2)))]; rfl, rfl⟩
    · refine V_iconst (v := nI 1) F dX4_isStop_24 rfl ?_
      refine V_goto (tgt := 29) F dX4_isStop_25 (by decide) ?_
      exact V_iret F dX4_isStop_29 rfl (Nat.le_of_ble_eq_true rfl) (Nat.le_of_ble_eq_true rfl) ⟨by rw [b2_t ⟨c_5, by rw [toNat_nI (by omega)]; exact (iR_in hB.lt).mp c_21⟩]; rfl, rfl⟩
theorem ct_isLeg {G : GG} {l : Launch} {h : AH} {m : Nat} {fs : List Value} {aG : Nat} {g : Nat → Nat} {p q : Int32} (hm : h m = some (.inr (0, fs))) (h_g : fs[0]? = some (.ref aG)) (hg : h aG = some (iA G 304 (fun i => nI (g i)))) (hn1 : g 1 ≤ 6) (hB : GB g) : Ct G l yX4_isLeg cX4_isLeg 3 (some .boolean) 2 0 0 [.ref m, .int (p), .int (q)] h (PR (.int (b2 (iR p (g 1) ∧ iR q (g (16 + 36 * p.toInt.toNat + 3) - 1)))) h) := by
  refine Ct.of (by decide) (Nat.le_of_ble_eq_true rfl) (cat1 rfl) (fun X hXl F HN => ?_)
  subst hXl
  refine V_aload_n (i := 0) F dX4_isLeg_0 rfl rfl ?_
  refine V_iload_n (i := 1) F dX4_isLeg_1 rfl rfl ?_
  refine V_cV1r F dX4_isLeg_2 lk_X4_72 (ct_isTrain hm h_g hg hB.lt) ⟨0, _, _, _, rfl, (.inl hm)⟩ (Nat.le_of_ble_eq_true rfl) (Nat.le_of_ble_eq_true rfl) (Nat.le_of_ble_eq_true rfl) (Nat.le_of_ble_eq_true rfl) (Nat.le_of_ble_eq_true rfl) ?_
  refine V_if_eqB (tgt := 28) F dX4_isLeg_5 (by decide) (fun c_5 => ?_) (fun c_5 => ?_)
  · refine V_iconst (v := nI 0) F dX4_isLeg_28 rfl ?_
    exact V_iret F dX4_isLeg_29 rfl (Nat.le_of_ble_eq_true rfl) (Nat.le_of_ble_eq_true rfl) ⟨by rw [b2_f (fun z => c_5 z.1)]; rfl, rfl⟩
  · obtain ⟨t, ht, rfl⟩ := iR_of c_5 hB.lt
    refine V_iload_n (i := 2) F dX4_isLeg_8 rfl rfl ?_
    refine V_iconst (v := nI 0) F dX4_isLeg_9 rfl ?_
    refine V_aload_n (i := 0) F dX4_isLeg_10 rfl rfl ?_
    refine V_iload_n (i := 1) F dX4_isLeg_11 rfl rfl ?_
    refine V_iconst (v := nI 3) F dX4_isLeg_12 rfl ?_
    refine V_cV2r F dX4_isLeg_13 lk_X4_76 (ct_of hm h_g hg (by omega)) ⟨0, _, _, _, rfl, (.inl hm)⟩ (Nat.le_of_ble_eq_true rfl) (Nat.le_of_ble_eq_true rfl) (Nat.le_of_ble_eq_true rfl) (Nat.le_of_ble_eq_true rfl) (Nat.le_of_ble_eq_true rfl) ?_
    refine V_iconst (v := nI 2) F dX4_isLeg_16 rfl ?_
    refine V_isub F dX4_isLeg_17 ?_
    refine V_cS3r F dX4_isLeg_18 lk_X4_68 (ct_in ) (Nat.le_of_ble_eq_true rfl) (Nat.le_of_ble_eq_true rfl) (Nat.le_of_ble_eq_true rfl) (Nat.le_of_ble_eq_true rfl) (Nat.le_of_ble_eq_true rfl) ?_
    refine V_if_eqB (tgt := 28) F dX4_isLeg_21 (by decide) (fun c_21 => ?_) (fun c_21 => ?_)
    · refine V_iconst (v := nI 0) F dX4_isLeg_28 rfl ?_
      exact V_iret F dX4_isLeg_29 rfl (Nat.le_of_ble_eq_true rfl) (Nat.le_of_ble_eq_true rfl) ⟨by rw [b2_f (fun z => c_21 ((iR_in2 hB.lt).mpr (by have z2 := z.2; rw [toNat_nI (by omega)] at z2; exact z2)))]; rfl, rfl⟩
    · refine V_iconst (v := nI 1) F dX4_isLeg_24 rfl ?_
      refine V_goto (tgt := 29) F dX4_isLeg_25 (by decide) ?_
      exact V_iret F dX4_isLeg_29 rfl (Nat.le_of_ble_eq_true rfl) (Nat.le_of_ble_eq_true rfl) ⟨by rw [b2_t ⟨c_5, by rw [toNat_nI (by omega)]; exact (iR_in2 hB.lt).mp c_21⟩]; rfl, rfl⟩
