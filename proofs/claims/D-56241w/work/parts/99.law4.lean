/-! ===== bookings on a leg, of the rows after a cancellation and after a booking ===== -/
section BKN
variable {g : Nat → Nat} {k i j t : Nat}
theorem nxCB_3 : nxCB g k 3 = g 3 - 1 := by unfold nxCB; rw [dropN_lo (by omega), up_s]
theorem nxCB_lo (h : i < 264) (h3 : i ≠ 3) : nxCB g k i = g i := by unfold nxCB; rw [dropN_lo h, up_n h3]
theorem nxCB_e (hi : i < g 3 - 1) (hj : j < 4) : nxCB g k (264 + 4 * i + j) = g (264 + 4 * sk k i + j) := by
  unfold nxCB dropN z1N d1N sk
  rw [if_neg (by omega)]
  by_cases e : i < k
  · rw [if_neg (by omega), if_pos e, up_n (by omega)]
  · rw [if_pos (by omega), if_neg e, up_n (by omega)]
    exact congrArg g (by omega)
theorem bkC_cb (hi : i < g 3 - 1) : bkC (nxCB g k) t j i = bkC g t j (sk k i) := by
  unfold bkC byG
  rw [nxCB_e hi (by omega), nxCB_e hi (by omega), nxCB_e hi (by omega)]
theorem bkG_cbL : ∀ m, m ≤ g 3 - 1 → m ≤ k → bkG (nxCB g k) t j m = bkG g t j m
  | 0, _, _ => rfl
  | m + 1, h1, h2 => by
    show bkG (nxCB g k) t j m + bkC (nxCB g k) t j m = bkG g t j m + bkC g t j m
    rw [bkG_cbL m (by omega) (by omega), bkC_cb (by omega)]
    unfold sk; rw [if_pos (by omega)]
theorem bkG_cbH (hk : k < g 3) : ∀ m, m ≤ g 3 - 1 → k ≤ m → bkG (nxCB g k) t j m + bkC g t j k = bkG g t j (m + 1)
  | 0, h1, h2 => by
    obtain rfl : k = 0 := by omega
    show 0 + bkC g t j 0 = 0 + bkC g t j 0
    rfl
  | m + 1, h1, h2 => by
    by_cases e : k = m + 1
    · rw [e, bkG_cbL (k := m + 1) (m + 1) h1 (Nat.le_refl _)]; rfl
    · have ih := bkG_cbH hk m (by omega) (by omega)
      show bkG (nxCB g k) t j m + bkC (nxCB g k) t j m + bkC g t j k = bkG g t j (m + 1) + bkC g t j (m + 1)
      rw [bkC_cb (by omega), ← ih]
      unfold sk; rw [if_neg (by omega)]
      omega
/-- one booking less -/
theorem bkG_cb (hk : k < g 3) : bkG (nxCB g k) t j (nxCB g k 3) + bkC g t j k = bkG g t j (g 3) := by
  have h := bkG_cbH (t := t) (j := j) hk (g 3 - 1) (Nat.le_refl _) (by omega)
  rw [nxCB_3, h, show g 3 - 1 + 1 = g 3 by omega]
variable {u f l : Nat}
theorem nxBK_o (h0 : i ≠ 264 + 4 * g 3 + 0) (h1 : i ≠ 264 + 4 * g 3 + 1) (h2 : i ≠ 264 + 4 * g 3 + 2) (h3 : i ≠ 264 + 4 * g 3 + 3) (h4 : i ≠ 3) (h5 : i ≠ 5) : nxBK g u f l i = g i := by
  unfold nxBK; rw [up_n h5, up_n h4, up_n h3, up_n h2, up_n h1, up_n h0]
theorem nxBK_3 : nxBK g u f l 3 = g 3 + 1 := by unfold nxBK; rw [up_n (by omega), up_s]
theorem nxBK_5 : nxBK g u f l 5 = g 5 + 1 := by unfold nxBK; rw [up_s]
theorem nxBK_i : nxBK g u f l (264 + 4 * g 3 + 0) = g 5 := by unfold nxBK; rw [up_n (by omega), up_n (by omega), up_n (by omega), up_n (by omega), up_n (by omega), up_s]
theorem nxBK_t : nxBK g u f l (264 + 4 * g 3 + 1) = u := by unfold nxBK; rw [up_n (by omega), up_n (by omega), up_n (by omega), up_n (by omega), up_s]
theorem nxBK_f : nxBK g u f l (264 + 4 * g 3 + 2) = f := by unfold nxBK; rw [up_n (by omega), up_n (by omega), up_n (by omega), up_s]
theorem nxBK_l : nxBK g u f l (264 + 4 * g 3 + 3) = l := by unfold nxBK; rw [up_n (by omega), up_n (by omega), up_s]
theorem bkG_bkL : ∀ m, m ≤ g 3 → bkG (nxBK g u f l) t j m = bkG g t j m
  | 0, _ => rfl
  | m + 1, h => by
    show bkG (nxBK g u f l) t j m + bkC (nxBK g u f l) t j m = bkG g t j m + bkC g t j m
    rw [bkG_bkL m (by omega)]
    unfold bkC byG
    rw [nxBK_o (by omega) (by omega) (by omega) (by omega) (by omega) (by omega), nxBK_o (by omega) (by omega) (by omega) (by omega) (by omega) (by omega), nxBK_o (by omega) (by omega) (by omega) (by omega) (by omega) (by omega)]
/-- one booking more -/
theorem bkG_bk : bkG (nxBK g u f l) t j (nxBK g u f l 3) = bkG g t j (g 3) + if u = t ∧ f ≤ j ∧ j < l then 1 else 0 := by
  rw [nxBK_3]
  show bkG (nxBK g u f l) t j (g 3) + bkC (nxBK g u f l) t j (g 3) = _
  rw [bkG_bkL (g 3) (Nat.le_refl _)]
  unfold bkC byG
  rw [nxBK_t, nxBK_f, nxBK_l]
end BKN
