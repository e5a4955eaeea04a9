theorem ct_PQ_siftUp {G : GG} {l : Launch} {h : AH} {a ar x k0 m n mc cap mL dC : Nat} {f0 : Nat → Nat} {g0 : Nat → Option Nat} {D : String} {y : MethodName} {cc : ByteArray} (ha : h a = some (.inr (31, [.ref ar, .int (nI n), .null, .int (nI mc)]))) (hq : PQC G l h ar x (els (upo f0 k0 x) m) D y cc mL dC) (hk0 : k0 < m) (hmc : m ≤ cap) (hcap : cap < 100000) (har0 : h ar = some (qA G cap g0)) (hg0 : ∀ i, i < m → i ≠ k0 → g0 i = some (f0 i)) : Ct G l yJ46_siftUp cJ46_siftUp 3 none 6 (0) (0) [.ref a, .int (nI k0), .ref x] h (fun r h2 => r = none ∧ ∃ f2 g2, h2 ar = some (qA G cap g2) ∧ (∀ i, i < m → g2 i = some (f2 i)) ∧ (els f2 m).Perm (els (upo f0 k0 x) m) ∧ Fr (m1 ar) h h2) := by
  refine Ct.of (by decide) (Nat.le_of_ble_eq_true rfl) (cat1 rfl) (fun X hXl F HN => ?_)
  subst hXl
  refine V_aload_n (i := 0) F dJ46_siftUp_0 rfl rfl ?_
  refine V_getf F dJ46_siftUp_1 fc_J46_21_J46 (.inl ha) rfl ?_
  refine V_ifnullN (tgt := 23) F dJ46_siftUp_4 (by decide) ?_
  refine V_iload_n (i := 1) F dJ46_siftUp_23 rfl rfl ?_
  refine V_aload_n (i := 2) F dJ46_siftUp_24 rfl rfl ?_
  refine V_aload_n (i := 0) F dJ46_siftUp_25 rfl rfl ?_
  refine V_getf F dJ46_siftUp_26 fc_J46_17_J46 (.inl ha) rfl ?_
  refine V_callS (st := []) F dJ46_siftUp_29 lk_J46_140 (ct_PQ_up hq hk0 hmc hcap har0 hg0) rfl rfl (Nat.le_of_ble_eq_true rfl) (Nat.le_of_ble_eq_true rfl) (Nat.le_of_ble_eq_true rfl) (by first | exact Nat.le_of_ble_eq_true rfl | omega) (by first | exact Nat.le_of_ble_eq_true rfl | omega) ?_
  rintro _ h2 ⟨rfl, f2, g2, z1, z2, z3, z4⟩
  exact V_vret F dJ46_siftUp_32 (by first | exact Nat.le_of_ble_eq_true rfl | omega) (by first | exact Nat.le_of_ble_eq_true rfl | omega) ⟨rfl, f2, g2, z1, z2, z3, z4⟩
