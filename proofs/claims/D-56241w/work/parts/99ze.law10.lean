set_option maxRecDepth 100000
/-! ===== INVP holds ===== -/
theorem iR_tn {p : Int32} {n : Nat} (h : iR p n) : tn p < n := by unfold tn; have := h.1; have := h.2; omega
theorem if0 {p : Prop} [Decidable p] {c x : Nat} (hc : c ≠ 0) (h : (if p then c else x) = 0) : ¬ p ∧ x = 0 := by
  by_cases q : p
  · rw [if_pos q] at h; exact absurd h hc
  · rw [if_neg q] at h; exact ⟨q, h⟩
theorem or2 {p q : Prop} (h : ¬ (¬ p ∨ ¬ q)) : p ∧ q := ⟨Classical.not_not.mp (fun z => h (Or.inl z)), Classical.not_not.mp (fun z => h (Or.inr z))⟩
theorem fold_le {α : Type} {f : α → Nat} {B : Nat} : ∀ {L : List α} {a : Nat}, (∀ x, x ∈ L → f x ≤ B) → L.foldl (fun a x => a + f x) a ≤ a + B * L.length
  | [], a, _ => Nat.le_refl _
  | x :: L, a, h => by
    have h1 := h x List.mem_cons_self
    have h2 := fold_le (L := L) (a := a + f x) (fun y hy => h y (List.mem_cons_of_mem _ hy))
    show L.foldl _ (a + f x) ≤ _
    rw [List.length_cons, Nat.mul_add, Nat.mul_one]
    omega
theorem INV.s6 {n : Nat} {g : Nat → Nat} (h : INV n g) : 2 * ((lgL g).foldl (fun (a : Nat) (x : Nat × Nat) => a + (g (16 + 36 * x.1 + (28 + x.2)))) 0) ≤ 420 := by
  have h1 := lgL_len h.W
  have h2 := fold_le (f := fun x : Nat × Nat => g (16 + 36 * x.1 + (28 + x.2))) (B := 5) (L := lgL g) (a := 0) (fun x hx => by
    have q : LEG g x.1 x.2 := mem_lgL.mp hx
    have q1 : bkG g x.1 x.2 (g 3) + g (16 + 36 * x.1 + (28 + x.2)) ≤ g (16 + 36 * x.1 + 0) := h.L _ _ q
    have q2 := (h.tm x.1 q.1).1.2
    show g (16 + 36 * x.1 + (28 + x.2)) ≤ 5
    omega)
  have h3 : 5 * (lgL g).length ≤ 210 := by omega
  omega
theorem arr_le {n : Nat} {g e R : Nat → Nat} {a v s : Nat} (h : INV n g) (hA : ARR g a v e R) (ha : a < g 0) (hv : v ≤ 9999) (hs : s < g 0) (hlt : e s < 1000000) : e s ≤ 9999 := by
  by_cases q : s = a
  · have h6 := hA.1.1 a ha
    unfold iniE at h6
    rw [if_pos rfl] at h6
    rw [q]; omega
  · obtain ⟨t, k, hl, -, h2, -⟩ := sup_leg h.W hA.1 hA.2.1 hs q hlt
    have h8 := (h.W.2.2.2.2.2.1 t hl.1).2
    have hk := hl.2
    have h3 := LvG_le h hl.1 k (by omega)
    have h4 := ((h.tm t hl.1).2.2.2 (k + 1) (by omega) (by omega)).1.2
    have e : CmG g t (k + 1) = LvG g t k + g (16 + 36 * t + (4 + 3 * (k + 1) + 1)) := rfl
    omega
theorem invp : INVP := by
  intro n k g g2 f v hn h hk hc hC
  obtain ⟨-, w0, w1, w2, w3, w4, w5⟩ := h.W
  rcases ten hk with rfl | rfl | rfl | rfl | rfl | rfl | rfl | rfl | rfl | rfl
  · have hc : cdAS g (f 0) = 0 := hc
    obtain ⟨-, rfl⟩ : v = nI (g 0) ∧ g2 = nxAS g (tn (f 0)) := hC
    unfold cdAS at hc
    obtain ⟨a1, hc⟩ := if0 (by decide) hc
    obtain ⟨a2, -⟩ := if0 (by decide) hc
    obtain ⟨-, b1, b2⟩ := tn_in (by decide) (Classical.not_not.mp a1) (by decide)
    exact inv_AS h (by omega) ⟨b1, b2⟩
  · have hc : cdAT g (f 0) (f 1) (f 2) = 0 := hc
    obtain ⟨-, rfl⟩ : v = nI (g 1) ∧ g2 = nxAT g (tn (f 0)) (tn (f 1)) (tn (f 2)) := hC
    unfold cdAT at hc
    obtain ⟨a1, hc⟩ := if0 (by decide) hc
    obtain ⟨a2, hc⟩ := if0 (by decide) hc
    obtain ⟨a3, -⟩ := if0 (by decide) hc
    obtain ⟨d1, d2⟩ := or2 a2
    obtain ⟨-, -, b2⟩ := tn_in (by decide) d1 (by decide)
    obtain ⟨-, b3, b4⟩ := tn_in (by decide) d2 (by decide)
    exact inv_AT h (by omega) (iR_tn (Classical.not_not.mp a1)) b2 ⟨b3, b4⟩
  · have hc : cdET g (f 0) (f 1) (f 2) (f 3) = 0 := hc
    obtain ⟨-, rfl⟩ : v = nI (g (16 + 36 * tn (f 0) + 3)) ∧ g2 = nxET g (tn (f 0)) (tn (f 1)) (tn (f 2)) (tn (f 3)) := hC
    unfold cdET at hc
    obtain ⟨a1, hc⟩ := if0 (by decide) hc
    obtain ⟨a2, hc⟩ := if0 (by decide) hc
    obtain ⟨a3, -⟩ := if0 (by decide) hc
    obtain ⟨c1, c2⟩ := or2 a1
    obtain ⟨d1, d2⟩ := or2 a2
    obtain ⟨-, b1, b2⟩ := tn_in (by decide) d1 (by decide)
    obtain ⟨-, b3, b4⟩ := tn_in (by decide) d2 (by decide)
    have t1 := iR_tn c1
    have := (w4 _ t1).2
    exact inv_ET h t1 (iR_tn c2) ⟨b1, b2⟩ b4 (Nat.lt_of_le_of_ne this (fun z => a3 (Or.inl z)))
  · have hc : cdDT g (f 0) (f 1) = 0 := hc
    obtain ⟨-, rfl⟩ : v = nI (g (16 + 36 * tn (f 0) + 2)) ∧ g2 = nxDT g (tn (f 0)) (tn (f 1)) := hC
    unfold cdDT at hc
    obtain ⟨a1, hc⟩ := if0 (by decide) hc
    obtain ⟨a2, -⟩ := if0 (by decide) hc
    obtain ⟨-, -, b2⟩ := tn_in (by decide) (Classical.not_not.mp a2) (by decide)
    exact inv_DT h (iR_tn (Classical.not_not.mp a1)) b2
  · have hc : cdAC g (f 0) (f 1) (f 2) = 0 := hc
    obtain ⟨-, rfl⟩ : v = nI (g 4) ∧ g2 = nxAC g (tn (f 0)) (tn (f 1)) (tn (f 2)) := hC
    unfold cdAC at hc
    obtain ⟨a1, hc⟩ := if0 (by decide) hc
    obtain ⟨a2, hc⟩ := if0 (by decide) hc
    obtain ⟨a3, -⟩ := if0 (by decide) hc
    obtain ⟨c1, c2⟩ := or2 a1
    obtain ⟨-, -, b2⟩ := tn_in (by decide) (Classical.not_not.mp a2) (by decide)
    exact inv_AC h hn (by omega) (iR_tn c1) (iR_tn c2) b2
  · have hc : ccRL g (f 0) (f 1) = 0 := hc
    obtain ⟨k, hf, -, rfl⟩ : ∃ k, fdO g 232 (f 0) (g 2) = some k ∧ v = nI (g (232 + 4 * k + 2)) ∧ g2 = nxRL g k (tn (f 1)) := hC
    unfold ccRL at hc
    obtain ⟨-, hc⟩ := if0 (by decide) hc
    obtain ⟨a2, -⟩ := if0 (by decide) hc
    exact inv_RL h (fdO_lt hf).1 (iR_tn (Classical.not_not.mp a2))
  · obtain ⟨k, e, R, hf, hA, hlt, -, rfl⟩ : ∃ k e R, fdO g 232 (f 0) (g 2) = some k ∧ ARR g (g (232 + 4 * k + 1)) (g (232 + 4 * k + 3)) e R ∧ e (g (232 + 4 * k + 2)) < 1000000 ∧ v = nI (ltG g e R (g (232 + 4 * k + 1)) (g (232 + 4 * k + 3)) 8 (g (232 + 4 * k + 2))).length ∧
      g2 = nxSC g k (ltG g e R (g (232 + 4 * k + 1)) (g (232 + 4 * k + 3)) 8 (g (232 + 4 * k + 2))) (e (g (232 + 4 * k + 2))) := hC
    have hk2 := (fdO_lt hf).1
    obtain ⟨c1, c2, c3⟩ := h.cs k hk2
    obtain ⟨n1, n2⟩ := ltG_good h.W h.T hA c1 8 _ c2 hlt
    exact inv_SC h hk2 (fun p hp => ltG_mem _ _ hp) n1 (fun p hp => (n2 p hp).2) (ltG_len h.W 8 _) (arr_le h hA c1 c3 c2 hlt) h.s6
  · obtain ⟨k, hf, -, rfl⟩ : ∃ k, fdO g 232 (f 0) (g 2) = some k ∧ v = nI (g 2 - 1) ∧ g2 = nxCO g k := hC
    exact inv_CO h hn (fdO_lt hf).1
  · have hc : cdBK g (f 0) (f 1) (f 2) = 0 := hc
    obtain ⟨-, rfl⟩ : v = nI (g 5) ∧ g2 = nxBK g (tn (f 0)) (tn (f 1)) (tn (f 2)) := hC
    unfold cdBK at hc
    obtain ⟨a1, hc⟩ := if0 (by decide) hc
    obtain ⟨a2, hc⟩ := if0 (by decide) hc
    obtain ⟨a3, hc⟩ := if0 (by decide) hc
    obtain ⟨a4, -⟩ := if0 (by decide) hc
    obtain ⟨c1, c2⟩ := or2 a1
    exact inv_BK h hn (by omega) (iR_tn c1.1) (by omega) (iR_tn c2.2) a4
  · obtain ⟨k, hf, -, rfl⟩ : ∃ k, fdO g 264 (f 0) (g 3) = some k ∧ v = nI (g 3 - 1) ∧ g2 = nxCB g k := hC
    exact inv_CB h (fdO_lt hf).1
