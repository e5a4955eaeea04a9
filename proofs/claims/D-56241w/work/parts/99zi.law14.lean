set_option maxRecDepth 100000
/-! ===== send: the two sides joined ===== -/
theorem send_join {n k : Nat} {g ge gx gy e R : Nat → Nat} (h : INV n g) (hk : k < g 2) (hge : ∀ i, ge i < 2 ^ 27) (hA : ARR g (g (232 + 4 * k + 1)) (g (232 + 4 * k + 3)) e R) :
    nxSD g k (sdR g ge k gx gy).1 (sdR g ge k gx gy).2.1 (sdR g ge k gx gy).2.2 (sdE g ge k) = nxSC g k (ltG g e R (g (232 + 4 * k + 1)) (g (232 + 4 * k + 3)) 8 (g (232 + 4 * k + 2))) (e (g (232 + 4 * k + 2))) ∧
      (sdR g ge k gx gy).1 = (ltG g e R (g (232 + 4 * k + 1)) (g (232 + 4 * k + 3)) 8 (g (232 + 4 * k + 2))).length ∧ sdE g ge k (g (232 + 4 * k + 2)) = e (g (232 + 4 * k + 2)) := by
  obtain ⟨c1, c2, c3⟩ := h.cs k hk
  obtain ⟨d1, d2⟩ := goE_arr (a := g (232 + 4 * k + 1)) h.W (show g (232 + 4 * k + 3) < 2 ^ 27 by omega) hge
  obtain ⟨hef, hAf⟩ := hA.lb h.W d1 d2
  have hp : (seqL (sdR g ge k gx gy).2.1 (sdR g ge k gx gy).2.2 (sdR g ge k gx gy).1).Perm (ltG g e R (g (232 + 4 * k + 1)) (g (232 + 4 * k + 3)) 8 (g (232 + 4 * k + 2))) := by
    have q := snL_seq h.T hAf 8 (g (232 + 4 * k + 2)) 0 gx gy
    rw [← ltG_lb h.W hef 8 c2] at q
    exact q
  have he : sdE g ge k (g (232 + 4 * k + 2)) = e (g (232 + 4 * k + 2)) := (hef _ c2).symm
  refine ⟨nxSD_SC hp he, ?_, he⟩
  rw [← hp.length_eq]
  unfold seqL
  rw [List.length_map, List.length_range]
/-- the code of a sending is the same on both sides -/
theorem send_code {n k : Nat} {g ge : Nat → Nat} (h : INV n g) (hk : k < g 2) (hge : ∀ i, ge i < 2 ^ 27) :
    (if aeG g (g (232 + 4 * k + 1)) (g (232 + 4 * k + 3)) (g (232 + 4 * k + 2)) < 1000000 then 0 else 2) = (if (sdE g ge k) (g (232 + 4 * k + 2)) = 1000000 then 2 else 0) := by
  obtain ⟨c1, c2, c3⟩ := h.cs k hk
  have hv : g (232 + 4 * k + 3) < 2 ^ 27 := by omega
  obtain ⟨d1, d2⟩ := goE_arr (a := g (232 + 4 * k + 1)) h.W hv hge
  obtain ⟨b1, b2⟩ := goE_arr (a := g (232 + 4 * k + 1)) (e0 := fun _ => 0) h.W hv (fun _ => by decide)
  have e1 : aeG g (g (232 + 4 * k + 1)) (g (232 + 4 * k + 3)) (g (232 + 4 * k + 2)) = sdE g ge k (g (232 + 4 * k + 2)) := arr_uniq b1 b2 d1 d2 _ c2
  have e2 := d1.1 _ c2
  have e3 : iniE (g (232 + 4 * k + 1)) (g (232 + 4 * k + 3)) (g (232 + 4 * k + 2)) ≤ 1000000 := by
    unfold iniE; split <;> omega
  have e4 : sdE g ge k (g (232 + 4 * k + 2)) ≤ 1000000 := Nat.le_trans e2 e3
  rw [e1]
  by_cases q : sdE g ge k (g (232 + 4 * k + 2)) = 1000000
  · rw [if_pos q, if_neg (by omega)]
  · rw [if_neg q, if_pos (by omega)]
