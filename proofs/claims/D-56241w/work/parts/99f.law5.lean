set_option maxRecDepth 100000
/-! ===== the journey back: its legs exist, and are few ===== -/
/-- a label that is none of the first is some leg's arrival -/
theorem sup_leg {g e : Nat → Nat} {a v s : Nat} (hI : GW g) (hc : Clo g e a v) (hs : Snd g e a v) (hs0 : s < g 0) (hsa : s ≠ a) (hlt : e s < 1000000) : ∃ t k, LEG g t k ∧ plG g t (k + 1) = s ∧ CmG g t (k + 1) = e s ∧ onP g e a v t k := by
  refine Classical.byContradiction fun hno => ?_
  have hup : ∀ x, e x ≤ up e s (e s + 1) x := fun x => by
    unfold up; split
    · rename_i q; rw [q]; omega
    · exact Nat.le_refl _
  have hcl : Clo g (up e s (e s + 1)) a v := by
    refine ⟨fun x hx => ?_, fun t k hl ho => ?_⟩
    · unfold up; split
      · rename_i q
        subst q
        unfold iniE
        rw [if_neg hsa]
        exact hlt
      · exact hc.1 x hx
    · have ho2 : onP g e a v t k := onP_mono hI (fun x _ => hup x) k hl ho
      have h1 := hc.2 t k hl ho2
      unfold up; split
      · rename_i q
        have hne : CmG g t (k + 1) ≠ e s := fun z => hno ⟨t, k, hl, q, z, ho2⟩
        rw [q] at h1
        omega
      · exact h1
  have h2 := hs _ hcl s hs0
  rw [up_s] at h2
  omega
theorem onP_bd {g e : Nat → Nat} {a v t : Nat} : ∀ {k : Nat}, onP g e a v t k → ∃ j, j ≤ k ∧ bdG g e a v t j ∧ ∀ i, j ≤ i → i ≤ k → ¬ g (16 + 36 * t + 0) ≤ ldG g t i
  | 0, h => ⟨0, Nat.le_refl _, h.1, fun i _ hi => by rw [Nat.le_zero.mp hi]; exact h.2⟩
  | k + 1, h => by
    rcases h.1 with q | q
    · obtain ⟨j, h1, h2, h3⟩ := onP_bd q
      refine ⟨j, by omega, h2, fun i hi1 hi2 => ?_⟩
      by_cases e : i = k + 1
      · rw [e]; exact h.2
      · exact h3 i hi1 (by omega)
    · exact ⟨k + 1, Nat.le_refl _, q, fun i h1 h2 => by rw [show i = k + 1 by omega]; exact h.2⟩
theorem dnK_at {g e : Nat → Nat} {a v t : Nat} : ∀ {k : Nat}, (∃ j, j ≤ k ∧ cbG g e a v t j) → cbG g e a v t (dnK g e a v t k) ∧ dnK g e a v t k ≤ k
  | 0, h => by
    obtain ⟨j, h1, h2⟩ := h
    rw [Nat.le_zero.mp h1] at h2
    exact ⟨h2, Nat.le_refl _⟩
  | k + 1, h => by
    unfold dnK
    split
    · rename_i q; exact ⟨q, Nat.le_refl _⟩
    · rename_i q
      obtain ⟨j, h1, h2⟩ := h
      have hj : j ≤ k := by
        rcases Nat.lt_or_ge k j with z | z
        · exact absurd h2 (by rw [show j = k + 1 by omega]; exact q)
        · exact z
      obtain ⟨h3, h4⟩ := dnK_at (k := k) ⟨j, hj, h2⟩
      exact ⟨h3, by omega⟩
theorem llG_sup {g e R : Nat → Nat} {a v s : Nat} (hI : GW g) (hA : ARR g a v e R) (hs0 : s < g 0) (hsa : s ≠ a) (hlt : e s < 1000000) : ∃ t k, llG g e R s = some (t, k) ∧ onP g e a v t k := by
  obtain ⟨t, k, hl, h1, h2, h3⟩ := sup_leg hI hA.1 hA.2.1 hs0 hsa hlt
  cases hf : llG g e R s with
  | none =>
    have h4 := List.find?_eq_none.mp hf (t, k) (LEG.mem.mp hl)
    exact absurd (decide_eq_true (show plG g t (k + 1) = s ∧ CmG g t (k + 1) = e s ∧ R (8 * t + k) = 1 from ⟨h1, h2, (hA.2.2 t k hl).mpr h3⟩)) h4
  | some p =>
    obtain ⟨t2, k2⟩ := p
    obtain ⟨q1, q2, q3, q4⟩ := llG_at hf
    exact ⟨t2, k2, rfl, (hA.2.2 t2 k2 q1).mp q4⟩
theorem ll_dn {g e R : Nat → Nat} {a v s t k : Nat} (hT : TmC g) (hA : ARR g a v e R) (ha : a < g 0) (hll : llG g e R s = some (t, k)) (ho : onP g e a v t k) : (∃ j, j ≤ k ∧ cbG g e a v t j) ∧ e (plG g t (dnK g e a v t k)) < e s := by
  obtain ⟨hl, h1, h2, h3⟩ := llG_at hll
  have hj : ∃ j, j ≤ k ∧ cbG g e a v t j := by
    obtain ⟨j, hj1, hj2, -⟩ := onP_bd ho
    exact ⟨j, hj1, (cb_bd (hT t j (hl.dn2 hj1)).1).mpr hj2⟩
  refine ⟨hj, ?_⟩
  obtain ⟨h4, h5⟩ := dnK_at hj
  obtain ⟨t1, t2, t3⟩ := hT t k hl
  have hm := LvG_mono (g := g) (t := t) h5
  have hb : bmG g e a v (plG g t (dnK g e a v t k)) ≤ LvG g t (dnK g e a v t k) := h4
  unfold bmG at hb
  rw [← h2]
  split at hb
  · rename_i q
    have h6 := hA.1.1 a ha
    unfold iniE at h6
    rw [if_pos rfl] at h6
    rw [q]
    omega
  · omega
def cnE (g e : Nat → Nat) (s : Nat) : Nat := (List.range (g 0)).countP (fun x => decide (e x < e s))
theorem cnE_lt {g e : Nat → Nat} {s s2 : Nat} (hs2 : s2 < g 0) (h : e s2 < e s) : cnE g e s2 + 1 ≤ cnE g e s := by
  unfold cnE
  refine countP_up (p := s2) (fun q hq => ?_) ?_ ?_ _ (List.mem_range.mpr hs2)
  · exact decide_eq_true (Nat.lt_trans (of_decide_eq_true hq) h)
  · intro z; exact absurd (of_decide_eq_true z) (Nat.lt_irrefl _)
  · exact decide_eq_true h
theorem lt_ok {g e R : Nat → Nat} {a v : Nat} (hI : GW g) (hT : TmC g) (hA : ARR g a v e R) (ha : a < g 0) : ∀ K s, s < g 0 → e s < 1000000 → cnE g e s ≤ K → ltOK g e R a v K s := by
  intro K
  induction K with
  | zero =>
    intro s hs hlt hc
    refine Classical.byContradiction fun hsa => ?_
    obtain ⟨t, k, hll, ho⟩ := llG_sup hI hA hs hsa hlt
    obtain ⟨hj, hd⟩ := ll_dn hT hA ha hll ho
    have hp : plG g t (dnK g e a v t k) < g 0 := ((llG_at hll).1.dn2 (dnK_at hj).2).pl0 hI
    have := cnE_lt hp hd
    omega
  | succ K ih =>
    intro s hs hlt hc
    by_cases hsa : s = a
    · exact Or.inl hsa
    · obtain ⟨t, k, hll, ho⟩ := llG_sup hI hA hs hsa hlt
      obtain ⟨hj, hd⟩ := ll_dn hT hA ha hll ho
      have hp : plG g t (dnK g e a v t k) < g 0 := ((llG_at hll).1.dn2 (dnK_at hj).2).pl0 hI
      have h1 := cnE_lt hp hd
      exact Or.inr ⟨t, k, hll, hj, ih _ hp (by omega) (by omega)⟩
theorem lt_ok8 {g e R : Nat → Nat} {a v s : Nat} (hI : GW g) (hT : TmC g) (hA : ARR g a v e R) (ha : a < g 0) (hs : s < g 0) (hlt : e s < 1000000) : ltOK g e R a v 8 s := by
  refine lt_ok hI hT hA ha 8 s hs hlt ?_
  have h1 : cnE g e s ≤ (List.range (g 0)).length := List.countP_le_length
  rw [List.length_range] at h1
  exact Nat.le_trans h1 hI.2.1
theorem dnL_len {g e : Nat → Nat} {a v t : Nat} : ∀ k, (dnL g e a v t k).length ≤ k + 1
  | 0 => Nat.le_refl _
  | k + 1 => by
    unfold dnL; split
    · exact Nat.succ_le_succ (Nat.zero_le _)
    · rw [List.length_cons]; exact Nat.succ_le_succ (dnL_len k)
theorem dnL_mem {g e : Nat → Nat} {a v t : Nat} {p : Nat × Nat} : ∀ k, p ∈ dnL g e a v t k → p.1 = t ∧ p.2 ≤ k
  | 0, h => by rw [List.mem_singleton.mp h]; exact ⟨rfl, Nat.le_refl _⟩
  | k + 1, h => by
    unfold dnL at h; split at h
    · rw [List.mem_singleton.mp h]; exact ⟨rfl, Nat.le_refl _⟩
    · rcases List.mem_cons.mp h with q | q
      · rw [q]; exact ⟨rfl, Nat.le_refl _⟩
      · have := dnL_mem k q; exact ⟨this.1, by omega⟩
theorem ltG_mem {g e R : Nat → Nat} {a v : Nat} {p : Nat × Nat} : ∀ K s, p ∈ ltG g e R a v K s → LEG g p.1 p.2
  | 0, s, h => by cases h
  | K + 1, s, h => by
    unfold ltG at h; split at h
    · cases h
    · split at h
      · cases h
      · rename_i t k hll
        rcases List.mem_append.mp h with q | q
        · obtain ⟨h1, h2⟩ := dnL_mem k q
          rw [h1]; exact (llG_at hll).1.dn2 h2
        · exact ltG_mem K _ q
theorem ltG_len {g e R : Nat → Nat} {a v : Nat} (hI : GW g) : ∀ K s, (ltG g e R a v K s).length ≤ 7 * K
  | 0, s => Nat.le_refl _
  | K + 1, s => by
    unfold ltG; split
    · exact Nat.zero_le _
    · split
      · exact Nat.zero_le _
      · rename_i t k hll
        have h1 := dnL_len (g := g) (e := e) (a := a) (v := v) (t := t) k
        have h2 := ltG_len (g := g) (e := e) (R := R) (a := a) (v := v) hI K (plG g t (dnK g e a v t k))
        have h3 := (llG_at hll).1.k8 hI
        rw [List.length_append]
        omega
