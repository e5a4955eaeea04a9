set_option maxRecDepth 100000
/-! ===== the way back: the reference's and the class's are the same ===== -/
section BCK
variable {g e R : Nat → Nat} {a v s t : Nat}
theorem baO_on (hT : TmC g) : ∀ {k : Nat}, LEG g t k → (onP g e a v t k → baO g e a v t (k + 1) = some (dnK g e a v t k)) ∧ (¬ onP g e a v t k → baO g e a v t (k + 1) = none)
  | 0, hl => by
    unfold baO
    by_cases q : g (16 + 36 * t + 0) ≤ ldG g t 0
    · rw [if_pos q]; exact ⟨fun h => absurd q h.2, fun _ => rfl⟩
    · rw [if_neg q]
      by_cases b : bdG g e a v t 0
      · rw [if_pos b]; exact ⟨fun _ => rfl, fun h => absurd ⟨b, q⟩ h⟩
      · rw [if_neg b]; exact ⟨fun h => absurd h.1 b, fun _ => rfl⟩
  | k + 1, hl => by
    have ih := baO_on hT hl.dn
    have hcb := cb_bd (e := e) (a := a) (v := v) (hT t (k + 1) hl).1
    rw [show baO g e a v t (k + 1 + 1) = (if g (16 + 36 * t + 0) ≤ ldG g t (k + 1) then none else if bdG g e a v t (k + 1) then some (k + 1) else baO g e a v t (k + 1)) from rfl]
    rw [show dnK g e a v t (k + 1) = (if cbG g e a v t (k + 1) then k + 1 else dnK g e a v t k) from rfl]
    by_cases q : g (16 + 36 * t + 0) ≤ ldG g t (k + 1)
    · rw [if_pos q]; exact ⟨fun h => absurd q h.2, fun _ => rfl⟩
    · rw [if_neg q]
      by_cases b : bdG g e a v t (k + 1)
      · rw [if_pos b, if_pos (hcb.mpr b)]; exact ⟨fun _ => rfl, fun h => absurd ⟨Or.inr b, q⟩ h⟩
      · rw [if_neg b, if_neg (fun z => b (hcb.mp z))]
        exact ⟨fun h => ih.1 (h.1.resolve_right b), fun h => ih.2 (fun z => h ⟨Or.inl z, q⟩)⟩
/-- where the class looks for the leg that arrives at s -/
def lkP (g e R : Nat → Nat) (s : Nat) : Nat × Nat → Bool := fun p => decide (plG g p.1 (p.2 + 1) = s ∧ CmG g p.1 (p.2 + 1) = e s ∧ R (8 * p.1 + p.2) = 1)
theorem gkI_find (hT : TmC g) (hR : ∀ k, LEG g t k → (R (8 * t + k) = 1 ↔ onP g e a v t k)) (ht : t < g 1) : ∀ n, n ≤ g (16 + 36 * t + 3) - 1 → gkI g e a v s t n = (((List.range n).map (fun k => (t, k))).find? (lkP g e R s)).map (fun p => (p.2, dnK g e a v t p.2))
  | 0, _ => rfl
  | k + 1, hk => by
    have ih := gkI_find hT hR ht k (by omega)
    have hl : LEG g t k := ⟨ht, by omega⟩
    obtain ⟨b1, b2⟩ := baO_on (e := e) (a := a) (v := v) hT hl
    rw [List.range_succ, List.map_append, List.find?_append]
    unfold gkI
    rw [ih]
    cases hf : ((List.range k).map (fun k => (t, k))).find? (lkP g e R s) with
    | some p => rfl
    | none =>
      show (if plG g t (k + 1) = s ∧ CmG g t (k + 1) = e s then (baO g e a v t (k + 1)).map (fun f => (k, f)) else none) = Option.map _ (([(t, k)] : List (Nat × Nat)).find? (lkP g e R s))
      by_cases q : plG g t (k + 1) = s ∧ CmG g t (k + 1) = e s
      · rw [if_pos q]
        by_cases o : onP g e a v t k
        · have hp : lkP g e R s (t, k) = true := decide_eq_true ⟨q.1, q.2, (hR k hl).mpr o⟩
          rw [b1 o, List.find?_cons_of_pos hp]; rfl
        · have hp : ¬ lkP g e R s (t, k) = true := fun z => o ((hR k hl).mp (of_decide_eq_true z).2.2)
          rw [b2 o, List.find?_cons_of_neg hp]; rfl
      · have hp : ¬ lkP g e R s (t, k) = true := fun z => q ⟨(of_decide_eq_true z).1, (of_decide_eq_true z).2.1⟩
        rw [if_neg q, List.find?_cons_of_neg hp]; rfl
theorem gkO_find (hT : TmC g) (hR : ∀ t k, LEG g t k → (R (8 * t + k) = 1 ↔ onP g e a v t k)) : ∀ m, m ≤ g 1 → gkO g e a v s m = (((List.range m).flatMap (lgT g)).find? (lkP g e R s)).map (fun p => (p.1, p.2, dnK g e a v p.1 p.2))
  | 0, _ => rfl
  | t + 1, hm => by
    have ih := gkO_find hT hR t (by omega)
    rw [List.range_succ, List.flatMap_append, List.find?_append]
    unfold gkO
    rw [ih]
    cases hf : ((List.range t).flatMap (lgT g)).find? (lkP g e R s) with
    | some p => rfl
    | none =>
      show (gkI g e a v s t (g (16 + 36 * t + 3) - 1)).map (fun x => (t, x)) = Option.map _ ((lgT g t ++ []).find? (lkP g e R s))
      rw [gkI_find hT (hR t) (by omega) _ (Nat.le_refl _), List.append_nil]
      show _ = Option.map _ (((List.range (g (16 + 36 * t + 3) - 1)).map (fun k => (t, k))).find? (lkP g e R s))
      cases hq : ((List.range (g (16 + 36 * t + 3) - 1)).map (fun k => (t, k))).find? (lkP g e R s) with
      | none => rfl
      | some p =>
        have := List.mem_of_find?_eq_some hq
        obtain ⟨k, -, rfl⟩ := List.mem_map.mp this
        rfl
/-- the reference's step back is the class's -/
theorem gk_ll (hT : TmC g) (hA : ARR g a v e R) : gkO g e a v s (g 1) = (llG g e R s).map (fun p => (p.1, p.2, dnK g e a v p.1 p.2)) := gkO_find hT hA.2.2 (g 1) (Nat.le_refl _)
end BCK
