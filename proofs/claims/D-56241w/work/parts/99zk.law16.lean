set_option maxRecDepth 100000
/-! ===== the next train ===== -/
theorem nt_enc {g : Nat → Nat} {s v : Nat} : ∀ {L : List (Nat × Nat)} {a : Option Nat × Nat} {b : Nat × Nat}, b = (a.1.elim 0 (fun t => t + 1), a.2) →
    (L.foldl (fun (a : Nat × Nat) (x : Nat × Nat) => if plG g x.1 x.2 = s ∧ v ≤ LvG g x.1 x.2 ∧ LvG g x.1 x.2 < a.2 then (x.1 + 1, LvG g x.1 x.2) else a) b).1 =
      (L.foldl (fun (a : Option Nat × Nat) (x : Nat × Nat) => if plG g x.1 x.2 = s ∧ v ≤ LvG g x.1 x.2 ∧ LvG g x.1 x.2 < a.2 then (some x.1, LvG g x.1 x.2) else a) a).1.elim 0 (fun t => t + 1)
  | [], a, b, h => by rw [h]; rfl
  | x :: L, a, b, h => by
    rw [List.foldl_cons, List.foldl_cons]
    refine nt_enc ?_
    subst h
    by_cases q : plG g x.1 x.2 = s ∧ v ≤ LvG g x.1 x.2 ∧ LvG g x.1 x.2 < a.2
    · rw [if_pos q, if_pos q]; rfl
    · rw [if_neg q, if_neg q]
theorem rO_rP (o : Option Nat) : rO o = rP (o.elim 0 (fun t => t + 1)) := by cases o <;> rfl
theorem ntO_lg {g : Nat → Nat} {s v : Nat} : rO (ntO g s v (g 1)).1 = rP ((lgL g).foldl (fun (a : Nat × Nat) (x : Nat × Nat) => if plG g x.1 x.2 = s ∧ v ≤ LvG g x.1 x.2 ∧ LvG g x.1 x.2 < a.2 then (x.1 + 1, LvG g x.1 x.2) else a) (0, 1000000)).1 := by
  have h := lg_nest (g := g) (F := fun (a : Option Nat × Nat) (x : Nat × Nat) => if plG g x.1 x.2 = s ∧ v ≤ LvG g x.1 x.2 ∧ LvG g x.1 x.2 < a.2 then (some x.1, LvG g x.1 x.2) else a) (b := ((none, 1000000) : Option Nat × Nat)) (O := ntO g s v) (I := fun t a k => ntI g s v t a k) (fun _ _ => rfl) (fun _ _ _ => rfl) rfl (fun _ => rfl) (g 1)
  have h2 := nt_enc (g := g) (s := s) (v := v) (L := lgL g) (a := ((none, 1000000) : Option Nat × Nat)) (b := (0, 1000000)) rfl
  rw [h]
  refine Eq.trans ?_ (congrArg rP h2.symm)
  exact rO_rP _
