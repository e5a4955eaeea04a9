set_option maxRecDepth 100000
/-! ===== walks over all legs, as nested loops ===== -/
theorem lg_nest {β : Type} {g : Nat → Nat} {F : β → Nat × Nat → β} {b : β} {I : Nat → β → Nat → β} {O : Nat → β} (hI0 : ∀ t a, I t a 0 = a) (hI1 : ∀ t a k, I t a (k + 1) = F (I t a k) (t, k)) (hO0 : O 0 = b) (hO1 : ∀ t, O (t + 1) = I t (O t) (g (16 + 36 * t + 3) - 1)) : ∀ m, O m = ((List.range m).flatMap (lgT g)).foldl F b
  | 0 => hO0
  | m + 1 => by
    have ih := lg_nest hI0 hI1 hO0 hO1 m
    have hin : ∀ t a n, I t a n = ((List.range n).map (fun k => (t, k))).foldl F a := by
      intro t a n
      induction n with
      | zero => exact hI0 t a
      | succ n q => rw [hI1, q, List.range_succ, List.map_append, List.foldl_append]; rfl
    rw [hO1, ih, hin, List.range_succ, List.flatMap_append, List.foldl_append]
    show _ = List.foldl F _ (lgT g m ++ [])
    rw [List.append_nil]
    rfl
theorem smG_lg {g : Nat → Nat} : smG g (g 1) = (lgL g).foldl (fun a x => a + ldG g x.1 x.2) 0 :=
  lg_nest (O := smG g) (I := smI g) (fun _ _ => rfl) (fun _ _ _ => rfl) rfl (fun _ => rfl) (g 1)
theorem fold_two {α : Type} {f : α → Nat} : ∀ {L : List α} {a : Nat}, L.foldl (fun a x => a + 2 * f x) (2 * a) = 2 * L.foldl (fun a x => a + f x) a
  | [], _ => rfl
  | x :: L, a => by
    show L.foldl _ (2 * a + 2 * f x) = 2 * L.foldl _ (a + f x)
    rw [← Nat.mul_add]; exact fold_two
theorem clG_lg {g : Nat → Nat} : clG g (g 1) = 2 * (lgL g).foldl (fun a x => a + g (16 + 36 * x.1 + (28 + x.2))) 0 :=
  (lg_nest (F := fun a (x : Nat × Nat) => a + 2 * g (16 + 36 * x.1 + (28 + x.2))) (O := clG g) (I := clI g) (fun _ _ => rfl) (fun _ _ _ => rfl) rfl (fun _ => rfl) (g 1)).trans (fold_two (a := 0))
theorem fuG_lg {g : Nat → Nat} : fuG g (g 1) = (lgL g).foldl (fun a x => a + fuC g x.1 x.2) 0 :=
  lg_nest (O := fuG g) (I := fuI g) (fun _ _ => rfl) (fun _ _ _ => rfl) rfl (fun _ => rfl) (g 1)
