/-- the labels e and the legs ridden R of finished journeys -/
def ARR (g : Nat → Nat) (a v : Nat) (e R : Nat → Nat) : Prop := Clo g e a v ∧ Snd g e a v ∧ ∀ t k, LEG g t k → (R (8 * t + k) = 1 ↔ onP g e a v t k)
theorem LEG.mem {g : Nat → Nat} {t k : Nat} : LEG g t k ↔ (t, k) ∈ lgL g := mem_lgL.symm
theorem LEG.k8 {g : Nat → Nat} {t k : Nat} (hI : GW g) (h : LEG g t k) : k < 7 := by have := (hI.st h.1).2; have := h.2; omega
theorem LvG_CmG {g : Nat → Nat} {t k : Nat} : CmG g t (k + 1) ≤ LvG g t (k + 1) := by
  show LvG g t (k + 1 - 1) + _ ≤ LvG g t k + (_ + _)
  rw [Nat.add_sub_cancel]; omega
/-- the state of a scan behind the legs P -/
def SCI (g : Nat → Nat) (a v : Nat) (P : List (Nat × Nat)) (e R : Nat → Nat) : Prop :=
  (∀ t k, (t, k) ∈ P → (R (8 * t + k) = 1 ↔ bdG g e a v t k ∨ (0 < k ∧ R (8 * t + (k - 1)) = 1))) ∧
  (∀ t k, (t, k) ∈ P → R (8 * t + k) = 1 → e (plG g t (k + 1)) ≤ CmG g t (k + 1)) ∧
  (∀ t k, LEG g t k → (t, k) ∉ P → R (8 * t + k) ≠ 1) ∧
  (∀ f, Clo g f a v → (∀ s, s < g 0 → f s ≤ e s) ∧ ∀ t k, LEG g t k → R (8 * t + k) = 1 → onP g f a v t k) ∧
  (∀ s, s < g 0 → e s ≤ iniE a v s)
theorem onP_mk {g f : Nat → Nat} {a v t k : Nat} (hfr : ¬ g (16 + 36 * t + 0) ≤ ldG g t k) (h : bdG g f a v t k ∨ (0 < k ∧ onP g f a v t (k - 1))) : onP g f a v t k := by
  cases k with
  | zero => exact ⟨h.resolve_right (fun z => absurd z.1 (Nat.lt_irrefl 0)), hfr⟩
  | succ k => exact ⟨h.symm.imp (fun z => z.2) id, hfr⟩
theorem SCI.step {g : Nat → Nat} {a v : Nat} {P : List (Nat × Nat)} {e R : Nat → Nat} {t k : Nat} (hI : GW g) (hT : TmC g) (hC : LdC g) (hP : ∀ p, p ∈ P → LEG g p.1 p.2 ∧ LvG g p.1 p.2 ≤ LvG g t k) (hx : LEG g t k) (hfr : ¬ ldG g t k = g (16 + 36 * t + 0)) (hno : (t, k) ∉ P) (h : SCI g a v P e R) : SCI g a v (P ++ [(t, k)]) (scS g a v (e, R) (t, k)).1 (scS g a v (e, R) (t, k)).2 := by
  obtain ⟨hA, hB, hN, hD, hE⟩ := h
  have hk7 := hx.k8 hI
  have hfr2 : ¬ g (16 + 36 * t + 0) ≤ ldG g t k := fun z => hfr ((fr_full hC hx).mpr z)
  have hRx : R (8 * t + k) ≠ 1 := hN t k hx hno
  have hcb : cbG g e a v t k ↔ bdG g e a v t k := cb_bd (hT t k hx).1
  by_cases hc : cbG g e a v t k ∨ (0 < k ∧ R (8 * t + (k - 1)) = 1)
  · have es : scS g a v (e, R) (t, k) = (up e (plG g t (k + 1)) (min (e (plG g t (k + 1))) (CmG g t (k + 1))), up R (8 * t + k) 1) := if_pos hc
    rw [es]
    show SCI g a v (P ++ [(t, k)]) (up e (plG g t (k + 1)) (min (e (plG g t (k + 1))) (CmG g t (k + 1)))) (up R (8 * t + k) 1)
    generalize he' : up e (plG g t (k + 1)) (min (e (plG g t (k + 1))) (CmG g t (k + 1))) = e'
    have hle : ∀ s, e' s ≤ e s := by
      intro s; rw [← he']; unfold up; split
      · rename_i q; rw [q]; exact Nat.min_le_left _ _
      · exact Nat.le_refl _
    have hto : e' (plG g t (k + 1)) ≤ CmG g t (k + 1) := by rw [← he', up_s]; exact Nat.min_le_right _ _
    have hor : ∀ s, e' s = e s ∨ (s = plG g t (k + 1) ∧ e' s = CmG g t (k + 1)) := by
      intro s; rw [← he']; unfold up; split
      · rename_i q
        rw [q]
        rcases Nat.le_total (e (plG g t (k + 1))) (CmG g t (k + 1)) with z | z
        · left; exact Nat.min_eq_left z
        · right; exact ⟨rfl, Nat.min_eq_right z⟩
      · left; rfl
    have honf : ∀ f, Clo g f a v → onP g f a v t k := by
      intro f hf
      obtain ⟨d1, d2⟩ := hD f hf
      refine onP_mk hfr2 (hc.imp (fun z => bdG_mono (d1 _ (hx.pl0 hI)) (hcb.mp z)) (fun z => ⟨z.1, ?_⟩))
      exact d2 t (k - 1) (hx.dn2 (by omega)) z.2
    refine ⟨fun t' k' hm => ?_, fun t' k' hm hr => ?_, fun t' k' hl hm => ?_, fun f hf => ⟨fun s hs => ?_, fun t' k' hl hr => ?_⟩, fun s hs => Nat.le_trans (hle s) (hE s hs)⟩
    · rcases List.mem_append.mp hm with hm1 | hm1
      · obtain ⟨hl', hd'⟩ := hP _ hm1
        have hk' := hl'.k8 hI
        simp only at hl' hd' hk'
        have hne : 8 * t' + k' ≠ 8 * t + k := by
          intro z
          have e1 : t' = t := by omega
          have e2 : k' = k := by omega
          subst e1; subst e2; exact hno hm1
        have hne2 : 0 < k' → 8 * t' + (k' - 1) ≠ 8 * t + k := by
          intro z0 z
          have e1 : t' = t := by omega
          have e2 : k' = k + 1 := by omega
          subst e1; subst e2
          have h1 := (hT t' k hx).2.2
          have h2 := LvG_CmG (g := g) (t := t') (k := k)
          omega
        have hbd : bdG g e' a v t' k' ↔ bdG g e a v t' k' := by
          constructor
          · rintro (z | ⟨z1, z2, z3⟩)
            · exact Or.inl z
            · rcases hor (plG g t' k') with q | ⟨q1, q2⟩
              · rw [q] at z2 z3; exact Or.inr ⟨z1, z2, z3⟩
              · rw [q2] at z3
                have h1 := (hT t k hx).2.2
                omega
          · exact bdG_mono (hle _)
        rw [up_n hne, hbd, hA t' k' hm1]
        refine or_congr Iff.rfl ⟨fun z => ⟨z.1, ?_⟩, fun z => ⟨z.1, ?_⟩⟩
        · rw [up_n (hne2 z.1)]; exact z.2
        · have := z.2; rw [up_n (hne2 z.1)] at this; exact this
      · rw [List.mem_singleton] at hm1
        cases hm1
        rw [up_s]
        refine ⟨fun _ => hc.imp (fun z => bdG_mono (hle _) (hcb.mp z)) (fun z => ⟨z.1, ?_⟩), fun _ => rfl⟩
        rw [up_n (by have := z.1; omega)]; exact z.2
    · rcases List.mem_append.mp hm with hm1 | hm1
      · have hne : 8 * t' + k' ≠ 8 * t + k := by
          obtain ⟨hl', -⟩ := hP _ hm1
          have hk' := hl'.k8 hI
          simp only at hk'
          intro z
          have e1 : t' = t := by omega
          have e2 : k' = k := by omega
          subst e1; subst e2; exact hno hm1
        rw [up_n hne] at hr
        exact Nat.le_trans (hle _) (hB t' k' hm1 hr)
      · rw [List.mem_singleton] at hm1
        cases hm1
        exact hto
    · have hne : 8 * t' + k' ≠ 8 * t + k := by
        have hk' := hl.k8 hI
        intro z
        have e1 : t' = t := by omega
        have e2 : k' = k := by omega
        subst e1; subst e2; exact hm (List.mem_append_right _ List.mem_cons_self)
      rw [up_n hne]
      exact hN t' k' hl (fun z => hm (List.mem_append_left _ z))
    · rcases hor s with q | ⟨q1, q2⟩
      · rw [q]; exact (hD f hf).1 s hs
      · rw [q2, q1]; exact hf.2 t k hx (honf f hf)
    · by_cases hne : 8 * t' + k' = 8 * t + k
      · have hk' := hl.k8 hI
        have e1 : t' = t := by omega
        have e2 : k' = k := by omega
        subst e1; subst e2; exact honf f hf
      · rw [up_n hne] at hr
        exact (hD f hf).2 t' k' hl hr
  · have es : scS g a v (e, R) (t, k) = (e, R) := if_neg hc
    rw [es]
    refine ⟨fun t' k' hm => ?_, fun t' k' hm hr => ?_, fun t' k' hl hm => hN t' k' hl (fun z => hm (List.mem_append_left _ z)), hD, hE⟩
    · rcases List.mem_append.mp hm with hm1 | hm1
      · exact hA t' k' hm1
      · rw [List.mem_singleton] at hm1
        cases hm1
        exact ⟨fun z => absurd z hRx, fun z => absurd (z.imp hcb.mpr id) hc⟩
    · rcases List.mem_append.mp hm with hm1 | hm1
      · exact hB t' k' hm1 hr
      · rw [List.mem_singleton] at hm1
        cases hm1
        exact absurd hr hRx
theorem SCI.fold {g : Nat → Nat} {a v : Nat} (hI : GW g) (hT : TmC g) (hC : LdC g) : ∀ (Q P : List (Nat × Nat)) (x : (Nat → Nat) × (Nat → Nat)), (P ++ Q).Pairwise (dpL g) → (P ++ Q).Nodup → (∀ p, p ∈ P ++ Q → LEG g p.1 p.2 ∧ frB g p = true) → SCI g a v P x.1 x.2 → SCI g a v (P ++ Q) (Q.foldl (scS g a v) x).1 (Q.foldl (scS g a v) x).2
  | [], P, x, _, _, _, h => by rw [List.append_nil]; exact h
  | (t, k) :: Q, P, x, hs, hn, hm, h => by
    have e : P ++ (t, k) :: Q = (P ++ [(t, k)]) ++ Q := by rw [List.append_assoc]; rfl
    have hx := hm (t, k) (List.mem_append_right _ List.mem_cons_self)
    have hst := SCI.step (t := t) (k := k) hI hT hC (fun p hp => ⟨(hm p (List.mem_append_left _ hp)).1, (List.pairwise_append.mp hs).2.2 p hp (t, k) List.mem_cons_self⟩) hx.1 (by have := hx.2; unfold frB at this; simpa using this) (fun hp => (List.nodup_append.mp hn).2.2 (t, k) hp (t, k) List.mem_cons_self rfl) h
    rw [e] at hs hn hm ⊢
    exact SCI.fold hI hT hC Q (P ++ [(t, k)]) (scS g a v x (t, k)) hs hn hm hst
theorem lgL_nodup {g : Nat → Nat} : (lgL g).Nodup := by
  unfold lgL List.Nodup
  rw [List.pairwise_flatMap]
  refine ⟨fun t _ => ?_, ?_⟩
  · unfold lgT
    rw [List.pairwise_map]
    exact List.Pairwise.imp (fun {a b} h e => h (by cases e; rfl)) List.nodup_range
  · refine List.Pairwise.imp (fun {a b} hab => ?_) (List.nodup_range (n := g 1))
    intro x hx y hy
    unfold lgT at hx hy
    obtain ⟨i, -, rfl⟩ := List.mem_map.mp hx
    obtain ⟨j, -, rfl⟩ := List.mem_map.mp hy
    intro z; cases z; exact hab rfl
theorem scan_arr {g : Nat → Nat} {a v : Nat} {e : Nat → Nat} {S : List (Nat × Nat)} (hI : GW g) (hT : TmC g) (hC : LdC g) (hS : S.Perm ((lgL g).filter (frB g))) (hs : S.Pairwise (dpL g)) (he : ∀ s, s < g 0 → e s = iniE a v s) : ARR g a v (S.foldl (scS g a v) (e, fun _ => 0)).1 (S.foldl (scS g a v) (e, fun _ => 0)).2 := by
  have hm : ∀ p, p ∈ [] ++ S → LEG g p.1 p.2 ∧ frB g p = true := fun p hp => by
    have h1 := List.mem_filter.mp (hS.subset hp)
    exact ⟨LEG.mem.mpr h1.1, h1.2⟩
  have h0 : SCI g a v [] e (fun _ => 0) := ⟨(fun t k h => by cases h), (fun t k h => by cases h), (fun t k _ _ h => by cases h), (fun f hf => ⟨(fun s hs => by rw [he s hs]; exact hf.1 s hs), (fun t k _ h => by cases h)⟩), (fun s hs => by rw [he s hs]; exact Nat.le_refl _)⟩
  have h1 := SCI.fold hI hT hC S [] (e, fun _ => 0) hs ((List.Perm.nodup_iff hS).mpr (List.Pairwise.filter _ lgL_nodup)) hm h0
  rw [List.nil_append] at h1
  obtain ⟨hA, hB, hN, hD, hE⟩ := h1
  have hfree : ∀ t k, LEG g t k → ((t, k) ∈ S ↔ ¬ g (16 + 36 * t + 0) ≤ ldG g t k) := fun t k hl => by
    constructor
    · intro hp z
      have := (hm (t, k) hp).2
      unfold frB at this
      simp at this
      exact this ((fr_full hC hl).mpr z)
    · intro z
      refine hS.symm.subset (List.mem_filter.mpr ⟨LEG.mem.mp hl, ?_⟩)
      unfold frB
      simp
      exact fun q => z ((fr_full hC hl).mp q)
  have hR : ∀ k t, LEG g t k → ((S.foldl (scS g a v) (e, fun _ => 0)).2 (8 * t + k) = 1 ↔ onP g (S.foldl (scS g a v) (e, fun _ => 0)).1 a v t k) := by
    intro k
    induction k with
    | zero =>
      intro t hl
      by_cases hp : (t, 0) ∈ S
      · rw [hA t 0 hp]
        exact ⟨fun z => ⟨z.resolve_right (fun q => absurd q.1 (Nat.lt_irrefl 0)), (hfree t 0 hl).mp hp⟩, fun z => Or.inl z.1⟩
      · exact ⟨fun z => absurd z (hN t 0 hl hp), fun z => absurd ((hfree t 0 hl).mpr z.2) hp⟩
    | succ k ih =>
      intro t hl
      by_cases hp : (t, k + 1) ∈ S
      · rw [hA t (k + 1) hp]
        have hi := ih t hl.dn
        exact ⟨fun z => ⟨z.symm.imp (fun q => hi.mp q.2) id, (hfree t _ hl).mp hp⟩, fun z => z.1.symm.imp id (fun q => ⟨Nat.succ_pos k, hi.mpr q⟩)⟩
      · exact ⟨fun z => absurd z (hN t _ hl hp), fun z => absurd ((hfree t _ hl).mpr z.2) hp⟩
  refine ⟨⟨hE, fun t k hl ho => ?_⟩, fun f hf => (hD f hf).1, fun t k hl => hR k t hl⟩
  have h2 := (hR k t hl).mpr ho
  by_cases hp : (t, k) ∈ S
  · exact hB t k hp h2
  · exact absurd h2 (hN t k hl hp)
