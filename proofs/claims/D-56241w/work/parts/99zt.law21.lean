set_option maxRecDepth 100000
/-! ===== small joins ===== -/
section SJ
variable {g : Nat → Nat} {n : Nat}
theorem lgG_len : lgG g (g 1) = (lgL g).length := by
  have h : ∀ m, lgG g m = lcN g m := by
    intro m
    induction m with
    | zero => rfl
    | succ m ih => show lgG g m + (g (16 + 36 * m + 3) - 1) = lcN g m + (g (16 + 36 * m + 3) - 1); rw [ih]
  rw [lgL_lc, h]
theorem fold_leX {α : Type} {f : α → Nat} {c : Nat} : ∀ (L : List α) (a : Nat), (∀ x, x ∈ L → f x ≤ c) → L.foldl (fun a x => a + f x) a ≤ a + c * L.length
  | [], a, _ => by show a ≤ a + c * 0; omega
  | y :: L, a, h => by
    have h1 := fold_leX L (a + f y) (fun x hx => h x (List.mem_cons_of_mem _ hx))
    have h2 := h y List.mem_cons_self
    rw [List.length_cons, Nat.mul_succ]
    show L.foldl (fun a x => a + f x) (a + f y) ≤ _
    omega
theorem ld_5 (hV : INV n g) {p : Nat × Nat} (hp : p ∈ lgL g) : ldG g p.1 p.2 ≤ 5 := by
  have hl : LEG g p.1 p.2 := LEG.mem.mpr hp
  have h1 := hV.L p.1 p.2 hl
  have h2 := (hV.tm p.1 hl.1).1.2
  omega
theorem sm_210 (hV : INV n g) : ((lgL g).foldl (fun (a : Nat) (x : Nat × Nat) => a + (ldG g x.1 x.2)) 0) ≤ 210 := by
  have h1 := fold_leX (f := fun x : Nat × Nat => ldG g x.1 x.2) (c := 5) (lgL g) 0 (fun x hx => ld_5 hV hx)
  have h2 := lgL_len hV.W
  omega
theorem fu_42 (hV : INV n g) : ((lgL g).foldl (fun (a : Nat) (x : Nat × Nat) => a + (if ldG g x.1 x.2 = g (16 + 36 * x.1 + 0) then 1 else 0)) 0) ≤ 42 := by
  have h1 := fold_leX (f := fun x : Nat × Nat => if ldG g x.1 x.2 = g (16 + 36 * x.1 + 0) then 1 else 0) (c := 1) (lgL g) 0 (fun x hx => by show (if _ then 1 else 0) ≤ 1; split <;> omega)
  have h2 := lgL_len hV.W
  omega
theorem foldl_cgX {α : Type} {f f2 : α → Nat} : ∀ (L : List α) (a : Nat), (∀ x, x ∈ L → f x = f2 x) → L.foldl (fun a x => a + f x) a = L.foldl (fun a x => a + f2 x) a
  | [], _, _ => rfl
  | y :: L, a, h => by
    show L.foldl _ (a + f y) = L.foldl _ (a + f2 y)
    rw [h y List.mem_cons_self]
    exact foldl_cgX L _ (fun x hx => h x (List.mem_cons_of_mem _ hx))
theorem fu_join (hV : INV n g) : ((lgL g).foldl (fun (a : Nat) (x : Nat × Nat) => a + (if ldG g x.1 x.2 = g (16 + 36 * x.1 + 0) then 1 else 0)) 0) = fuG g (g 1) := by
  rw [fuG_lg]
  refine foldl_cgX _ _ (fun x hx => ?_)
  have hl : LEG g x.1 x.2 := LEG.mem.mpr hx
  unfold fuC
  by_cases q : ldG g x.1 x.2 = g (16 + 36 * x.1 + 0)
  · rw [if_pos q, if_pos ((fr_full hV.L hl).mp q)]
  · rw [if_neg q, if_neg (fun z => q ((fr_full hV.L hl).mpr z))]
theorem sm_join : ((lgL g).foldl (fun (a : Nat) (x : Nat × Nat) => a + (ldG g x.1 x.2)) 0) = smG g (g 1) := smG_lg.symm
theorem us_cg {β γ : Nat → Nat} {s : Nat} : ∀ m, (∀ i, i < m → β i = γ i) → usG g β s m = usG g γ s m
  | 0, _ => rfl
  | m + 1, h => by
    unfold usG
    rw [us_cg m (fun i hi => h i (by omega)), h m (Nat.lt_succ_self m)]
theorem gvK_cg {t s : Nat} {β γ : Nat → Nat} (h : ∀ i, i < g 3 → β i = γ i) : ∀ k, k ≤ g 3 → ∀ i, i < g 3 → gvK g t s β k i = gvK g t s γ k i
  | 0, _ => h
  | k + 1, hk => by
    intro i hi
    have ih := gvK_cg (t := t) (s := s) h k (by omega)
    unfold gvK
    split
    · rw [us_cg (g 3) ih]
      by_cases e : i = k
      · rw [e, up_s, up_s]
      · rw [up_n e, up_n e]; exact ih i hi
    · exact ih i hi
theorem gvS_cg {t : Nat} {β γ : Nat → Nat} (h : ∀ i, i < g 3 → β i = γ i) : ∀ s i, i < g 3 → gvS g t β s i = gvS g t γ s i
  | 0 => h
  | s + 1 => gvK_cg (gvS_cg h s) (g 3) (Nat.le_refl _)
theorem gvB_ind {t k : Nat} {b0 b1 : Nat → Nat} (hk : k < g 3) : gvB g t b0 k = gvB g t b1 k :=
  gvS_cg (fun i hi => by unfold zbN; rw [if_pos hi, if_pos hi]) 8 k hk
theorem bwN_le {a c : Nat} : ∀ K m b, (bwN g a c K m b).1 ≤ m + K
  | 0, m, b => Nat.le_refl _
  | K + 1, m, b => by
    unfold bwN
    split
    · have := bwN_le (a := a) (c := c) K (m + 1) (boF g b a); omega
    · show m ≤ m + (K + 1); omega
theorem cdJ_0X {a b v : Nat} (hV : INV n g) (ha : a < g 0) (hb : b < g 0) (hv : v ≤ 9999) : cdJ g (nI a) (nI b) (nI v) = 0 ∧ tn (nI a) = a ∧ tn (nI b) = b ∧ tn (nI v) = v := by
  have h8 := hV.W.2.1
  refine ⟨?_, by unfold tn; rw [toNat_nI (by omega)], by unfold tn; rw [toNat_nI (by omega)], by unfold tn; rw [toNat_nI (by omega)]⟩
  unfold cdJ
  rw [if_neg (fun z => z.elim (fun z => z ((iR_nI (by omega)).mpr ha)) (fun z => z ((iR_nI (by omega)).mpr hb))), if_neg (fun z => z ((btw_nI (by omega) (by decide) (by decide)).mpr ⟨Nat.zero_le _, hv⟩))]
theorem arr_ae {a b v : Nat} {e R : Nat → Nat} (hV : INV n g) (hb : b < g 0) (hv : v ≤ 9999) (hA : ARR g a v e R) : e b = aeG g a v b ∧ e b ≤ 1000000 := by
  obtain ⟨d1, d2⟩ := goE_arr (a := a) (e0 := fun _ => 0) hV.W (show v < 2 ^ 27 by omega) (fun _ => by decide)
  refine ⟨arr_uniq hA.1 hA.2.1 d1 d2 b hb, Nat.le_trans (hA.1.1 b hb) ?_⟩
  unfold iniE; split <;> omega
theorem rO_none (o : Option Nat) (h : ∀ x, o = some x → x < 6) : rO o = -1 ↔ o = none := by
  cases o with
  | none => exact ⟨fun _ => rfl, fun _ => rfl⟩
  | some k =>
    refine ⟨fun z => ?_, (fun z => by cases z)⟩
    exfalso
    have z : (nI k : Int32) = -1 := z
    have hk := h k rfl
    have h2 : k = 0 ∨ k = 1 ∨ k = 2 ∨ k = 3 ∨ k = 4 ∨ k = 5 := by omega
    rcases h2 with rfl | rfl | rfl | rfl | rfl | rfl <;> exact absurd z (by decide)
theorem nI_ne1 {k : Nat} (h : k < 2 ^ 31) : (nI k : Int32) ≠ -1 := by
  intro z
  have h2 := congrArg Int32.toInt z
  rw [nI_toInt h] at h2
  have h3 : (-1 : Int32).toInt = -1 := by decide
  rw [h3] at h2
  omega
end SJ
