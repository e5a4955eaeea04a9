set_option maxRecDepth 100000
/-! ===== labels that agree on the stations give the same journey ===== -/
section LBL
variable {g e f R : Nat → Nat} {a v : Nat}
theorem bdG_lb (h : ∀ s, s < g 0 → e s = f s) {t k : Nat} (hp : plG g t k < g 0) : bdG g e a v t k ↔ bdG g f a v t k := by
  show (_ ∨ _) ↔ (_ ∨ _)
  rw [h _ hp]
theorem onP_lb (hI : GW g) (h : ∀ s, s < g 0 → e s = f s) {t : Nat} : ∀ {k : Nat}, LEG g t k → (onP g e a v t k ↔ onP g f a v t k)
  | 0, hl => by
    unfold onP
    rw [bdG_lb h (hl.pl0 hI)]
  | k + 1, hl => by
    unfold onP
    rw [bdG_lb h (hl.pl0 hI), onP_lb hI h hl.dn]
theorem ARR.lb (hI : GW g) (hA : ARR g a v e R) (hC : Clo g f a v) (hS : Snd g f a v) : (∀ s, s < g 0 → e s = f s) ∧ ARR g a v f R := by
  have h := arr_uniq hA.1 hA.2.1 hC hS
  exact ⟨h, hC, hS, fun t k hl => (hA.2.2 t k hl).trans (onP_lb hI h hl)⟩
theorem cbG_lb (h : ∀ s, s < g 0 → e s = f s) {t k : Nat} (hp : plG g t k < g 0) : cbG g e a v t k ↔ cbG g f a v t k := by
  show bmG g e a v _ ≤ _ ↔ bmG g f a v _ ≤ _
  unfold bmG
  rw [h _ hp]
theorem dnK_lb (hI : GW g) (h : ∀ s, s < g 0 → e s = f s) {t : Nat} : ∀ {k : Nat}, LEG g t k → dnK g e a v t k = dnK g f a v t k ∧ dnL g e a v t k = dnL g f a v t k
  | 0, _ => ⟨rfl, rfl⟩
  | k + 1, hl => by
    have hc := cbG_lb (a := a) (v := v) h (hl.pl0 hI)
    obtain ⟨i1, i2⟩ := dnK_lb hI h hl.dn
    rw [show dnK g e a v t (k + 1) = (if cbG g e a v t (k + 1) then k + 1 else dnK g e a v t k) from rfl, show dnK g f a v t (k + 1) = (if cbG g f a v t (k + 1) then k + 1 else dnK g f a v t k) from rfl,
      show dnL g e a v t (k + 1) = (if cbG g e a v t (k + 1) then [(t, k + 1)] else (t, k + 1) :: dnL g e a v t k) from rfl, show dnL g f a v t (k + 1) = (if cbG g f a v t (k + 1) then [(t, k + 1)] else (t, k + 1) :: dnL g f a v t k) from rfl]
    by_cases q : cbG g e a v t (k + 1)
    · rw [if_pos q, if_pos (hc.mp q), if_pos q, if_pos (hc.mp q)]; exact ⟨rfl, rfl⟩
    · rw [if_neg q, if_neg (fun z => q (hc.mpr z)), if_neg q, if_neg (fun z => q (hc.mpr z)), i1, i2]; exact ⟨rfl, rfl⟩
theorem llG_lb (h : ∀ s, s < g 0 → e s = f s) {s : Nat} (hs : s < g 0) : llG g e R s = llG g f R s := by
  unfold llG
  rw [h s hs]
theorem ltG_lb (hI : GW g) (h : ∀ s, s < g 0 → e s = f s) : ∀ (K : Nat) {s : Nat}, s < g 0 → ltG g e R a v K s = ltG g f R a v K s
  | 0, _, _ => rfl
  | K + 1, s, hs => by
    by_cases q : s = a
    · rw [ltG, ltG, if_pos q, if_pos q]
    · have hl := llG_lb (R := R) h hs
      cases hll : llG g e R s with
      | none =>
        rw [ltG, ltG, if_neg q, if_neg q, ← hl, hll]
      | some p =>
        obtain ⟨t, k⟩ := p
        have hl0 := (llG_at hll).1
        obtain ⟨i1, i2⟩ := dnK_lb (a := a) (v := v) hI h hl0
        have hle := dnK_le (g := g) (e := e) (a := a) (v := v) (t := t) k
        rw [ltG_st q hll, ltG_st q (hl ▸ hll), ← i1, ← i2, ltG_lb hI h K ((hl0.dn2 hle).pl0 hI)]
end LBL
