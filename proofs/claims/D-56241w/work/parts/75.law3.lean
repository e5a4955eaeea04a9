/-! ===== the search ===== -/
/-- offering legs of which OK holds -/
def OFR (g : Nat → Nat) (OK : Nat × Nat → Prop) (x y : (Nat → Nat) × List (Nat × Nat)) : Prop :=
  (∀ i, x.1 i = 1 → y.1 i = 1) ∧ (∀ p, p ∈ x.2 → p ∈ y.2) ∧ (∀ p, p ∈ lgL g → y.1 (8 * p.1 + p.2) = 1 → x.1 (8 * p.1 + p.2) = 1 ∨ (p ∈ y.2 ∧ frB g p = true ∧ OK p)) ∧ (∀ p, p ∈ y.2 → p ∈ x.2 ∨ (p ∈ lgL g ∧ y.1 (8 * p.1 + p.2) = 1))
theorem OFR.rf {g : Nat → Nat} {OK : Nat × Nat → Prop} {x : (Nat → Nat) × List (Nat × Nat)} : OFR g OK x x := ⟨fun _ h => h, fun _ h => h, fun _ _ h => Or.inl h, fun _ h => Or.inl h⟩
theorem OFR.trans {g : Nat → Nat} {OK : Nat × Nat → Prop} {x y z : (Nat → Nat) × List (Nat × Nat)} (h1 : OFR g OK x y) (h2 : OFR g OK y z) : OFR g OK x z := by
  obtain ⟨a1, a2, a3, a4⟩ := h1
  obtain ⟨b1, b2, b3, b4⟩ := h2
  refine ⟨fun i h => b1 i (a1 i h), fun p h => b2 p (a2 p h), fun p hp h => ?_, fun p h => ?_⟩
  · rcases b3 p hp h with q | q
    · rcases a3 p hp q with q | ⟨q1, q2⟩
      · exact Or.inl q
      · exact Or.inr ⟨b2 p q1, q2⟩
    · exact Or.inr q
  · rcases b4 p h with q | q
    · rcases a4 p q with q | ⟨q1, q2⟩
      · exact Or.inl q
      · exact Or.inr ⟨q1, b1 _ q2⟩
    · exact Or.inr q
theorem OFR.mono {g : Nat → Nat} {OK OK2 : Nat × Nat → Prop} {x y : (Nat → Nat) × List (Nat × Nat)} (h1 : OFR g OK x y) (h2 : ∀ p, p ∈ lgL g → OK p → OK2 p) : OFR g OK2 x y := by
  obtain ⟨a1, a2, a3, a4⟩ := h1
  exact ⟨a1, a2, fun p hp h => (a3 p hp h).imp id (fun q => ⟨q.1, q.2.1, h2 p hp q.2.2⟩), a4⟩
theorem idx_inj {g : Nat → Nat} (hI : GW g) {p q : Nat × Nat} (hp : p ∈ lgL g) (hq : q ∈ lgL g) (h : 8 * p.1 + p.2 = 8 * q.1 + q.2) : p = q := by
  obtain ⟨a, b⟩ := p
  obtain ⟨c, d⟩ := q
  have h1 := (LEG.mem.mpr hp).k8 hI
  have h2 := (LEG.mem.mpr hq).k8 hI
  simp only at h
  have e1 : a = c := by omega
  have e2 : b = d := by omega
  rw [e1, e2]
theorem ofS_ofr {g : Nat → Nat} (hI : GW g) {x : (Nat → Nat) × List (Nat × Nat)} {p : Nat × Nat} (hp : p ∈ lgL g) : OFR g (fun q => q = p) x (ofS g x p) := by
  unfold ofS
  split
  · rename_i hc
    refine ⟨fun i h => ?_, fun q h => List.mem_cons_of_mem _ h, fun q hq h => ?_, fun q h => ?_⟩
    · show up x.1 _ 1 i = 1
      unfold up; split
      · rfl
      · exact h
    · have h : up x.1 (8 * p.1 + p.2) 1 (8 * q.1 + q.2) = 1 := h
      by_cases e : 8 * q.1 + q.2 = 8 * p.1 + p.2
      · have e2 := idx_inj hI hq hp e
        subst e2
        exact Or.inr ⟨List.mem_cons_self, by unfold frB; simpa using hc.1, rfl⟩
      · rw [up_n e] at h; exact Or.inl h
    · rcases List.mem_cons.mp h with e | h
      · subst e; exact Or.inr ⟨hp, up_s⟩
      · exact Or.inl h
  · exact OFR.rf
theorem ofS_hit {g : Nat → Nat} {x : (Nat → Nat) × List (Nat × Nat)} {p : Nat × Nat} (hf : ¬ ldG g p.1 p.2 = g (16 + 36 * p.1 + 0)) : (ofS g x p).1 (8 * p.1 + p.2) = 1 := by
  unfold ofS
  split
  · exact up_s
  · rename_i hc
    exact Decidable.byContradiction (fun z => hc ⟨hf, z⟩)
theorem oaS_ofr {g e : Nat → Nat} {a v s : Nat} (hI : GW g) {x : (Nat → Nat) × List (Nat × Nat)} {p : Nat × Nat} (hp : p ∈ lgL g) : OFR g (fun q => plG g q.1 q.2 = s ∧ cbG g e a v q.1 q.2) x (oaS g e a v s x p) := by
  unfold oaS
  split
  · rename_i hc
    exact (ofS_ofr hI hp).mono (fun q _ e => by rw [e]; exact hc)
  · exact OFR.rf
theorem oaF_ofr {g e : Nat → Nat} {a v s : Nat} (hI : GW g) : ∀ (L : List (Nat × Nat)) (x : (Nat → Nat) × List (Nat × Nat)), (∀ p, p ∈ L → p ∈ lgL g) → OFR g (fun q => plG g q.1 q.2 = s ∧ cbG g e a v q.1 q.2) x (L.foldl (oaS g e a v s) x)
  | [], x, _ => OFR.rf
  | p :: L, x, hL => (oaS_ofr hI (hL p List.mem_cons_self)).trans (oaF_ofr hI L _ (fun q hq => hL q (List.mem_cons_of_mem _ hq)))
theorem oaF_hit {g e : Nat → Nat} {a v s : Nat} (hI : GW g) {q : Nat × Nat} (hq1 : plG g q.1 q.2 = s) (hq2 : cbG g e a v q.1 q.2) (hf : ¬ ldG g q.1 q.2 = g (16 + 36 * q.1 + 0)) : ∀ (L : List (Nat × Nat)) (x : (Nat → Nat) × List (Nat × Nat)), (∀ p, p ∈ L → p ∈ lgL g) → q ∈ L → (L.foldl (oaS g e a v s) x).1 (8 * q.1 + q.2) = 1
  | [], x, _, h => by cases h
  | p :: L, x, hL, h => by
    have hL2 : ∀ p, p ∈ L → p ∈ lgL g := fun q hq => hL q (List.mem_cons_of_mem _ hq)
    rcases List.mem_cons.mp h with e1 | h
    · subst e1
      refine (oaF_ofr (e := e) (a := a) (v := v) (s := s) hI L _ hL2).1 _ ?_
      have e2 : oaS g e a v s x q = ofS g x q := if_pos ⟨hq1, hq2⟩
      rw [e2]
      exact ofS_hit hf
    · exact oaF_hit hI hq1 hq2 hf L _ hL2 h
def SRI (g : Nat → Nat) (a v : Nat) (e R : Nat → Nat) (P : List (Nat × Nat)) : Prop :=
  ((∀ i, e i ≤ 1000000) ∧ (∀ i, R i < 2) ∧ P.length ≤ rcN g R ∧ ∀ p, p ∈ P → p ∈ lgL g) ∧
  (∀ p, p ∈ P → R (8 * p.1 + p.2) = 1) ∧
  (∀ s, s < g 0 → e s ≤ iniE a v s) ∧
  (∀ f, Clo g f a v → (∀ s, s < g 0 → f s ≤ e s) ∧ ∀ t k, LEG g t k → R (8 * t + k) = 1 → onP g f a v t k) ∧
  (∀ t k, LEG g t k → R (8 * t + k) = 1 → ¬ ldG g t k = g (16 + 36 * t + 0)) ∧
  (∀ t k, LEG g t k → R (8 * t + k) = 1 → (t, k) ∉ P → e (plG g t (k + 1)) ≤ CmG g t (k + 1) ∧ (LEG g t (k + 1) → ¬ ldG g t (k + 1) = g (16 + 36 * t + 0) → R (8 * t + (k + 1)) = 1)) ∧
  (∀ t k, LEG g t k → ¬ ldG g t k = g (16 + 36 * t + 0) → bdG g e a v t k → R (8 * t + k) = 1)
theorem SRI.end_ {g e R : Nat → Nat} {a v : Nat} (hI : GW g) (hC : LdC g) (h : SRI g a v e R []) : ARR g a v e R := by
  obtain ⟨-, -, hE, hD, hF, hP, hB⟩ := h
  have hon : ∀ k t, LEG g t k → onP g e a v t k → R (8 * t + k) = 1 := by
    intro k
    induction k with
    | zero => intro t hl ho; exact hB t 0 hl (fun z => ho.2 ((fr_full hC hl).mp z)) ho.1
    | succ k ih =>
      intro t hl ho
      have hfr : ¬ ldG g t (k + 1) = g (16 + 36 * t + 0) := fun z => ho.2 ((fr_full hC hl).mp z)
      rcases ho.1 with q | q
      · exact (hP t k hl.dn (ih t hl.dn q) (by intro z; cases z)).2 hl hfr
      · exact hB t (k + 1) hl hfr q
  have hclo : Clo g e a v := ⟨hE, fun t k hl ho => (hP t k hl (hon k t hl ho) (by intro z; cases z)).1⟩
  exact ⟨hclo, fun f hf => (hD f hf).1, fun t k hl => ⟨fun z => (hD e hclo).2 t k hl z, hon k t hl⟩⟩
theorem SRI.start {g e : Nat → Nat} {a v : Nat} (hI : GW g) (hT : TmC g) (hC : LdC g) (he : ∀ s, s < g 0 → e s = iniE a v s) (hM : ∀ i, e i ≤ 1000000) : SRI g a v e ((lgL g).foldl (oaS g e a v a) (fun _ => 0, [])).1 ((lgL g).foldl (oaS g e a v a) (fun _ => 0, [])).2 := by
  have h0 := oaF_ofr (e := e) (a := a) (v := v) (s := a) hI (lgL g) (fun _ => 0, []) (fun _ z => z)
  have h1 := oaF_rc (e := e) (a := a) (v := v) (s := a) (g := g) (lgL g) (x := (fun _ => 0, [])) (fun _ z => z) (Nat.zero_le _)
  have h2 := oaF_R (e := e) (a := a) (v := v) (s := a) (g := g) (lgL g) (x := (fun _ => 0, [])) (fun _ => by show 0 < 2; decide)
  have hit := fun q hq1 hq2 hf => oaF_hit (e := e) (a := a) (v := v) (s := a) (q := q) hI hq1 hq2 hf (lgL g) (fun _ => 0, []) (fun _ z => z)
  generalize (lgL g).foldl (oaS g e a v a) (fun _ => 0, []) = y at h0 h1 h2 hit
  obtain ⟨R, P⟩ := y
  simp only at h1 h2 hit
  obtain ⟨a1, a2, a3, a4⟩ := h0
  simp only at a1 a2 a3 a4
  have hmem : ∀ p, p ∈ P → p ∈ lgL g ∧ R (8 * p.1 + p.2) = 1 := fun p hp => (a4 p hp).resolve_left (by intro z; cases z)
  have hnew : ∀ t k, LEG g t k → R (8 * t + k) = 1 → (t, k) ∈ P ∧ frB g (t, k) = true ∧ plG g t k = a ∧ cbG g e a v t k := fun t k hl h => (a3 (t, k) (LEG.mem.mp hl) h).resolve_left (by intro z; cases z)
  have hfrN : ∀ t k, LEG g t k → R (8 * t + k) = 1 → ¬ ldG g t k = g (16 + 36 * t + 0) := fun t k hl h => by
    have := (hnew t k hl h).2.1
    unfold frB at this
    simpa using this
  refine ⟨⟨hM, h2, h1, fun p hp => (hmem p hp).1⟩, fun p hp => (hmem p hp).2, fun s hs => by rw [he s hs]; exact Nat.le_refl _, fun f hf => ⟨fun s hs => by rw [he s hs]; exact hf.1 s hs, fun t k hl h => ?_⟩, hfrN, fun t k hl h hn => absurd (hnew t k hl h).1 hn, fun t k hl hf hb => ?_⟩
  · have h9 := hnew t k hl h
    refine onP_mk (fun z => hfrN t k hl h ((fr_full hC hl).mpr z)) (Or.inl (bdG_mono ?_ ((cb_bd (hT t k hl).1).mp h9.2.2.2)))
    rw [he _ (hl.pl0 hI)]; exact hf.1 _ (hl.pl0 hI)
  · have hpa : plG g t k = a := by
      rcases hb with q | ⟨q1, q2, q3⟩
      · exact q.1
      · rw [he _ (hl.pl0 hI)] at q2
        unfold iniE at q2
        rw [if_neg q1] at q2
        exact absurd q2 (Nat.lt_irrefl _)
    exact hit (t, k) hpa ((cb_bd (hT t k hl).1).mpr hb) hf (LEG.mem.mp hl)
theorem SRI.step {g e R : Nat → Nat} {a v t k : Nat} {P P2 : List (Nat × Nat)} (hI : GW g) (hT : TmC g) (hC : LdC g) (h : SRI g a v e R P) (hp : P.Perm ((t, k) :: P2)) : SRI g a v (srE g e t k) (srB g e a v (srA g (R, P2) t k) t k).1 (srB g e a v (srA g (R, P2) t k) t k).2 := by
  obtain ⟨⟨hM, hR, hrc, hmem⟩, hR1, hE, hD, hF, hP, hB⟩ := h
  have hx : LEG g t k := LEG.mem.mpr (hmem _ (hp.symm.subset List.mem_cons_self))
  have hRx : R (8 * t + k) = 1 := hR1 (t, k) (hp.symm.subset List.mem_cons_self)
  have hlen := hp.length_eq
  rw [List.length_cons] at hlen
  have hP2 : ∀ p, p ∈ P2 → p ∈ P := fun p q => hp.symm.subset (List.mem_cons_of_mem _ q)
  -- the new label
  have hle : ∀ s, srE g e t k s ≤ e s := by
    intro s; unfold srE; split
    · rename_i q; unfold up; split
      · rename_i q2; rw [q2]; exact Nat.le_of_lt q
      · exact Nat.le_refl _
    · exact Nat.le_refl _
  have hto : srE g e t k (plG g t (k + 1)) ≤ CmG g t (k + 1) := by
    unfold srE; split
    · rw [up_s]; exact Nat.le_refl _
    · omega
  have hor : ∀ s, srE g e t k s = e s ∨ (s = plG g t (k + 1) ∧ srE g e t k s = CmG g t (k + 1) ∧ CmG g t (k + 1) < e (plG g t (k + 1))) := by
    intro s; unfold srE; split
    · rename_i q; unfold up; split
      · rename_i q2; exact Or.inr ⟨q2, rfl, q⟩
      · exact Or.inl rfl
    · exact Or.inl rfl
  have honf : ∀ f, Clo g f a v → onP g f a v t k := fun f hf => (hD f hf).2 t k hx hRx
  have hfe : ∀ f, Clo g f a v → ∀ s, s < g 0 → f s ≤ srE g e t k s := by
    intro f hf s hs
    rcases hor s with q | ⟨q1, q2, -⟩
    · rw [q]; exact (hD f hf).1 s hs
    · rw [q2, q1]; exact hf.2 t k hx (honf f hf)
  -- the legs offered
  have o1 : OFR g (fun q => LEG g q.1 q.2 ∧ (q = (t, k + 1) ∨ cbG g (srE g e t k) a v q.1 q.2)) (R, P2) (srA g (R, P2) t k) := by
    unfold srA; split
    · rename_i q
      exact (ofS_ofr hI (LEG.mem.mp ⟨hx.1, q⟩)).mono (fun p hp e => ⟨LEG.mem.mpr hp, Or.inl e⟩)
    · exact OFR.rf
  have r1 : (srA g (R, P2) t k).2.length ≤ rcN g (srA g (R, P2) t k).1 := by
    unfold srA; split
    · rename_i q; exact ofS_rc (LEG.mem.mp ⟨hx.1, q⟩) (by show P2.length ≤ rcN g R; omega)
    · show P2.length ≤ rcN g R; omega
  have b1 : ∀ i, (srA g (R, P2) t k).1 i < 2 := by
    unfold srA; split
    · exact ofS_R hR
    · exact hR
  have n1 : LEG g t (k + 1) → ¬ ldG g t (k + 1) = g (16 + 36 * t + 0) → (srA g (R, P2) t k).1 (8 * t + (k + 1)) = 1 := by
    intro hl hf
    unfold srA
    rw [if_pos hl.2]
    exact ofS_hit hf
  generalize srA g (R, P2) t k = x1 at o1 r1 b1 n1 ⊢
  have o2 : OFR g (fun q => LEG g q.1 q.2 ∧ (q = (t, k + 1) ∨ cbG g (srE g e t k) a v q.1 q.2)) x1 (srB g e a v x1 t k) := by
    unfold srB; split
    · rename_i q
      refine (oaF_ofr hI (lgL g) x1 (fun _ z => z)).mono (fun p hp z => ⟨LEG.mem.mpr hp, Or.inr ?_⟩)
      unfold srE; rw [if_pos q]; exact z.2
    · exact OFR.rf
  have r2 : (srB g e a v x1 t k).2.length ≤ rcN g (srB g e a v x1 t k).1 := by
    unfold srB; split
    · exact oaF_rc (lgL g) (fun _ z => z) r1
    · exact r1
  have b2' : ∀ i, (srB g e a v x1 t k).1 i < 2 := by
    unfold srB; split
    · exact oaF_R (lgL g) b1
    · exact b1
  have h2 : ∀ t' k', LEG g t' k' → ¬ ldG g t' k' = g (16 + 36 * t' + 0) → plG g t' k' = plG g t (k + 1) → CmG g t (k + 1) < e (plG g t (k + 1)) → bdG g (srE g e t k) a v t' k' → (srB g e a v x1 t k).1 (8 * t' + k') = 1 := by
    intro t' k' hl hf hpl hlt hb
    have hcb : cbG g (srE g e t k) a v t' k' := (cb_bd (hT t' k' hl).1).mpr hb
    unfold srB
    rw [if_pos hlt]
    have e1 : srE g e t k = up e (plG g t (k + 1)) (CmG g t (k + 1)) := if_pos hlt
    rw [e1] at hcb
    exact oaF_hit (q := (t', k')) hI hpl hcb hf (lgL g) x1 (fun _ z => z) (LEG.mem.mp hl)
  have o3 := o1.trans o2
  obtain ⟨m1, m2', m3', m4⟩ := o3
  simp only at m1 m2' m3' m4
  have n2 : LEG g t (k + 1) → ¬ ldG g t (k + 1) = g (16 + 36 * t + 0) → (srB g e a v x1 t k).1 (8 * t + (k + 1)) = 1 := fun hl hf => o2.1 _ (n1 hl hf)
  generalize srB g e a v x1 t k = y at m1 m2' m3' m4 r2 b2' h2 n2 ⊢
  obtain ⟨R', P'⟩ := y
  simp only at m1 m2' m3' m4 r2 b2' h2 n2 ⊢
  have hnew : ∀ t' k', LEG g t' k' → R' (8 * t' + k') = 1 → R (8 * t' + k') = 1 ∨ ((t', k') ∈ P' ∧ ¬ ldG g t' k' = g (16 + 36 * t' + 0) ∧ ((t', k') = (t, k + 1) ∨ bdG g (srE g e t k) a v t' k')) := by
    intro t' k' hl hr
    rcases m3' (t', k') (LEG.mem.mp hl) hr with q | ⟨q1, q2, -, q3⟩
    · exact Or.inl q
    · exact Or.inr ⟨q1, by unfold frB at q2; simpa using q2, q3.imp id (fun z => (cb_bd (hT t' k' hl).1).mp z)⟩
  refine ⟨⟨fun i => Nat.le_trans (hle i) (hM i), b2', r2, fun p hp => (m4 p hp).elim (fun q => hmem p (hP2 p q)) (fun q => q.1)⟩, fun p hp => (m4 p hp).elim (fun q => m1 _ (hR1 p (hP2 p q))) (fun q => q.2), fun s hs => Nat.le_trans (hle s) (hE s hs), fun f hf => ⟨hfe f hf, fun t' k' hl hr => ?_⟩, fun t' k' hl hr => ?_, fun t' k' hl hr hn => ?_, fun t' k' hl hf hb => ?_⟩
  · rcases hnew t' k' hl hr with q | ⟨q1, q2, q3⟩
    · exact (hD f hf).2 t' k' hl q
    · refine onP_mk (fun z => q2 ((fr_full hC hl).mpr z)) ?_
      rcases q3 with q3 | q3
      · cases q3
        exact Or.inr ⟨Nat.succ_pos k, honf f hf⟩
      · exact Or.inl (bdG_mono (hfe f hf _ (hl.pl0 hI)) q3)
  · rcases hnew t' k' hl hr with q | ⟨q1, q2, q3⟩
    · exact hF t' k' hl q
    · exact q2
  · rcases hnew t' k' hl hr with q | ⟨q1, -⟩
    · by_cases e1 : (t', k') = (t, k)
      · cases e1
        exact ⟨hto, n2⟩
      · have hnP : (t', k') ∉ P := fun z => (List.mem_cons.mp (hp.subset z)).elim e1 (fun z => hn (m2' _ z))
        obtain ⟨z1, z2⟩ := hP t' k' hl q hnP
        exact ⟨Nat.le_trans (hle _) z1, fun y1 y2 => m1 _ (z2 y1 y2)⟩
    · exact absurd q1 hn
  · rcases hor (plG g t' k') with q | ⟨q1, q2, q3⟩
    · refine m1 _ (hB t' k' hl hf ?_)
      rcases hb with z | ⟨z1, z2, z3⟩
      · exact Or.inl z
      · rw [q] at z2 z3; exact Or.inr ⟨z1, z2, z3⟩
    · exact h2 t' k' hl hf q1 q3 hb
