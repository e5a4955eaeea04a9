/-- z0 stands under x; its stretch is la .. hb -/
def SB (lo hi : Nat → Nat) (x z0 la hb : Nat) : Prop := lo x ≤ z0 ∧ z0 < hi x ∧ lo z0 = la ∧ hi z0 = hb
section PURE4
variable {n : Nat} {rt : Option Nat} {L R P : Nat → Option Nat} {lo hi : Nat → Nat} {p x s q z0 la hb : Nat}
theorem WT.k1L (hw : WT n rt L R P lo hi) (hp : p < n) (hx : x < n) (hpx : P x = some p) (hcp : L p = some x) (hs : R p = some s) : rlP L P p s x = some p ∧ rlL L P p s p = some x ∧ upo lo s (lo p) x = lo x ∧ upo hi p s x = hi x ∧ ∀ z0, lo x ≤ z0 → z0 < hi x → upo lo s (lo p) z0 = lo z0 ∧ upo hi p s z0 = hi z0 := by
  have h1 := hw.2.2.1 p x hp hcp
  have h2 := hw.2.2.2.2.1 p s hp hs
  have h3 := hw.1 x hx
  have h4 := hw.1 s h2.2.1
  have h5 : L s ≠ some x := fun z => by have := (hw.2.2.1 s x h2.2.1 z).2.2.2; rw [hpx] at this; have := Option.some.inj this; omega
  have h6 : P p ≠ some p := fun z => hw.Pne hp z rfl
  refine ⟨?_, ?_, ?_, ?_, fun z0 z1 z2 => ⟨?_, ?_⟩⟩
  · unfold rlP; rw [if_neg (by omega), if_neg (by omega), if_neg h5]; exact hpx
  · unfold rlL; rw [if_neg (by omega), if_neg (fun z => h6 z.1)]; exact hcp
  · exact upo_n (by omega)
  · exact upo_n (by omega)
  · exact upo_n (by omega)
  · exact upo_n (by omega)
theorem WT.k1R (hw : WT n rt L R P lo hi) (hp : p < n) (hx : x < n) (hpx : P x = some p) (hcp : R p = some x) (hs : L p = some s) : rrP R P p s x = some p ∧ rrR R P p s p = some x ∧ upo lo p (s + 1) x = lo x ∧ upo hi s (hi p) x = hi x ∧ ∀ z0, lo x ≤ z0 → z0 < hi x → upo lo p (s + 1) z0 = lo z0 ∧ upo hi s (hi p) z0 = hi z0 := by
  have h1 := hw.2.2.2.2.1 p x hp hcp
  have h2 := hw.2.2.1 p s hp hs
  have hsn : s < n := by omega
  have h3 := hw.1 x hx
  have h4 := hw.1 s hsn
  have h5 : R s ≠ some x := fun z => by have := (hw.2.2.2.2.1 s x hsn z).2.2.2.2; rw [hpx] at this; have := Option.some.inj this; omega
  have h6 : P p ≠ some p := fun z => hw.Pne hp z rfl
  refine ⟨?_, ?_, ?_, ?_, fun z0 z1 z2 => ⟨?_, ?_⟩⟩
  · unfold rrP; rw [if_neg (by omega), if_neg (by omega), if_neg h5]; exact hpx
  · unfold rrR; rw [if_neg (by omega), if_neg (fun z => h6 z.1)]; exact hcp
  · exact upo_n (by omega)
  · exact upo_n (by omega)
  · exact upo_n (by omega)
  · exact upo_n (by omega)
theorem WT.k3L (hw : WT n rt L R P lo hi) (hp : p < n) (hx : x < n) (hpx : P x = some p) (hcp : L p = some x) (hs : R p = some s) (hq : L s = some q) : rrP R P s q x = some p ∧ rrR R P s q p = some q ∧ rrL L R P s q p = some x ∧ ∀ z0, lo x ≤ z0 → z0 < hi x → upo lo s (q + 1) z0 = lo z0 ∧ upo hi q (hi s) z0 = hi z0 := by
  have h1 := hw.2.2.1 p x hp hcp
  have h2 := hw.2.2.2.2.1 p s hp hs
  have h7 := hw.2.2.1 s q h2.2.1 hq
  have h3 := hw.1 x hx
  have h4 := hw.1 s h2.2.1
  have hqn : q < n := by omega
  have h8 := hw.1 q hqn
  have h5 : R q ≠ some x := fun z => by have := (hw.2.2.2.2.1 q x hqn z).2.2.2.2; rw [hpx] at this; have := Option.some.inj this; omega
  refine ⟨?_, ?_, ?_, fun z0 z1 z2 => ⟨?_, ?_⟩⟩
  · unfold rrP; rw [if_neg (by omega), if_neg (by omega), if_neg h5]; exact hpx
  · unfold rrR; rw [if_neg (by omega), if_pos ⟨h2.2.2.2.2, hs⟩]
  · unfold rrL; rw [if_neg (by omega), if_neg (fun z => z.2 hs)]; exact hcp
  · exact upo_n (by omega)
  · exact upo_n (by omega)
theorem WT.k3R (hw : WT n rt L R P lo hi) (hp : p < n) (hx : x < n) (hpx : P x = some p) (hcp : R p = some x) (hs : L p = some s) (hq : R s = some q) : rlP L P s q x = some p ∧ rlL L P s q p = some q ∧ rlR L R P s q p = some x ∧ ∀ z0, lo x ≤ z0 → z0 < hi x → upo lo q (lo s) z0 = lo z0 ∧ upo hi s q z0 = hi z0 := by
  have h1 := hw.2.2.2.2.1 p x hp hcp
  have h2 := hw.2.2.1 p s hp hs
  have hsn : s < n := by omega
  have h7 := hw.2.2.2.2.1 s q hsn hq
  have h3 := hw.1 x hx
  have h4 := hw.1 s hsn
  have h8 := hw.1 q h7.2.1
  have h5 : L q ≠ some x := fun z => by have := (hw.2.2.1 q x h7.2.1 z).2.2.2; rw [hpx] at this; have := Option.some.inj this; omega
  refine ⟨?_, ?_, ?_, fun z0 z1 z2 => ⟨?_, ?_⟩⟩
  · unfold rlP; rw [if_neg (by omega), if_neg (by omega), if_neg h5]; exact hpx
  · unfold rlL; rw [if_neg (by omega), if_pos ⟨h2.2.2.2, hs⟩]
  · unfold rlR; rw [if_neg (by omega), if_neg (fun z => z.2 hs)]; exact hcp
  · exact upo_n (by omega)
  · exact upo_n (by omega)
theorem SB.mv {lo2 hi2 : Nat → Nat} (hz : SB lo hi x z0 la hb) (h1 : lo2 x = lo x) (h2 : hi2 x = hi x) (h : ∀ z0, lo x ≤ z0 → z0 < hi x → lo2 z0 = lo z0 ∧ hi2 z0 = hi z0) : SB lo2 hi2 x z0 la hb := by
  obtain ⟨a, b, c, d⟩ := hz
  have := h z0 a b
  exact ⟨by omega, by omega, by omega, by omega⟩
end PURE4
set_option maxHeartbeats 8000000 in
theorem ct_fixDel {G : GG} {l : Launch} {h : AH} {t n mc nz : Nat} {A K V : Nat → Nat} {L R P : Nat → Option Nat} {C : Nat → Bool} {rt : Option Nat} {lo hi : Nat → Nat} {x z0 la hb : Nat} (hC : TC h t nz mc (rt.map A)) (hT : TN h n A K V L R P C) (hAI : AI n A) (hw : WT n rt L R P lo hi) (hx : x < n) (hsb : SB lo hi x z0 la hb) : Ct G l yJ10_fixAfterDeletion cJ10_fixAfterDeletion 3 none 2 (0) (0) [.ref t, .ref (A x)] h (fun r0 h2 => r0 = none ∧ ∃ L2 R2 P2 C2 rt2 lo2 hi2, TC h2 t nz mc ((rt2 : Option Nat).map A) ∧ TN h2 n A K V L2 R2 P2 C2 ∧ WT n rt2 L2 R2 P2 lo2 hi2 ∧ Fr (mT t n A) h h2 ∧ lo2 z0 = la ∧ hi2 z0 = hb) := by
  refine Ct.of (by decide) (Nat.le_of_ble_eq_true rfl) (cat1 rfl) (fun X hXl F HN => ?_)
  subst hXl
  have exit3 : ∀ (L R P : Nat → Option Nat) (C : Nat → Bool) (rt : Option Nat) (lo hi : Nat → Nat) (x : Nat) (hh : AH), TC hh t nz mc (rt.map A) → TN hh n A K V L R P C → WT n rt L R P lo hi → x < n → Fr (mT t n A) h hh → SB lo hi x z0 la hb → VV G X 3 (EQ G X 0 0 (fun r0 h2 => r0 = none ∧ ∃ L2 R2 P2 C2 rt2 lo2 hi2, TC h2 t nz mc ((rt2 : Option Nat).map A) ∧ TN h2 n A K V L2 R2 P2 C2 ∧ WT n rt2 L2 R2 P2 lo2 hi2 ∧ Fr (mT t n A) h h2 ∧ lo2 z0 = la ∧ hi2 z0 = hb)) hh 0 0 [none, some (.ref (A x)), none] [] 345 := by
    intro L R P C rt lo hi x hh hC hT hw hx hF hz
    obtain ⟨x0, x1, x6, x7, x8, ht, hv1, hv7⟩ := id hC
    refine V_aload_n (i := 1) F dJ10_fixAfterDeletion_345 rfl rfl ?_
    refine V_iconst (v := nI 1) F dJ10_fixAfterDeletion_346 rfl ?_
    refine V_callS (st := []) F dJ10_fixAfterDeletion_347 lk_J10_307 (ct_setColor (o := some x) (c := true) hT hAI (fun _ z => Option.some.inj z ▸ hx)) rfl rfl (Nat.le_of_ble_eq_true rfl) (Nat.le_of_ble_eq_true rfl) (Nat.le_of_ble_eq_true rfl) (by first | exact Nat.le_of_ble_eq_true rfl | omega) (by first | exact Nat.le_of_ble_eq_true rfl | omega) ?_
    rintro _ k1 ⟨rfl, hT3, hx2, hk4⟩
    have p5 := (hk4 t (fun i hi => ne_oo ht (hT i hi) (by decide))).trans ht
    have f6 := hF.cal hx2 (fun b q => Or.inl (Or.inr q))
    have g7 := (Fr.rf (M := fun _ => True) (h := hh)).cal hx2 (fun _ _ => Or.inl trivial)
    exact V_vret F dJ10_fixAfterDeletion_350 (by first | exact Nat.le_of_ble_eq_true rfl | omega) (by first | exact Nat.le_of_ble_eq_true rfl | omega) ⟨rfl, L, R, P, _, rt, lo, hi, ⟨x0, x1, x6, x7, x8, p5, vw_fr hv1 g7 rfl, vw_fr hv7 g7 rfl⟩, hT3, hw, f6, hz.2.2⟩
  have exitA : ∀ (L R P : Nat → Option Nat) (C : Nat → Bool) (rt : Option Nat) (lo hi : Nat → Nat) (x : Nat) (hh : AH), TC hh t nz mc (rt.map A) → TN hh n A K V L R P C → WT n rt L R P lo hi → x < n → Fr (mT t n A) h hh → SB lo hi x z0 la hb → (rt = some x ∨ C x = false) → VV G X 3 (EQ G X 0 0 (fun r0 h2 => r0 = none ∧ ∃ L2 R2 P2 C2 rt2 lo2 hi2, TC h2 t nz mc ((rt2 : Option Nat).map A) ∧ TN h2 n A K V L2 R2 P2 C2 ∧ WT n rt2 L2 R2 P2 lo2 hi2 ∧ Fr (mT t n A) h h2 ∧ lo2 z0 = la ∧ hi2 z0 = hb)) hh 0 0 [some (.ref t), some (.ref (A x)), none] [] 0 := by
    intro L R P C rt lo hi x hh hC hT hw hx hF hz hb
    obtain ⟨x0, x1, x6, x7, x8, ht, hv1, hv7⟩ := id hC
    by_cases hroot : rt = some x
    · refine V_aload_n (i := 1) F dJ10_fixAfterDeletion_0 rfl rfl ?_
      refine V_aload_n (i := 0) F dJ10_fixAfterDeletion_1 rfl rfl ?_
      refine V_getf F dJ10_fixAfterDeletion_2 fc_J10_101_J10 (.inl ht) rfl ?_
      refine V_acmp_eq (rx := some (A x)) (ry := (rt).map A) (tgt := 345) F dJ10_fixAfterDeletion_5 (by decide) (fun c_5 => ?_) (fun c_5 => absurd (by rw [hroot]; rfl) c_5)
      refine VV.weak (L' := [none, some (.ref (A x)), none]) (LW.c0 (LW.c1 (LW.c0 LW.nil))) ?_
      exact exit3 L R P C rt lo hi x hh hC hT hw hx hF hz
    · have hcx := hb.resolve_left hroot
      refine V_aload_n (i := 1) F dJ10_fixAfterDeletion_0 rfl rfl ?_
      refine V_aload_n (i := 0) F dJ10_fixAfterDeletion_1 rfl rfl ?_
      refine V_getf F dJ10_fixAfterDeletion_2 fc_J10_101_J10 (.inl ht) rfl ?_
      refine V_acmp_eq (rx := some (A x)) (ry := (rt).map A) (tgt := 345) F dJ10_fixAfterDeletion_5 (by decide) (fun c_5 => absurd (map_eq hAI (fun j hj => (hw.2.2.2.2.2.2.2.1 j hj).1) hx c_5.symm) hroot) (fun c_5 => ?_)
      refine V_aload_n (i := 1) F dJ10_fixAfterDeletion_8 rfl rfl ?_
      refine V_callS (st := []) F dJ10_fixAfterDeletion_9 lk_J10_303 (ct_colorOf (o := some x) hT (fun _ z => Option.some.inj z ▸ hx)) rfl rfl (Nat.le_of_ble_eq_true rfl) (Nat.le_of_ble_eq_true rfl) (Nat.le_of_ble_eq_true rfl) (by first | exact Nat.le_of_ble_eq_true rfl | omega) (by first | exact Nat.le_of_ble_eq_true rfl | omega) ?_
      refine PRk ?_
      refine VV.stk (st' := [.int (cB (C x))]) rfl ?_
      refine V_iconst (v := nI 1) F dJ10_fixAfterDeletion_12 rfl ?_
      refine V_icmp_ne1C (c := C x) (tgt := 345) F dJ10_fixAfterDeletion_13 (by decide) (fun c_13 => ?_) (fun c_13 => absurd (c_13.symm.trans hcx) (by decide))
      refine VV.weak (L' := [none, some (.ref (A x)), none]) (LW.c0 (LW.c1 (LW.c0 LW.nil))) ?_
      exact exit3 L R P C rt lo hi x hh hC hT hw hx hF hz
  have ph3L : ∀ (L R P : Nat → Option Nat) (C : Nat → Bool) (rt : Option Nat) (lo hi : Nat → Nat) (x : Nat) (hh : AH) (p s : Nat), TC hh t nz mc (rt.map A) → TN hh n A K V L R P C → WT n rt L R P lo hi → x < n → Fr (mT t n A) h hh → SB lo hi x z0 la hb → p < n → s < n → P x = some p → R p = some s → L p = some x → VV G X 3 (EQ G X 0 0 (fun r0 h2 => r0 = none ∧ ∃ L2 R2 P2 C2 rt2 lo2 hi2, TC h2 t nz mc ((rt2 : Option Nat).map A) ∧ TN h2 n A K V L2 R2 P2 C2 ∧ WT n rt2 L2 R2 P2 lo2 hi2 ∧ Fr (mT t n A) h h2 ∧ lo2 z0 = la ∧ hi2 z0 = hb)) hh 0 0 [some (.ref t), some (.ref (A x)), some (.ref (A s))] [] 143 := by
    intro L R P C rt lo hi x hh p s hC hT hw hx hF hz hp hs hpx hps hxc
    obtain ⟨x0, x1, x6, x7, x8, ht, hv1, hv7⟩ := id hC
    cases hzs : R s with
    | none =>
      refine V_aload_n (i := 2) F dJ10_fixAfterDeletion_143 rfl rfl ?_
      refine V_aload_n (i := 1) F dJ10_fixAfterDeletion_144 rfl rfl ?_
      refine V_callS (st := [.ref (A s)]) F dJ10_fixAfterDeletion_145 lk_J10_294 (ct_parentOf (o := some x) hT (fun _ z => Option.some.inj z ▸ hx)) rfl rfl (Nat.le_of_ble_eq_true rfl) (Nat.le_of_ble_eq_true rfl) (Nat.le_of_ble_eq_true rfl) (by first | exact Nat.le_of_ble_eq_true rfl | omega) (by first | exact Nat.le_of_ble_eq_true rfl | omega) ?_
      refine PRk ?_
      refine VV.stk (st' := [.ref (A p), .ref (A s)]) (by first | rfl | (rw [show Option.bind (some x) P = _ from hpx]; rfl) | rw [show Option.bind (some x) P = _ from hpx]) ?_
      refine V_callS (st := [.ref (A s)]) F dJ10_fixAfterDeletion_148 lk_J10_303 (ct_colorOf (o := some p) hT (fun _ z => Option.some.inj z ▸ hp)) rfl rfl (Nat.le_of_ble_eq_true rfl) (Nat.le_of_ble_eq_true rfl) (Nat.le_of_ble_eq_true rfl) (by first | exact Nat.le_of_ble_eq_true rfl | omega) (by first | exact Nat.le_of_ble_eq_true rfl | omega) ?_
      refine PRk ?_
      refine VV.stk (st' := [.int (cB (C p)), .ref (A s)]) rfl ?_
      refine V_callS (st := []) F dJ10_fixAfterDeletion_151 lk_J10_307 (ct_setColor (o := some s) (c := C p) hT hAI (fun _ z => Option.some.inj z ▸ hs)) rfl rfl (Nat.le_of_ble_eq_true rfl) (Nat.le_of_ble_eq_true rfl) (Nat.le_of_ble_eq_true rfl) (by first | exact Nat.le_of_ble_eq_true rfl | omega) (by first | exact Nat.le_of_ble_eq_true rfl | omega) ?_
      rintro _ k1 ⟨rfl, hT3, hx2, hk4⟩
      have p5 := (hk4 t (fun i hi => ne_oo ht (hT i hi) (by decide))).trans ht
      have f6 := hF.cal hx2 (fun b q => Or.inl (Or.inr q))
      have g7 := (Fr.rf (M := fun _ => True) (h := hh)).cal hx2 (fun _ _ => Or.inl trivial)
      refine V_aload_n (i := 1) F dJ10_fixAfterDeletion_154 rfl rfl ?_
      refine V_callS (st := []) F dJ10_fixAfterDeletion_155 lk_J10_294 (ct_parentOf (o := some x) hT3 (fun _ z => Option.some.inj z ▸ hx)) rfl rfl (Nat.le_of_ble_eq_true rfl) (Nat.le_of_ble_eq_true rfl) (Nat.le_of_ble_eq_true rfl) (by first | exact Nat.le_of_ble_eq_true rfl | omega) (by first | exact Nat.le_of_ble_eq_true rfl | omega) ?_
      refine PRk ?_
      refine VV.stk (st' := [.ref (A p)]) (by first | rfl | (rw [show Option.bind (some x) P = _ from hpx]; rfl) | rw [show Option.bind (some x) P = _ from hpx]) ?_
      refine V_iconst (v := nI 1) F dJ10_fixAfterDeletion_158 rfl ?_
      refine V_callS (st := []) F dJ10_fixAfterDeletion_159 lk_J10_307 (ct_setColor (o := some p) (c := true) hT3 hAI (fun _ z => Option.some.inj z ▸ hp)) rfl rfl (Nat.le_of_ble_eq_true rfl) (Nat.le_of_ble_eq_true rfl) (Nat.le_of_ble_eq_true rfl) (by first | exact Nat.le_of_ble_eq_true rfl | omega) (by first | exact Nat.le_of_ble_eq_true rfl | omega) ?_
      rintro _ k8 ⟨rfl, hT10, hx9, hk11⟩
      have p12 := (hk11 t (fun i hi => ne_oo p5 (hT3 i hi) (by decide))).trans p5
      have f13 := f6.cal hx9 (fun b q => Or.inl (Or.inr q))
      have g14 := g7.cal hx9 (fun _ _ => Or.inl trivial)
      refine V_aload_n (i := 2) F dJ10_fixAfterDeletion_162 rfl rfl ?_
      refine V_callS (st := []) F dJ10_fixAfterDeletion_163 lk_J10_300 (ct_rightOf (o := some s) hT10 (fun _ z => Option.some.inj z ▸ hs)) rfl rfl (Nat.le_of_ble_eq_true rfl) (Nat.le_of_ble_eq_true rfl) (Nat.le_of_ble_eq_true rfl) (by first | exact Nat.le_of_ble_eq_true rfl | omega) (by first | exact Nat.le_of_ble_eq_true rfl | omega) ?_
      refine PRk ?_
      refine VV.stk (st' := [.null]) (by first | rfl | (rw [show Option.bind (some s) R = _ from hzs]; rfl) | rw [show Option.bind (some s) R = _ from hzs]) ?_
      refine V_iconst (v := nI 1) F dJ10_fixAfterDeletion_166 rfl ?_
      refine V_callS (st := []) F dJ10_fixAfterDeletion_167 lk_J10_307 (ct_setColor (o := none) (c := true) hT10 hAI (fun _ z => nomatch z)) rfl rfl (Nat.le_of_ble_eq_true rfl) (Nat.le_of_ble_eq_true rfl) (Nat.le_of_ble_eq_true rfl) (by first | exact Nat.le_of_ble_eq_true rfl | omega) (by first | exact Nat.le_of_ble_eq_true rfl | omega) ?_
      rintro _ k15 ⟨rfl, hT17, hx16, hk18⟩
      have p19 := (hk18 t (fun i hi => ne_oo p12 (hT10 i hi) (by decide))).trans p12
      have f20 := f13.cal hx16 (fun b q => Or.inl (Or.inr q))
      have g21 := g14.cal hx16 (fun _ _ => Or.inl trivial)
      refine V_aload_n (i := 0) F dJ10_fixAfterDeletion_170 rfl rfl ?_
      refine V_aload_n (i := 1) F dJ10_fixAfterDeletion_171 rfl rfl ?_
      refine V_callS (st := [.ref (t)]) F dJ10_fixAfterDeletion_172 lk_J10_294 (ct_parentOf (o := some x) hT17 (fun _ z => Option.some.inj z ▸ hx)) rfl rfl (Nat.le_of_ble_eq_true rfl) (Nat.le_of_ble_eq_true rfl) (Nat.le_of_ble_eq_true rfl) (by first | exact Nat.le_of_ble_eq_true rfl | omega) (by first | exact Nat.le_of_ble_eq_true rfl | omega) ?_
      refine PRk ?_
      refine VV.stk (st' := [.ref (A p), .ref (t)]) (by first | rfl | (rw [show Option.bind (some x) P = _ from hpx]; rfl) | rw [show Option.bind (some x) P = _ from hpx]) ?_
      refine V_callV (st := []) F dJ10_fixAfterDeletion_175 lk_J10_311 (ct_rotateLeft ⟨x0, x1, x6, x7, x8, p19, vw_fr hv1 g21 rfl, vw_fr hv7 g21 rfl⟩ hT17 hAI hw hp hps) ⟨23, _, _, _, rfl, (.inl p19)⟩ rfl rfl (Nat.le_of_ble_eq_true rfl) (Nat.le_of_ble_eq_true rfl) (Nat.le_of_ble_eq_true rfl) (by first | exact Nat.le_of_ble_eq_true rfl | omega) (by first | exact Nat.le_of_ble_eq_true rfl | omega) ?_
      rintro _ k22 ⟨rfl, hC25, hT24, hx23⟩
      obtain ⟨y26, y27, y28, y29, y30, ht31, hv32, hv33⟩ := hC25
      have f34 : Fr (mT t n A) h k22 := f20.cal hx23 (fun b q => Or.inl q)
      have hw35 := hw.rotL (L' := rlL L P p s) (R' := rlR L R P p s) (P' := rlP L P p s) (rt' := roR P rt p s) hp hps (fun _ => rfl) (fun _ => rfl) (fun _ => rfl) rfl
      refine V_aload_n (i := 0) F dJ10_fixAfterDeletion_178 rfl rfl ?_
      refine V_getf F dJ10_fixAfterDeletion_179 fc_J10_101_J10 (.inl ht31) rfl ?_
      refine V_astore_nQ (i := 1) F dJ10_fixAfterDeletion_182 rfl (Nat.le_of_ble_eq_true rfl) (Nat.le_of_ble_eq_true rfl) ?_
      refine V_goto (tgt := 0) F dJ10_fixAfterDeletion_183 (by decide) ?_
      obtain ⟨rr, hrr⟩ : ∃ rr, roR P rt p s = some rr := by
        cases hq : roR P rt p s with
        | none => exact absurd (hw35.2.2.2.2.2.2.2.2 hq) (by omega)
        | some rr => exact ⟨rr, rfl⟩
      refine VV.loc (L' := [some (.ref t), some (.ref (A rr)), some (.ref (A s))]) (by rw [hrr]; rfl) ?_
      refine VV.weak (L' := [some (.ref (t)), some (.ref (A rr)), none]) (LW.c1 (LW.c1 (LW.c0 LW.nil))) ?_
      exact exitA _ _ _ _ _ _ _ rr _ ⟨y26, y27, y28, y29, y30, ht31, vw_fr hv32 (Fr.rf (M := fun _ => True) (h := k22)) rfl, vw_fr hv33 (Fr.rf (M := fun _ => True) (h := k22)) rfl⟩ hT24 hw35 (hw35.2.2.2.2.2.2.2.1 rr hrr).1 f34 (by have h0 := hw35.2.2.2.2.2.2.2.1 rr hrr; have hpi := hw.Pin hx hpx; have hx1 := hw.1 x hx; have h3 := hw.2.2.1 p _ hp hxc; have h4 := hw.2.2.2.2.1 p _ hp hps; obtain ⟨z1, z2, z3, z4⟩ := hz; have hs1 := hw.1 s hs; exact ⟨by omega, by omega, (by rw [upo_n (by omega)]; exact z3), (by rw [upo_n (by omega)]; exact z4)⟩) (Or.inl hrr)
    | some z =>
      have hzn : z < n := hw.bR hs hzs
      refine V_aload_n (i := 2) F dJ10_fixAfterDeletion_143 rfl rfl ?_
      refine V_aload_n (i := 1) F dJ10_fixAfterDeletion_144 rfl rfl ?_
      refine V_callS (st := [.ref (A s)]) F dJ10_fixAfterDeletion_145 lk_J10_294 (ct_parentOf (o := some x) hT (fun _ z => Option.some.inj z ▸ hx)) rfl rfl (Nat.le_of_ble_eq_true rfl) (Nat.le_of_ble_eq_true rfl) (Nat.le_of_ble_eq_true rfl) (by first | exact Nat.le_of_ble_eq_true rfl | omega) (by first | exact Nat.le_of_ble_eq_true rfl | omega) ?_
      refine PRk ?_
      refine VV.stk (st' := [.ref (A p), .ref (A s)]) (by first | rfl | (rw [show Option.bind (some x) P = _ from hpx]; rfl) | rw [show Option.bind (some x) P = _ from hpx]) ?_
      refine V_callS (st := [.ref (A s)]) F dJ10_fixAfterDeletion_148 lk_J10_303 (ct_colorOf (o := some p) hT (fun _ z => Option.some.inj z ▸ hp)) rfl rfl (Nat.le_of_ble_eq_true rfl) (Nat.le_of_ble_eq_true rfl) (Nat.le_of_ble_eq_true rfl) (by first | exact Nat.le_of_ble_eq_true rfl | omega) (by first | exact Nat.le_of_ble_eq_true rfl | omega) ?_
      refine PRk ?_
      refine VV.stk (st' := [.int (cB (C p)), .ref (A s)]) rfl ?_
      refine V_callS (st := []) F dJ10_fixAfterDeletion_151 lk_J10_307 (ct_setColor (o := some s) (c := C p) hT hAI (fun _ z => Option.some.inj z ▸ hs)) rfl rfl (Nat.le_of_ble_eq_true rfl) (Nat.le_of_ble_eq_true rfl) (Nat.le_of_ble_eq_true rfl) (by first | exact Nat.le_of_ble_eq_true rfl | omega) (by first | exact Nat.le_of_ble_eq_true rfl | omega) ?_
      rintro _ k1 ⟨rfl, hT3, hx2, hk4⟩
      have p5 := (hk4 t (fun i hi => ne_oo ht (hT i hi) (by decide))).trans ht
      have f6 := hF.cal hx2 (fun b q => Or.inl (Or.inr q))
      have g7 := (Fr.rf (M := fun _ => True) (h := hh)).cal hx2 (fun _ _ => Or.inl trivial)
      refine V_aload_n (i := 1) F dJ10_fixAfterDeletion_154 rfl rfl ?_
      refine V_callS (st := []) F dJ10_fixAfterDeletion_155 lk_J10_294 (ct_parentOf (o := some x) hT3 (fun _ z => Option.some.inj z ▸ hx)) rfl rfl (Nat.le_of_ble_eq_true rfl) (Nat.le_of_ble_eq_true rfl) (Nat.le_of_ble_eq_true rfl) (by first | exact Nat.le_of_ble_eq_true rfl | omega) (by first | exact Nat.le_of_ble_eq_true rfl | omega) ?_
      refine PRk ?_
      refine VV.stk (st' := [.ref (A p)]) (by first | rfl | (rw [show Option.bind (some x) P = _ from hpx]; rfl) | rw [show Option.bind (some x) P = _ from hpx]) ?_
      refine V_iconst (v := nI 1) F dJ10_fixAfterDeletion_158 rfl ?_
      refine V_callS (st := []) F dJ10_fixAfterDeletion_159 lk_J10_307 (ct_setColor (o := some p) (c := true) hT3 hAI (fun _ z => Option.some.inj z ▸ hp)) rfl rfl (Nat.le_of_ble_eq_true rfl) (Nat.le_of_ble_eq_true rfl) (Nat.le_of_ble_eq_true rfl) (by first | exact Nat.le_of_ble_eq_true rfl | omega) (by first | exact Nat.le_of_ble_eq_true rfl | omega) ?_
      rintro _ k8 ⟨rfl, hT10, hx9, hk11⟩
      have p12 := (hk11 t (fun i hi => ne_oo p5 (hT3 i hi) (by decide))).trans p5
      have f13 := f6.cal hx9 (fun b q => Or.inl (Or.inr q))
      have g14 := g7.cal hx9 (fun _ _ => Or.inl trivial)
      refine V_aload_n (i := 2) F dJ10_fixAfterDeletion_162 rfl rfl ?_
      refine V_callS (st := []) F dJ10_fixAfterDeletion_163 lk_J10_300 (ct_rightOf (o := some s) hT10 (fun _ z => Option.some.inj z ▸ hs)) rfl rfl (Nat.le_of_ble_eq_true rfl) (Nat.le_of_ble_eq_true rfl) (Nat.le_of_ble_eq_true rfl) (by first | exact Nat.le_of_ble_eq_true rfl | omega) (by first | exact Nat.le_of_ble_eq_true rfl | omega) ?_
      refine PRk ?_
      refine VV.stk (st' := [.ref (A z)]) (by first | rfl | (rw [show Option.bind (some s) R = _ from hzs]; rfl) | rw [show Option.bind (some s) R = _ from hzs]) ?_
      refine V_iconst (v := nI 1) F dJ10_fixAfterDeletion_166 rfl ?_
      refine V_callS (st := []) F dJ10_fixAfterDeletion_167 lk_J10_307 (ct_setColor (o := some z) (c := true) hT10 hAI (fun _ z => Option.some.inj z ▸ hzn)) rfl rfl (Nat.le_of_ble_eq_true rfl) (Nat.le_of_ble_eq_true rfl) (Nat.le_of_ble_eq_true rfl) (by first | exact Nat.le_of_ble_eq_true rfl | omega) (by first | exact Nat.le_of_ble_eq_true rfl | omega) ?_
      rintro _ k15 ⟨rfl, hT17, hx16, hk18⟩
      have p19 := (hk18 t (fun i hi => ne_oo p12 (hT10 i hi) (by decide))).trans p12
      have f20 := f13.cal hx16 (fun b q => Or.inl (Or.inr q))
      have g21 := g14.cal hx16 (fun _ _ => Or.inl trivial)
      refine V_aload_n (i := 0) F dJ10_fixAfterDeletion_170 rfl rfl ?_
      refine V_aload_n (i := 1) F dJ10_fixAfterDeletion_171 rfl rfl ?_
      refine V_callS (st := [.ref (t)]) F dJ10_fixAfterDeletion_172 lk_J10_294 (ct_parentOf (o := some x) hT17 (fun _ z => Option.some.inj z ▸ hx)) rfl rfl (Nat.le_of_ble_eq_true rfl) (Nat.le_of_ble_eq_true rfl) (Nat.le_of_ble_eq_true rfl) (by first | exact Nat.le_of_ble_eq_true rfl | omega) (by first | exact Nat.le_of_ble_eq_true rfl | omega) ?_
      refine PRk ?_
      refine VV.stk (st' := [.ref (A p), .ref (t)]) (by first | rfl | (rw [show Option.bind (some x) P = _ from hpx]; rfl) | rw [show Option.bind (some x) P = _ from hpx]) ?_
      refine V_callV (st := []) F dJ10_fixAfterDeletion_175 lk_J10_311 (ct_rotateLeft ⟨x0, x1, x6, x7, x8, p19, vw_fr hv1 g21 rfl, vw_fr hv7 g21 rfl⟩ hT17 hAI hw hp hps) ⟨23, _, _, _, rfl, (.inl p19)⟩ rfl rfl (Nat.le_of_ble_eq_true rfl) (Nat.le_of_ble_eq_true rfl) (Nat.le_of_ble_eq_true rfl) (by first | exact Nat.le_of_ble_eq_true rfl | omega) (by first | exact Nat.le_of_ble_eq_true rfl | omega) ?_
      rintro _ k22 ⟨rfl, hC25, hT24, hx23⟩
      obtain ⟨y26, y27, y28, y29, y30, ht31, hv32, hv33⟩ := hC25
      have f34 : Fr (mT t n A) h k22 := f20.cal hx23 (fun b q => Or.inl q)
      have hw35 := hw.rotL (L' := rlL L P p s) (R' := rlR L R P p s) (P' := rlP L P p s) (rt' := roR P rt p s) hp hps (fun _ => rfl) (fun _ => rfl) (fun _ => rfl) rfl
      refine V_aload_n (i := 0) F dJ10_fixAfterDeletion_178 rfl rfl ?_
      refine V_getf F dJ10_fixAfterDeletion_179 fc_J10_101_J10 (.inl ht31) rfl ?_
      refine V_astore_nQ (i := 1) F dJ10_fixAfterDeletion_182 rfl (Nat.le_of_ble_eq_true rfl) (Nat.le_of_ble_eq_true rfl) ?_
      refine V_goto (tgt := 0) F dJ10_fixAfterDeletion_183 (by decide) ?_
      obtain ⟨rr, hrr⟩ : ∃ rr, roR P rt p s = some rr := by
        cases hq : roR P rt p s with
        | none => exact absurd (hw35.2.2.2.2.2.2.2.2 hq) (by omega)
        | some rr => exact ⟨rr, rfl⟩
      refine VV.loc (L' := [some (.ref t), some (.ref (A rr)), some (.ref (A s))]) (by rw [hrr]; rfl) ?_
      refine VV.weak (L' := [some (.ref (t)), some (.ref (A rr)), none]) (LW.c1 (LW.c1 (LW.c0 LW.nil))) ?_
      exact exitA _ _ _ _ _ _ _ rr _ ⟨y26, y27, y28, y29, y30, ht31, vw_fr hv32 (Fr.rf (M := fun _ => True) (h := k22)) rfl, vw_fr hv33 (Fr.rf (M := fun _ => True) (h := k22)) rfl⟩ hT24 hw35 (hw35.2.2.2.2.2.2.2.1 rr hrr).1 f34 (by have h0 := hw35.2.2.2.2.2.2.2.1 rr hrr; have hpi := hw.Pin hx hpx; have hx1 := hw.1 x hx; have h3 := hw.2.2.1 p _ hp hxc; have h4 := hw.2.2.2.2.1 p _ hp hps; obtain ⟨z1, z2, z3, z4⟩ := hz; have hs1 := hw.1 s hs; exact ⟨by omega, by omega, (by rw [upo_n (by omega)]; exact z3), (by rw [upo_n (by omega)]; exact z4)⟩) (Or.inl hrr)
  have ph3R : ∀ (L R P : Nat → Option Nat) (C : Nat → Bool) (rt : Option Nat) (lo hi : Nat → Nat) (x : Nat) (hh : AH) (p s : Nat), TC hh t nz mc (rt.map A) → TN hh n A K V L R P C → WT n rt L R P lo hi → x < n → Fr (mT t n A) h hh → SB lo hi x z0 la hb → p < n → s < n → P x = some p → L p = some s → R p = some x → VV G X 3 (EQ G X 0 0 (fun r0 h2 => r0 = none ∧ ∃ L2 R2 P2 C2 rt2 lo2 hi2, TC h2 t nz mc ((rt2 : Option Nat).map A) ∧ TN h2 n A K V L2 R2 P2 C2 ∧ WT n rt2 L2 R2 P2 lo2 hi2 ∧ Fr (mT t n A) h h2 ∧ lo2 z0 = la ∧ hi2 z0 = hb)) hh 0 0 [some (.ref t), some (.ref (A x)), some (.ref (A s))] [] 302 := by
    intro L R P C rt lo hi x hh p s hC hT hw hx hF hz hp hs hpx hps hxc
    obtain ⟨x0, x1, x6, x7, x8, ht, hv1, hv7⟩ := id hC
    cases hzs : L s with
    | none =>
      refine V_aload_n (i := 2) F dJ10_fixAfterDeletion_302 rfl rfl ?_
      refine V_aload_n (i := 1) F dJ10_fixAfterDeletion_303 rfl rfl ?_
      refine V_callS (st := [.ref (A s)]) F dJ10_fixAfterDeletion_304 lk_J10_294 (ct_parentOf (o := some x) hT (fun _ z => Option.some.inj z ▸ hx)) rfl rfl (Nat.le_of_ble_eq_true rfl) (Nat.le_of_ble_eq_true rfl) (Nat.le_of_ble_eq_true rfl) (by first | exact Nat.le_of_ble_eq_true rfl | omega) (by first | exact Nat.le_of_ble_eq_true rfl | omega) ?_
      refine PRk ?_
      refine VV.stk (st' := [.ref (A p), .ref (A s)]) (by first | rfl | (rw [show Option.bind (some x) P = _ from hpx]; rfl) | rw [show Option.bind (some x) P = _ from hpx]) ?_
      refine V_callS (st := [.ref (A s)]) F dJ10_fixAfterDeletion_307 lk_J10_303 (ct_colorOf (o := some p) hT (fun _ z => Option.some.inj z ▸ hp)) rfl rfl (Nat.le_of_ble_eq_true rfl) (Nat.le_of_ble_eq_true rfl) (Nat.le_of_ble_eq_true rfl) (by first | exact Nat.le_of_ble_eq_true rfl | omega) (by first | exact Nat.le_of_ble_eq_true rfl | omega) ?_
      refine PRk ?_
      refine VV.stk (st' := [.int (cB (C p)), .ref (A s)]) rfl ?_
      refine V_callS (st := []) F dJ10_fixAfterDeletion_310 lk_J10_307 (ct_setColor (o := some s) (c := C p) hT hAI (fun _ z => Option.some.inj z ▸ hs)) rfl rfl (Nat.le_of_ble_eq_true rfl) (Nat.le_of_ble_eq_true rfl) (Nat.le_of_ble_eq_true rfl) (by first | exact Nat.le_of_ble_eq_true rfl | omega) (by first | exact Nat.le_of_ble_eq_true rfl | omega) ?_
      rintro _ k1 ⟨rfl, hT3, hx2, hk4⟩
      have p5 := (hk4 t (fun i hi => ne_oo ht (hT i hi) (by decide))).trans ht
      have f6 := hF.cal hx2 (fun b q => Or.inl (Or.inr q))
      have g7 := (Fr.rf (M := fun _ => True) (h := hh)).cal hx2 (fun _ _ => Or.inl trivial)
      refine V_aload_n (i := 1) F dJ10_fixAfterDeletion_313 rfl rfl ?_
      refine V_callS (st := []) F dJ10_fixAfterDeletion_314 lk_J10_294 (ct_parentOf (o := some x) hT3 (fun _ z => Option.some.inj z ▸ hx)) rfl rfl (Nat.le_of_ble_eq_true rfl) (Nat.le_of_ble_eq_true rfl) (Nat.le_of_ble_eq_true rfl) (by first | exact Nat.le_of_ble_eq_true rfl | omega) (by first | exact Nat.le_of_ble_eq_true rfl | omega) ?_
      refine PRk ?_
      refine VV.stk (st' := [.ref (A p)]) (by first | rfl | (rw [show Option.bind (some x) P = _ from hpx]; rfl) | rw [show Option.bind (some x) P = _ from hpx]) ?_
      refine V_iconst (v := nI 1) F dJ10_fixAfterDeletion_317 rfl ?_
      refine V_callS (st := []) F dJ10_fixAfterDeletion_318 lk_J10_307 (ct_setColor (o := some p) (c := true) hT3 hAI (fun _ z => Option.some.inj z ▸ hp)) rfl rfl (Nat.le_of_ble_eq_true rfl) (Nat.le_of_ble_eq_true rfl) (Nat.le_of_ble_eq_true rfl) (by first | exact Nat.le_of_ble_eq_true rfl | omega) (by first | exact Nat.le_of_ble_eq_true rfl | omega) ?_
      rintro _ k8 ⟨rfl, hT10, hx9, hk11⟩
      have p12 := (hk11 t (fun i hi => ne_oo p5 (hT3 i hi) (by decide))).trans p5
      have f13 := f6.cal hx9 (fun b q => Or.inl (Or.inr q))
      have g14 := g7.cal hx9 (fun _ _ => Or.inl trivial)
      refine V_aload_n (i := 2) F dJ10_fixAfterDeletion_321 rfl rfl ?_
      refine V_callS (st := []) F dJ10_fixAfterDeletion_322 lk_J10_297 (ct_leftOf (o := some s) hT10 (fun _ z => Option.some.inj z ▸ hs)) rfl rfl (Nat.le_of_ble_eq_true rfl) (Nat.le_of_ble_eq_true rfl) (Nat.le_of_ble_eq_true rfl) (by first | exact Nat.le_of_ble_eq_true rfl | omega) (by first | exact Nat.le_of_ble_eq_true rfl | omega) ?_
      refine PRk ?_
      refine VV.stk (st' := [.null]) (by first | rfl | (rw [show Option.bind (some s) L = _ from hzs]; rfl) | rw [show Option.bind (some s) L = _ from hzs]) ?_
      refine V_iconst (v := nI 1) F dJ10_fixAfterDeletion_325 rfl ?_
      refine V_callS (st := []) F dJ10_fixAfterDeletion_326 lk_J10_307 (ct_setColor (o := none) (c := true) hT10 hAI (fun _ z => nomatch z)) rfl rfl (Nat.le_of_ble_eq_true rfl) (Nat.le_of_ble_eq_true rfl) (Nat.le_of_ble_eq_true rfl) (by first | exact Nat.le_of_ble_eq_true rfl | omega) (by first | exact Nat.le_of_ble_eq_true rfl | omega) ?_
      rintro _ k15 ⟨rfl, hT17, hx16, hk18⟩
      have p19 := (hk18 t (fun i hi => ne_oo p12 (hT10 i hi) (by decide))).trans p12
      have f20 := f13.cal hx16 (fun b q => Or.inl (Or.inr q))
      have g21 := g14.cal hx16 (fun _ _ => Or.inl trivial)
      refine V_aload_n (i := 0) F dJ10_fixAfterDeletion_329 rfl rfl ?_
      refine V_aload_n (i := 1) F dJ10_fixAfterDeletion_330 rfl rfl ?_
      refine V_callS (st := [.ref (t)]) F dJ10_fixAfterDeletion_331 lk_J10_294 (ct_parentOf (o := some x) hT17 (fun _ z => Option.some.inj z ▸ hx)) rfl rfl (Nat.le_of_ble_eq_true rfl) (Nat.le_of_ble_eq_true rfl) (Nat.le_of_ble_eq_true rfl) (by first | exact Nat.le_of_ble_eq_true rfl | omega) (by first | exact Nat.le_of_ble_eq_true rfl | omega) ?_
      refine PRk ?_
      refine VV.stk (st' := [.ref (A p), .ref (t)]) (by first | rfl | (rw [show Option.bind (some x) P = _ from hpx]; rfl) | rw [show Option.bind (some x) P = _ from hpx]) ?_
      refine V_callV (st := []) F dJ10_fixAfterDeletion_334 lk_J10_314 (ct_rotateRight ⟨x0, x1, x6, x7, x8, p19, vw_fr hv1 g21 rfl, vw_fr hv7 g21 rfl⟩ hT17 hAI hw hp hps) ⟨23, _, _, _, rfl, (.inl p19)⟩ rfl rfl (Nat.le_of_ble_eq_true rfl) (Nat.le_of_ble_eq_true rfl) (Nat.le_of_ble_eq_true rfl) (by first | exact Nat.le_of_ble_eq_true rfl | omega) (by first | exact Nat.le_of_ble_eq_true rfl | omega) ?_
      rintro _ k22 ⟨rfl, hC25, hT24, hx23⟩
      obtain ⟨y26, y27, y28, y29, y30, ht31, hv32, hv33⟩ := hC25
      have f34 : Fr (mT t n A) h k22 := f20.cal hx23 (fun b q => Or.inl q)
      have hw35 := hw.rotR (L' := rrL L R P p s) (R' := rrR R P p s) (P' := rrP R P p s) (rt' := roR P rt p s) hp hps (fun _ => rfl) (fun _ => rfl) (fun _ => rfl) rfl
      refine V_aload_n (i := 0) F dJ10_fixAfterDeletion_337 rfl rfl ?_
      refine V_getf F dJ10_fixAfterDeletion_338 fc_J10_101_J10 (.inl ht31) rfl ?_
      refine V_astore_nQ (i := 1) F dJ10_fixAfterDeletion_341 rfl (Nat.le_of_ble_eq_true rfl) (Nat.le_of_ble_eq_true rfl) ?_
      refine V_goto (tgt := 0) F dJ10_fixAfterDeletion_342 (by decide) ?_
      obtain ⟨rr, hrr⟩ : ∃ rr, roR P rt p s = some rr := by
        cases hq : roR P rt p s with
        | none => exact absurd (hw35.2.2.2.2.2.2.2.2 hq) (by omega)
        | some rr => exact ⟨rr, rfl⟩
      refine VV.loc (L' := [some (.ref t), some (.ref (A rr)), some (.ref (A s))]) (by rw [hrr]; rfl) ?_
      refine VV.weak (L' := [some (.ref (t)), some (.ref (A rr)), none]) (LW.c1 (LW.c1 (LW.c0 LW.nil))) ?_
      exact exitA _ _ _ _ _ _ _ rr _ ⟨y26, y27, y28, y29, y30, ht31, vw_fr hv32 (Fr.rf (M := fun _ => True) (h := k22)) rfl, vw_fr hv33 (Fr.rf (M := fun _ => True) (h := k22)) rfl⟩ hT24 hw35 (hw35.2.2.2.2.2.2.2.1 rr hrr).1 f34 (by have h0 := hw35.2.2.2.2.2.2.2.1 rr hrr; have hpi := hw.Pin hx hpx; have hx1 := hw.1 x hx; have h3 := hw.2.2.1 p _ hp hps; have h4 := hw.2.2.2.2.1 p _ hp hxc; obtain ⟨z1, z2, z3, z4⟩ := hz; have hs1 := hw.1 s hs; exact ⟨by omega, by omega, (by rw [upo_n (by omega)]; exact z3), (by rw [upo_n (by omega)]; exact z4)⟩) (Or.inl hrr)
    | some z =>
      have hzn : z < n := hw.bL hs hzs
      refine V_aload_n (i := 2) F dJ10_fixAfterDeletion_302 rfl rfl ?_
      refine V_aload_n (i := 1) F dJ10_fixAfterDeletion_303 rfl rfl ?_
      refine V_callS (st := [.ref (A s)]) F dJ10_fixAfterDeletion_304 lk_J10_294 (ct_parentOf (o := some x) hT (fun _ z => Option.some.inj z ▸ hx)) rfl rfl (Nat.le_of_ble_eq_true rfl) (Nat.le_of_ble_eq_true rfl) (Nat.le_of_ble_eq_true rfl) (by first | exact Nat.le_of_ble_eq_true rfl | omega) (by first | exact Nat.le_of_ble_eq_true rfl | omega) ?_
      refine PRk ?_
      refine VV.stk (st' := [.ref (A p), .ref (A s)]) (by first | rfl | (rw [show Option.bind (some x) P = _ from hpx]; rfl) | rw [show Option.bind (some x) P = _ from hpx]) ?_
      refine V_callS (st := [.ref (A s)]) F dJ10_fixAfterDeletion_307 lk_J10_303 (ct_colorOf (o := some p) hT (fun _ z => Option.some.inj z ▸ hp)) rfl rfl (Nat.le_of_ble_eq_true rfl) (Nat.le_of_ble_eq_true rfl) (Nat.le_of_ble_eq_true rfl) (by first | exact Nat.le_of_ble_eq_true rfl | omega) (by first | exact Nat.le_of_ble_eq_true rfl | omega) ?_
      refine PRk ?_
      refine VV.stk (st' := [.int (cB (C p)), .ref (A s)]) rfl ?_
      refine V_callS (st := []) F dJ10_fixAfterDeletion_310 lk_J10_307 (ct_setColor (o := some s) (c := C p) hT hAI (fun _ z => Option.some.inj z ▸ hs)) rfl rfl (Nat.le_of_ble_eq_true rfl) (Nat.le_of_ble_eq_true rfl) (Nat.le_of_ble_eq_true rfl) (by first | exact Nat.le_of_ble_eq_true rfl | omega) (by first | exact Nat.le_of_ble_eq_true rfl | omega) ?_
      rintro _ k1 ⟨rfl, hT3, hx2, hk4⟩
      have p5 := (hk4 t (fun i hi => ne_oo ht (hT i hi) (by decide))).trans ht
      have f6 := hF.cal hx2 (fun b q => Or.inl (Or.inr q))
      have g7 := (Fr.rf (M := fun _ => True) (h := hh)).cal hx2 (fun _ _ => Or.inl trivial)
      refine V_aload_n (i := 1) F dJ10_fixAfterDeletion_313 rfl rfl ?_
      refine V_callS (st := []) F dJ10_fixAfterDeletion_314 lk_J10_294 (ct_parentOf (o := some x) hT3 (fun _ z => Option.some.inj z ▸ hx)) rfl rfl (Nat.le_of_ble_eq_true rfl) (Nat.le_of_ble_eq_true rfl) (Nat.le_of_ble_eq_true rfl) (by first | exact Nat.le_of_ble_eq_true rfl | omega) (by first | exact Nat.le_of_ble_eq_true rfl | omega) ?_
      refine PRk ?_
      refine VV.stk (st' := [.ref (A p)]) (by first | rfl | (rw [show Option.bind (some x) P = _ from hpx]; rfl) | rw [show Option.bind (some x) P = _ from hpx]) ?_
      refine V_iconst (v := nI 1) F dJ10_fixAfterDeletion_317 rfl ?_
      refine V_callS (st := []) F dJ10_fixAfterDeletion_318 lk_J10_307 (ct_setColor (o := some p) (c := true) hT3 hAI (fun _ z => Option.some.inj z ▸ hp)) rfl rfl (Nat.le_of_ble_eq_true rfl) (Nat.le_of_ble_eq_true rfl) (Nat.le_of_ble_eq_true rfl) (by first | exact Nat.le_of_ble_eq_true rfl | omega) (by first | exact Nat.le_of_ble_eq_true rfl | omega) ?_
      rintro _ k8 ⟨rfl, hT10, hx9, hk11⟩
      have p12 := (hk11 t (fun i hi => ne_oo p5 (hT3 i hi) (by decide))).trans p5
      have f13 := f6.cal hx9 (fun b q => Or.inl (Or.inr q))
      have g14 := g7.cal hx9 (fun _ _ => Or.inl trivial)
      refine V_aload_n (i := 2) F dJ10_fixAfterDeletion_321 rfl rfl ?_
      refine V_callS (st := []) F dJ10_fixAfterDeletion_322 lk_J10_297 (ct_leftOf (o := some s) hT10 (fun _ z => Option.some.inj z ▸ hs)) rfl rfl (Nat.le_of_ble_eq_true rfl) (Nat.le_of_ble_eq_true rfl) (Nat.le_of_ble_eq_true rfl) (by first | exact Nat.le_of_ble_eq_true rfl | omega) (by first | exact Nat.le_of_ble_eq_true rfl | omega) ?_
      refine PRk ?_
      refine VV.stk (st' := [.ref (A z)]) (by first | rfl | (rw [show Option.bind (some s) L = _ from hzs]; rfl) | rw [show Option.bind (some s) L = _ from hzs]) ?_
      refine V_iconst (v := nI 1) F dJ10_fixAfterDeletion_325 rfl ?_
      refine V_callS (st := []) F dJ10_fixAfterDeletion_326 lk_J10_307 (ct_setColor (o := some z) (c := true) hT10 hAI (fun _ z => Option.some.inj z ▸ hzn)) rfl rfl (Nat.le_of_ble_eq_true rfl) (Nat.le_of_ble_eq_true rfl) (Nat.le_of_ble_eq_true rfl) (by first | exact Nat.le_of_ble_eq_true rfl | omega) (by first | exact Nat.le_of_ble_eq_true rfl | omega) ?_
      rintro _ k15 ⟨rfl, hT17, hx16, hk18⟩
      have p19 := (hk18 t (fun i hi => ne_oo p12 (hT10 i hi) (by decide))).trans p12
      have f20 := f13.cal hx16 (fun b q => Or.inl (Or.inr q))
      have g21 := g14.cal hx16 (fun _ _ => Or.inl trivial)
      refine V_aload_n (i := 0) F dJ10_fixAfterDeletion_329 rfl rfl ?_
      refine V_aload_n (i := 1) F dJ10_fixAfterDeletion_330 rfl rfl ?_
      refine V_callS (st := [.ref (t)]) F dJ10_fixAfterDeletion_331 lk_J10_294 (ct_parentOf (o := some x) hT17 (fun _ z => Option.some.inj z ▸ hx)) rfl rfl (Nat.le_of_ble_eq_true rfl) (Nat.le_of_ble_eq_true rfl) (Nat.le_of_ble_eq_true rfl) (by first | exact Nat.le_of_ble_eq_true rfl | omega) (by first | exact Nat.le_of_ble_eq_true rfl | omega) ?_
      refine PRk ?_
      refine VV.stk (st' := [.ref (A p), .ref (t)]) (by first | rfl | (rw [show Option.bind (some x) P = _ from hpx]; rfl) | rw [show Option.bind (some x) P = _ from hpx]) ?_
      refine V_callV (st := []) F dJ10_fixAfterDeletion_334 lk_J10_314 (ct_rotateRight ⟨x0, x1, x6, x7, x8, p19, vw_fr hv1 g21 rfl, vw_fr hv7 g21 rfl⟩ hT17 hAI hw hp hps) ⟨23, _, _, _, rfl, (.inl p19)⟩ rfl rfl (Nat.le_of_ble_eq_true rfl) (Nat.le_of_ble_eq_true rfl) (Nat.le_of_ble_eq_true rfl) (by first | exact Nat.le_of_ble_eq_true rfl | omega) (by first | exact Nat.le_of_ble_eq_true rfl | omega) ?_
      rintro _ k22 ⟨rfl, hC25, hT24, hx23⟩
      obtain ⟨y26, y27, y28, y29, y30, ht31, hv32, hv33⟩ := hC25
      have f34 : Fr (mT t n A) h k22 := f20.cal hx23 (fun b q => Or.inl q)
      have hw35 := hw.rotR (L' := rrL L R P p s) (R' := rrR R P p s) (P' := rrP R P p s) (rt' := roR P rt p s) hp hps (fun _ => rfl) (fun _ => rfl) (fun _ => rfl) rfl
      refine V_aload_n (i := 0) F dJ10_fixAfterDeletion_337 rfl rfl ?_
      refine V_getf F dJ10_fixAfterDeletion_338 fc_J10_101_J10 (.inl ht31) rfl ?_
      refine V_astore_nQ (i := 1) F dJ10_fixAfterDeletion_341 rfl (Nat.le_of_ble_eq_true rfl) (Nat.le_of_ble_eq_true rfl) ?_
      refine V_goto (tgt := 0) F dJ10_fixAfterDeletion_342 (by decide) ?_
      obtain ⟨rr, hrr⟩ : ∃ rr, roR P rt p s = some rr := by
        cases hq : roR P rt p s with
        | none => exact absurd (hw35.2.2.2.2.2.2.2.2 hq) (by omega)
        | some rr => exact ⟨rr, rfl⟩
      refine VV.loc (L' := [some (.ref t), some (.ref (A rr)), some (.ref (A s))]) (by rw [hrr]; rfl) ?_
      refine VV.weak (L' := [some (.ref (t)), some (.ref (A rr)), none]) (LW.c1 (LW.c1 (LW.c0 LW.nil))) ?_
      exact exitA _ _ _ _ _ _ _ rr _ ⟨y26, y27, y28, y29, y30, ht31, vw_fr hv32 (Fr.rf (M := fun _ => True) (h := k22)) rfl, vw_fr hv33 (Fr.rf (M := fun _ => True) (h := k22)) rfl⟩ hT24 hw35 (hw35.2.2.2.2.2.2.2.1 rr hrr).1 f34 (by have h0 := hw35.2.2.2.2.2.2.2.1 rr hrr; have hpi := hw.Pin hx hpx; have hx1 := hw.1 x hx; have h3 := hw.2.2.1 p _ hp hps; have h4 := hw.2.2.2.2.1 p _ hp hxc; obtain ⟨z1, z2, z3, z4⟩ := hz; have hs1 := hw.1 s hs; exact ⟨by omega, by omega, (by rw [upo_n (by omega)]; exact z3), (by rw [upo_n (by omega)]; exact z4)⟩) (Or.inl hrr)
  have loop : ∀ (nn : Nat) (L R P : Nat → Option Nat) (C : Nat → Bool) (rt : Option Nat) (lo hi : Nat → Nat) (x : Nat) (hh : AH), n - (hi x - lo x) < nn → TC hh t nz mc (rt.map A) → TN hh n A K V L R P C → WT n rt L R P lo hi → x < n → Fr (mT t n A) h hh → SB lo hi x z0 la hb → VV G X 3 (EQ G X 0 0 (fun r0 h2 => r0 = none ∧ ∃ L2 R2 P2 C2 rt2 lo2 hi2, TC h2 t nz mc ((rt2 : Option Nat).map A) ∧ TN h2 n A K V L2 R2 P2 C2 ∧ WT n rt2 L2 R2 P2 lo2 hi2 ∧ Fr (mT t n A) h h2 ∧ lo2 z0 = la ∧ hi2 z0 = hb)) hh 0 0 [some (.ref t), some (.ref (A x)), none] [] 0 := by
    intro nn
    induction nn with
    | zero => intro L R P C rt lo hi x hh hm; exact absurd hm (by omega)
    | succ nn ih =>
      have ph2L : ∀ (L R P : Nat → Option Nat) (C : Nat → Bool) (rt : Option Nat) (lo hi : Nat → Nat) (x : Nat) (hh : AH) (p : Nat), n - (hi x - lo x) < nn + 1 → TC hh t nz mc (rt.map A) → TN hh n A K V L R P C → WT n rt L R P lo hi → x < n → Fr (mT t n A) h hh → SB lo hi x z0 la hb → p < n → P x = some p → L p = some x → VV G X 3 (EQ G X 0 0 (fun r0 h2 => r0 = none ∧ ∃ L2 R2 P2 C2 rt2 lo2 hi2, TC h2 t nz mc ((rt2 : Option Nat).map A) ∧ TN h2 n A K V L2 R2 P2 C2 ∧ WT n rt2 L2 R2 P2 lo2 hi2 ∧ Fr (mT t n A) h h2 ∧ lo2 z0 = la ∧ hi2 z0 = hb)) hh 0 0 [some (.ref t), some (.ref (A x)), some (va_rf ((R p).map A))] [] 71 := by
        intro L R P C rt lo hi x hh p hm hC hT hw hx hF hz hp hpx hcp
        obtain ⟨x0, x1, x6, x7, x8, ht, hv1, hv7⟩ := id hC
        have hxp := hw.Pne hx hpx
        cases hs : R p with
        | none =>
          refine VV.loc (L' := [some (.ref t), some (.ref (A x)), some .null]) rfl ?_
          refine V_aload_nN (i := 2) F dJ10_fixAfterDeletion_71 rfl rfl ?_
          refine V_callS (st := []) F dJ10_fixAfterDeletion_72 lk_J10_297 (ct_leftOf (o := none) hT (fun _ z => nomatch z)) rfl rfl (Nat.le_of_ble_eq_true rfl) (Nat.le_of_ble_eq_true rfl) (Nat.le_of_ble_eq_true rfl) (by first | exact Nat.le_of_ble_eq_true rfl | omega) (by first | exact Nat.le_of_ble_eq_true rfl | omega) ?_
          refine PRk ?_
          refine VV.stk (st' := [.null]) rfl ?_
          refine V_callS (st := []) F dJ10_fixAfterDeletion_75 lk_J10_303 (ct_colorOf (o := none) hT (fun _ z => nomatch z)) rfl rfl (Nat.le_of_ble_eq_true rfl) (Nat.le_of_ble_eq_true rfl) (Nat.le_of_ble_eq_true rfl) (by first | exact Nat.le_of_ble_eq_true rfl | omega) (by first | exact Nat.le_of_ble_eq_true rfl | omega) ?_
          refine PRk ?_
          refine VV.stk (st' := [.int (cB (true))]) rfl ?_
          refine V_iconst (v := nI 1) F dJ10_fixAfterDeletion_78 rfl ?_
          refine V_icmp_ne1C (c := true) (tgt := 106) F dJ10_fixAfterDeletion_79 (by decide) (fun c_79 => nomatch c_79) (fun c_79 => ?_)
          refine V_aload_nN (i := 2) F dJ10_fixAfterDeletion_82 rfl rfl ?_
          refine V_callS (st := []) F dJ10_fixAfterDeletion_83 lk_J10_300 (ct_rightOf (o := none) hT (fun _ z => nomatch z)) rfl rfl (Nat.le_of_ble_eq_true rfl) (Nat.le_of_ble_eq_true rfl) (Nat.le_of_ble_eq_true rfl) (by first | exact Nat.le_of_ble_eq_true rfl | omega) (by first | exact Nat.le_of_ble_eq_true rfl | omega) ?_
          refine PRk ?_
          refine VV.stk (st' := [.null]) rfl ?_
          refine V_callS (st := []) F dJ10_fixAfterDeletion_86 lk_J10_303 (ct_colorOf (o := none) hT (fun _ z => nomatch z)) rfl rfl (Nat.le_of_ble_eq_true rfl) (Nat.le_of_ble_eq_true rfl) (Nat.le_of_ble_eq_true rfl) (by first | exact Nat.le_of_ble_eq_true rfl | omega) (by first | exact Nat.le_of_ble_eq_true rfl | omega) ?_
          refine PRk ?_
          refine VV.stk (st' := [.int (cB (true))]) rfl ?_
          refine V_iconst (v := nI 1) F dJ10_fixAfterDeletion_89 rfl ?_
          refine V_icmp_ne1C (c := true) (tgt := 106) F dJ10_fixAfterDeletion_90 (by decide) (fun c_90 => nomatch c_90) (fun c_90 => ?_)
          refine V_aload_nN (i := 2) F dJ10_fixAfterDeletion_93 rfl rfl ?_
          refine V_iconst (v := nI 0) F dJ10_fixAfterDeletion_94 rfl ?_
          refine V_callS (st := []) F dJ10_fixAfterDeletion_95 lk_J10_307 (ct_setColor (o := none) (c := false) hT hAI (fun _ z => nomatch z)) rfl rfl (Nat.le_of_ble_eq_true rfl) (Nat.le_of_ble_eq_true rfl) (Nat.le_of_ble_eq_true rfl) (by first | exact Nat.le_of_ble_eq_true rfl | omega) (by first | exact Nat.le_of_ble_eq_true rfl | omega) ?_
          rintro _ k1 ⟨rfl, hT3, hx2, hk4⟩
          have p5 := (hk4 t (fun i hi => ne_oo ht (hT i hi) (by decide))).trans ht
          have f6 := hF.cal hx2 (fun b q => Or.inl (Or.inr q))
          have g7 := (Fr.rf (M := fun _ => True) (h := hh)).cal hx2 (fun _ _ => Or.inl trivial)
          refine V_aload_n (i := 1) F dJ10_fixAfterDeletion_98 rfl rfl ?_
          refine V_callS (st := []) F dJ10_fixAfterDeletion_99 lk_J10_294 (ct_parentOf (o := some x) hT3 (fun _ z => Option.some.inj z ▸ hx)) rfl rfl (Nat.le_of_ble_eq_true rfl) (Nat.le_of_ble_eq_true rfl) (Nat.le_of_ble_eq_true rfl) (by first | exact Nat.le_of_ble_eq_true rfl | omega) (by first | exact Nat.le_of_ble_eq_true rfl | omega) ?_
          refine PRk ?_
          refine VV.stk (st' := [.ref (A p)]) (by first | rfl | (rw [show Option.bind (some x) P = _ from hpx]; rfl) | rw [show Option.bind (some x) P = _ from hpx]) ?_
          refine V_astore_n (i := 1) F dJ10_fixAfterDeletion_102 rfl (Nat.le_of_ble_eq_true rfl) (Nat.le_of_ble_eq_true rfl) ?_
          refine V_goto (tgt := 183) F dJ10_fixAfterDeletion_103 (by decide) ?_
          refine V_goto (tgt := 0) F dJ10_fixAfterDeletion_183 (by decide) ?_
          refine VV.weak (L' := [some (.ref (t)), some (.ref (A p)), none]) (LW.c1 (LW.c1 (LW.c0 LW.nil))) ?_
          exact ih _ _ _ _ _ _ _ p _ (by have := hw.Pin hx hpx; have := hw.1 p hp; have := hw.1 x hx; omega) ⟨x0, x1, x6, x7, x8, p5, vw_fr hv1 g7 rfl, vw_fr hv7 g7 rfl⟩ hT3 hw hp f6 (by have := hw.Pin hx hpx; have := hw.1 x hx; obtain ⟨z1, z2, z3, z4⟩ := hz; exact ⟨by omega, by omega, z3, z4⟩)
        | some s =>
          have hsn : s < n := hw.bR hp hs
          refine VV.loc (L' := [some (.ref t), some (.ref (A x)), some (.ref (A s))]) rfl ?_
          cases hi : L s with
          | none =>
            cases ho : R s with
            | none =>
              refine V_aload_n (i := 2) F dJ10_fixAfterDeletion_71 rfl rfl ?_
              refine V_callS (st := []) F dJ10_fixAfterDeletion_72 lk_J10_297 (ct_leftOf (o := some s) hT (fun _ z => Option.some.inj z ▸ hsn)) rfl rfl (Nat.le_of_ble_eq_true rfl) (Nat.le_of_ble_eq_true rfl) (Nat.le_of_ble_eq_true rfl) (by first | exact Nat.le_of_ble_eq_true rfl | omega) (by first | exact Nat.le_of_ble_eq_true rfl | omega) ?_
              refine PRk ?_
              refine VV.stk (st' := [.null]) (by first | rfl | (rw [show Option.bind (some s) L = _ from hi]; rfl) | rw [show Option.bind (some s) L = _ from hi]) ?_
              refine V_callS (st := []) F dJ10_fixAfterDeletion_75 lk_J10_303 (ct_colorOf (o := none) hT (fun _ z => nomatch z)) rfl rfl (Nat.le_of_ble_eq_true rfl) (Nat.le_of_ble_eq_true rfl) (Nat.le_of_ble_eq_true rfl) (by first | exact Nat.le_of_ble_eq_true rfl | omega) (by first | exact Nat.le_of_ble_eq_true rfl | omega) ?_
              refine PRk ?_
              refine VV.stk (st' := [.int (cB (true))]) rfl ?_
              refine V_iconst (v := nI 1) F dJ10_fixAfterDeletion_78 rfl ?_
              refine V_icmp_ne1C (c := true) (tgt := 106) F dJ10_fixAfterDeletion_79 (by decide) (fun c_79 => nomatch c_79) (fun c_79 => ?_)
              refine V_aload_n (i := 2) F dJ10_fixAfterDeletion_82 rfl rfl ?_
              refine V_callS (st := []) F dJ10_fixAfterDeletion_83 lk_J10_300 (ct_rightOf (o := some s) hT (fun _ z => Option.some.inj z ▸ hsn)) rfl rfl (Nat.le_of_ble_eq_true rfl) (Nat.le_of_ble_eq_true rfl) (Nat.le_of_ble_eq_true rfl) (by first | exact Nat.le_of_ble_eq_true rfl | omega) (by first | exact Nat.le_of_ble_eq_true rfl | omega) ?_
              refine PRk ?_
              refine VV.stk (st' := [.null]) (by first | rfl | (rw [show Option.bind (some s) R = _ from ho]; rfl) | rw [show Option.bind (some s) R = _ from ho]) ?_
              refine V_callS (st := []) F dJ10_fixAfterDeletion_86 lk_J10_303 (ct_colorOf (o := none) hT (fun _ z => nomatch z)) rfl rfl (Nat.le_of_ble_eq_true rfl) (Nat.le_of_ble_eq_true rfl) (Nat.le_of_ble_eq_true rfl) (by first | exact Nat.le_of_ble_eq_true rfl | omega) (by first | exact Nat.le_of_ble_eq_true rfl | omega) ?_
              refine PRk ?_
              refine VV.stk (st' := [.int (cB (true))]) rfl ?_
              refine V_iconst (v := nI 1) F dJ10_fixAfterDeletion_89 rfl ?_
              refine V_icmp_ne1C (c := true) (tgt := 106) F dJ10_fixAfterDeletion_90 (by decide) (fun c_90 => nomatch c_90) (fun c_90 => ?_)
              refine V_aload_n (i := 2) F dJ10_fixAfterDeletion_93 rfl rfl ?_
              refine V_iconst (v := nI 0) F dJ10_fixAfterDeletion_94 rfl ?_
              refine V_callS (st := []) F dJ10_fixAfterDeletion_95 lk_J10_307 (ct_setColor (o := some s) (c := false) hT hAI (fun _ z => Option.some.inj z ▸ hsn)) rfl rfl (Nat.le_of_ble_eq_true rfl) (Nat.le_of_ble_eq_true rfl) (Nat.le_of_ble_eq_true rfl) (by first | exact Nat.le_of_ble_eq_true rfl | omega) (by first | exact Nat.le_of_ble_eq_true rfl | omega) ?_
              rintro _ k1 ⟨rfl, hT3, hx2, hk4⟩
              have p5 := (hk4 t (fun i hi => ne_oo ht (hT i hi) (by decide))).trans ht
              have f6 := hF.cal hx2 (fun b q => Or.inl (Or.inr q))
              have g7 := (Fr.rf (M := fun _ => True) (h := hh)).cal hx2 (fun _ _ => Or.inl trivial)
              refine V_aload_n (i := 1) F dJ10_fixAfterDeletion_98 rfl rfl ?_
              refine V_callS (st := []) F dJ10_fixAfterDeletion_99 lk_J10_294 (ct_parentOf (o := some x) hT3 (fun _ z => Option.some.inj z ▸ hx)) rfl rfl (Nat.le_of_ble_eq_true rfl) (Nat.le_of_ble_eq_true rfl) (Nat.le_of_ble_eq_true rfl) (by first | exact Nat.le_of_ble_eq_true rfl | omega) (by first | exact Nat.le_of_ble_eq_true rfl | omega) ?_
              refine PRk ?_
              refine VV.stk (st' := [.ref (A p)]) (by first | rfl | (rw [show Option.bind (some x) P = _ from hpx]; rfl) | rw [show Option.bind (some x) P = _ from hpx]) ?_
              refine V_astore_n (i := 1) F dJ10_fixAfterDeletion_102 rfl (Nat.le_of_ble_eq_true rfl) (Nat.le_of_ble_eq_true rfl) ?_
              refine V_goto (tgt := 183) F dJ10_fixAfterDeletion_103 (by decide) ?_
              refine V_goto (tgt := 0) F dJ10_fixAfterDeletion_183 (by decide) ?_
              refine VV.weak (L' := [some (.ref (t)), some (.ref (A p)), none]) (LW.c1 (LW.c1 (LW.c0 LW.nil))) ?_
              exact ih _ _ _ _ _ _ _ p _ (by have := hw.Pin hx hpx; have := hw.1 p hp; have := hw.1 x hx; omega) ⟨x0, x1, x6, x7, x8, p5, vw_fr hv1 g7 rfl, vw_fr hv7 g7 rfl⟩ hT3 hw hp f6 (by have := hw.Pin hx hpx; have := hw.1 x hx; obtain ⟨z1, z2, z3, z4⟩ := hz; exact ⟨by omega, by omega, z3, z4⟩)
            | some o1 =>
              have ho1 : o1 < n := hw.bR hsn ho
              cases hco1 : C o1 with
              | false =>
                refine V_aload_n (i := 2) F dJ10_fixAfterDeletion_71 rfl rfl ?_
                refine V_callS (st := []) F dJ10_fixAfterDeletion_72 lk_J10_297 (ct_leftOf (o := some s) hT (fun _ z => Option.some.inj z ▸ hsn)) rfl rfl (Nat.le_of_ble_eq_true rfl) (Nat.le_of_ble_eq_true rfl) (Nat.le_of_ble_eq_true rfl) (by first | exact Nat.le_of_ble_eq_true rfl | omega) (by first | exact Nat.le_of_ble_eq_true rfl | omega) ?_
                refine PRk ?_
                refine VV.stk (st' := [.null]) (by first | rfl | (rw [show Option.bind (some s) L = _ from hi]; rfl) | rw [show Option.bind (some s) L = _ from hi]) ?_
                refine V_callS (st := []) F dJ10_fixAfterDeletion_75 lk_J10_303 (ct_colorOf (o := none) hT (fun _ z => nomatch z)) rfl rfl (Nat.le_of_ble_eq_true rfl) (Nat.le_of_ble_eq_true rfl) (Nat.le_of_ble_eq_true rfl) (by first | exact Nat.le_of_ble_eq_true rfl | omega) (by first | exact Nat.le_of_ble_eq_true rfl | omega) ?_
                refine PRk ?_
                refine VV.stk (st' := [.int (cB (true))]) rfl ?_
                refine V_iconst (v := nI 1) F dJ10_fixAfterDeletion_78 rfl ?_
                refine V_icmp_ne1C (c := true) (tgt := 106) F dJ10_fixAfterDeletion_79 (by decide) (fun c_79 => nomatch c_79) (fun c_79 => ?_)
                refine V_aload_n (i := 2) F dJ10_fixAfterDeletion_82 rfl rfl ?_
                refine V_callS (st := []) F dJ10_fixAfterDeletion_83 lk_J10_300 (ct_rightOf (o := some s) hT (fun _ z => Option.some.inj z ▸ hsn)) rfl rfl (Nat.le_of_ble_eq_true rfl) (Nat.le_of_ble_eq_true rfl) (Nat.le_of_ble_eq_true rfl) (by first | exact Nat.le_of_ble_eq_true rfl | omega) (by first | exact Nat.le_of_ble_eq_true rfl | omega) ?_
                refine PRk ?_
                refine VV.stk (st' := [.ref (A o1)]) (by first | rfl | (rw [show Option.bind (some s) R = _ from ho]; rfl) | rw [show Option.bind (some s) R = _ from ho]) ?_
                refine V_callS (st := []) F dJ10_fixAfterDeletion_86 lk_J10_303 (ct_colorOf (o := some o1) hT (fun _ z => Option.some.inj z ▸ ho1)) rfl rfl (Nat.le_of_ble_eq_true rfl) (Nat.le_of_ble_eq_true rfl) (Nat.le_of_ble_eq_true rfl) (by first | exact Nat.le_of_ble_eq_true rfl | omega) (by first | exact Nat.le_of_ble_eq_true rfl | omega) ?_
                refine PRk ?_
                refine VV.stk (st' := [.int (cB (C o1))]) rfl ?_
                refine V_iconst (v := nI 1) F dJ10_fixAfterDeletion_89 rfl ?_
                refine V_icmp_ne1C (c := C o1) (tgt := 106) F dJ10_fixAfterDeletion_90 (by decide) (fun c_90 => ?_) (fun c_90 => absurd (c_90.symm.trans hco1) (by decide))
                refine V_aload_n (i := 2) F dJ10_fixAfterDeletion_106 rfl rfl ?_
                refine V_callS (st := []) F dJ10_fixAfterDeletion_107 lk_J10_300 (ct_rightOf (o := some s) hT (fun _ z => Option.some.inj z ▸ hsn)) rfl rfl (Nat.le_of_ble_eq_true rfl) (Nat.le_of_ble_eq_true rfl) (Nat.le_of_ble_eq_true rfl) (by first | exact Nat.le_of_ble_eq_true rfl | omega) (by first | exact Nat.le_of_ble_eq_true rfl | omega) ?_
                refine PRk ?_
                refine VV.stk (st' := [.ref (A o1)]) (by first | rfl | (rw [show Option.bind (some s) R = _ from ho]; rfl) | rw [show Option.bind (some s) R = _ from ho]) ?_
                refine V_callS (st := []) F dJ10_fixAfterDeletion_110 lk_J10_303 (ct_colorOf (o := some o1) hT (fun _ z => Option.some.inj z ▸ ho1)) rfl rfl (Nat.le_of_ble_eq_true rfl) (Nat.le_of_ble_eq_true rfl) (Nat.le_of_ble_eq_true rfl) (by first | exact Nat.le_of_ble_eq_true rfl | omega) (by first | exact Nat.le_of_ble_eq_true rfl | omega) ?_
                refine PRk ?_
                refine VV.stk (st' := [.int (cB (C o1))]) rfl ?_
                refine V_iconst (v := nI 1) F dJ10_fixAfterDeletion_113 rfl ?_
                refine V_icmp_ne1C (c := C o1) (tgt := 143) F dJ10_fixAfterDeletion_114 (by decide) (fun c_114 => ?_) (fun c_114 => absurd (c_114.symm.trans hco1) (by decide))
                exact ph3L _ _ _ _ _ _ _ x _ p s ⟨x0, x1, x6, x7, x8, ht, vw_fr hv1 (Fr.rf (M := fun _ => True) (h := hh)) rfl, vw_fr hv7 (Fr.rf (M := fun _ => True) (h := hh)) rfl⟩ hT hw hx hF hz hp hsn hpx hs hcp
              | true =>
                refine V_aload_n (i := 2) F dJ10_fixAfterDeletion_71 rfl rfl ?_
                refine V_callS (st := []) F dJ10_fixAfterDeletion_72 lk_J10_297 (ct_leftOf (o := some s) hT (fun _ z => Option.some.inj z ▸ hsn)) rfl rfl (Nat.le_of_ble_eq_true rfl) (Nat.le_of_ble_eq_true rfl) (Nat.le_of_ble_eq_true rfl) (by first | exact Nat.le_of_ble_eq_true rfl | omega) (by first | exact Nat.le_of_ble_eq_true rfl | omega) ?_
                refine PRk ?_
                refine VV.stk (st' := [.null]) (by first | rfl | (rw [show Option.bind (some s) L = _ from hi]; rfl) | rw [show Option.bind (some s) L = _ from hi]) ?_
                refine V_callS (st := []) F dJ10_fixAfterDeletion_75 lk_J10_303 (ct_colorOf (o := none) hT (fun _ z => nomatch z)) rfl rfl (Nat.le_of_ble_eq_true rfl) (Nat.le_of_ble_eq_true rfl) (Nat.le_of_ble_eq_true rfl) (by first | exact Nat.le_of_ble_eq_true rfl | omega) (by first | exact Nat.le_of_ble_eq_true rfl | omega) ?_
                refine PRk ?_
                refine VV.stk (st' := [.int (cB (true))]) rfl ?_
                refine V_iconst (v := nI 1) F dJ10_fixAfterDeletion_78 rfl ?_
                refine V_icmp_ne1C (c := true) (tgt := 106) F dJ10_fixAfterDeletion_79 (by decide) (fun c_79 => nomatch c_79) (fun c_79 => ?_)
                refine V_aload_n (i := 2) F dJ10_fixAfterDeletion_82 rfl rfl ?_
                refine V_callS (st := []) F dJ10_fixAfterDeletion_83 lk_J10_300 (ct_rightOf (o := some s) hT (fun _ z => Option.some.inj z ▸ hsn)) rfl rfl (Nat.le_of_ble_eq_true rfl) (Nat.le_of_ble_eq_true rfl) (Nat.le_of_ble_eq_true rfl) (by first | exact Nat.le_of_ble_eq_true rfl | omega) (by first | exact Nat.le_of_ble_eq_true rfl | omega) ?_
                refine PRk ?_
                refine VV.stk (st' := [.ref (A o1)]) (by first | rfl | (rw [show Option.bind (some s) R = _ from ho]; rfl) | rw [show Option.bind (some s) R = _ from ho]) ?_
                refine V_callS (st := []) F dJ10_fixAfterDeletion_86 lk_J10_303 (ct_colorOf (o := some o1) hT (fun _ z => Option.some.inj z ▸ ho1)) rfl rfl (Nat.le_of_ble_eq_true rfl) (Nat.le_of_ble_eq_true rfl) (Nat.le_of_ble_eq_true rfl) (by first | exact Nat.le_of_ble_eq_true rfl | omega) (by first | exact Nat.le_of_ble_eq_true rfl | omega) ?_
                refine PRk ?_
                refine VV.stk (st' := [.int (cB (C o1))]) rfl ?_
                refine V_iconst (v := nI 1) F dJ10_fixAfterDeletion_89 rfl ?_
                refine V_icmp_ne1C (c := C o1) (tgt := 106) F dJ10_fixAfterDeletion_90 (by decide) (fun c_90 => absurd (c_90.symm.trans hco1) (by decide)) (fun c_90 => ?_)
                refine V_aload_n (i := 2) F dJ10_fixAfterDeletion_93 rfl rfl ?_
                refine V_iconst (v := nI 0) F dJ10_fixAfterDeletion_94 rfl ?_
                refine V_callS (st := []) F dJ10_fixAfterDeletion_95 lk_J10_307 (ct_setColor (o := some s) (c := false) hT hAI (fun _ z => Option.some.inj z ▸ hsn)) rfl rfl (Nat.le_of_ble_eq_true rfl) (Nat.le_of_ble_eq_true rfl) (Nat.le_of_ble_eq_true rfl) (by first | exact Nat.le_of_ble_eq_true rfl | omega) (by first | exact Nat.le_of_ble_eq_true rfl | omega) ?_
                rintro _ k1 ⟨rfl, hT3, hx2, hk4⟩
                have p5 := (hk4 t (fun i hi => ne_oo ht (hT i hi) (by decide))).trans ht
                have f6 := hF.cal hx2 (fun b q => Or.inl (Or.inr q))
                have g7 := (Fr.rf (M := fun _ => True) (h := hh)).cal hx2 (fun _ _ => Or.inl trivial)
                refine V_aload_n (i := 1) F dJ10_fixAfterDeletion_98 rfl rfl ?_
                refine V_callS (st := []) F dJ10_fixAfterDeletion_99 lk_J10_294 (ct_parentOf (o := some x) hT3 (fun _ z => Option.some.inj z ▸ hx)) rfl rfl (Nat.le_of_ble_eq_true rfl) (Nat.le_of_ble_eq_true rfl) (Nat.le_of_ble_eq_true rfl) (by first | exact Nat.le_of_ble_eq_true rfl | omega) (by first | exact Nat.le_of_ble_eq_true rfl | omega) ?_
                refine PRk ?_
                refine VV.stk (st' := [.ref (A p)]) (by first | rfl | (rw [show Option.bind (some x) P = _ from hpx]; rfl) | rw [show Option.bind (some x) P = _ from hpx]) ?_
                refine V_astore_n (i := 1) F dJ10_fixAfterDeletion_102 rfl (Nat.le_of_ble_eq_true rfl) (Nat.le_of_ble_eq_true rfl) ?_
                refine V_goto (tgt := 183) F dJ10_fixAfterDeletion_103 (by decide) ?_
                refine V_goto (tgt := 0) F dJ10_fixAfterDeletion_183 (by decide) ?_
                refine VV.weak (L' := [some (.ref (t)), some (.ref (A p)), none]) (LW.c1 (LW.c1 (LW.c0 LW.nil))) ?_
                exact ih _ _ _ _ _ _ _ p _ (by have := hw.Pin hx hpx; have := hw.1 p hp; have := hw.1 x hx; omega) ⟨x0, x1, x6, x7, x8, p5, vw_fr hv1 g7 rfl, vw_fr hv7 g7 rfl⟩ hT3 hw hp f6 (by have := hw.Pin hx hpx; have := hw.1 x hx; obtain ⟨z1, z2, z3, z4⟩ := hz; exact ⟨by omega, by omega, z3, z4⟩)
          | some i1 =>
            have hi1 : i1 < n := hw.bL hsn hi
            cases ho : R s with
            | none =>
              cases hci1 : C i1 with
              | false =>
                refine V_aload_n (i := 2) F dJ10_fixAfterDeletion_71 rfl rfl ?_
                refine V_callS (st := []) F dJ10_fixAfterDeletion_72 lk_J10_297 (ct_leftOf (o := some s) hT (fun _ z => Option.some.inj z ▸ hsn)) rfl rfl (Nat.le_of_ble_eq_true rfl) (Nat.le_of_ble_eq_true rfl) (Nat.le_of_ble_eq_true rfl) (by first | exact Nat.le_of_ble_eq_true rfl | omega) (by first | exact Nat.le_of_ble_eq_true rfl | omega) ?_
                refine PRk ?_
                refine VV.stk (st' := [.ref (A i1)]) (by first | rfl | (rw [show Option.bind (some s) L = _ from hi]; rfl) | rw [show Option.bind (some s) L = _ from hi]) ?_
                refine V_callS (st := []) F dJ10_fixAfterDeletion_75 lk_J10_303 (ct_colorOf (o := some i1) hT (fun _ z => Option.some.inj z ▸ hi1)) rfl rfl (Nat.le_of_ble_eq_true rfl) (Nat.le_of_ble_eq_true rfl) (Nat.le_of_ble_eq_true rfl) (by first | exact Nat.le_of_ble_eq_true rfl | omega) (by first | exact Nat.le_of_ble_eq_true rfl | omega) ?_
                refine PRk ?_
                refine VV.stk (st' := [.int (cB (C i1))]) rfl ?_
                refine V_iconst (v := nI 1) F dJ10_fixAfterDeletion_78 rfl ?_
                refine V_icmp_ne1C (c := C i1) (tgt := 106) F dJ10_fixAfterDeletion_79 (by decide) (fun c_79 => ?_) (fun c_79 => absurd (c_79.symm.trans hci1) (by decide))
                refine V_aload_n (i := 2) F dJ10_fixAfterDeletion_106 rfl rfl ?_
                refine V_callS (st := []) F dJ10_fixAfterDeletion_107 lk_J10_300 (ct_rightOf (o := some s) hT (fun _ z => Option.some.inj z ▸ hsn)) rfl rfl (Nat.le_of_ble_eq_true rfl) (Nat.le_of_ble_eq_true rfl) (Nat.le_of_ble_eq_true rfl) (by first | exact Nat.le_of_ble_eq_true rfl | omega) (by first | exact Nat.le_of_ble_eq_true rfl | omega) ?_
                refine PRk ?_
                refine VV.stk (st' := [.null]) (by first | rfl | (rw [show Option.bind (some s) R = _ from ho]; rfl) | rw [show Option.bind (some s) R = _ from ho]) ?_
                refine V_callS (st := []) F dJ10_fixAfterDeletion_110 lk_J10_303 (ct_colorOf (o := none) hT (fun _ z => nomatch z)) rfl rfl (Nat.le_of_ble_eq_true rfl) (Nat.le_of_ble_eq_true rfl) (Nat.le_of_ble_eq_true rfl) (by first | exact Nat.le_of_ble_eq_true rfl | omega) (by first | exact Nat.le_of_ble_eq_true rfl | omega) ?_
                refine PRk ?_
                refine VV.stk (st' := [.int (cB (true))]) rfl ?_
                refine V_iconst (v := nI 1) F dJ10_fixAfterDeletion_113 rfl ?_
                refine V_icmp_ne1C (c := true) (tgt := 143) F dJ10_fixAfterDeletion_114 (by decide) (fun c_114 => nomatch c_114) (fun c_114 => ?_)
                refine V_aload_n (i := 2) F dJ10_fixAfterDeletion_117 rfl rfl ?_
                refine V_callS (st := []) F dJ10_fixAfterDeletion_118 lk_J10_297 (ct_leftOf (o := some s) hT (fun _ z => Option.some.inj z ▸ hsn)) rfl rfl (Nat.le_of_ble_eq_true rfl) (Nat.le_of_ble_eq_true rfl) (Nat.le_of_ble_eq_true rfl) (by first | exact Nat.le_of_ble_eq_true rfl | omega) (by first | exact Nat.le_of_ble_eq_true rfl | omega) ?_
                refine PRk ?_
                refine VV.stk (st' := [.ref (A i1)]) (by first | rfl | (rw [show Option.bind (some s) L = _ from hi]; rfl) | rw [show Option.bind (some s) L = _ from hi]) ?_
                refine V_iconst (v := nI 1) F dJ10_fixAfterDeletion_121 rfl ?_
                refine V_callS (st := []) F dJ10_fixAfterDeletion_122 lk_J10_307 (ct_setColor (o := some i1) (c := true) hT hAI (fun _ z => Option.some.inj z ▸ hi1)) rfl rfl (Nat.le_of_ble_eq_true rfl) (Nat.le_of_ble_eq_true rfl) (Nat.le_of_ble_eq_true rfl) (by first | exact Nat.le_of_ble_eq_true rfl | omega) (by first | exact Nat.le_of_ble_eq_true rfl | omega) ?_
                rintro _ k1 ⟨rfl, hT3, hx2, hk4⟩
                have p5 := (hk4 t (fun i hi => ne_oo ht (hT i hi) (by decide))).trans ht
                have f6 := hF.cal hx2 (fun b q => Or.inl (Or.inr q))
                have g7 := (Fr.rf (M := fun _ => True) (h := hh)).cal hx2 (fun _ _ => Or.inl trivial)
                refine V_aload_n (i := 2) F dJ10_fixAfterDeletion_125 rfl rfl ?_
                refine V_iconst (v := nI 0) F dJ10_fixAfterDeletion_126 rfl ?_
                refine V_callS (st := []) F dJ10_fixAfterDeletion_127 lk_J10_307 (ct_setColor (o := some s) (c := false) hT3 hAI (fun _ z => Option.some.inj z ▸ hsn)) rfl rfl (Nat.le_of_ble_eq_true rfl) (Nat.le_of_ble_eq_true rfl) (Nat.le_of_ble_eq_true rfl) (by first | exact Nat.le_of_ble_eq_true rfl | omega) (by first | exact Nat.le_of_ble_eq_true rfl | omega) ?_
                rintro _ k8 ⟨rfl, hT10, hx9, hk11⟩
                have p12 := (hk11 t (fun i hi => ne_oo p5 (hT3 i hi) (by decide))).trans p5
                have f13 := f6.cal hx9 (fun b q => Or.inl (Or.inr q))
                have g14 := g7.cal hx9 (fun _ _ => Or.inl trivial)
                refine V_aload_n (i := 0) F dJ10_fixAfterDeletion_130 rfl rfl ?_
                refine V_aload_n (i := 2) F dJ10_fixAfterDeletion_131 rfl rfl ?_
                refine V_callV (st := []) F dJ10_fixAfterDeletion_132 lk_J10_314 (ct_rotateRight ⟨x0, x1, x6, x7, x8, p12, vw_fr hv1 g14 rfl, vw_fr hv7 g14 rfl⟩ hT10 hAI hw hsn hi) ⟨23, _, _, _, rfl, (.inl p12)⟩ rfl rfl (Nat.le_of_ble_eq_true rfl) (Nat.le_of_ble_eq_true rfl) (Nat.le_of_ble_eq_true rfl) (by first | exact Nat.le_of_ble_eq_true rfl | omega) (by first | exact Nat.le_of_ble_eq_true rfl | omega) ?_
                rintro _ k15 ⟨rfl, hC18, hT17, hx16⟩
                obtain ⟨y19, y20, y21, y22, y23, ht24, hv25, hv26⟩ := hC18
                have f27 : Fr (mT t n A) h k15 := f13.cal hx16 (fun b q => Or.inl q)
                have hw28 := hw.rotR (L' := rrL L R P s i1) (R' := rrR R P s i1) (P' := rrP R P s i1) (rt' := roR P rt s i1) hsn hi (fun _ => rfl) (fun _ => rfl) (fun _ => rfl) rfl
                have k3 := hw.k3L hp hx hpx hcp hs hi
                have e1 : (rrP R P s i1) x = some p := k3.1
                have e2 : (rrR R P s i1) p = some i1 := k3.2.1
                have e4 : (rrL L R P s i1) p = some x := k3.2.2.1
                refine V_aload_n (i := 1) F dJ10_fixAfterDeletion_135 rfl rfl ?_
                refine V_callS (st := []) F dJ10_fixAfterDeletion_136 lk_J10_294 (ct_parentOf (o := some x) hT17 (fun _ z => Option.some.inj z ▸ hx)) rfl rfl (Nat.le_of_ble_eq_true rfl) (Nat.le_of_ble_eq_true rfl) (Nat.le_of_ble_eq_true rfl) (by first | exact Nat.le_of_ble_eq_true rfl | omega) (by first | exact Nat.le_of_ble_eq_true rfl | omega) ?_
                refine PRk ?_
                refine VV.stk (st' := [.ref (A p)]) (by first | rfl | (rw [show Option.bind (some x) (rrP R P s i1) = _ from e1]; rfl) | rw [show Option.bind (some x) (rrP R P s i1) = _ from e1]) ?_
                refine V_callS (st := []) F dJ10_fixAfterDeletion_139 lk_J10_300 (ct_rightOf (o := some p) hT17 (fun _ z => Option.some.inj z ▸ hp)) rfl rfl (Nat.le_of_ble_eq_true rfl) (Nat.le_of_ble_eq_true rfl) (Nat.le_of_ble_eq_true rfl) (by first | exact Nat.le_of_ble_eq_true rfl | omega) (by first | exact Nat.le_of_ble_eq_true rfl | omega) ?_
                refine PRk ?_
                refine VV.stk (st' := [.ref (A i1)]) (by first | rfl | (rw [show Option.bind (some p) (rrR R P s i1) = _ from e2]; rfl) | rw [show Option.bind (some p) (rrR R P s i1) = _ from e2]) ?_
                refine V_astore_n (i := 2) F dJ10_fixAfterDeletion_142 rfl (Nat.le_of_ble_eq_true rfl) (Nat.le_of_ble_eq_true rfl) ?_
                exact ph3L _ _ _ _ _ _ _ x _ p i1 ⟨y19, y20, y21, y22, y23, ht24, vw_fr hv25 (Fr.rf (M := fun _ => True) (h := k15)) rfl, vw_fr hv26 (Fr.rf (M := fun _ => True) (h := k15)) rfl⟩ hT17 hw28 hx f27 (hz.mv (k3.2.2.2 x (hw.1 x hx).1 (hw.1 x hx).2.1).1 (k3.2.2.2 x (hw.1 x hx).1 (hw.1 x hx).2.1).2 k3.2.2.2) hp hi1 e1 e2 e4
              | true =>
                refine V_aload_n (i := 2) F dJ10_fixAfterDeletion_71 rfl rfl ?_
                refine V_callS (st := []) F dJ10_fixAfterDeletion_72 lk_J10_297 (ct_leftOf (o := some s) hT (fun _ z => Option.some.inj z ▸ hsn)) rfl rfl (Nat.le_of_ble_eq_true rfl) (Nat.le_of_ble_eq_true rfl) (Nat.le_of_ble_eq_true rfl) (by first | exact Nat.le_of_ble_eq_true rfl | omega) (by first | exact Nat.le_of_ble_eq_true rfl | omega) ?_
                refine PRk ?_
                refine VV.stk (st' := [.ref (A i1)]) (by first | rfl | (rw [show Option.bind (some s) L = _ from hi]; rfl) | rw [show Option.bind (some s) L = _ from hi]) ?_
                refine V_callS (st := []) F dJ10_fixAfterDeletion_75 lk_J10_303 (ct_colorOf (o := some i1) hT (fun _ z => Option.some.inj z ▸ hi1)) rfl rfl (Nat.le_of_ble_eq_true rfl) (Nat.le_of_ble_eq_true rfl) (Nat.le_of_ble_eq_true rfl) (by first | exact Nat.le_of_ble_eq_true rfl | omega) (by first | exact Nat.le_of_ble_eq_true rfl | omega) ?_
                refine PRk ?_
                refine VV.stk (st' := [.int (cB (C i1))]) rfl ?_
                refine V_iconst (v := nI 1) F dJ10_fixAfterDeletion_78 rfl ?_
                refine V_icmp_ne1C (c := C i1) (tgt := 106) F dJ10_fixAfterDeletion_79 (by decide) (fun c_79 => absurd (c_79.symm.trans hci1) (by decide)) (fun c_79 => ?_)
                refine V_aload_n (i := 2) F dJ10_fixAfterDeletion_82 rfl rfl ?_
                refine V_callS (st := []) F dJ10_fixAfterDeletion_83 lk_J10_300 (ct_rightOf (o := some s) hT (fun _ z => Option.some.inj z ▸ hsn)) rfl rfl (Nat.le_of_ble_eq_true rfl) (Nat.le_of_ble_eq_true rfl) (Nat.le_of_ble_eq_true rfl) (by first | exact Nat.le_of_ble_eq_true rfl | omega) (by first | exact Nat.le_of_ble_eq_true rfl | omega) ?_
                refine PRk ?_
                refine VV.stk (st' := [.null]) (by first | rfl | (rw [show Option.bind (some s) R = _ from ho]; rfl) | rw [show Option.bind (some s) R = _ from ho]) ?_
                refine V_callS (st := []) F dJ10_fixAfterDeletion_86 lk_J10_303 (ct_colorOf (o := none) hT (fun _ z => nomatch z)) rfl rfl (Nat.le_of_ble_eq_true rfl) (Nat.le_of_ble_eq_true rfl) (Nat.le_of_ble_eq_true rfl) (by first | exact Nat.le_of_ble_eq_true rfl | omega) (by first | exact Nat.le_of_ble_eq_true rfl | omega) ?_
                refine PRk ?_
                refine VV.stk (st' := [.int (cB (true))]) rfl ?_
                refine V_iconst (v := nI 1) F dJ10_fixAfterDeletion_89 rfl ?_
                refine V_icmp_ne1C (c := true) (tgt := 106) F dJ10_fixAfterDeletion_90 (by decide) (fun c_90 => nomatch c_90) (fun c_90 => ?_)
                refine V_aload_n (i := 2) F dJ10_fixAfterDeletion_93 rfl rfl ?_
                refine V_iconst (v := nI 0) F dJ10_fixAfterDeletion_94 rfl ?_
                refine V_callS (st := []) F dJ10_fixAfterDeletion_95 lk_J10_307 (ct_setColor (o := some s) (c := false) hT hAI (fun _ z => Option.some.inj z ▸ hsn)) rfl rfl (Nat.le_of_ble_eq_true rfl) (Nat.le_of_ble_eq_true rfl) (Nat.le_of_ble_eq_true rfl) (by first | exact Nat.le_of_ble_eq_true rfl | omega) (by first | exact Nat.le_of_ble_eq_true rfl | omega) ?_
                rintro _ k1 ⟨rfl, hT3, hx2, hk4⟩
                have p5 := (hk4 t (fun i hi => ne_oo ht (hT i hi) (by decide))).trans ht
                have f6 := hF.cal hx2 (fun b q => Or.inl (Or.inr q))
                have g7 := (Fr.rf (M := fun _ => True) (h := hh)).cal hx2 (fun _ _ => Or.inl trivial)
                refine V_aload_n (i := 1) F dJ10_fixAfterDeletion_98 rfl rfl ?_
                refine V_callS (st := []) F dJ10_fixAfterDeletion_99 lk_J10_294 (ct_parentOf (o := some x) hT3 (fun _ z => Option.some.inj z ▸ hx)) rfl rfl (Nat.le_of_ble_eq_true rfl) (Nat.le_of_ble_eq_true rfl) (Nat.le_of_ble_eq_true rfl) (by first | exact Nat.le_of_ble_eq_true rfl | omega) (by first | exact Nat.le_of_ble_eq_true rfl | omega) ?_
                refine PRk ?_
                refine VV.stk (st' := [.ref (A p)]) (by first | rfl | (rw [show Option.bind (some x) P = _ from hpx]; rfl) | rw [show Option.bind (some x) P = _ from hpx]) ?_
                refine V_astore_n (i := 1) F dJ10_fixAfterDeletion_102 rfl (Nat.le_of_ble_eq_true rfl) (Nat.le_of_ble_eq_true rfl) ?_
                refine V_goto (tgt := 183) F dJ10_fixAfterDeletion_103 (by decide) ?_
                refine V_goto (tgt := 0) F dJ10_fixAfterDeletion_183 (by decide) ?_
                refine VV.weak (L' := [some (.ref (t)), some (.ref (A p)), none]) (LW.c1 (LW.c1 (LW.c0 LW.nil))) ?_
                exact ih _ _ _ _ _ _ _ p _ (by have := hw.Pin hx hpx; have := hw.1 p hp; have := hw.1 x hx; omega) ⟨x0, x1, x6, x7, x8, p5, vw_fr hv1 g7 rfl, vw_fr hv7 g7 rfl⟩ hT3 hw hp f6 (by have := hw.Pin hx hpx; have := hw.1 x hx; obtain ⟨z1, z2, z3, z4⟩ := hz; exact ⟨by omega, by omega, z3, z4⟩)
            | some o1 =>
              have ho1 : o1 < n := hw.bR hsn ho
              cases hci1 : C i1 with
              | false =>
                cases hco1 : C o1 with
                | false =>
                  refine V_aload_n (i := 2) F dJ10_fixAfterDeletion_71 rfl rfl ?_
                  refine V_callS (st := []) F dJ10_fixAfterDeletion_72 lk_J10_297 (ct_leftOf (o := some s) hT (fun _ z => Option.some.inj z ▸ hsn)) rfl rfl (Nat.le_of_ble_eq_true rfl) (Nat.le_of_ble_eq_true rfl) (Nat.le_of_ble_eq_true rfl) (by first | exact Nat.le_of_ble_eq_true rfl | omega) (by first | exact Nat.le_of_ble_eq_true rfl | omega) ?_
                  refine PRk ?_
                  refine VV.stk (st' := [.ref (A i1)]) (by first | rfl | (rw [show Option.bind (some s) L = _ from hi]; rfl) | rw [show Option.bind (some s) L = _ from hi]) ?_
                  refine V_callS (st := []) F dJ10_fixAfterDeletion_75 lk_J10_303 (ct_colorOf (o := some i1) hT (fun _ z => Option.some.inj z ▸ hi1)) rfl rfl (Nat.le_of_ble_eq_true rfl) (Nat.le_of_ble_eq_true rfl) (Nat.le_of_ble_eq_true rfl) (by first | exact Nat.le_of_ble_eq_true rfl | omega) (by first | exact Nat.le_of_ble_eq_true rfl | omega) ?_
                  refine PRk ?_
                  refine VV.stk (st' := [.int (cB (C i1))]) rfl ?_
                  refine V_iconst (v := nI 1) F dJ10_fixAfterDeletion_78 rfl ?_
                  refine V_icmp_ne1C (c := C i1) (tgt := 106) F dJ10_fixAfterDeletion_79 (by decide) (fun c_79 => ?_) (fun c_79 => absurd (c_79.symm.trans hci1) (by decide))
                  refine V_aload_n (i := 2) F dJ10_fixAfterDeletion_106 rfl rfl ?_
                  refine V_callS (st := []) F dJ10_fixAfterDeletion_107 lk_J10_300 (ct_rightOf (o := some s) hT (fun _ z => Option.some.inj z ▸ hsn)) rfl rfl (Nat.le_of_ble_eq_true rfl) (Nat.le_of_ble_eq_true rfl) (Nat.le_of_ble_eq_true rfl) (by first | exact Nat.le_of_ble_eq_true rfl | omega) (by first | exact Nat.le_of_ble_eq_true rfl | omega) ?_
                  refine PRk ?_
                  refine VV.stk (st' := [.ref (A o1)]) (by first | rfl | (rw [show Option.bind (some s) R = _ from ho]; rfl) | rw [show Option.bind (some s) R = _ from ho]) ?_
                  refine V_callS (st := []) F dJ10_fixAfterDeletion_110 lk_J10_303 (ct_colorOf (o := some o1) hT (fun _ z => Option.some.inj z ▸ ho1)) rfl rfl (Nat.le_of_ble_eq_true rfl) (Nat.le_of_ble_eq_true rfl) (Nat.le_of_ble_eq_true rfl) (by first | exact Nat.le_of_ble_eq_true rfl | omega) (by first | exact Nat.le_of_ble_eq_true rfl | omega) ?_
                  refine PRk ?_
                  refine VV.stk (st' := [.int (cB (C o1))]) rfl ?_
                  refine V_iconst (v := nI 1) F dJ10_fixAfterDeletion_113 rfl ?_
                  refine V_icmp_ne1C (c := C o1) (tgt := 143) F dJ10_fixAfterDeletion_114 (by decide) (fun c_114 => ?_) (fun c_114 => absurd (c_114.symm.trans hco1) (by decide))
                  exact ph3L _ _ _ _ _ _ _ x _ p s ⟨x0, x1, x6, x7, x8, ht, vw_fr hv1 (Fr.rf (M := fun _ => True) (h := hh)) rfl, vw_fr hv7 (Fr.rf (M := fun _ => True) (h := hh)) rfl⟩ hT hw hx hF hz hp hsn hpx hs hcp
                | true =>
                  refine V_aload_n (i := 2) F dJ10_fixAfterDeletion_71 rfl rfl ?_
                  refine V_callS (st := []) F dJ10_fixAfterDeletion_72 lk_J10_297 (ct_leftOf (o := some s) hT (fun _ z => Option.some.inj z ▸ hsn)) rfl rfl (Nat.le_of_ble_eq_true rfl) (Nat.le_of_ble_eq_true rfl) (Nat.le_of_ble_eq_true rfl) (by first | exact Nat.le_of_ble_eq_true rfl | omega) (by first | exact Nat.le_of_ble_eq_true rfl | omega) ?_
                  refine PRk ?_
                  refine VV.stk (st' := [.ref (A i1)]) (by first | rfl | (rw [show Option.bind (some s) L = _ from hi]; rfl) | rw [show Option.bind (some s) L = _ from hi]) ?_
                  refine V_callS (st := []) F dJ10_fixAfterDeletion_75 lk_J10_303 (ct_colorOf (o := some i1) hT (fun _ z => Option.some.inj z ▸ hi1)) rfl rfl (Nat.le_of_ble_eq_true rfl) (Nat.le_of_ble_eq_true rfl) (Nat.le_of_ble_eq_true rfl) (by first | exact Nat.le_of_ble_eq_true rfl | omega) (by first | exact Nat.le_of_ble_eq_true rfl | omega) ?_
                  refine PRk ?_
                  refine VV.stk (st' := [.int (cB (C i1))]) rfl ?_
                  refine V_iconst (v := nI 1) F dJ10_fixAfterDeletion_78 rfl ?_
                  refine V_icmp_ne1C (c := C i1) (tgt := 106) F dJ10_fixAfterDeletion_79 (by decide) (fun c_79 => ?_) (fun c_79 => absurd (c_79.symm.trans hci1) (by decide))
                  refine V_aload_n (i := 2) F dJ10_fixAfterDeletion_106 rfl rfl ?_
                  refine V_callS (st := []) F dJ10_fixAfterDeletion_107 lk_J10_300 (ct_rightOf (o := some s) hT (fun _ z => Option.some.inj z ▸ hsn)) rfl rfl (Nat.le_of_ble_eq_true rfl) (Nat.le_of_ble_eq_true rfl) (Nat.le_of_ble_eq_true rfl) (by first | exact Nat.le_of_ble_eq_true rfl | omega) (by first | exact Nat.le_of_ble_eq_true rfl | omega) ?_
                  refine PRk ?_
                  refine VV.stk (st' := [.ref (A o1)]) (by first | rfl | (rw [show Option.bind (some s) R = _ from ho]; rfl) | rw [show Option.bind (some s) R = _ from ho]) ?_
                  refine V_callS (st := []) F dJ10_fixAfterDeletion_110 lk_J10_303 (ct_colorOf (o := some o1) hT (fun _ z => Option.some.inj z ▸ ho1)) rfl rfl (Nat.le_of_ble_eq_true rfl) (Nat.le_of_ble_eq_true rfl) (Nat.le_of_ble_eq_true rfl) (by first | exact Nat.le_of_ble_eq_true rfl | omega) (by first | exact Nat.le_of_ble_eq_true rfl | omega) ?_
                  refine PRk ?_
                  refine VV.stk (st' := [.int (cB (C o1))]) rfl ?_
                  refine V_iconst (v := nI 1) F dJ10_fixAfterDeletion_113 rfl ?_
                  refine V_icmp_ne1C (c := C o1) (tgt := 143) F dJ10_fixAfterDeletion_114 (by decide) (fun c_114 => absurd (c_114.symm.trans hco1) (by decide)) (fun c_114 => ?_)
                  refine V_aload_n (i := 2) F dJ10_fixAfterDeletion_117 rfl rfl ?_
                  refine V_callS (st := []) F dJ10_fixAfterDeletion_118 lk_J10_297 (ct_leftOf (o := some s) hT (fun _ z => Option.some.inj z ▸ hsn)) rfl rfl (Nat.le_of_ble_eq_true rfl) (Nat.le_of_ble_eq_true rfl) (Nat.le_of_ble_eq_true rfl) (by first | exact Nat.le_of_ble_eq_true rfl | omega) (by first | exact Nat.le_of_ble_eq_true rfl | omega) ?_
                  refine PRk ?_
                  refine VV.stk (st' := [.ref (A i1)]) (by first | rfl | (rw [show Option.bind (some s) L = _ from hi]; rfl) | rw [show Option.bind (some s) L = _ from hi]) ?_
                  refine V_iconst (v := nI 1) F dJ10_fixAfterDeletion_121 rfl ?_
                  refine V_callS (st := []) F dJ10_fixAfterDeletion_122 lk_J10_307 (ct_setColor (o := some i1) (c := true) hT hAI (fun _ z => Option.some.inj z ▸ hi1)) rfl rfl (Nat.le_of_ble_eq_true rfl) (Nat.le_of_ble_eq_true rfl) (Nat.le_of_ble_eq_true rfl) (by first | exact Nat.le_of_ble_eq_true rfl | omega) (by first | exact Nat.le_of_ble_eq_true rfl | omega) ?_
                  rintro _ k1 ⟨rfl, hT3, hx2, hk4⟩
                  have p5 := (hk4 t (fun i hi => ne_oo ht (hT i hi) (by decide))).trans ht
                  have f6 := hF.cal hx2 (fun b q => Or.inl (Or.inr q))
                  have g7 := (Fr.rf (M := fun _ => True) (h := hh)).cal hx2 (fun _ _ => Or.inl trivial)
                  refine V_aload_n (i := 2) F dJ10_fixAfterDeletion_125 rfl rfl ?_
                  refine V_iconst (v := nI 0) F dJ10_fixAfterDeletion_126 rfl ?_
                  refine V_callS (st := []) F dJ10_fixAfterDeletion_127 lk_J10_307 (ct_setColor (o := some s) (c := false) hT3 hAI (fun _ z => Option.some.inj z ▸ hsn)) rfl rfl (Nat.le_of_ble_eq_true rfl) (Nat.le_of_ble_eq_true rfl) (Nat.le_of_ble_eq_true rfl) (by first | exact Nat.le_of_ble_eq_true rfl | omega) (by first | exact Nat.le_of_ble_eq_true rfl | omega) ?_
                  rintro _ k8 ⟨rfl, hT10, hx9, hk11⟩
                  have p12 := (hk11 t (fun i hi => ne_oo p5 (hT3 i hi) (by decide))).trans p5
                  have f13 := f6.cal hx9 (fun b q => Or.inl (Or.inr q))
                  have g14 := g7.cal hx9 (fun _ _ => Or.inl trivial)
                  refine V_aload_n (i := 0) F dJ10_fixAfterDeletion_130 rfl rfl ?_
                  refine V_aload_n (i := 2) F dJ10_fixAfterDeletion_131 rfl rfl ?_
                  refine V_callV (st := []) F dJ10_fixAfterDeletion_132 lk_J10_314 (ct_rotateRight ⟨x0, x1, x6, x7, x8, p12, vw_fr hv1 g14 rfl, vw_fr hv7 g14 rfl⟩ hT10 hAI hw hsn hi) ⟨23, _, _, _, rfl, (.inl p12)⟩ rfl rfl (Nat.le_of_ble_eq_true rfl) (Nat.le_of_ble_eq_true rfl) (Nat.le_of_ble_eq_true rfl) (by first | exact Nat.le_of_ble_eq_true rfl | omega) (by first | exact Nat.le_of_ble_eq_true rfl | omega) ?_
                  rintro _ k15 ⟨rfl, hC18, hT17, hx16⟩
                  obtain ⟨y19, y20, y21, y22, y23, ht24, hv25, hv26⟩ := hC18
                  have f27 : Fr (mT t n A) h k15 := f13.cal hx16 (fun b q => Or.inl q)
                  have hw28 := hw.rotR (L' := rrL L R P s i1) (R' := rrR R P s i1) (P' := rrP R P s i1) (rt' := roR P rt s i1) hsn hi (fun _ => rfl) (fun _ => rfl) (fun _ => rfl) rfl
                  have k3 := hw.k3L hp hx hpx hcp hs hi
                  have e1 : (rrP R P s i1) x = some p := k3.1
                  have e2 : (rrR R P s i1) p = some i1 := k3.2.1
                  have e4 : (rrL L R P s i1) p = some x := k3.2.2.1
                  refine V_aload_n (i := 1) F dJ10_fixAfterDeletion_135 rfl rfl ?_
                  refine V_callS (st := []) F dJ10_fixAfterDeletion_136 lk_J10_294 (ct_parentOf (o := some x) hT17 (fun _ z => Option.some.inj z ▸ hx)) rfl rfl (Nat.le_of_ble_eq_true rfl) (Nat.le_of_ble_eq_true rfl) (Nat.le_of_ble_eq_true rfl) (by first | exact Nat.le_of_ble_eq_true rfl | omega) (by first | exact Nat.le_of_ble_eq_true rfl | omega) ?_
                  refine PRk ?_
                  refine VV.stk (st' := [.ref (A p)]) (by first | rfl | (rw [show Option.bind (some x) (rrP R P s i1) = _ from e1]; rfl) | rw [show Option.bind (some x) (rrP R P s i1) = _ from e1]) ?_
                  refine V_callS (st := []) F dJ10_fixAfterDeletion_139 lk_J10_300 (ct_rightOf (o := some p) hT17 (fun _ z => Option.some.inj z ▸ hp)) rfl rfl (Nat.le_of_ble_eq_true rfl) (Nat.le_of_ble_eq_true rfl) (Nat.le_of_ble_eq_true rfl) (by first | exact Nat.le_of_ble_eq_true rfl | omega) (by first | exact Nat.le_of_ble_eq_true rfl | omega) ?_
                  refine PRk ?_
                  refine VV.stk (st' := [.ref (A i1)]) (by first | rfl | (rw [show Option.bind (some p) (rrR R P s i1) = _ from e2]; rfl) | rw [show Option.bind (some p) (rrR R P s i1) = _ from e2]) ?_
                  refine V_astore_n (i := 2) F dJ10_fixAfterDeletion_142 rfl (Nat.le_of_ble_eq_true rfl) (Nat.le_of_ble_eq_true rfl) ?_
                  exact ph3L _ _ _ _ _ _ _ x _ p i1 ⟨y19, y20, y21, y22, y23, ht24, vw_fr hv25 (Fr.rf (M := fun _ => True) (h := k15)) rfl, vw_fr hv26 (Fr.rf (M := fun _ => True) (h := k15)) rfl⟩ hT17 hw28 hx f27 (hz.mv (k3.2.2.2 x (hw.1 x hx).1 (hw.1 x hx).2.1).1 (k3.2.2.2 x (hw.1 x hx).1 (hw.1 x hx).2.1).2 k3.2.2.2) hp hi1 e1 e2 e4
              | true =>
                cases hco1 : C o1 with
                | false =>
                  refine V_aload_n (i := 2) F dJ10_fixAfterDeletion_71 rfl rfl ?_
                  refine V_callS (st := []) F dJ10_fixAfterDeletion_72 lk_J10_297 (ct_leftOf (o := some s) hT (fun _ z => Option.some.inj z ▸ hsn)) rfl rfl (Nat.le_of_ble_eq_true rfl) (Nat.le_of_ble_eq_true rfl) (Nat.le_of_ble_eq_true rfl) (by first | exact Nat.le_of_ble_eq_true rfl | omega) (by first | exact Nat.le_of_ble_eq_true rfl | omega) ?_
                  refine PRk ?_
                  refine VV.stk (st' := [.ref (A i1)]) (by first | rfl | (rw [show Option.bind (some s) L = _ from hi]; rfl) | rw [show Option.bind (some s) L = _ from hi]) ?_
                  refine V_callS (st := []) F dJ10_fixAfterDeletion_75 lk_J10_303 (ct_colorOf (o := some i1) hT (fun _ z => Option.some.inj z ▸ hi1)) rfl rfl (Nat.le_of_ble_eq_true rfl) (Nat.le_of_ble_eq_true rfl) (Nat.le_of_ble_eq_true rfl) (by first | exact Nat.le_of_ble_eq_true rfl | omega) (by first | exact Nat.le_of_ble_eq_true rfl | omega) ?_
                  refine PRk ?_
                  refine VV.stk (st' := [.int (cB (C i1))]) rfl ?_
                  refine V_iconst (v := nI 1) F dJ10_fixAfterDeletion_78 rfl ?_
                  refine V_icmp_ne1C (c := C i1) (tgt := 106) F dJ10_fixAfterDeletion_79 (by decide) (fun c_79 => absurd (c_79.symm.trans hci1) (by decide)) (fun c_79 => ?_)
                  refine V_aload_n (i := 2) F dJ10_fixAfterDeletion_82 rfl rfl ?_
                  refine V_callS (st := []) F dJ10_fixAfterDeletion_83 lk_J10_300 (ct_rightOf (o := some s) hT (fun _ z => Option.some.inj z ▸ hsn)) rfl rfl (Nat.le_of_ble_eq_true rfl) (Nat.le_of_ble_eq_true rfl) (Nat.le_of_ble_eq_true rfl) (by first | exact Nat.le_of_ble_eq_true rfl | omega) (by first | exact Nat.le_of_ble_eq_true rfl | omega) ?_
                  refine PRk ?_
                  refine VV.stk (st' := [.ref (A o1)]) (by first | rfl | (rw [show Option.bind (some s) R = _ from ho]; rfl) | rw [show Option.bind (some s) R = _ from ho]) ?_
                  refine V_callS (st := []) F dJ10_fixAfterDeletion_86 lk_J10_303 (ct_colorOf (o := some o1) hT (fun _ z => Option.some.inj z ▸ ho1)) rfl rfl (Nat.le_of_ble_eq_true rfl) (Nat.le_of_ble_eq_true rfl) (Nat.le_of_ble_eq_true rfl) (by first | exact Nat.le_of_ble_eq_true rfl | omega) (by first | exact Nat.le_of_ble_eq_true rfl | omega) ?_
                  refine PRk ?_
                  refine VV.stk (st' := [.int (cB (C o1))]) rfl ?_
                  refine V_iconst (v := nI 1) F dJ10_fixAfterDeletion_89 rfl ?_
                  refine V_icmp_ne1C (c := C o1) (tgt := 106) F dJ10_fixAfterDeletion_90 (by decide) (fun c_90 => ?_) (fun c_90 => absurd (c_90.symm.trans hco1) (by decide))
                  refine V_aload_n (i := 2) F dJ10_fixAfterDeletion_106 rfl rfl ?_
                  refine V_callS (st := []) F dJ10_fixAfterDeletion_107 lk_J10_300 (ct_rightOf (o := some s) hT (fun _ z => Option.some.inj z ▸ hsn)) rfl rfl (Nat.le_of_ble_eq_true rfl) (Nat.le_of_ble_eq_true rfl) (Nat.le_of_ble_eq_true rfl) (by first | exact Nat.le_of_ble_eq_true rfl | omega) (by first | exact Nat.le_of_ble_eq_true rfl | omega) ?_
                  refine PRk ?_
                  refine VV.stk (st' := [.ref (A o1)]) (by first | rfl | (rw [show Option.bind (some s) R = _ from ho]; rfl) | rw [show Option.bind (some s) R = _ from ho]) ?_
                  refine V_callS (st := []) F dJ10_fixAfterDeletion_110 lk_J10_303 (ct_colorOf (o := some o1) hT (fun _ z => Option.some.inj z ▸ ho1)) rfl rfl (Nat.le_of_ble_eq_true rfl) (Nat.le_of_ble_eq_true rfl) (Nat.le_of_ble_eq_true rfl) (by first | exact Nat.le_of_ble_eq_true rfl | omega) (by first | exact Nat.le_of_ble_eq_true rfl | omega) ?_
                  refine PRk ?_
                  refine VV.stk (st' := [.int (cB (C o1))]) rfl ?_
                  refine V_iconst (v := nI 1) F dJ10_fixAfterDeletion_113 rfl ?_
                  refine V_icmp_ne1C (c := C o1) (tgt := 143) F dJ10_fixAfterDeletion_114 (by decide) (fun c_114 => ?_) (fun c_114 => absurd (c_114.symm.trans hco1) (by decide))
                  exact ph3L _ _ _ _ _ _ _ x _ p s ⟨x0, x1, x6, x7, x8, ht, vw_fr hv1 (Fr.rf (M := fun _ => True) (h := hh)) rfl, vw_fr hv7 (Fr.rf (M := fun _ => True) (h := hh)) rfl⟩ hT hw hx hF hz hp hsn hpx hs hcp
                | true =>
                  refine V_aload_n (i := 2) F dJ10_fixAfterDeletion_71 rfl rfl ?_
                  refine V_callS (st := []) F dJ10_fixAfterDeletion_72 lk_J10_297 (ct_leftOf (o := some s) hT (fun _ z => Option.some.inj z ▸ hsn)) rfl rfl (Nat.le_of_ble_eq_true rfl) (Nat.le_of_ble_eq_true rfl) (Nat.le_of_ble_eq_true rfl) (by first | exact Nat.le_of_ble_eq_true rfl | omega) (by first | exact Nat.le_of_ble_eq_true rfl | omega) ?_
                  refine PRk ?_
                  refine VV.stk (st' := [.ref (A i1)]) (by first | rfl | (rw [show Option.bind (some s) L = _ from hi]; rfl) | rw [show Option.bind (some s) L = _ from hi]) ?_
                  refine V_callS (st := []) F dJ10_fixAfterDeletion_75 lk_J10_303 (ct_colorOf (o := some i1) hT (fun _ z => Option.some.inj z ▸ hi1)) rfl rfl (Nat.le_of_ble_eq_true rfl) (Nat.le_of_ble_eq_true rfl) (Nat.le_of_ble_eq_true rfl) (by first | exact Nat.le_of_ble_eq_true rfl | omega) (by first | exact Nat.le_of_ble_eq_true rfl | omega) ?_
                  refine PRk ?_
                  refine VV.stk (st' := [.int (cB (C i1))]) rfl ?_
                  refine V_iconst (v := nI 1) F dJ10_fixAfterDeletion_78 rfl ?_
                  refine V_icmp_ne1C (c := C i1) (tgt := 106) F dJ10_fixAfterDeletion_79 (by decide) (fun c_79 => absurd (c_79.symm.trans hci1) (by decide)) (fun c_79 => ?_)
                  refine V_aload_n (i := 2) F dJ10_fixAfterDeletion_82 rfl rfl ?_
                  refine V_callS (st := []) F dJ10_fixAfterDeletion_83 lk_J10_300 (ct_rightOf (o := some s) hT (fun _ z => Option.some.inj z ▸ hsn)) rfl rfl (Nat.le_of_ble_eq_true rfl) (Nat.le_of_ble_eq_true rfl) (Nat.le_of_ble_eq_true rfl) (by first | exact Nat.le_of_ble_eq_true rfl | omega) (by first | exact Nat.le_of_ble_eq_true rfl | omega) ?_
                  refine PRk ?_
                  refine VV.stk (st' := [.ref (A o1)]) (by first | rfl | (rw [show Option.bind (some s) R = _ from ho]; rfl) | rw [show Option.bind (some s) R = _ from ho]) ?_
                  refine V_callS (st := []) F dJ10_fixAfterDeletion_86 lk_J10_303 (ct_colorOf (o := some o1) hT (fun _ z => Option.some.inj z ▸ ho1)) rfl rfl (Nat.le_of_ble_eq_true rfl) (Nat.le_of_ble_eq_true rfl) (Nat.le_of_ble_eq_true rfl) (by first | exact Nat.le_of_ble_eq_true rfl | omega) (by first | exact Nat.le_of_ble_eq_true rfl | omega) ?_
                  refine PRk ?_
                  refine VV.stk (st' := [.int (cB (C o1))]) rfl ?_
                  refine V_iconst (v := nI 1) F dJ10_fixAfterDeletion_89 rfl ?_
                  refine V_icmp_ne1C (c := C o1) (tgt := 106) F dJ10_fixAfterDeletion_90 (by decide) (fun c_90 => absurd (c_90.symm.trans hco1) (by decide)) (fun c_90 => ?_)
                  refine V_aload_n (i := 2) F dJ10_fixAfterDeletion_93 rfl rfl ?_
                  refine V_iconst (v := nI 0) F dJ10_fixAfterDeletion_94 rfl ?_
                  refine V_callS (st := []) F dJ10_fixAfterDeletion_95 lk_J10_307 (ct_setColor (o := some s) (c := false) hT hAI (fun _ z => Option.some.inj z ▸ hsn)) rfl rfl (Nat.le_of_ble_eq_true rfl) (Nat.le_of_ble_eq_true rfl) (Nat.le_of_ble_eq_true rfl) (by first | exact Nat.le_of_ble_eq_true rfl | omega) (by first | exact Nat.le_of_ble_eq_true rfl | omega) ?_
                  rintro _ k1 ⟨rfl, hT3, hx2, hk4⟩
                  have p5 := (hk4 t (fun i hi => ne_oo ht (hT i hi) (by decide))).trans ht
                  have f6 := hF.cal hx2 (fun b q => Or.inl (Or.inr q))
                  have g7 := (Fr.rf (M := fun _ => True) (h := hh)).cal hx2 (fun _ _ => Or.inl trivial)
                  refine V_aload_n (i := 1) F dJ10_fixAfterDeletion_98 rfl rfl ?_
                  refine V_callS (st := []) F dJ10_fixAfterDeletion_99 lk_J10_294 (ct_parentOf (o := some x) hT3 (fun _ z => Option.some.inj z ▸ hx)) rfl rfl (Nat.le_of_ble_eq_true rfl) (Nat.le_of_ble_eq_true rfl) (Nat.le_of_ble_eq_true rfl) (by first | exact Nat.le_of_ble_eq_true rfl | omega) (by first | exact Nat.le_of_ble_eq_true rfl | omega) ?_
                  refine PRk ?_
                  refine VV.stk (st' := [.ref (A p)]) (by first | rfl | (rw [show Option.bind (some x) P = _ from hpx]; rfl) | rw [show Option.bind (some x) P = _ from hpx]) ?_
                  refine V_astore_n (i := 1) F dJ10_fixAfterDeletion_102 rfl (Nat.le_of_ble_eq_true rfl) (Nat.le_of_ble_eq_true rfl) ?_
                  refine V_goto (tgt := 183) F dJ10_fixAfterDeletion_103 (by decide) ?_
                  refine V_goto (tgt := 0) F dJ10_fixAfterDeletion_183 (by decide) ?_
                  refine VV.weak (L' := [some (.ref (t)), some (.ref (A p)), none]) (LW.c1 (LW.c1 (LW.c0 LW.nil))) ?_
                  exact ih _ _ _ _ _ _ _ p _ (by have := hw.Pin hx hpx; have := hw.1 p hp; have := hw.1 x hx; omega) ⟨x0, x1, x6, x7, x8, p5, vw_fr hv1 g7 rfl, vw_fr hv7 g7 rfl⟩ hT3 hw hp f6 (by have := hw.Pin hx hpx; have := hw.1 x hx; obtain ⟨z1, z2, z3, z4⟩ := hz; exact ⟨by omega, by omega, z3, z4⟩)
      have ph2R : ∀ (L R P : Nat → Option Nat) (C : Nat → Bool) (rt : Option Nat) (lo hi : Nat → Nat) (x : Nat) (hh : AH) (p : Nat), n - (hi x - lo x) < nn + 1 → TC hh t nz mc (rt.map A) → TN hh n A K V L R P C → WT n rt L R P lo hi → x < n → Fr (mT t n A) h hh → SB lo hi x z0 la hb → p < n → P x = some p → R p = some x → VV G X 3 (EQ G X 0 0 (fun r0 h2 => r0 = none ∧ ∃ L2 R2 P2 C2 rt2 lo2 hi2, TC h2 t nz mc ((rt2 : Option Nat).map A) ∧ TN h2 n A K V L2 R2 P2 C2 ∧ WT n rt2 L2 R2 P2 lo2 hi2 ∧ Fr (mT t n A) h h2 ∧ lo2 z0 = la ∧ hi2 z0 = hb)) hh 0 0 [some (.ref t), some (.ref (A x)), some (va_rf ((L p).map A))] [] 230 := by
        intro L R P C rt lo hi x hh p hm hC hT hw hx hF hz hp hpx hcp
        obtain ⟨x0, x1, x6, x7, x8, ht, hv1, hv7⟩ := id hC
        have hxp := hw.Pne hx hpx
        cases hs : L p with
        | none =>
          refine VV.loc (L' := [some (.ref t), some (.ref (A x)), some .null]) rfl ?_
          refine V_aload_nN (i := 2) F dJ10_fixAfterDeletion_230 rfl rfl ?_
          refine V_callS (st := []) F dJ10_fixAfterDeletion_231 lk_J10_300 (ct_rightOf (o := none) hT (fun _ z => nomatch z)) rfl rfl (Nat.le_of_ble_eq_true rfl) (Nat.le_of_ble_eq_true rfl) (Nat.le_of_ble_eq_true rfl) (by first | exact Nat.le_of_ble_eq_true rfl | omega) (by first | exact Nat.le_of_ble_eq_true rfl | omega) ?_
          refine PRk ?_
          refine VV.stk (st' := [.null]) rfl ?_
          refine V_callS (st := []) F dJ10_fixAfterDeletion_234 lk_J10_303 (ct_colorOf (o := none) hT (fun _ z => nomatch z)) rfl rfl (Nat.le_of_ble_eq_true rfl) (Nat.le_of_ble_eq_true rfl) (Nat.le_of_ble_eq_true rfl) (by first | exact Nat.le_of_ble_eq_true rfl | omega) (by first | exact Nat.le_of_ble_eq_true rfl | omega) ?_
          refine PRk ?_
          refine VV.stk (st' := [.int (cB (true))]) rfl ?_
          refine V_iconst (v := nI 1) F dJ10_fixAfterDeletion_237 rfl ?_
          refine V_icmp_ne1C (c := true) (tgt := 265) F dJ10_fixAfterDeletion_238 (by decide) (fun c_238 => nomatch c_238) (fun c_238 => ?_)
          refine V_aload_nN (i := 2) F dJ10_fixAfterDeletion_241 rfl rfl ?_
          refine V_callS (st := []) F dJ10_fixAfterDeletion_242 lk_J10_297 (ct_leftOf (o := none) hT (fun _ z => nomatch z)) rfl rfl (Nat.le_of_ble_eq_true rfl) (Nat.le_of_ble_eq_true rfl) (Nat.le_of_ble_eq_true rfl) (by first | exact Nat.le_of_ble_eq_true rfl | omega) (by first | exact Nat.le_of_ble_eq_true rfl | omega) ?_
          refine PRk ?_
          refine VV.stk (st' := [.null]) rfl ?_
          refine V_callS (st := []) F dJ10_fixAfterDeletion_245 lk_J10_303 (ct_colorOf (o := none) hT (fun _ z => nomatch z)) rfl rfl (Nat.le_of_ble_eq_true rfl) (Nat.le_of_ble_eq_true rfl) (Nat.le_of_ble_eq_true rfl) (by first | exact Nat.le_of_ble_eq_true rfl | omega) (by first | exact Nat.le_of_ble_eq_true rfl | omega) ?_
          refine PRk ?_
          refine VV.stk (st' := [.int (cB (true))]) rfl ?_
          refine V_iconst (v := nI 1) F dJ10_fixAfterDeletion_248 rfl ?_
          refine V_icmp_ne1C (c := true) (tgt := 265) F dJ10_fixAfterDeletion_249 (by decide) (fun c_249 => nomatch c_249) (fun c_249 => ?_)
          refine V_aload_nN (i := 2) F dJ10_fixAfterDeletion_252 rfl rfl ?_
          refine V_iconst (v := nI 0) F dJ10_fixAfterDeletion_253 rfl ?_
          refine V_callS (st := []) F dJ10_fixAfterDeletion_254 lk_J10_307 (ct_setColor (o := none) (c := false) hT hAI (fun _ z => nomatch z)) rfl rfl (Nat.le_of_ble_eq_true rfl) (Nat.le_of_ble_eq_true rfl) (Nat.le_of_ble_eq_true rfl) (by first | exact Nat.le_of_ble_eq_true rfl | omega) (by first | exact Nat.le_of_ble_eq_true rfl | omega) ?_
          rintro _ k1 ⟨rfl, hT3, hx2, hk4⟩
          have p5 := (hk4 t (fun i hi => ne_oo ht (hT i hi) (by decide))).trans ht
          have f6 := hF.cal hx2 (fun b q => Or.inl (Or.inr q))
          have g7 := (Fr.rf (M := fun _ => True) (h := hh)).cal hx2 (fun _ _ => Or.inl trivial)
          refine V_aload_n (i := 1) F dJ10_fixAfterDeletion_257 rfl rfl ?_
          refine V_callS (st := []) F dJ10_fixAfterDeletion_258 lk_J10_294 (ct_parentOf (o := some x) hT3 (fun _ z => Option.some.inj z ▸ hx)) rfl rfl (Nat.le_of_ble_eq_true rfl) (Nat.le_of_ble_eq_true rfl) (Nat.le_of_ble_eq_true rfl) (by first | exact Nat.le_of_ble_eq_true rfl | omega) (by first | exact Nat.le_of_ble_eq_true rfl | omega) ?_
          refine PRk ?_
          refine VV.stk (st' := [.ref (A p)]) (by first | rfl | (rw [show Option.bind (some x) P = _ from hpx]; rfl) | rw [show Option.bind (some x) P = _ from hpx]) ?_
          refine V_astore_n (i := 1) F dJ10_fixAfterDeletion_261 rfl (Nat.le_of_ble_eq_true rfl) (Nat.le_of_ble_eq_true rfl) ?_
          refine V_goto (tgt := 342) F dJ10_fixAfterDeletion_262 (by decide) ?_
          refine V_goto (tgt := 0) F dJ10_fixAfterDeletion_342 (by decide) ?_
          refine VV.weak (L' := [some (.ref (t)), some (.ref (A p)), none]) (LW.c1 (LW.c1 (LW.c0 LW.nil))) ?_
          exact ih _ _ _ _ _ _ _ p _ (by have := hw.Pin hx hpx; have := hw.1 p hp; have := hw.1 x hx; omega) ⟨x0, x1, x6, x7, x8, p5, vw_fr hv1 g7 rfl, vw_fr hv7 g7 rfl⟩ hT3 hw hp f6 (by have := hw.Pin hx hpx; have := hw.1 x hx; obtain ⟨z1, z2, z3, z4⟩ := hz; exact ⟨by omega, by omega, z3, z4⟩)
        | some s =>
          have hsn : s < n := hw.bL hp hs
          refine VV.loc (L' := [some (.ref t), some (.ref (A x)), some (.ref (A s))]) rfl ?_
          cases hi : R s with
          | none =>
            cases ho : L s with
            | none =>
              refine V_aload_n (i := 2) F dJ10_fixAfterDeletion_230 rfl rfl ?_
              refine V_callS (st := []) F dJ10_fixAfterDeletion_231 lk_J10_300 (ct_rightOf (o := some s) hT (fun _ z => Option.some.inj z ▸ hsn)) rfl rfl (Nat.le_of_ble_eq_true rfl) (Nat.le_of_ble_eq_true rfl) (Nat.le_of_ble_eq_true rfl) (by first | exact Nat.le_of_ble_eq_true rfl | omega) (by first | exact Nat.le_of_ble_eq_true rfl | omega) ?_
              refine PRk ?_
              refine VV.stk (st' := [.null]) (by first | rfl | (rw [show Option.bind (some s) R = _ from hi]; rfl) | rw [show Option.bind (some s) R = _ from hi]) ?_
              refine V_callS (st := []) F dJ10_fixAfterDeletion_234 lk_J10_303 (ct_colorOf (o := none) hT (fun _ z => nomatch z)) rfl rfl (Nat.le_of_ble_eq_true rfl) (Nat.le_of_ble_eq_true rfl) (Nat.le_of_ble_eq_true rfl) (by first | exact Nat.le_of_ble_eq_true rfl | omega) (by first | exact Nat.le_of_ble_eq_true rfl | omega) ?_
              refine PRk ?_
              refine VV.stk (st' := [.int (cB (true))]) rfl ?_
              refine V_iconst (v := nI 1) F dJ10_fixAfterDeletion_237 rfl ?_
              refine V_icmp_ne1C (c := true) (tgt := 265) F dJ10_fixAfterDeletion_238 (by decide) (fun c_238 => nomatch c_238) (fun c_238 => ?_)
              refine V_aload_n (i := 2) F dJ10_fixAfterDeletion_241 rfl rfl ?_
              refine V_callS (st := []) F dJ10_fixAfterDeletion_242 lk_J10_297 (ct_leftOf (o := some s) hT (fun _ z => Option.some.inj z ▸ hsn)) rfl rfl (Nat.le_of_ble_eq_true rfl) (Nat.le_of_ble_eq_true rfl) (Nat.le_of_ble_eq_true rfl) (by first | exact Nat.le_of_ble_eq_true rfl | omega) (by first | exact Nat.le_of_ble_eq_true rfl | omega) ?_
              refine PRk ?_
              refine VV.stk (st' := [.null]) (by first | rfl | (rw [show Option.bind (some s) L = _ from ho]; rfl) | rw [show Option.bind (some s) L = _ from ho]) ?_
              refine V_callS (st := []) F dJ10_fixAfterDeletion_245 lk_J10_303 (ct_colorOf (o := none) hT (fun _ z => nomatch z)) rfl rfl (Nat.le_of_ble_eq_true rfl) (Nat.le_of_ble_eq_true rfl) (Nat.le_of_ble_eq_true rfl) (by first | exact Nat.le_of_ble_eq_true rfl | omega) (by first | exact Nat.le_of_ble_eq_true rfl | omega) ?_
              refine PRk ?_
              refine VV.stk (st' := [.int (cB (true))]) rfl ?_
              refine V_iconst (v := nI 1) F dJ10_fixAfterDeletion_248 rfl ?_
              refine V_icmp_ne1C (c := true) (tgt := 265) F dJ10_fixAfterDeletion_249 (by decide) (fun c_249 => nomatch c_249) (fun c_249 => ?_)
              refine V_aload_n (i := 2) F dJ10_fixAfterDeletion_252 rfl rfl ?_
              refine V_iconst (v := nI 0) F dJ10_fixAfterDeletion_253 rfl ?_
              refine V_callS (st := []) F dJ10_fixAfterDeletion_254 lk_J10_307 (ct_setColor (o := some s) (c := false) hT hAI (fun _ z => Option.some.inj z ▸ hsn)) rfl rfl (Nat.le_of_ble_eq_true rfl) (Nat.le_of_ble_eq_true rfl) (Nat.le_of_ble_eq_true rfl) (by first | exact Nat.le_of_ble_eq_true rfl | omega) (by first | exact Nat.le_of_ble_eq_true rfl | omega) ?_
              rintro _ k1 ⟨rfl, hT3, hx2, hk4⟩
              have p5 := (hk4 t (fun i hi => ne_oo ht (hT i hi) (by decide))).trans ht
              have f6 := hF.cal hx2 (fun b q => Or.inl (Or.inr q))
              have g7 := (Fr.rf (M := fun _ => True) (h := hh)).cal hx2 (fun _ _ => Or.inl trivial)
              refine V_aload_n (i := 1) F dJ10_fixAfterDeletion_257 rfl rfl ?_
              refine V_callS (st := []) F dJ10_fixAfterDeletion_258 lk_J10_294 (ct_parentOf (o := some x) hT3 (fun _ z => Option.some.inj z ▸ hx)) rfl rfl (Nat.le_of_ble_eq_true rfl) (Nat.le_of_ble_eq_true rfl) (Nat.le_of_ble_eq_true rfl) (by first | exact Nat.le_of_ble_eq_true rfl | omega) (by first | exact Nat.le_of_ble_eq_true rfl | omega) ?_
              refine PRk ?_
              refine VV.stk (st' := [.ref (A p)]) (by first | rfl | (rw [show Option.bind (some x) P = _ from hpx]; rfl) | rw [show Option.bind (some x) P = _ from hpx]) ?_
              refine V_astore_n (i := 1) F dJ10_fixAfterDeletion_261 rfl (Nat.le_of_ble_eq_true rfl) (Nat.le_of_ble_eq_true rfl) ?_
              refine V_goto (tgt := 342) F dJ10_fixAfterDeletion_262 (by decide) ?_
              refine V_goto (tgt := 0) F dJ10_fixAfterDeletion_342 (by decide) ?_
              refine VV.weak (L' := [some (.ref (t)), some (.ref (A p)), none]) (LW.c1 (LW.c1 (LW.c0 LW.nil))) ?_
              exact ih _ _ _ _ _ _ _ p _ (by have := hw.Pin hx hpx; have := hw.1 p hp; have := hw.1 x hx; omega) ⟨x0, x1, x6, x7, x8, p5, vw_fr hv1 g7 rfl, vw_fr hv7 g7 rfl⟩ hT3 hw hp f6 (by have := hw.Pin hx hpx; have := hw.1 x hx; obtain ⟨z1, z2, z3, z4⟩ := hz; exact ⟨by omega, by omega, z3, z4⟩)
            | some o1 =>
              have ho1 : o1 < n := hw.bL hsn ho
              cases hco1 : C o1 with
              | false =>
                refine V_aload_n (i := 2) F dJ10_fixAfterDeletion_230 rfl rfl ?_
                refine V_callS (st := []) F dJ10_fixAfterDeletion_231 lk_J10_300 (ct_rightOf (o := some s) hT (fun _ z => Option.some.inj z ▸ hsn)) rfl rfl (Nat.le_of_ble_eq_true rfl) (Nat.le_of_ble_eq_true rfl) (Nat.le_of_ble_eq_true rfl) (by first | exact Nat.le_of_ble_eq_true rfl | omega) (by first | exact Nat.le_of_ble_eq_true rfl | omega) ?_
                refine PRk ?_
                refine VV.stk (st' := [.null]) (by first | rfl | (rw [show Option.bind (some s) R = _ from hi]; rfl) | rw [show Option.bind (some s) R = _ from hi]) ?_
                refine V_callS (st := []) F dJ10_fixAfterDeletion_234 lk_J10_303 (ct_colorOf (o := none) hT (fun _ z => nomatch z)) rfl rfl (Nat.le_of_ble_eq_true rfl) (Nat.le_of_ble_eq_true rfl) (Nat.le_of_ble_eq_true rfl) (by first | exact Nat.le_of_ble_eq_true rfl | omega) (by first | exact Nat.le_of_ble_eq_true rfl | omega) ?_
                refine PRk ?_
                refine VV.stk (st' := [.int (cB (true))]) rfl ?_
                refine V_iconst (v := nI 1) F dJ10_fixAfterDeletion_237 rfl ?_
                refine V_icmp_ne1C (c := true) (tgt := 265) F dJ10_fixAfterDeletion_238 (by decide) (fun c_238 => nomatch c_238) (fun c_238 => ?_)
                refine V_aload_n (i := 2) F dJ10_fixAfterDeletion_241 rfl rfl ?_
                refine V_callS (st := []) F dJ10_fixAfterDeletion_242 lk_J10_297 (ct_leftOf (o := some s) hT (fun _ z => Option.some.inj z ▸ hsn)) rfl rfl (Nat.le_of_ble_eq_true rfl) (Nat.le_of_ble_eq_true rfl) (Nat.le_of_ble_eq_true rfl) (by first | exact Nat.le_of_ble_eq_true rfl | omega) (by first | exact Nat.le_of_ble_eq_true rfl | omega) ?_
                refine PRk ?_
                refine VV.stk (st' := [.ref (A o1)]) (by first | rfl | (rw [show Option.bind (some s) L = _ from ho]; rfl) | rw [show Option.bind (some s) L = _ from ho]) ?_
                refine V_callS (st := []) F dJ10_fixAfterDeletion_245 lk_J10_303 (ct_colorOf (o := some o1) hT (fun _ z => Option.some.inj z ▸ ho1)) rfl rfl (Nat.le_of_ble_eq_true rfl) (Nat.le_of_ble_eq_true rfl) (Nat.le_of_ble_eq_true rfl) (by first | exact Nat.le_of_ble_eq_true rfl | omega) (by first | exact Nat.le_of_ble_eq_true rfl | omega) ?_
                refine PRk ?_
                refine VV.stk (st' := [.int (cB (C o1))]) rfl ?_
                refine V_iconst (v := nI 1) F dJ10_fixAfterDeletion_248 rfl ?_
                refine V_icmp_ne1C (c := C o1) (tgt := 265) F dJ10_fixAfterDeletion_249 (by decide) (fun c_249 => ?_) (fun c_249 => absurd (c_249.symm.trans hco1) (by decide))
                refine V_aload_n (i := 2) F dJ10_fixAfterDeletion_265 rfl rfl ?_
                refine V_callS (st := []) F dJ10_fixAfterDeletion_266 lk_J10_297 (ct_leftOf (o := some s) hT (fun _ z => Option.some.inj z ▸ hsn)) rfl rfl (Nat.le_of_ble_eq_true rfl) (Nat.le_of_ble_eq_true rfl) (Nat.le_of_ble_eq_true rfl) (by first | exact Nat.le_of_ble_eq_true rfl | omega) (by first | exact Nat.le_of_ble_eq_true rfl | omega) ?_
                refine PRk ?_
                refine VV.stk (st' := [.ref (A o1)]) (by first | rfl | (rw [show Option.bind (some s) L = _ from ho]; rfl) | rw [show Option.bind (some s) L = _ from ho]) ?_
                refine V_callS (st := []) F dJ10_fixAfterDeletion_269 lk_J10_303 (ct_colorOf (o := some o1) hT (fun _ z => Option.some.inj z ▸ ho1)) rfl rfl (Nat.le_of_ble_eq_true rfl) (Nat.le_of_ble_eq_true rfl) (Nat.le_of_ble_eq_true rfl) (by first | exact Nat.le_of_ble_eq_true rfl | omega) (by first | exact Nat.le_of_ble_eq_true rfl | omega) ?_
                refine PRk ?_
                refine VV.stk (st' := [.int (cB (C o1))]) rfl ?_
                refine V_iconst (v := nI 1) F dJ10_fixAfterDeletion_272 rfl ?_
                refine V_icmp_ne1C (c := C o1) (tgt := 302) F dJ10_fixAfterDeletion_273 (by decide) (fun c_273 => ?_) (fun c_273 => absurd (c_273.symm.trans hco1) (by decide))
                exact ph3R _ _ _ _ _ _ _ x _ p s ⟨x0, x1, x6, x7, x8, ht, vw_fr hv1 (Fr.rf (M := fun _ => True) (h := hh)) rfl, vw_fr hv7 (Fr.rf (M := fun _ => True) (h := hh)) rfl⟩ hT hw hx hF hz hp hsn hpx hs hcp
              | true =>
                refine V_aload_n (i := 2) F dJ10_fixAfterDeletion_230 rfl rfl ?_
                refine V_callS (st := []) F dJ10_fixAfterDeletion_231 lk_J10_300 (ct_rightOf (o := some s) hT (fun _ z => Option.some.inj z ▸ hsn)) rfl rfl (Nat.le_of_ble_eq_true rfl) (Nat.le_of_ble_eq_true rfl) (Nat.le_of_ble_eq_true rfl) (by first | exact Nat.le_of_ble_eq_true rfl | omega) (by first | exact Nat.le_of_ble_eq_true rfl | omega) ?_
                refine PRk ?_
                refine VV.stk (st' := [.null]) (by first | rfl | (rw [show Option.bind (some s) R = _ from hi]; rfl) | rw [show Option.bind (some s) R = _ from hi]) ?_
                refine V_callS (st := []) F dJ10_fixAfterDeletion_234 lk_J10_303 (ct_colorOf (o := none) hT (fun _ z => nomatch z)) rfl rfl (Nat.le_of_ble_eq_true rfl) (Nat.le_of_ble_eq_true rfl) (Nat.le_of_ble_eq_true rfl) (by first | exact Nat.le_of_ble_eq_true rfl | omega) (by first | exact Nat.le_of_ble_eq_true rfl | omega) ?_
                refine PRk ?_
                refine VV.stk (st' := [.int (cB (true))]) rfl ?_
                refine V_iconst (v := nI 1) F dJ10_fixAfterDeletion_237 rfl ?_
                refine V_icmp_ne1C (c := true) (tgt := 265) F dJ10_fixAfterDeletion_238 (by decide) (fun c_238 => nomatch c_238) (fun c_238 => ?_)
                refine V_aload_n (i := 2) F dJ10_fixAfterDeletion_241 rfl rfl ?_
                refine V_callS (st := []) F dJ10_fixAfterDeletion_242 lk_J10_297 (ct_leftOf (o := some s) hT (fun _ z => Option.some.inj z ▸ hsn)) rfl rfl (Nat.le_of_ble_eq_true rfl) (Nat.le_of_ble_eq_true rfl) (Nat.le_of_ble_eq_true rfl) (by first | exact Nat.le_of_ble_eq_true rfl | omega) (by first | exact Nat.le_of_ble_eq_true rfl | omega) ?_
                refine PRk ?_
                refine VV.stk (st' := [.ref (A o1)]) (by first | rfl | (rw [show Option.bind (some s) L = _ from ho]; rfl) | rw [show Option.bind (some s) L = _ from ho]) ?_
                refine V_callS (st := []) F dJ10_fixAfterDeletion_245 lk_J10_303 (ct_colorOf (o := some o1) hT (fun _ z => Option.some.inj z ▸ ho1)) rfl rfl (Nat.le_of_ble_eq_true rfl) (Nat.le_of_ble_eq_true rfl) (Nat.le_of_ble_eq_true rfl) (by first | exact Nat.le_of_ble_eq_true rfl | omega) (by first | exact Nat.le_of_ble_eq_true rfl | omega) ?_
                refine PRk ?_
                refine VV.stk (st' := [.int (cB (C o1))]) rfl ?_
                refine V_iconst (v := nI 1) F dJ10_fixAfterDeletion_248 rfl ?_
                refine V_icmp_ne1C (c := C o1) (tgt := 265) F dJ10_fixAfterDeletion_249 (by decide) (fun c_249 => absurd (c_249.symm.trans hco1) (by decide)) (fun c_249 => ?_)
                refine V_aload_n (i := 2) F dJ10_fixAfterDeletion_252 rfl rfl ?_
                refine V_iconst (v := nI 0) F dJ10_fixAfterDeletion_253 rfl ?_
                refine V_callS (st := []) F dJ10_fixAfterDeletion_254 lk_J10_307 (ct_setColor (o := some s) (c := false) hT hAI (fun _ z => Option.some.inj z ▸ hsn)) rfl rfl (Nat.le_of_ble_eq_true rfl) (Nat.le_of_ble_eq_true rfl) (Nat.le_of_ble_eq_true rfl) (by first | exact Nat.le_of_ble_eq_true rfl | omega) (by first | exact Nat.le_of_ble_eq_true rfl | omega) ?_
                rintro _ k1 ⟨rfl, hT3, hx2, hk4⟩
                have p5 := (hk4 t (fun i hi => ne_oo ht (hT i hi) (by decide))).trans ht
                have f6 := hF.cal hx2 (fun b q => Or.inl (Or.inr q))
                have g7 := (Fr.rf (M := fun _ => True) (h := hh)).cal hx2 (fun _ _ => Or.inl trivial)
                refine V_aload_n (i := 1) F dJ10_fixAfterDeletion_257 rfl rfl ?_
                refine V_callS (st := []) F dJ10_fixAfterDeletion_258 lk_J10_294 (ct_parentOf (o := some x) hT3 (fun _ z => Option.some.inj z ▸ hx)) rfl rfl (Nat.le_of_ble_eq_true rfl) (Nat.le_of_ble_eq_true rfl) (Nat.le_of_ble_eq_true rfl) (by first | exact Nat.le_of_ble_eq_true rfl | omega) (by first | exact Nat.le_of_ble_eq_true rfl | omega) ?_
                refine PRk ?_
                refine VV.stk (st' := [.ref (A p)]) (by first | rfl | (rw [show Option.bind (some x) P = _ from hpx]; rfl) | rw [show Option.bind (some x) P = _ from hpx]) ?_
                refine V_astore_n (i := 1) F dJ10_fixAfterDeletion_261 rfl (Nat.le_of_ble_eq_true rfl) (Nat.le_of_ble_eq_true rfl) ?_
                refine V_goto (tgt := 342) F dJ10_fixAfterDeletion_262 (by decide) ?_
                refine V_goto (tgt := 0) F dJ10_fixAfterDeletion_342 (by decide) ?_
                refine VV.weak (L' := [some (.ref (t)), some (.ref (A p)), none]) (LW.c1 (LW.c1 (LW.c0 LW.nil))) ?_
                exact ih _ _ _ _ _ _ _ p _ (by have := hw.Pin hx hpx; have := hw.1 p hp; have := hw.1 x hx; omega) ⟨x0, x1, x6, x7, x8, p5, vw_fr hv1 g7 rfl, vw_fr hv7 g7 rfl⟩ hT3 hw hp f6 (by have := hw.Pin hx hpx; have := hw.1 x hx; obtain ⟨z1, z2, z3, z4⟩ := hz; exact ⟨by omega, by omega, z3, z4⟩)
          | some i1 =>
            have hi1 : i1 < n := hw.bR hsn hi
            cases ho : L s with
            | none =>
              cases hci1 : C i1 with
              | false =>
                refine V_aload_n (i := 2) F dJ10_fixAfterDeletion_230 rfl rfl ?_
                refine V_callS (st := []) F dJ10_fixAfterDeletion_231 lk_J10_300 (ct_rightOf (o := some s) hT (fun _ z => Option.some.inj z ▸ hsn)) rfl rfl (Nat.le_of_ble_eq_true rfl) (Nat.le_of_ble_eq_true rfl) (Nat.le_of_ble_eq_true rfl) (by first | exact Nat.le_of_ble_eq_true rfl | omega) (by first | exact Nat.le_of_ble_eq_true rfl | omega) ?_
                refine PRk ?_
                refine VV.stk (st' := [.ref (A i1)]) (by first | rfl | (rw [show Option.bind (some s) R = _ from hi]; rfl) | rw [show Option.bind (some s) R = _ from hi]) ?_
                refine V_callS (st := []) F dJ10_fixAfterDeletion_234 lk_J10_303 (ct_colorOf (o := some i1) hT (fun _ z => Option.some.inj z ▸ hi1)) rfl rfl (Nat.le_of_ble_eq_true rfl) (Nat.le_of_ble_eq_true rfl) (Nat.le_of_ble_eq_true rfl) (by first | exact Nat.le_of_ble_eq_true rfl | omega) (by first | exact Nat.le_of_ble_eq_true rfl | omega) ?_
                refine PRk ?_
                refine VV.stk (st' := [.int (cB (C i1))]) rfl ?_
                refine V_iconst (v := nI 1) F dJ10_fixAfterDeletion_237 rfl ?_
                refine V_icmp_ne1C (c := C i1) (tgt := 265) F dJ10_fixAfterDeletion_238 (by decide) (fun c_238 => ?_) (fun c_238 => absurd (c_238.symm.trans hci1) (by decide))
                refine V_aload_n (i := 2) F dJ10_fixAfterDeletion_265 rfl rfl ?_
                refine V_callS (st := []) F dJ10_fixAfterDeletion_266 lk_J10_297 (ct_leftOf (o := some s) hT (fun _ z => Option.some.inj z ▸ hsn)) rfl rfl (Nat.le_of_ble_eq_true rfl) (Nat.le_of_ble_eq_true rfl) (Nat.le_of_ble_eq_true rfl) (by first | exact Nat.le_of_ble_eq_true rfl | omega) (by first | exact Nat.le_of_ble_eq_true rfl | omega) ?_
                refine PRk ?_
                refine VV.stk (st' := [.null]) (by first | rfl | (rw [show Option.bind (some s) L = _ from ho]; rfl) | rw [show Option.bind (some s) L = _ from ho]) ?_
                refine V_callS (st := []) F dJ10_fixAfterDeletion_269 lk_J10_303 (ct_colorOf (o := none) hT (fun _ z => nomatch z)) rfl rfl (Nat.le_of_ble_eq_true rfl) (Nat.le_of_ble_eq_true rfl) (Nat.le_of_ble_eq_true rfl) (by first | exact Nat.le_of_ble_eq_true rfl | omega) (by first | exact Nat.le_of_ble_eq_true rfl | omega) ?_
                refine PRk ?_
                refine VV.stk (st' := [.int (cB (true))]) rfl ?_
                refine V_iconst (v := nI 1) F dJ10_fixAfterDeletion_272 rfl ?_
                refine V_icmp_ne1C (c := true) (tgt := 302) F dJ10_fixAfterDeletion_273 (by decide) (fun c_273 => nomatch c_273) (fun c_273 => ?_)
                refine V_aload_n (i := 2) F dJ10_fixAfterDeletion_276 rfl rfl ?_
                refine V_callS (st := []) F dJ10_fixAfterDeletion_277 lk_J10_300 (ct_rightOf (o := some s) hT (fun _ z => Option.some.inj z ▸ hsn)) rfl rfl (Nat.le_of_ble_eq_true rfl) (Nat.le_of_ble_eq_true rfl) (Nat.le_of_ble_eq_true rfl) (by first | exact Nat.le_of_ble_eq_true rfl | omega) (by first | exact Nat.le_of_ble_eq_true rfl | omega) ?_
                refine PRk ?_
                refine VV.stk (st' := [.ref (A i1)]) (by first | rfl | (rw [show Option.bind (some s) R = _ from hi]; rfl) | rw [show Option.bind (some s) R = _ from hi]) ?_
                refine V_iconst (v := nI 1) F dJ10_fixAfterDeletion_280 rfl ?_
                refine V_callS (st := []) F dJ10_fixAfterDeletion_281 lk_J10_307 (ct_setColor (o := some i1) (c := true) hT hAI (fun _ z => Option.some.inj z ▸ hi1)) rfl rfl (Nat.le_of_ble_eq_true rfl) (Nat.le_of_ble_eq_true rfl) (Nat.le_of_ble_eq_true rfl) (by first | exact Nat.le_of_ble_eq_true rfl | omega) (by first | exact Nat.le_of_ble_eq_true rfl | omega) ?_
                rintro _ k1 ⟨rfl, hT3, hx2, hk4⟩
                have p5 := (hk4 t (fun i hi => ne_oo ht (hT i hi) (by decide))).trans ht
                have f6 := hF.cal hx2 (fun b q => Or.inl (Or.inr q))
                have g7 := (Fr.rf (M := fun _ => True) (h := hh)).cal hx2 (fun _ _ => Or.inl trivial)
                refine V_aload_n (i := 2) F dJ10_fixAfterDeletion_284 rfl rfl ?_
                refine V_iconst (v := nI 0) F dJ10_fixAfterDeletion_285 rfl ?_
                refine V_callS (st := []) F dJ10_fixAfterDeletion_286 lk_J10_307 (ct_setColor (o := some s) (c := false) hT3 hAI (fun _ z => Option.some.inj z ▸ hsn)) rfl rfl (Nat.le_of_ble_eq_true rfl) (Nat.le_of_ble_eq_true rfl) (Nat.le_of_ble_eq_true rfl) (by first | exact Nat.le_of_ble_eq_true rfl | omega) (by first | exact Nat.le_of_ble_eq_true rfl | omega) ?_
                rintro _ k8 ⟨rfl, hT10, hx9, hk11⟩
                have p12 := (hk11 t (fun i hi => ne_oo p5 (hT3 i hi) (by decide))).trans p5
                have f13 := f6.cal hx9 (fun b q => Or.inl (Or.inr q))
                have g14 := g7.cal hx9 (fun _ _ => Or.inl trivial)
                refine V_aload_n (i := 0) F dJ10_fixAfterDeletion_289 rfl rfl ?_
                refine V_aload_n (i := 2) F dJ10_fixAfterDeletion_290 rfl rfl ?_
                refine V_callV (st := []) F dJ10_fixAfterDeletion_291 lk_J10_311 (ct_rotateLeft ⟨x0, x1, x6, x7, x8, p12, vw_fr hv1 g14 rfl, vw_fr hv7 g14 rfl⟩ hT10 hAI hw hsn hi) ⟨23, _, _, _, rfl, (.inl p12)⟩ rfl rfl (Nat.le_of_ble_eq_true rfl) (Nat.le_of_ble_eq_true rfl) (Nat.le_of_ble_eq_true rfl) (by first | exact Nat.le_of_ble_eq_true rfl | omega) (by first | exact Nat.le_of_ble_eq_true rfl | omega) ?_
                rintro _ k15 ⟨rfl, hC18, hT17, hx16⟩
                obtain ⟨y19, y20, y21, y22, y23, ht24, hv25, hv26⟩ := hC18
                have f27 : Fr (mT t n A) h k15 := f13.cal hx16 (fun b q => Or.inl q)
                have hw28 := hw.rotL (L' := rlL L P s i1) (R' := rlR L R P s i1) (P' := rlP L P s i1) (rt' := roR P rt s i1) hsn hi (fun _ => rfl) (fun _ => rfl) (fun _ => rfl) rfl
                have k3 := hw.k3R hp hx hpx hcp hs hi
                have e1 : (rlP L P s i1) x = some p := k3.1
                have e2 : (rlL L P s i1) p = some i1 := k3.2.1
                have e4 : (rlR L R P s i1) p = some x := k3.2.2.1
                refine V_aload_n (i := 1) F dJ10_fixAfterDeletion_294 rfl rfl ?_
                refine V_callS (st := []) F dJ10_fixAfterDeletion_295 lk_J10_294 (ct_parentOf (o := some x) hT17 (fun _ z => Option.some.inj z ▸ hx)) rfl rfl (Nat.le_of_ble_eq_true rfl) (Nat.le_of_ble_eq_true rfl) (Nat.le_of_ble_eq_true rfl) (by first | exact Nat.le_of_ble_eq_true rfl | omega) (by first | exact Nat.le_of_ble_eq_true rfl | omega) ?_
                refine PRk ?_
                refine VV.stk (st' := [.ref (A p)]) (by first | rfl | (rw [show Option.bind (some x) (rlP L P s i1) = _ from e1]; rfl) | rw [show Option.bind (some x) (rlP L P s i1) = _ from e1]) ?_
                refine V_callS (st := []) F dJ10_fixAfterDeletion_298 lk_J10_297 (ct_leftOf (o := some p) hT17 (fun _ z => Option.some.inj z ▸ hp)) rfl rfl (Nat.le_of_ble_eq_true rfl) (Nat.le_of_ble_eq_true rfl) (Nat.le_of_ble_eq_true rfl) (by first | exact Nat.le_of_ble_eq_true rfl | omega) (by first | exact Nat.le_of_ble_eq_true rfl | omega) ?_
                refine PRk ?_
                refine VV.stk (st' := [.ref (A i1)]) (by first | rfl | (rw [show Option.bind (some p) (rlL L P s i1) = _ from e2]; rfl) | rw [show Option.bind (some p) (rlL L P s i1) = _ from e2]) ?_
                refine V_astore_n (i := 2) F dJ10_fixAfterDeletion_301 rfl (Nat.le_of_ble_eq_true rfl) (Nat.le_of_ble_eq_true rfl) ?_
                exact ph3R _ _ _ _ _ _ _ x _ p i1 ⟨y19, y20, y21, y22, y23, ht24, vw_fr hv25 (Fr.rf (M := fun _ => True) (h := k15)) rfl, vw_fr hv26 (Fr.rf (M := fun _ => True) (h := k15)) rfl⟩ hT17 hw28 hx f27 (hz.mv (k3.2.2.2 x (hw.1 x hx).1 (hw.1 x hx).2.1).1 (k3.2.2.2 x (hw.1 x hx).1 (hw.1 x hx).2.1).2 k3.2.2.2) hp hi1 e1 e2 e4
              | true =>
                refine V_aload_n (i := 2) F dJ10_fixAfterDeletion_230 rfl rfl ?_
                refine V_callS (st := []) F dJ10_fixAfterDeletion_231 lk_J10_300 (ct_rightOf (o := some s) hT (fun _ z => Option.some.inj z ▸ hsn)) rfl rfl (Nat.le_of_ble_eq_true rfl) (Nat.le_of_ble_eq_true rfl) (Nat.le_of_ble_eq_true rfl) (by first | exact Nat.le_of_ble_eq_true rfl | omega) (by first | exact Nat.le_of_ble_eq_true rfl | omega) ?_
                refine PRk ?_
                refine VV.stk (st' := [.ref (A i1)]) (by first | rfl | (rw [show Option.bind (some s) R = _ from hi]; rfl) | rw [show Option.bind (some s) R = _ from hi]) ?_
                refine V_callS (st := []) F dJ10_fixAfterDeletion_234 lk_J10_303 (ct_colorOf (o := some i1) hT (fun _ z => Option.some.inj z ▸ hi1)) rfl rfl (Nat.le_of_ble_eq_true rfl) (Nat.le_of_ble_eq_true rfl) (Nat.le_of_ble_eq_true rfl) (by first | exact Nat.le_of_ble_eq_true rfl | omega) (by first | exact Nat.le_of_ble_eq_true rfl | omega) ?_
                refine PRk ?_
                refine VV.stk (st' := [.int (cB (C i1))]) rfl ?_
                refine V_iconst (v := nI 1) F dJ10_fixAfterDeletion_237 rfl ?_
                refine V_icmp_ne1C (c := C i1) (tgt := 265) F dJ10_fixAfterDeletion_238 (by decide) (fun c_238 => absurd (c_238.symm.trans hci1) (by decide)) (fun c_238 => ?_)
                refine V_aload_n (i := 2) F dJ10_fixAfterDeletion_241 rfl rfl ?_
                refine V_callS (st := []) F dJ10_fixAfterDeletion_242 lk_J10_297 (ct_leftOf (o := some s) hT (fun _ z => Option.some.inj z ▸ hsn)) rfl rfl (Nat.le_of_ble_eq_true rfl) (Nat.le_of_ble_eq_true rfl) (Nat.le_of_ble_eq_true rfl) (by first | exact Nat.le_of_ble_eq_true rfl | omega) (by first | exact Nat.le_of_ble_eq_true rfl | omega) ?_
                refine PRk ?_
                refine VV.stk (st' := [.null]) (by first | rfl | (rw [show Option.bind (some s) L = _ from ho]; rfl) | rw [show Option.bind (some s) L = _ from ho]) ?_
                refine V_callS (st := []) F dJ10_fixAfterDeletion_245 lk_J10_303 (ct_colorOf (o := none) hT (fun _ z => nomatch z)) rfl rfl (Nat.le_of_ble_eq_true rfl) (Nat.le_of_ble_eq_true rfl) (Nat.le_of_ble_eq_true rfl) (by first | exact Nat.le_of_ble_eq_true rfl | omega) (by first | exact Nat.le_of_ble_eq_true rfl | omega) ?_
                refine PRk ?_
                refine VV.stk (st' := [.int (cB (true))]) rfl ?_
                refine V_iconst (v := nI 1) F dJ10_fixAfterDeletion_248 rfl ?_
                refine V_icmp_ne1C (c := true) (tgt := 265) F dJ10_fixAfterDeletion_249 (by decide) (fun c_249 => nomatch c_249) (fun c_249 => ?_)
                refine V_aload_n (i := 2) F dJ10_fixAfterDeletion_252 rfl rfl ?_
                refine V_iconst (v := nI 0) F dJ10_fixAfterDeletion_253 rfl ?_
                refine V_callS (st := []) F dJ10_fixAfterDeletion_254 lk_J10_307 (ct_setColor (o := some s) (c := false) hT hAI (fun _ z => Option.some.inj z ▸ hsn)) rfl rfl (Nat.le_of_ble_eq_true rfl) (Nat.le_of_ble_eq_true rfl) (Nat.le_of_ble_eq_true rfl) (by first | exact Nat.le_of_ble_eq_true rfl | omega) (by first | exact Nat.le_of_ble_eq_true rfl | omega) ?_
                rintro _ k1 ⟨rfl, hT3, hx2, hk4⟩
                have p5 := (hk4 t (fun i hi => ne_oo ht (hT i hi) (by decide))).trans ht
                have f6 := hF.cal hx2 (fun b q => Or.inl (Or.inr q))
                have g7 := (Fr.rf (M := fun _ => True) (h := hh)).cal hx2 (fun _ _ => Or.inl trivial)
                refine V_aload_n (i := 1) F dJ10_fixAfterDeletion_257 rfl rfl ?_
                refine V_callS (st := []) F dJ10_fixAfterDeletion_258 lk_J10_294 (ct_parentOf (o := some x) hT3 (fun _ z => Option.some.inj z ▸ hx)) rfl rfl (Nat.le_of_ble_eq_true rfl) (Nat.le_of_ble_eq_true rfl) (Nat.le_of_ble_eq_true rfl) (by first | exact Nat.le_of_ble_eq_true rfl | omega) (by first | exact Nat.le_of_ble_eq_true rfl | omega) ?_
                refine PRk ?_
                refine VV.stk (st' := [.ref (A p)]) (by first | rfl | (rw [show Option.bind (some x) P = _ from hpx]; rfl) | rw [show Option.bind (some x) P = _ from hpx]) ?_
                refine V_astore_n (i := 1) F dJ10_fixAfterDeletion_261 rfl (Nat.le_of_ble_eq_true rfl) (Nat.le_of_ble_eq_true rfl) ?_
                refine V_goto (tgt := 342) F dJ10_fixAfterDeletion_262 (by decide) ?_
                refine V_goto (tgt := 0) F dJ10_fixAfterDeletion_342 (by decide) ?_
                refine VV.weak (L' := [some (.ref (t)), some (.ref (A p)), none]) (LW.c1 (LW.c1 (LW.c0 LW.nil))) ?_
                exact ih _ _ _ _ _ _ _ p _ (by have := hw.Pin hx hpx; have := hw.1 p hp; have := hw.1 x hx; omega) ⟨x0, x1, x6, x7, x8, p5, vw_fr hv1 g7 rfl, vw_fr hv7 g7 rfl⟩ hT3 hw hp f6 (by have := hw.Pin hx hpx; have := hw.1 x hx; obtain ⟨z1, z2, z3, z4⟩ := hz; exact ⟨by omega, by omega, z3, z4⟩)
            | some o1 =>
              have ho1 : o1 < n := hw.bL hsn ho
              cases hci1 : C i1 with
              | false =>
                cases hco1 : C o1 with
                | false =>
                  refine V_aload_n (i := 2) F dJ10_fixAfterDeletion_230 rfl rfl ?_
                  refine V_callS (st := []) F dJ10_fixAfterDeletion_231 lk_J10_300 (ct_rightOf (o := some s) hT (fun _ z => Option.some.inj z ▸ hsn)) rfl rfl (Nat.le_of_ble_eq_true rfl) (Nat.le_of_ble_eq_true rfl) (Nat.le_of_ble_eq_true rfl) (by first | exact Nat.le_of_ble_eq_true rfl | omega) (by first | exact Nat.le_of_ble_eq_true rfl | omega) ?_
                  refine PRk ?_
                  refine VV.stk (st' := [.ref (A i1)]) (by first | rfl | (rw [show Option.bind (some s) R = _ from hi]; rfl) | rw [show Option.bind (some s) R = _ from hi]) ?_
                  refine V_callS (st := []) F dJ10_fixAfterDeletion_234 lk_J10_303 (ct_colorOf (o := some i1) hT (fun _ z => Option.some.inj z ▸ hi1)) rfl rfl (Nat.le_of_ble_eq_true rfl) (Nat.le_of_ble_eq_true rfl) (Nat.le_of_ble_eq_true rfl) (by first | exact Nat.le_of_ble_eq_true rfl | omega) (by first | exact Nat.le_of_ble_eq_true rfl | omega) ?_
                  refine PRk ?_
                  refine VV.stk (st' := [.int (cB (C i1))]) rfl ?_
                  refine V_iconst (v := nI 1) F dJ10_fixAfterDeletion_237 rfl ?_
                  refine V_icmp_ne1C (c := C i1) (tgt := 265) F dJ10_fixAfterDeletion_238 (by decide) (fun c_238 => ?_) (fun c_238 => absurd (c_238.symm.trans hci1) (by decide))
                  refine V_aload_n (i := 2) F dJ10_fixAfterDeletion_265 rfl rfl ?_
                  refine V_callS (st := []) F dJ10_fixAfterDeletion_266 lk_J10_297 (ct_leftOf (o := some s) hT (fun _ z => Option.some.inj z ▸ hsn)) rfl rfl (Nat.le_of_ble_eq_true rfl) (Nat.le_of_ble_eq_true rfl) (Nat.le_of_ble_eq_true rfl) (by first | exact Nat.le_of_ble_eq_true rfl | omega) (by first | exact Nat.le_of_ble_eq_true rfl | omega) ?_
                  refine PRk ?_
                  refine VV.stk (st' := [.ref (A o1)]) (by first | rfl | (rw [show Option.bind (some s) L = _ from ho]; rfl) | rw [show Option.bind (some s) L = _ from ho]) ?_
                  refine V_callS (st := []) F dJ10_fixAfterDeletion_269 lk_J10_303 (ct_colorOf (o := some o1) hT (fun _ z => Option.some.inj z ▸ ho1)) rfl rfl (Nat.le_of_ble_eq_true rfl) (Nat.le_of_ble_eq_true rfl) (Nat.le_of_ble_eq_true rfl) (by first | exact Nat.le_of_ble_eq_true rfl | omega) (by first | exact Nat.le_of_ble_eq_true rfl | omega) ?_
                  refine PRk ?_
                  refine VV.stk (st' := [.int (cB (C o1))]) rfl ?_
                  refine V_iconst (v := nI 1) F dJ10_fixAfterDeletion_272 rfl ?_
                  refine V_icmp_ne1C (c := C o1) (tgt := 302) F dJ10_fixAfterDeletion_273 (by decide) (fun c_273 => ?_) (fun c_273 => absurd (c_273.symm.trans hco1) (by decide))
                  exact ph3R _ _ _ _ _ _ _ x _ p s ⟨x0, x1, x6, x7, x8, ht, vw_fr hv1 (Fr.rf (M := fun _ => True) (h := hh)) rfl, vw_fr hv7 (Fr.rf (M := fun _ => True) (h := hh)) rfl⟩ hT hw hx hF hz hp hsn hpx hs hcp
                | true =>
                  refine V_aload_n (i := 2) F dJ10_fixAfterDeletion_230 rfl rfl ?_
                  refine V_callS (st := []) F dJ10_fixAfterDeletion_231 lk_J10_300 (ct_rightOf (o := some s) hT (fun _ z => Option.some.inj z ▸ hsn)) rfl rfl (Nat.le_of_ble_eq_true rfl) (Nat.le_of_ble_eq_true rfl) (Nat.le_of_ble_eq_true rfl) (by first | exact Nat.le_of_ble_eq_true rfl | omega) (by first | exact Nat.le_of_ble_eq_true rfl | omega) ?_
                  refine PRk ?_
                  refine VV.stk (st' := [.ref (A i1)]) (by first | rfl | (rw [show Option.bind (some s) R = _ from hi]; rfl) | rw [show Option.bind (some s) R = _ from hi]) ?_
                  refine V_callS (st := []) F dJ10_fixAfterDeletion_234 lk_J10_303 (ct_colorOf (o := some i1) hT (fun _ z => Option.some.inj z ▸ hi1)) rfl rfl (Nat.le_of_ble_eq_true rfl) (Nat.le_of_ble_eq_true rfl) (Nat.le_of_ble_eq_true rfl) (by first | exact Nat.le_of_ble_eq_true rfl | omega) (by first | exact Nat.le_of_ble_eq_true rfl | omega) ?_
                  refine PRk ?_
                  refine VV.stk (st' := [.int (cB (C i1))]) rfl ?_
                  refine V_iconst (v := nI 1) F dJ10_fixAfterDeletion_237 rfl ?_
                  refine V_icmp_ne1C (c := C i1) (tgt := 265) F dJ10_fixAfterDeletion_238 (by decide) (fun c_238 => ?_) (fun c_238 => absurd (c_238.symm.trans hci1) (by decide))
                  refine V_aload_n (i := 2) F dJ10_fixAfterDeletion_265 rfl rfl ?_
                  refine V_callS (st := []) F dJ10_fixAfterDeletion_266 lk_J10_297 (ct_leftOf (o := some s) hT (fun _ z => Option.some.inj z ▸ hsn)) rfl rfl (Nat.le_of_ble_eq_true rfl) (Nat.le_of_ble_eq_true rfl) (Nat.le_of_ble_eq_true rfl) (by first | exact Nat.le_of_ble_eq_true rfl | omega) (by first | exact Nat.le_of_ble_eq_true rfl | omega) ?_
                  refine PRk ?_
                  refine VV.stk (st' := [.ref (A o1)]) (by first | rfl | (rw [show Option.bind (some s) L = _ from ho]; rfl) | rw [show Option.bind (some s) L = _ from ho]) ?_
                  refine V_callS (st := []) F dJ10_fixAfterDeletion_269 lk_J10_303 (ct_colorOf (o := some o1) hT (fun _ z => Option.some.inj z ▸ ho1)) rfl rfl (Nat.le_of_ble_eq_true rfl) (Nat.le_of_ble_eq_true rfl) (Nat.le_of_ble_eq_true rfl) (by first | exact Nat.le_of_ble_eq_true rfl | omega) (by first | exact Nat.le_of_ble_eq_true rfl | omega) ?_
                  refine PRk ?_
                  refine VV.stk (st' := [.int (cB (C o1))]) rfl ?_
                  refine V_iconst (v := nI 1) F dJ10_fixAfterDeletion_272 rfl ?_
                  refine V_icmp_ne1C (c := C o1) (tgt := 302) F dJ10_fixAfterDeletion_273 (by decide) (fun c_273 => absurd (c_273.symm.trans hco1) (by decide)) (fun c_273 => ?_)
                  refine V_aload_n (i := 2) F dJ10_fixAfterDeletion_276 rfl rfl ?_
                  refine V_callS (st := []) F dJ10_fixAfterDeletion_277 lk_J10_300 (ct_rightOf (o := some s) hT (fun _ z => Option.some.inj z ▸ hsn)) rfl rfl (Nat.le_of_ble_eq_true rfl) (Nat.le_of_ble_eq_true rfl) (Nat.le_of_ble_eq_true rfl) (by first | exact Nat.le_of_ble_eq_true rfl | omega) (by first | exact Nat.le_of_ble_eq_true rfl | omega) ?_
                  refine PRk ?_
                  refine VV.stk (st' := [.ref (A i1)]) (by first | rfl | (rw [show Option.bind (some s) R = _ from hi]; rfl) | rw [show Option.bind (some s) R = _ from hi]) ?_
                  refine V_iconst (v := nI 1) F dJ10_fixAfterDeletion_280 rfl ?_
                  refine V_callS (st := []) F dJ10_fixAfterDeletion_281 lk_J10_307 (ct_setColor (o := some i1) (c := true) hT hAI (fun _ z => Option.some.inj z ▸ hi1)) rfl rfl (Nat.le_of_ble_eq_true rfl) (Nat.le_of_ble_eq_true rfl) (Nat.le_of_ble_eq_true rfl) (by first | exact Nat.le_of_ble_eq_true rfl | omega) (by first | exact Nat.le_of_ble_eq_true rfl | omega) ?_
                  rintro _ k1 ⟨rfl, hT3, hx2, hk4⟩
                  have p5 := (hk4 t (fun i hi => ne_oo ht (hT i hi) (by decide))).trans ht
                  have f6 := hF.cal hx2 (fun b q => Or.inl (Or.inr q))
                  have g7 := (Fr.rf (M := fun _ => True) (h := hh)).cal hx2 (fun _ _ => Or.inl trivial)
                  refine V_aload_n (i := 2) F dJ10_fixAfterDeletion_284 rfl rfl ?_
                  refine V_iconst (v := nI 0) F dJ10_fixAfterDeletion_285 rfl ?_
                  refine V_callS (st := []) F dJ10_fixAfterDeletion_286 lk_J10_307 (ct_setColor (o := some s) (c := false) hT3 hAI (fun _ z => Option.some.inj z ▸ hsn)) rfl rfl (Nat.le_of_ble_eq_true rfl) (Nat.le_of_ble_eq_true rfl) (Nat.le_of_ble_eq_true rfl) (by first | exact Nat.le_of_ble_eq_true rfl | omega) (by first | exact Nat.le_of_ble_eq_true rfl | omega) ?_
                  rintro _ k8 ⟨rfl, hT10, hx9, hk11⟩
                  have p12 := (hk11 t (fun i hi => ne_oo p5 (hT3 i hi) (by decide))).trans p5
                  have f13 := f6.cal hx9 (fun b q => Or.inl (Or.inr q))
                  have g14 := g7.cal hx9 (fun _ _ => Or.inl trivial)
                  refine V_aload_n (i := 0) F dJ10_fixAfterDeletion_289 rfl rfl ?_
                  refine V_aload_n (i := 2) F dJ10_fixAfterDeletion_290 rfl rfl ?_
                  refine V_callV (st := []) F dJ10_fixAfterDeletion_291 lk_J10_311 (ct_rotateLeft ⟨x0, x1, x6, x7, x8, p12, vw_fr hv1 g14 rfl, vw_fr hv7 g14 rfl⟩ hT10 hAI hw hsn hi) ⟨23, _, _, _, rfl, (.inl p12)⟩ rfl rfl (Nat.le_of_ble_eq_true rfl) (Nat.le_of_ble_eq_true rfl) (Nat.le_of_ble_eq_true rfl) (by first | exact Nat.le_of_ble_eq_true rfl | omega) (by first | exact Nat.le_of_ble_eq_true rfl | omega) ?_
                  rintro _ k15 ⟨rfl, hC18, hT17, hx16⟩
                  obtain ⟨y19, y20, y21, y22, y23, ht24, hv25, hv26⟩ := hC18
                  have f27 : Fr (mT t n A) h k15 := f13.cal hx16 (fun b q => Or.inl q)
                  have hw28 := hw.rotL (L' := rlL L P s i1) (R' := rlR L R P s i1) (P' := rlP L P s i1) (rt' := roR P rt s i1) hsn hi (fun _ => rfl) (fun _ => rfl) (fun _ => rfl) rfl
                  have k3 := hw.k3R hp hx hpx hcp hs hi
                  have e1 : (rlP L P s i1) x = some p := k3.1
                  have e2 : (rlL L P s i1) p = some i1 := k3.2.1
                  have e4 : (rlR L R P s i1) p = some x := k3.2.2.1
                  refine V_aload_n (i := 1) F dJ10_fixAfterDeletion_294 rfl rfl ?_
                  refine V_callS (st := []) F dJ10_fixAfterDeletion_295 lk_J10_294 (ct_parentOf (o := some x) hT17 (fun _ z => Option.some.inj z ▸ hx)) rfl rfl (Nat.le_of_ble_eq_true rfl) (Nat.le_of_ble_eq_true rfl) (Nat.le_of_ble_eq_true rfl) (by first | exact Nat.le_of_ble_eq_true rfl | omega) (by first | exact Nat.le_of_ble_eq_true rfl | omega) ?_
                  refine PRk ?_
                  refine VV.stk (st' := [.ref (A p)]) (by first | rfl | (rw [show Option.bind (some x) (rlP L P s i1) = _ from e1]; rfl) | rw [show Option.bind (some x) (rlP L P s i1) = _ from e1]) ?_
                  refine V_callS (st := []) F dJ10_fixAfterDeletion_298 lk_J10_297 (ct_leftOf (o := some p) hT17 (fun _ z => Option.some.inj z ▸ hp)) rfl rfl (Nat.le_of_ble_eq_true rfl) (Nat.le_of_ble_eq_true rfl) (Nat.le_of_ble_eq_true rfl) (by first | exact Nat.le_of_ble_eq_true rfl | omega) (by first | exact Nat.le_of_ble_eq_true rfl | omega) ?_
                  refine PRk ?_
                  refine VV.stk (st' := [.ref (A i1)]) (by first | rfl | (rw [show Option.bind (some p) (rlL L P s i1) = _ from e2]; rfl) | rw [show Option.bind (some p) (rlL L P s i1) = _ from e2]) ?_
                  refine V_astore_n (i := 2) F dJ10_fixAfterDeletion_301 rfl (Nat.le_of_ble_eq_true rfl) (Nat.le_of_ble_eq_true rfl) ?_
                  exact ph3R _ _ _ _ _ _ _ x _ p i1 ⟨y19, y20, y21, y22, y23, ht24, vw_fr hv25 (Fr.rf (M := fun _ => True) (h := k15)) rfl, vw_fr hv26 (Fr.rf (M := fun _ => True) (h := k15)) rfl⟩ hT17 hw28 hx f27 (hz.mv (k3.2.2.2 x (hw.1 x hx).1 (hw.1 x hx).2.1).1 (k3.2.2.2 x (hw.1 x hx).1 (hw.1 x hx).2.1).2 k3.2.2.2) hp hi1 e1 e2 e4
              | true =>
                cases hco1 : C o1 with
                | false =>
                  refine V_aload_n (i := 2) F dJ10_fixAfterDeletion_230 rfl rfl ?_
                  refine V_callS (st := []) F dJ10_fixAfterDeletion_231 lk_J10_300 (ct_rightOf (o := some s) hT (fun _ z => Option.some.inj z ▸ hsn)) rfl rfl (Nat.le_of_ble_eq_true rfl) (Nat.le_of_ble_eq_true rfl) (Nat.le_of_ble_eq_true rfl) (by first | exact Nat.le_of_ble_eq_true rfl | omega) (by first | exact Nat.le_of_ble_eq_true rfl | omega) ?_
                  refine PRk ?_
                  refine VV.stk (st' := [.ref (A i1)]) (by first | rfl | (rw [show Option.bind (some s) R = _ from hi]; rfl) | rw [show Option.bind (some s) R = _ from hi]) ?_
                  refine V_callS (st := []) F dJ10_fixAfterDeletion_234 lk_J10_303 (ct_colorOf (o := some i1) hT (fun _ z => Option.some.inj z ▸ hi1)) rfl rfl (Nat.le_of_ble_eq_true rfl) (Nat.le_of_ble_eq_true rfl) (Nat.le_of_ble_eq_true rfl) (by first | exact Nat.le_of_ble_eq_true rfl | omega) (by first | exact Nat.le_of_ble_eq_true rfl | omega) ?_
                  refine PRk ?_
                  refine VV.stk (st' := [.int (cB (C i1))]) rfl ?_
                  refine V_iconst (v := nI 1) F dJ10_fixAfterDeletion_237 rfl ?_
                  refine V_icmp_ne1C (c := C i1) (tgt := 265) F dJ10_fixAfterDeletion_238 (by decide) (fun c_238 => absurd (c_238.symm.trans hci1) (by decide)) (fun c_238 => ?_)
                  refine V_aload_n (i := 2) F dJ10_fixAfterDeletion_241 rfl rfl ?_
                  refine V_callS (st := []) F dJ10_fixAfterDeletion_242 lk_J10_297 (ct_leftOf (o := some s) hT (fun _ z => Option.some.inj z ▸ hsn)) rfl rfl (Nat.le_of_ble_eq_true rfl) (Nat.le_of_ble_eq_true rfl) (Nat.le_of_ble_eq_true rfl) (by first | exact Nat.le_of_ble_eq_true rfl | omega) (by first | exact Nat.le_of_ble_eq_true rfl | omega) ?_
                  refine PRk ?_
                  refine VV.stk (st' := [.ref (A o1)]) (by first | rfl | (rw [show Option.bind (some s) L = _ from ho]; rfl) | rw [show Option.bind (some s) L = _ from ho]) ?_
                  refine V_callS (st := []) F dJ10_fixAfterDeletion_245 lk_J10_303 (ct_colorOf (o := some o1) hT (fun _ z => Option.some.inj z ▸ ho1)) rfl rfl (Nat.le_of_ble_eq_true rfl) (Nat.le_of_ble_eq_true rfl) (Nat.le_of_ble_eq_true rfl) (by first | exact Nat.le_of_ble_eq_true rfl | omega) (by first | exact Nat.le_of_ble_eq_true rfl | omega) ?_
                  refine PRk ?_
                  refine VV.stk (st' := [.int (cB (C o1))]) rfl ?_
                  refine V_iconst (v := nI 1) F dJ10_fixAfterDeletion_248 rfl ?_
                  refine V_icmp_ne1C (c := C o1) (tgt := 265) F dJ10_fixAfterDeletion_249 (by decide) (fun c_249 => ?_) (fun c_249 => absurd (c_249.symm.trans hco1) (by decide))
                  refine V_aload_n (i := 2) F dJ10_fixAfterDeletion_265 rfl rfl ?_
                  refine V_callS (st := []) F dJ10_fixAfterDeletion_266 lk_J10_297 (ct_leftOf (o := some s) hT (fun _ z => Option.some.inj z ▸ hsn)) rfl rfl (Nat.le_of_ble_eq_true rfl) (Nat.le_of_ble_eq_true rfl) (Nat.le_of_ble_eq_true rfl) (by first | exact Nat.le_of_ble_eq_true rfl | omega) (by first | exact Nat.le_of_ble_eq_true rfl | omega) ?_
                  refine PRk ?_
                  refine VV.stk (st' := [.ref (A o1)]) (by first | rfl | (rw [show Option.bind (some s) L = _ from ho]; rfl) | rw [show Option.bind (some s) L = _ from ho]) ?_
                  refine V_callS (st := []) F dJ10_fixAfterDeletion_269 lk_J10_303 (ct_colorOf (o := some o1) hT (fun _ z => Option.some.inj z ▸ ho1)) rfl rfl (Nat.le_of_ble_eq_true rfl) (Nat.le_of_ble_eq_true rfl) (Nat.le_of_ble_eq_true rfl) (by first | exact Nat.le_of_ble_eq_true rfl | omega) (by first | exact Nat.le_of_ble_eq_true rfl | omega) ?_
                  refine PRk ?_
                  refine VV.stk (st' := [.int (cB (C o1))]) rfl ?_
                  refine V_iconst (v := nI 1) F dJ10_fixAfterDeletion_272 rfl ?_
                  refine V_icmp_ne1C (c := C o1) (tgt := 302) F dJ10_fixAfterDeletion_273 (by decide) (fun c_273 => ?_) (fun c_273 => absurd (c_273.symm.trans hco1) (by decide))
                  exact ph3R _ _ _ _ _ _ _ x _ p s ⟨x0, x1, x6, x7, x8, ht, vw_fr hv1 (Fr.rf (M := fun _ => True) (h := hh)) rfl, vw_fr hv7 (Fr.rf (M := fun _ => True) (h := hh)) rfl⟩ hT hw hx hF hz hp hsn hpx hs hcp
                | true =>
                  refine V_aload_n (i := 2) F dJ10_fixAfterDeletion_230 rfl rfl ?_
                  refine V_callS (st := []) F dJ10_fixAfterDeletion_231 lk_J10_300 (ct_rightOf (o := some s) hT (fun _ z => Option.some.inj z ▸ hsn)) rfl rfl (Nat.le_of_ble_eq_true rfl) (Nat.le_of_ble_eq_true rfl) (Nat.le_of_ble_eq_true rfl) (by first | exact Nat.le_of_ble_eq_true rfl | omega) (by first | exact Nat.le_of_ble_eq_true rfl | omega) ?_
                  refine PRk ?_
                  refine VV.stk (st' := [.ref (A i1)]) (by first | rfl | (rw [show Option.bind (some s) R = _ from hi]; rfl) | rw [show Option.bind (some s) R = _ from hi]) ?_
                  refine V_callS (st := []) F dJ10_fixAfterDeletion_234 lk_J10_303 (ct_colorOf (o := some i1) hT (fun _ z => Option.some.inj z ▸ hi1)) rfl rfl (Nat.le_of_ble_eq_true rfl) (Nat.le_of_ble_eq_true rfl) (Nat.le_of_ble_eq_true rfl) (by first | exact Nat.le_of_ble_eq_true rfl | omega) (by first | exact Nat.le_of_ble_eq_true rfl | omega) ?_
                  refine PRk ?_
                  refine VV.stk (st' := [.int (cB (C i1))]) rfl ?_
                  refine V_iconst (v := nI 1) F dJ10_fixAfterDeletion_237 rfl ?_
                  refine V_icmp_ne1C (c := C i1) (tgt := 265) F dJ10_fixAfterDeletion_238 (by decide) (fun c_238 => absurd (c_238.symm.trans hci1) (by decide)) (fun c_238 => ?_)
                  refine V_aload_n (i := 2) F dJ10_fixAfterDeletion_241 rfl rfl ?_
                  refine V_callS (st := []) F dJ10_fixAfterDeletion_242 lk_J10_297 (ct_leftOf (o := some s) hT (fun _ z => Option.some.inj z ▸ hsn)) rfl rfl (Nat.le_of_ble_eq_true rfl) (Nat.le_of_ble_eq_true rfl) (Nat.le_of_ble_eq_true rfl) (by first | exact Nat.le_of_ble_eq_true rfl | omega) (by first | exact Nat.le_of_ble_eq_true rfl | omega) ?_
                  refine PRk ?_
                  refine VV.stk (st' := [.ref (A o1)]) (by first | rfl | (rw [show Option.bind (some s) L = _ from ho]; rfl) | rw [show Option.bind (some s) L = _ from ho]) ?_
                  refine V_callS (st := []) F dJ10_fixAfterDeletion_245 lk_J10_303 (ct_colorOf (o := some o1) hT (fun _ z => Option.some.inj z ▸ ho1)) rfl rfl (Nat.le_of_ble_eq_true rfl) (Nat.le_of_ble_eq_true rfl) (Nat.le_of_ble_eq_true rfl) (by first | exact Nat.le_of_ble_eq_true rfl | omega) (by first | exact Nat.le_of_ble_eq_true rfl | omega) ?_
                  refine PRk ?_
                  refine VV.stk (st' := [.int (cB (C o1))]) rfl ?_
                  refine V_iconst (v := nI 1) F dJ10_fixAfterDeletion_248 rfl ?_
                  refine V_icmp_ne1C (c := C o1) (tgt := 265) F dJ10_fixAfterDeletion_249 (by decide) (fun c_249 => absurd (c_249.symm.trans hco1) (by decide)) (fun c_249 => ?_)
                  refine V_aload_n (i := 2) F dJ10_fixAfterDeletion_252 rfl rfl ?_
                  refine V_iconst (v := nI 0) F dJ10_fixAfterDeletion_253 rfl ?_
                  refine V_callS (st := []) F dJ10_fixAfterDeletion_254 lk_J10_307 (ct_setColor (o := some s) (c := false) hT hAI (fun _ z => Option.some.inj z ▸ hsn)) rfl rfl (Nat.le_of_ble_eq_true rfl) (Nat.le_of_ble_eq_true rfl) (Nat.le_of_ble_eq_true rfl) (by first | exact Nat.le_of_ble_eq_true rfl | omega) (by first | exact Nat.le_of_ble_eq_true rfl | omega) ?_
                  rintro _ k1 ⟨rfl, hT3, hx2, hk4⟩
                  have p5 := (hk4 t (fun i hi => ne_oo ht (hT i hi) (by decide))).trans ht
                  have f6 := hF.cal hx2 (fun b q => Or.inl (Or.inr q))
                  have g7 := (Fr.rf (M := fun _ => True) (h := hh)).cal hx2 (fun _ _ => Or.inl trivial)
                  refine V_aload_n (i := 1) F dJ10_fixAfterDeletion_257 rfl rfl ?_
                  refine V_callS (st := []) F dJ10_fixAfterDeletion_258 lk_J10_294 (ct_parentOf (o := some x) hT3 (fun _ z => Option.some.inj z ▸ hx)) rfl rfl (Nat.le_of_ble_eq_true rfl) (Nat.le_of_ble_eq_true rfl) (Nat.le_of_ble_eq_true rfl) (by first | exact Nat.le_of_ble_eq_true rfl | omega) (by first | exact Nat.le_of_ble_eq_true rfl | omega) ?_
                  refine PRk ?_
                  refine VV.stk (st' := [.ref (A p)]) (by first | rfl | (rw [show Option.bind (some x) P = _ from hpx]; rfl) | rw [show Option.bind (some x) P = _ from hpx]) ?_
                  refine V_astore_n (i := 1) F dJ10_fixAfterDeletion_261 rfl (Nat.le_of_ble_eq_true rfl) (Nat.le_of_ble_eq_true rfl) ?_
                  refine V_goto (tgt := 342) F dJ10_fixAfterDeletion_262 (by decide) ?_
                  refine V_goto (tgt := 0) F dJ10_fixAfterDeletion_342 (by decide) ?_
                  refine VV.weak (L' := [some (.ref (t)), some (.ref (A p)), none]) (LW.c1 (LW.c1 (LW.c0 LW.nil))) ?_
                  exact ih _ _ _ _ _ _ _ p _ (by have := hw.Pin hx hpx; have := hw.1 p hp; have := hw.1 x hx; omega) ⟨x0, x1, x6, x7, x8, p5, vw_fr hv1 g7 rfl, vw_fr hv7 g7 rfl⟩ hT3 hw hp f6 (by have := hw.Pin hx hpx; have := hw.1 x hx; obtain ⟨z1, z2, z3, z4⟩ := hz; exact ⟨by omega, by omega, z3, z4⟩)
      intro L R P C rt lo hi x hh hm hC hT hw hx hF hz
      obtain ⟨x0, x1, x6, x7, x8, ht, hv1, hv7⟩ := id hC
      by_cases hroot : rt = some x
      · exact exitA L R P C rt lo hi x hh hC hT hw hx hF hz (Or.inl hroot)
      · cases hcx : C x with
        | false => exact exitA L R P C rt lo hi x hh hC hT hw hx hF hz (Or.inr hcx)
        | true =>
          obtain ⟨p, hpx⟩ : ∃ p, P x = some p := by
            cases hq : P x with
            | none => exact absurd (hw.2.2.2.2.2.1 x hx hq) hroot
            | some p => exact ⟨p, rfl⟩
          have hp : p < n := hw.bP hx hpx
          have hxp := hw.Pne hx hpx
          have hxi := hw.Pin hx hpx
          have hx1 := hw.1 x hx
          by_cases hlp : L p = some x
          · cases hs : R p with
            | none =>
              refine V_aload_n (i := 1) F dJ10_fixAfterDeletion_0 rfl rfl ?_
              refine V_aload_n (i := 0) F dJ10_fixAfterDeletion_1 rfl rfl ?_
              refine V_getf F dJ10_fixAfterDeletion_2 fc_J10_101_J10 (.inl ht) rfl ?_
              refine V_acmp_eq (rx := some (A x)) (ry := (rt).map A) (tgt := 345) F dJ10_fixAfterDeletion_5 (by decide) (fun c_5 => absurd (map_eq hAI (fun j hj => (hw.2.2.2.2.2.2.2.1 j hj).1) hx c_5.symm) hroot) (fun c_5 => ?_)
              refine V_aload_n (i := 1) F dJ10_fixAfterDeletion_8 rfl rfl ?_
              refine V_callS (st := []) F dJ10_fixAfterDeletion_9 lk_J10_303 (ct_colorOf (o := some x) hT (fun _ z => Option.some.inj z ▸ hx)) rfl rfl (Nat.le_of_ble_eq_true rfl) (Nat.le_of_ble_eq_true rfl) (Nat.le_of_ble_eq_true rfl) (by first | exact Nat.le_of_ble_eq_true rfl | omega) (by first | exact Nat.le_of_ble_eq_true rfl | omega) ?_
              refine PRk ?_
              refine VV.stk (st' := [.int (cB (C x))]) rfl ?_
              refine V_iconst (v := nI 1) F dJ10_fixAfterDeletion_12 rfl ?_
              refine V_icmp_ne1C (c := C x) (tgt := 345) F dJ10_fixAfterDeletion_13 (by decide) (fun c_13 => absurd (c_13.symm.trans hcx) (by decide)) (fun c_13 => ?_)
              refine V_aload_n (i := 1) F dJ10_fixAfterDeletion_16 rfl rfl ?_
              refine V_aload_n (i := 1) F dJ10_fixAfterDeletion_17 rfl rfl ?_
              refine V_callS (st := [.ref (A x)]) F dJ10_fixAfterDeletion_18 lk_J10_294 (ct_parentOf (o := some x) hT (fun _ z => Option.some.inj z ▸ hx)) rfl rfl (Nat.le_of_ble_eq_true rfl) (Nat.le_of_ble_eq_true rfl) (Nat.le_of_ble_eq_true rfl) (by first | exact Nat.le_of_ble_eq_true rfl | omega) (by first | exact Nat.le_of_ble_eq_true rfl | omega) ?_
              refine PRk ?_
              refine VV.stk (st' := [.ref (A p), .ref (A x)]) (by first | rfl | (rw [show Option.bind (some x) P = _ from hpx]; rfl) | rw [show Option.bind (some x) P = _ from hpx]) ?_
              refine V_callS (st := [.ref (A x)]) F dJ10_fixAfterDeletion_21 lk_J10_297 (ct_leftOf (o := some p) hT (fun _ z => Option.some.inj z ▸ hp)) rfl rfl (Nat.le_of_ble_eq_true rfl) (Nat.le_of_ble_eq_true rfl) (Nat.le_of_ble_eq_true rfl) (by first | exact Nat.le_of_ble_eq_true rfl | omega) (by first | exact Nat.le_of_ble_eq_true rfl | omega) ?_
              refine PRk ?_
              refine VV.stk (st' := [.ref (A x), .ref (A x)]) (by first | rfl | (rw [show Option.bind (some p) L = _ from hlp]; rfl) | rw [show Option.bind (some p) L = _ from hlp]) ?_
              refine V_acmp_ne (rx := some (A x)) (ry := some (A x)) (tgt := 186) F dJ10_fixAfterDeletion_24 (by decide) (fun c_24 => absurd rfl c_24) (fun c_24 => ?_)
              refine V_aload_n (i := 1) F dJ10_fixAfterDeletion_27 rfl rfl ?_
              refine V_callS (st := []) F dJ10_fixAfterDeletion_28 lk_J10_294 (ct_parentOf (o := some x) hT (fun _ z => Option.some.inj z ▸ hx)) rfl rfl (Nat.le_of_ble_eq_true rfl) (Nat.le_of_ble_eq_true rfl) (Nat.le_of_ble_eq_true rfl) (by first | exact Nat.le_of_ble_eq_true rfl | omega) (by first | exact Nat.le_of_ble_eq_true rfl | omega) ?_
              refine PRk ?_
              refine VV.stk (st' := [.ref (A p)]) (by first | rfl | (rw [show Option.bind (some x) P = _ from hpx]; rfl) | rw [show Option.bind (some x) P = _ from hpx]) ?_
              refine V_callS (st := []) F dJ10_fixAfterDeletion_31 lk_J10_300 (ct_rightOf (o := some p) hT (fun _ z => Option.some.inj z ▸ hp)) rfl rfl (Nat.le_of_ble_eq_true rfl) (Nat.le_of_ble_eq_true rfl) (Nat.le_of_ble_eq_true rfl) (by first | exact Nat.le_of_ble_eq_true rfl | omega) (by first | exact Nat.le_of_ble_eq_true rfl | omega) ?_
              refine PRk ?_
              refine VV.stk (st' := [.null]) (by first | rfl | (rw [show Option.bind (some p) R = _ from hs]; rfl) | rw [show Option.bind (some p) R = _ from hs]) ?_
              refine V_astore_nN (i := 2) F dJ10_fixAfterDeletion_34 rfl (Nat.le_of_ble_eq_true rfl) (Nat.le_of_ble_eq_true rfl) ?_
              refine V_aload_nN (i := 2) F dJ10_fixAfterDeletion_35 rfl rfl ?_
              refine V_callS (st := []) F dJ10_fixAfterDeletion_36 lk_J10_303 (ct_colorOf (o := none) hT (fun _ z => nomatch z)) rfl rfl (Nat.le_of_ble_eq_true rfl) (Nat.le_of_ble_eq_true rfl) (Nat.le_of_ble_eq_true rfl) (by first | exact Nat.le_of_ble_eq_true rfl | omega) (by first | exact Nat.le_of_ble_eq_true rfl | omega) ?_
              refine PRk ?_
              refine VV.stk (st' := [.int (cB (true))]) rfl ?_
              refine V_if_neC (c := true) (tgt := 71) F dJ10_fixAfterDeletion_39 (by decide) (fun c_39 => ?_) (fun c_39 => nomatch c_39)
              refine VV.loc (L' := [some (.ref t), some (.ref (A x)), some (va_rf ((R p).map A))]) (by rw [hs]; rfl) ?_
              exact ph2L _ _ _ _ _ _ _ x _ p (by exact hm) ⟨x0, x1, x6, x7, x8, ht, vw_fr hv1 (Fr.rf (M := fun _ => True) (h := hh)) rfl, vw_fr hv7 (Fr.rf (M := fun _ => True) (h := hh)) rfl⟩ hT hw hx hF hz hp hpx hlp
            | some s =>
              have hsn : s < n := hw.bR hp hs
              have hsx : s ≠ x := fun q => by have h1 := hw.2.2.1 p _ hp hlp; have h2 := hw.2.2.2.2.1 p _ hp hs; omega
              cases hcs : C s with
              | false =>
                refine V_aload_n (i := 1) F dJ10_fixAfterDeletion_0 rfl rfl ?_
                refine V_aload_n (i := 0) F dJ10_fixAfterDeletion_1 rfl rfl ?_
                refine V_getf F dJ10_fixAfterDeletion_2 fc_J10_101_J10 (.inl ht) rfl ?_
                refine V_acmp_eq (rx := some (A x)) (ry := (rt).map A) (tgt := 345) F dJ10_fixAfterDeletion_5 (by decide) (fun c_5 => absurd (map_eq hAI (fun j hj => (hw.2.2.2.2.2.2.2.1 j hj).1) hx c_5.symm) hroot) (fun c_5 => ?_)
                refine V_aload_n (i := 1) F dJ10_fixAfterDeletion_8 rfl rfl ?_
                refine V_callS (st := []) F dJ10_fixAfterDeletion_9 lk_J10_303 (ct_colorOf (o := some x) hT (fun _ z => Option.some.inj z ▸ hx)) rfl rfl (Nat.le_of_ble_eq_true rfl) (Nat.le_of_ble_eq_true rfl) (Nat.le_of_ble_eq_true rfl) (by first | exact Nat.le_of_ble_eq_true rfl | omega) (by first | exact Nat.le_of_ble_eq_true rfl | omega) ?_
                refine PRk ?_
                refine VV.stk (st' := [.int (cB (C x))]) rfl ?_
                refine V_iconst (v := nI 1) F dJ10_fixAfterDeletion_12 rfl ?_
                refine V_icmp_ne1C (c := C x) (tgt := 345) F dJ10_fixAfterDeletion_13 (by decide) (fun c_13 => absurd (c_13.symm.trans hcx) (by decide)) (fun c_13 => ?_)
                refine V_aload_n (i := 1) F dJ10_fixAfterDeletion_16 rfl rfl ?_
                refine V_aload_n (i := 1) F dJ10_fixAfterDeletion_17 rfl rfl ?_
                refine V_callS (st := [.ref (A x)]) F dJ10_fixAfterDeletion_18 lk_J10_294 (ct_parentOf (o := some x) hT (fun _ z => Option.some.inj z ▸ hx)) rfl rfl (Nat.le_of_ble_eq_true rfl) (Nat.le_of_ble_eq_true rfl) (Nat.le_of_ble_eq_true rfl) (by first | exact Nat.le_of_ble_eq_true rfl | omega) (by first | exact Nat.le_of_ble_eq_true rfl | omega) ?_
                refine PRk ?_
                refine VV.stk (st' := [.ref (A p), .ref (A x)]) (by first | rfl | (rw [show Option.bind (some x) P = _ from hpx]; rfl) | rw [show Option.bind (some x) P = _ from hpx]) ?_
                refine V_callS (st := [.ref (A x)]) F dJ10_fixAfterDeletion_21 lk_J10_297 (ct_leftOf (o := some p) hT (fun _ z => Option.some.inj z ▸ hp)) rfl rfl (Nat.le_of_ble_eq_true rfl) (Nat.le_of_ble_eq_true rfl) (Nat.le_of_ble_eq_true rfl) (by first | exact Nat.le_of_ble_eq_true rfl | omega) (by first | exact Nat.le_of_ble_eq_true rfl | omega) ?_
                refine PRk ?_
                refine VV.stk (st' := [.ref (A x), .ref (A x)]) (by first | rfl | (rw [show Option.bind (some p) L = _ from hlp]; rfl) | rw [show Option.bind (some p) L = _ from hlp]) ?_
                refine V_acmp_ne (rx := some (A x)) (ry := some (A x)) (tgt := 186) F dJ10_fixAfterDeletion_24 (by decide) (fun c_24 => absurd rfl c_24) (fun c_24 => ?_)
                refine V_aload_n (i := 1) F dJ10_fixAfterDeletion_27 rfl rfl ?_
                refine V_callS (st := []) F dJ10_fixAfterDeletion_28 lk_J10_294 (ct_parentOf (o := some x) hT (fun _ z => Option.some.inj z ▸ hx)) rfl rfl (Nat.le_of_ble_eq_true rfl) (Nat.le_of_ble_eq_true rfl) (Nat.le_of_ble_eq_true rfl) (by first | exact Nat.le_of_ble_eq_true rfl | omega) (by first | exact Nat.le_of_ble_eq_true rfl | omega) ?_
                refine PRk ?_
                refine VV.stk (st' := [.ref (A p)]) (by first | rfl | (rw [show Option.bind (some x) P = _ from hpx]; rfl) | rw [show Option.bind (some x) P = _ from hpx]) ?_
                refine V_callS (st := []) F dJ10_fixAfterDeletion_31 lk_J10_300 (ct_rightOf (o := some p) hT (fun _ z => Option.some.inj z ▸ hp)) rfl rfl (Nat.le_of_ble_eq_true rfl) (Nat.le_of_ble_eq_true rfl) (Nat.le_of_ble_eq_true rfl) (by first | exact Nat.le_of_ble_eq_true rfl | omega) (by first | exact Nat.le_of_ble_eq_true rfl | omega) ?_
                refine PRk ?_
                refine VV.stk (st' := [.ref (A s)]) (by first | rfl | (rw [show Option.bind (some p) R = _ from hs]; rfl) | rw [show Option.bind (some p) R = _ from hs]) ?_
                refine V_astore_n (i := 2) F dJ10_fixAfterDeletion_34 rfl (Nat.le_of_ble_eq_true rfl) (Nat.le_of_ble_eq_true rfl) ?_
                refine V_aload_n (i := 2) F dJ10_fixAfterDeletion_35 rfl rfl ?_
                refine V_callS (st := []) F dJ10_fixAfterDeletion_36 lk_J10_303 (ct_colorOf (o := some s) hT (fun _ z => Option.some.inj z ▸ hsn)) rfl rfl (Nat.le_of_ble_eq_true rfl) (Nat.le_of_ble_eq_true rfl) (Nat.le_of_ble_eq_true rfl) (by first | exact Nat.le_of_ble_eq_true rfl | omega) (by first | exact Nat.le_of_ble_eq_true rfl | omega) ?_
                refine PRk ?_
                refine VV.stk (st' := [.int (cB (C s))]) rfl ?_
                refine V_if_neC (c := C s) (tgt := 71) F dJ10_fixAfterDeletion_39 (by decide) (fun c_39 => absurd (c_39.symm.trans hcs) (by decide)) (fun c_39 => ?_)
                refine V_aload_n (i := 2) F dJ10_fixAfterDeletion_42 rfl rfl ?_
                refine V_iconst (v := nI 1) F dJ10_fixAfterDeletion_43 rfl ?_
                refine V_callS (st := []) F dJ10_fixAfterDeletion_44 lk_J10_307 (ct_setColor (o := some s) (c := true) hT hAI (fun _ z => Option.some.inj z ▸ hsn)) rfl rfl (Nat.le_of_ble_eq_true rfl) (Nat.le_of_ble_eq_true rfl) (Nat.le_of_ble_eq_true rfl) (by first | exact Nat.le_of_ble_eq_true rfl | omega) (by first | exact Nat.le_of_ble_eq_true rfl | omega) ?_
                rintro _ k1 ⟨rfl, hT3, hx2, hk4⟩
                have p5 := (hk4 t (fun i hi => ne_oo ht (hT i hi) (by decide))).trans ht
                have f6 := hF.cal hx2 (fun b q => Or.inl (Or.inr q))
                have g7 := (Fr.rf (M := fun _ => True) (h := hh)).cal hx2 (fun _ _ => Or.inl trivial)
                refine V_aload_n (i := 1) F dJ10_fixAfterDeletion_47 rfl rfl ?_
                refine V_callS (st := []) F dJ10_fixAfterDeletion_48 lk_J10_294 (ct_parentOf (o := some x) hT3 (fun _ z => Option.some.inj z ▸ hx)) rfl rfl (Nat.le_of_ble_eq_true rfl) (Nat.le_of_ble_eq_true rfl) (Nat.le_of_ble_eq_true rfl) (by first | exact Nat.le_of_ble_eq_true rfl | omega) (by first | exact Nat.le_of_ble_eq_true rfl | omega) ?_
                refine PRk ?_
                refine VV.stk (st' := [.ref (A p)]) (by first | rfl | (rw [show Option.bind (some x) P = _ from hpx]; rfl) | rw [show Option.bind (some x) P = _ from hpx]) ?_
                refine V_iconst (v := nI 0) F dJ10_fixAfterDeletion_51 rfl ?_
                refine V_callS (st := []) F dJ10_fixAfterDeletion_52 lk_J10_307 (ct_setColor (o := some p) (c := false) hT3 hAI (fun _ z => Option.some.inj z ▸ hp)) rfl rfl (Nat.le_of_ble_eq_true rfl) (Nat.le_of_ble_eq_true rfl) (Nat.le_of_ble_eq_true rfl) (by first | exact Nat.le_of_ble_eq_true rfl | omega) (by first | exact Nat.le_of_ble_eq_true rfl | omega) ?_
                rintro _ k8 ⟨rfl, hT10, hx9, hk11⟩
                have p12 := (hk11 t (fun i hi => ne_oo p5 (hT3 i hi) (by decide))).trans p5
                have f13 := f6.cal hx9 (fun b q => Or.inl (Or.inr q))
                have g14 := g7.cal hx9 (fun _ _ => Or.inl trivial)
                refine V_aload_n (i := 0) F dJ10_fixAfterDeletion_55 rfl rfl ?_
                refine V_aload_n (i := 1) F dJ10_fixAfterDeletion_56 rfl rfl ?_
                refine V_callS (st := [.ref (t)]) F dJ10_fixAfterDeletion_57 lk_J10_294 (ct_parentOf (o := some x) hT10 (fun _ z => Option.some.inj z ▸ hx)) rfl rfl (Nat.le_of_ble_eq_true rfl) (Nat.le_of_ble_eq_true rfl) (Nat.le_of_ble_eq_true rfl) (by first | exact Nat.le_of_ble_eq_true rfl | omega) (by first | exact Nat.le_of_ble_eq_true rfl | omega) ?_
                refine PRk ?_
                refine VV.stk (st' := [.ref (A p), .ref (t)]) (by first | rfl | (rw [show Option.bind (some x) P = _ from hpx]; rfl) | rw [show Option.bind (some x) P = _ from hpx]) ?_
                refine V_callV (st := []) F dJ10_fixAfterDeletion_60 lk_J10_311 (ct_rotateLeft ⟨x0, x1, x6, x7, x8, p12, vw_fr hv1 g14 rfl, vw_fr hv7 g14 rfl⟩ hT10 hAI hw hp hs) ⟨23, _, _, _, rfl, (.inl p12)⟩ rfl rfl (Nat.le_of_ble_eq_true rfl) (Nat.le_of_ble_eq_true rfl) (Nat.le_of_ble_eq_true rfl) (by first | exact Nat.le_of_ble_eq_true rfl | omega) (by first | exact Nat.le_of_ble_eq_true rfl | omega) ?_
                rintro _ k15 ⟨rfl, hC18, hT17, hx16⟩
                obtain ⟨y19, y20, y21, y22, y23, ht24, hv25, hv26⟩ := hC18
                have f27 : Fr (mT t n A) h k15 := f13.cal hx16 (fun b q => Or.inl q)
                have hw28 := hw.rotL (L' := rlL L P p s) (R' := rlR L R P p s) (P' := rlP L P p s) (rt' := roR P rt p s) hp hs (fun _ => rfl) (fun _ => rfl) (fun _ => rfl) rfl
                have k1 := hw.k1L hp hx hpx hlp hs
                have e1 : (rlP L P p s) x = some p := k1.1
                have e3 : (rlL L P p s) p = some x := k1.2.1
                refine V_aload_n (i := 1) F dJ10_fixAfterDeletion_63 rfl rfl ?_
                refine V_callS (st := []) F dJ10_fixAfterDeletion_64 lk_J10_294 (ct_parentOf (o := some x) hT17 (fun _ z => Option.some.inj z ▸ hx)) rfl rfl (Nat.le_of_ble_eq_true rfl) (Nat.le_of_ble_eq_true rfl) (Nat.le_of_ble_eq_true rfl) (by first | exact Nat.le_of_ble_eq_true rfl | omega) (by first | exact Nat.le_of_ble_eq_true rfl | omega) ?_
                refine PRk ?_
                refine VV.stk (st' := [.ref (A p)]) (by first | rfl | (rw [show Option.bind (some x) (rlP L P p s) = _ from e1]; rfl) | rw [show Option.bind (some x) (rlP L P p s) = _ from e1]) ?_
                refine V_callS (st := []) F dJ10_fixAfterDeletion_67 lk_J10_300 (ct_rightOf (o := some p) hT17 (fun _ z => Option.some.inj z ▸ hp)) rfl rfl (Nat.le_of_ble_eq_true rfl) (Nat.le_of_ble_eq_true rfl) (Nat.le_of_ble_eq_true rfl) (by first | exact Nat.le_of_ble_eq_true rfl | omega) (by first | exact Nat.le_of_ble_eq_true rfl | omega) ?_
                refine PRk ?_
                refine VV.stk (st' := [va_rf (((rlR L R P p s) p).map A)]) rfl ?_
                refine V_astore_nQ (i := 2) F dJ10_fixAfterDeletion_70 rfl (Nat.le_of_ble_eq_true rfl) (Nat.le_of_ble_eq_true rfl) ?_
                exact ph2L _ _ _ _ _ _ _ x _ p (by rw [k1.2.2.1, k1.2.2.2.1]; exact hm) ⟨y19, y20, y21, y22, y23, ht24, vw_fr hv25 (Fr.rf (M := fun _ => True) (h := k15)) rfl, vw_fr hv26 (Fr.rf (M := fun _ => True) (h := k15)) rfl⟩ hT17 hw28 hx f27 (hz.mv k1.2.2.1 k1.2.2.2.1 k1.2.2.2.2) hp e1 e3
              | true =>
                refine V_aload_n (i := 1) F dJ10_fixAfterDeletion_0 rfl rfl ?_
                refine V_aload_n (i := 0) F dJ10_fixAfterDeletion_1 rfl rfl ?_
                refine V_getf F dJ10_fixAfterDeletion_2 fc_J10_101_J10 (.inl ht) rfl ?_
                refine V_acmp_eq (rx := some (A x)) (ry := (rt).map A) (tgt := 345) F dJ10_fixAfterDeletion_5 (by decide) (fun c_5 => absurd (map_eq hAI (fun j hj => (hw.2.2.2.2.2.2.2.1 j hj).1) hx c_5.symm) hroot) (fun c_5 => ?_)
                refine V_aload_n (i := 1) F dJ10_fixAfterDeletion_8 rfl rfl ?_
                refine V_callS (st := []) F dJ10_fixAfterDeletion_9 lk_J10_303 (ct_colorOf (o := some x) hT (fun _ z => Option.some.inj z ▸ hx)) rfl rfl (Nat.le_of_ble_eq_true rfl) (Nat.le_of_ble_eq_true rfl) (Nat.le_of_ble_eq_true rfl) (by first | exact Nat.le_of_ble_eq_true rfl | omega) (by first | exact Nat.le_of_ble_eq_true rfl | omega) ?_
                refine PRk ?_
                refine VV.stk (st' := [.int (cB (C x))]) rfl ?_
                refine V_iconst (v := nI 1) F dJ10_fixAfterDeletion_12 rfl ?_
                refine V_icmp_ne1C (c := C x) (tgt := 345) F dJ10_fixAfterDeletion_13 (by decide) (fun c_13 => absurd (c_13.symm.trans hcx) (by decide)) (fun c_13 => ?_)
                refine V_aload_n (i := 1) F dJ10_fixAfterDeletion_16 rfl rfl ?_
                refine V_aload_n (i := 1) F dJ10_fixAfterDeletion_17 rfl rfl ?_
                refine V_callS (st := [.ref (A x)]) F dJ10_fixAfterDeletion_18 lk_J10_294 (ct_parentOf (o := some x) hT (fun _ z => Option.some.inj z ▸ hx)) rfl rfl (Nat.le_of_ble_eq_true rfl) (Nat.le_of_ble_eq_true rfl) (Nat.le_of_ble_eq_true rfl) (by first | exact Nat.le_of_ble_eq_true rfl | omega) (by first | exact Nat.le_of_ble_eq_true rfl | omega) ?_
                refine PRk ?_
                refine VV.stk (st' := [.ref (A p), .ref (A x)]) (by first | rfl | (rw [show Option.bind (some x) P = _ from hpx]; rfl) | rw [show Option.bind (some x) P = _ from hpx]) ?_
                refine V_callS (st := [.ref (A x)]) F dJ10_fixAfterDeletion_21 lk_J10_297 (ct_leftOf (o := some p) hT (fun _ z => Option.some.inj z ▸ hp)) rfl rfl (Nat.le_of_ble_eq_true rfl) (Nat.le_of_ble_eq_true rfl) (Nat.le_of_ble_eq_true rfl) (by first | exact Nat.le_of_ble_eq_true rfl | omega) (by first | exact Nat.le_of_ble_eq_true rfl | omega) ?_
                refine PRk ?_
                refine VV.stk (st' := [.ref (A x), .ref (A x)]) (by first | rfl | (rw [show Option.bind (some p) L = _ from hlp]; rfl) | rw [show Option.bind (some p) L = _ from hlp]) ?_
                refine V_acmp_ne (rx := some (A x)) (ry := some (A x)) (tgt := 186) F dJ10_fixAfterDeletion_24 (by decide) (fun c_24 => absurd rfl c_24) (fun c_24 => ?_)
                refine V_aload_n (i := 1) F dJ10_fixAfterDeletion_27 rfl rfl ?_
                refine V_callS (st := []) F dJ10_fixAfterDeletion_28 lk_J10_294 (ct_parentOf (o := some x) hT (fun _ z => Option.some.inj z ▸ hx)) rfl rfl (Nat.le_of_ble_eq_true rfl) (Nat.le_of_ble_eq_true rfl) (Nat.le_of_ble_eq_true rfl) (by first | exact Nat.le_of_ble_eq_true rfl | omega) (by first | exact Nat.le_of_ble_eq_true rfl | omega) ?_
                refine PRk ?_
                refine VV.stk (st' := [.ref (A p)]) (by first | rfl | (rw [show Option.bind (some x) P = _ from hpx]; rfl) | rw [show Option.bind (some x) P = _ from hpx]) ?_
                refine V_callS (st := []) F dJ10_fixAfterDeletion_31 lk_J10_300 (ct_rightOf (o := some p) hT (fun _ z => Option.some.inj z ▸ hp)) rfl rfl (Nat.le_of_ble_eq_true rfl) (Nat.le_of_ble_eq_true rfl) (Nat.le_of_ble_eq_true rfl) (by first | exact Nat.le_of_ble_eq_true rfl | omega) (by first | exact Nat.le_of_ble_eq_true rfl | omega) ?_
                refine PRk ?_
                refine VV.stk (st' := [.ref (A s)]) (by first | rfl | (rw [show Option.bind (some p) R = _ from hs]; rfl) | rw [show Option.bind (some p) R = _ from hs]) ?_
                refine V_astore_n (i := 2) F dJ10_fixAfterDeletion_34 rfl (Nat.le_of_ble_eq_true rfl) (Nat.le_of_ble_eq_true rfl) ?_
                refine V_aload_n (i := 2) F dJ10_fixAfterDeletion_35 rfl rfl ?_
                refine V_callS (st := []) F dJ10_fixAfterDeletion_36 lk_J10_303 (ct_colorOf (o := some s) hT (fun _ z => Option.some.inj z ▸ hsn)) rfl rfl (Nat.le_of_ble_eq_true rfl) (Nat.le_of_ble_eq_true rfl) (Nat.le_of_ble_eq_true rfl) (by first | exact Nat.le_of_ble_eq_true rfl | omega) (by first | exact Nat.le_of_ble_eq_true rfl | omega) ?_
                refine PRk ?_
                refine VV.stk (st' := [.int (cB (C s))]) rfl ?_
                refine V_if_neC (c := C s) (tgt := 71) F dJ10_fixAfterDeletion_39 (by decide) (fun c_39 => ?_) (fun c_39 => absurd (c_39.symm.trans hcs) (by decide))
                refine VV.loc (L' := [some (.ref t), some (.ref (A x)), some (va_rf ((R p).map A))]) (by rw [hs]; rfl) ?_
                exact ph2L _ _ _ _ _ _ _ x _ p (by exact hm) ⟨x0, x1, x6, x7, x8, ht, vw_fr hv1 (Fr.rf (M := fun _ => True) (h := hh)) rfl, vw_fr hv7 (Fr.rf (M := fun _ => True) (h := hh)) rfl⟩ hT hw hx hF hz hp hpx hlp
          · have hrp : R p = some x := (hw.2.2.2.2.2.2.1 x p hx hpx).2.resolve_left hlp
            cases hs : L p with
            | none =>
              refine V_aload_n (i := 1) F dJ10_fixAfterDeletion_0 rfl rfl ?_
              refine V_aload_n (i := 0) F dJ10_fixAfterDeletion_1 rfl rfl ?_
              refine V_getf F dJ10_fixAfterDeletion_2 fc_J10_101_J10 (.inl ht) rfl ?_
              refine V_acmp_eq (rx := some (A x)) (ry := (rt).map A) (tgt := 345) F dJ10_fixAfterDeletion_5 (by decide) (fun c_5 => absurd (map_eq hAI (fun j hj => (hw.2.2.2.2.2.2.2.1 j hj).1) hx c_5.symm) hroot) (fun c_5 => ?_)
              refine V_aload_n (i := 1) F dJ10_fixAfterDeletion_8 rfl rfl ?_
              refine V_callS (st := []) F dJ10_fixAfterDeletion_9 lk_J10_303 (ct_colorOf (o := some x) hT (fun _ z => Option.some.inj z ▸ hx)) rfl rfl (Nat.le_of_ble_eq_true rfl) (Nat.le_of_ble_eq_true rfl) (Nat.le_of_ble_eq_true rfl) (by first | exact Nat.le_of_ble_eq_true rfl | omega) (by first | exact Nat.le_of_ble_eq_true rfl | omega) ?_
              refine PRk ?_
              refine VV.stk (st' := [.int (cB (C x))]) rfl ?_
              refine V_iconst (v := nI 1) F dJ10_fixAfterDeletion_12 rfl ?_
              refine V_icmp_ne1C (c := C x) (tgt := 345) F dJ10_fixAfterDeletion_13 (by decide) (fun c_13 => absurd (c_13.symm.trans hcx) (by decide)) (fun c_13 => ?_)
              refine V_aload_n (i := 1) F dJ10_fixAfterDeletion_16 rfl rfl ?_
              refine V_aload_n (i := 1) F dJ10_fixAfterDeletion_17 rfl rfl ?_
              refine V_callS (st := [.ref (A x)]) F dJ10_fixAfterDeletion_18 lk_J10_294 (ct_parentOf (o := some x) hT (fun _ z => Option.some.inj z ▸ hx)) rfl rfl (Nat.le_of_ble_eq_true rfl) (Nat.le_of_ble_eq_true rfl) (Nat.le_of_ble_eq_true rfl) (by first | exact Nat.le_of_ble_eq_true rfl | omega) (by first | exact Nat.le_of_ble_eq_true rfl | omega) ?_
              refine PRk ?_
              refine VV.stk (st' := [.ref (A p), .ref (A x)]) (by first | rfl | (rw [show Option.bind (some x) P = _ from hpx]; rfl) | rw [show Option.bind (some x) P = _ from hpx]) ?_
              refine V_callS (st := [.ref (A x)]) F dJ10_fixAfterDeletion_21 lk_J10_297 (ct_leftOf (o := some p) hT (fun _ z => Option.some.inj z ▸ hp)) rfl rfl (Nat.le_of_ble_eq_true rfl) (Nat.le_of_ble_eq_true rfl) (Nat.le_of_ble_eq_true rfl) (by first | exact Nat.le_of_ble_eq_true rfl | omega) (by first | exact Nat.le_of_ble_eq_true rfl | omega) ?_
              refine PRk ?_
              refine VV.stk (st' := [.null, .ref (A x)]) (by first | rfl | (rw [show Option.bind (some p) L = _ from hs]; rfl) | rw [show Option.bind (some p) L = _ from hs]) ?_
              refine V_acmp_ne (rx := some (A x)) (ry := none) (tgt := 186) F dJ10_fixAfterDeletion_24 (by decide) (fun c_24 => ?_) (fun c_24 => nomatch c_24)
              refine V_aload_n (i := 1) F dJ10_fixAfterDeletion_186 rfl rfl ?_
              refine V_callS (st := []) F dJ10_fixAfterDeletion_187 lk_J10_294 (ct_parentOf (o := some x) hT (fun _ z => Option.some.inj z ▸ hx)) rfl rfl (Nat.le_of_ble_eq_true rfl) (Nat.le_of_ble_eq_true rfl) (Nat.le_of_ble_eq_true rfl) (by first | exact Nat.le_of_ble_eq_true rfl | omega) (by first | exact Nat.le_of_ble_eq_true rfl | omega) ?_
              refine PRk ?_
              refine VV.stk (st' := [.ref (A p)]) (by first | rfl | (rw [show Option.bind (some x) P = _ from hpx]; rfl) | rw [show Option.bind (some x) P = _ from hpx]) ?_
              refine V_callS (st := []) F dJ10_fixAfterDeletion_190 lk_J10_297 (ct_leftOf (o := some p) hT (fun _ z => Option.some.inj z ▸ hp)) rfl rfl (Nat.le_of_ble_eq_true rfl) (Nat.le_of_ble_eq_true rfl) (Nat.le_of_ble_eq_true rfl) (by first | exact Nat.le_of_ble_eq_true rfl | omega) (by first | exact Nat.le_of_ble_eq_true rfl | omega) ?_
              refine PRk ?_
              refine VV.stk (st' := [.null]) (by first | rfl | (rw [show Option.bind (some p) L = _ from hs]; rfl) | rw [show Option.bind (some p) L = _ from hs]) ?_
              refine V_astore_nN (i := 2) F dJ10_fixAfterDeletion_193 rfl (Nat.le_of_ble_eq_true rfl) (Nat.le_of_ble_eq_true rfl) ?_
              refine V_aload_nN (i := 2) F dJ10_fixAfterDeletion_194 rfl rfl ?_
              refine V_callS (st := []) F dJ10_fixAfterDeletion_195 lk_J10_303 (ct_colorOf (o := none) hT (fun _ z => nomatch z)) rfl rfl (Nat.le_of_ble_eq_true rfl) (Nat.le_of_ble_eq_true rfl) (Nat.le_of_ble_eq_true rfl) (by first | exact Nat.le_of_ble_eq_true rfl | omega) (by first | exact Nat.le_of_ble_eq_true rfl | omega) ?_
              refine PRk ?_
              refine VV.stk (st' := [.int (cB (true))]) rfl ?_
              refine V_if_neC (c := true) (tgt := 230) F dJ10_fixAfterDeletion_198 (by decide) (fun c_198 => ?_) (fun c_198 => nomatch c_198)
              refine VV.loc (L' := [some (.ref t), some (.ref (A x)), some (va_rf ((L p).map A))]) (by rw [hs]; rfl) ?_
              exact ph2R _ _ _ _ _ _ _ x _ p (by exact hm) ⟨x0, x1, x6, x7, x8, ht, vw_fr hv1 (Fr.rf (M := fun _ => True) (h := hh)) rfl, vw_fr hv7 (Fr.rf (M := fun _ => True) (h := hh)) rfl⟩ hT hw hx hF hz hp hpx hrp
            | some s =>
              have hsn : s < n := hw.bL hp hs
              have hsx : s ≠ x := fun q => by have h1 := hw.2.2.1 p _ hp hs; have h2 := hw.2.2.2.2.1 p _ hp hrp; omega
              cases hcs : C s with
              | false =>
                refine V_aload_n (i := 1) F dJ10_fixAfterDeletion_0 rfl rfl ?_
                refine V_aload_n (i := 0) F dJ10_fixAfterDeletion_1 rfl rfl ?_
                refine V_getf F dJ10_fixAfterDeletion_2 fc_J10_101_J10 (.inl ht) rfl ?_
                refine V_acmp_eq (rx := some (A x)) (ry := (rt).map A) (tgt := 345) F dJ10_fixAfterDeletion_5 (by decide) (fun c_5 => absurd (map_eq hAI (fun j hj => (hw.2.2.2.2.2.2.2.1 j hj).1) hx c_5.symm) hroot) (fun c_5 => ?_)
                refine V_aload_n (i := 1) F dJ10_fixAfterDeletion_8 rfl rfl ?_
                refine V_callS (st := []) F dJ10_fixAfterDeletion_9 lk_J10_303 (ct_colorOf (o := some x) hT (fun _ z => Option.some.inj z ▸ hx)) rfl rfl (Nat.le_of_ble_eq_true rfl) (Nat.le_of_ble_eq_true rfl) (Nat.le_of_ble_eq_true rfl) (by first | exact Nat.le_of_ble_eq_true rfl | omega) (by first | exact Nat.le_of_ble_eq_true rfl | omega) ?_
                refine PRk ?_
                refine VV.stk (st' := [.int (cB (C x))]) rfl ?_
                refine V_iconst (v := nI 1) F dJ10_fixAfterDeletion_12 rfl ?_
                refine V_icmp_ne1C (c := C x) (tgt := 345) F dJ10_fixAfterDeletion_13 (by decide) (fun c_13 => absurd (c_13.symm.trans hcx) (by decide)) (fun c_13 => ?_)
                refine V_aload_n (i := 1) F dJ10_fixAfterDeletion_16 rfl rfl ?_
                refine V_aload_n (i := 1) F dJ10_fixAfterDeletion_17 rfl rfl ?_
                refine V_callS (st := [.ref (A x)]) F dJ10_fixAfterDeletion_18 lk_J10_294 (ct_parentOf (o := some x) hT (fun _ z => Option.some.inj z ▸ hx)) rfl rfl (Nat.le_of_ble_eq_true rfl) (Nat.le_of_ble_eq_true rfl) (Nat.le_of_ble_eq_true rfl) (by first | exact Nat.le_of_ble_eq_true rfl | omega) (by first | exact Nat.le_of_ble_eq_true rfl | omega) ?_
                refine PRk ?_
                refine VV.stk (st' := [.ref (A p), .ref (A x)]) (by first | rfl | (rw [show Option.bind (some x) P = _ from hpx]; rfl) | rw [show Option.bind (some x) P = _ from hpx]) ?_
                refine V_callS (st := [.ref (A x)]) F dJ10_fixAfterDeletion_21 lk_J10_297 (ct_leftOf (o := some p) hT (fun _ z => Option.some.inj z ▸ hp)) rfl rfl (Nat.le_of_ble_eq_true rfl) (Nat.le_of_ble_eq_true rfl) (Nat.le_of_ble_eq_true rfl) (by first | exact Nat.le_of_ble_eq_true rfl | omega) (by first | exact Nat.le_of_ble_eq_true rfl | omega) ?_
                refine PRk ?_
                refine VV.stk (st' := [.ref (A s), .ref (A x)]) (by first | rfl | (rw [show Option.bind (some p) L = _ from hs]; rfl) | rw [show Option.bind (some p) L = _ from hs]) ?_
                refine V_acmp_ne (rx := some (A x)) (ry := some (A s)) (tgt := 186) F dJ10_fixAfterDeletion_24 (by decide) (fun c_24 => ?_) (fun c_24 => absurd (hAI _ _ hx hsn (Option.some.inj c_24)) (Ne.symm hsx))
                refine V_aload_n (i := 1) F dJ10_fixAfterDeletion_186 rfl rfl ?_
                refine V_callS (st := []) F dJ10_fixAfterDeletion_187 lk_J10_294 (ct_parentOf (o := some x) hT (fun _ z => Option.some.inj z ▸ hx)) rfl rfl (Nat.le_of_ble_eq_true rfl) (Nat.le_of_ble_eq_true rfl) (Nat.le_of_ble_eq_true rfl) (by first | exact Nat.le_of_ble_eq_true rfl | omega) (by first | exact Nat.le_of_ble_eq_true rfl | omega) ?_
                refine PRk ?_
                refine VV.stk (st' := [.ref (A p)]) (by first | rfl | (rw [show Option.bind (some x) P = _ from hpx]; rfl) | rw [show Option.bind (some x) P = _ from hpx]) ?_
                refine V_callS (st := []) F dJ10_fixAfterDeletion_190 lk_J10_297 (ct_leftOf (o := some p) hT (fun _ z => Option.some.inj z ▸ hp)) rfl rfl (Nat.le_of_ble_eq_true rfl) (Nat.le_of_ble_eq_true rfl) (Nat.le_of_ble_eq_true rfl) (by first | exact Nat.le_of_ble_eq_true rfl | omega) (by first | exact Nat.le_of_ble_eq_true rfl | omega) ?_
                refine PRk ?_
                refine VV.stk (st' := [.ref (A s)]) (by first | rfl | (rw [show Option.bind (some p) L = _ from hs]; rfl) | rw [show Option.bind (some p) L = _ from hs]) ?_
                refine V_astore_n (i := 2) F dJ10_fixAfterDeletion_193 rfl (Nat.le_of_ble_eq_true rfl) (Nat.le_of_ble_eq_true rfl) ?_
                refine V_aload_n (i := 2) F dJ10_fixAfterDeletion_194 rfl rfl ?_
                refine V_callS (st := []) F dJ10_fixAfterDeletion_195 lk_J10_303 (ct_colorOf (o := some s) hT (fun _ z => Option.some.inj z ▸ hsn)) rfl rfl (Nat.le_of_ble_eq_true rfl) (Nat.le_of_ble_eq_true rfl) (Nat.le_of_ble_eq_true rfl) (by first | exact Nat.le_of_ble_eq_true rfl | omega) (by first | exact Nat.le_of_ble_eq_true rfl | omega) ?_
                refine PRk ?_
                refine VV.stk (st' := [.int (cB (C s))]) rfl ?_
                refine V_if_neC (c := C s) (tgt := 230) F dJ10_fixAfterDeletion_198 (by decide) (fun c_198 => absurd (c_198.symm.trans hcs) (by decide)) (fun c_198 => ?_)
                refine V_aload_n (i := 2) F dJ10_fixAfterDeletion_201 rfl rfl ?_
                refine V_iconst (v := nI 1) F dJ10_fixAfterDeletion_202 rfl ?_
                refine V_callS (st := []) F dJ10_fixAfterDeletion_203 lk_J10_307 (ct_setColor (o := some s) (c := true) hT hAI (fun _ z => Option.some.inj z ▸ hsn)) rfl rfl (Nat.le_of_ble_eq_true rfl) (Nat.le_of_ble_eq_true rfl) (Nat.le_of_ble_eq_true rfl) (by first | exact Nat.le_of_ble_eq_true rfl | omega) (by first | exact Nat.le_of_ble_eq_true rfl | omega) ?_
                rintro _ k1 ⟨rfl, hT3, hx2, hk4⟩
                have p5 := (hk4 t (fun i hi => ne_oo ht (hT i hi) (by decide))).trans ht
                have f6 := hF.cal hx2 (fun b q => Or.inl (Or.inr q))
                have g7 := (Fr.rf (M := fun _ => True) (h := hh)).cal hx2 (fun _ _ => Or.inl trivial)
                refine V_aload_n (i := 1) F dJ10_fixAfterDeletion_206 rfl rfl ?_
                refine V_callS (st := []) F dJ10_fixAfterDeletion_207 lk_J10_294 (ct_parentOf (o := some x) hT3 (fun _ z => Option.some.inj z ▸ hx)) rfl rfl (Nat.le_of_ble_eq_true rfl) (Nat.le_of_ble_eq_true rfl) (Nat.le_of_ble_eq_true rfl) (by first | exact Nat.le_of_ble_eq_true rfl | omega) (by first | exact Nat.le_of_ble_eq_true rfl | omega) ?_
                refine PRk ?_
                refine VV.stk (st' := [.ref (A p)]) (by first | rfl | (rw [show Option.bind (some x) P = _ from hpx]; rfl) | rw [show Option.bind (some x) P = _ from hpx]) ?_
                refine V_iconst (v := nI 0) F dJ10_fixAfterDeletion_210 rfl ?_
                refine V_callS (st := []) F dJ10_fixAfterDeletion_211 lk_J10_307 (ct_setColor (o := some p) (c := false) hT3 hAI (fun _ z => Option.some.inj z ▸ hp)) rfl rfl (Nat.le_of_ble_eq_true rfl) (Nat.le_of_ble_eq_true rfl) (Nat.le_of_ble_eq_true rfl) (by first | exact Nat.le_of_ble_eq_true rfl | omega) (by first | exact Nat.le_of_ble_eq_true rfl | omega) ?_
                rintro _ k8 ⟨rfl, hT10, hx9, hk11⟩
                have p12 := (hk11 t (fun i hi => ne_oo p5 (hT3 i hi) (by decide))).trans p5
                have f13 := f6.cal hx9 (fun b q => Or.inl (Or.inr q))
                have g14 := g7.cal hx9 (fun _ _ => Or.inl trivial)
                refine V_aload_n (i := 0) F dJ10_fixAfterDeletion_214 rfl rfl ?_
                refine V_aload_n (i := 1) F dJ10_fixAfterDeletion_215 rfl rfl ?_
                refine V_callS (st := [.ref (t)]) F dJ10_fixAfterDeletion_216 lk_J10_294 (ct_parentOf (o := some x) hT10 (fun _ z => Option.some.inj z ▸ hx)) rfl rfl (Nat.le_of_ble_eq_true rfl) (Nat.le_of_ble_eq_true rfl) (Nat.le_of_ble_eq_true rfl) (by first | exact Nat.le_of_ble_eq_true rfl | omega) (by first | exact Nat.le_of_ble_eq_true rfl | omega) ?_
                refine PRk ?_
                refine VV.stk (st' := [.ref (A p), .ref (t)]) (by first | rfl | (rw [show Option.bind (some x) P = _ from hpx]; rfl) | rw [show Option.bind (some x) P = _ from hpx]) ?_
                refine V_callV (st := []) F dJ10_fixAfterDeletion_219 lk_J10_314 (ct_rotateRight ⟨x0, x1, x6, x7, x8, p12, vw_fr hv1 g14 rfl, vw_fr hv7 g14 rfl⟩ hT10 hAI hw hp hs) ⟨23, _, _, _, rfl, (.inl p12)⟩ rfl rfl (Nat.le_of_ble_eq_true rfl) (Nat.le_of_ble_eq_true rfl) (Nat.le_of_ble_eq_true rfl) (by first | exact Nat.le_of_ble_eq_true rfl | omega) (by first | exact Nat.le_of_ble_eq_true rfl | omega) ?_
                rintro _ k15 ⟨rfl, hC18, hT17, hx16⟩
                obtain ⟨y19, y20, y21, y22, y23, ht24, hv25, hv26⟩ := hC18
                have f27 : Fr (mT t n A) h k15 := f13.cal hx16 (fun b q => Or.inl q)
                have hw28 := hw.rotR (L' := rrL L R P p s) (R' := rrR R P p s) (P' := rrP R P p s) (rt' := roR P rt p s) hp hs (fun _ => rfl) (fun _ => rfl) (fun _ => rfl) rfl
                have k1 := hw.k1R hp hx hpx hrp hs
                have e1 : (rrP R P p s) x = some p := k1.1
                have e3 : (rrR R P p s) p = some x := k1.2.1
                refine V_aload_n (i := 1) F dJ10_fixAfterDeletion_222 rfl rfl ?_
                refine V_callS (st := []) F dJ10_fixAfterDeletion_223 lk_J10_294 (ct_parentOf (o := some x) hT17 (fun _ z => Option.some.inj z ▸ hx)) rfl rfl (Nat.le_of_ble_eq_true rfl) (Nat.le_of_ble_eq_true rfl) (Nat.le_of_ble_eq_true rfl) (by first | exact Nat.le_of_ble_eq_true rfl | omega) (by first | exact Nat.le_of_ble_eq_true rfl | omega) ?_
                refine PRk ?_
                refine VV.stk (st' := [.ref (A p)]) (by first | rfl | (rw [show Option.bind (some x) (rrP R P p s) = _ from e1]; rfl) | rw [show Option.bind (some x) (rrP R P p s) = _ from e1]) ?_
                refine V_callS (st := []) F dJ10_fixAfterDeletion_226 lk_J10_297 (ct_leftOf (o := some p) hT17 (fun _ z => Option.some.inj z ▸ hp)) rfl rfl (Nat.le_of_ble_eq_true rfl) (Nat.le_of_ble_eq_true rfl) (Nat.le_of_ble_eq_true rfl) (by first | exact Nat.le_of_ble_eq_true rfl | omega) (by first | exact Nat.le_of_ble_eq_true rfl | omega) ?_
                refine PRk ?_
                refine VV.stk (st' := [va_rf (((rrL L R P p s) p).map A)]) rfl ?_
                refine V_astore_nQ (i := 2) F dJ10_fixAfterDeletion_229 rfl (Nat.le_of_ble_eq_true rfl) (Nat.le_of_ble_eq_true rfl) ?_
                exact ph2R _ _ _ _ _ _ _ x _ p (by rw [k1.2.2.1, k1.2.2.2.1]; exact hm) ⟨y19, y20, y21, y22, y23, ht24, vw_fr hv25 (Fr.rf (M := fun _ => True) (h := k15)) rfl, vw_fr hv26 (Fr.rf (M := fun _ => True) (h := k15)) rfl⟩ hT17 hw28 hx f27 (hz.mv k1.2.2.1 k1.2.2.2.1 k1.2.2.2.2) hp e1 e3
              | true =>
                refine V_aload_n (i := 1) F dJ10_fixAfterDeletion_0 rfl rfl ?_
                refine V_aload_n (i := 0) F dJ10_fixAfterDeletion_1 rfl rfl ?_
                refine V_getf F dJ10_fixAfterDeletion_2 fc_J10_101_J10 (.inl ht) rfl ?_
                refine V_acmp_eq (rx := some (A x)) (ry := (rt).map A) (tgt := 345) F dJ10_fixAfterDeletion_5 (by decide) (fun c_5 => absurd (map_eq hAI (fun j hj => (hw.2.2.2.2.2.2.2.1 j hj).1) hx c_5.symm) hroot) (fun c_5 => ?_)
                refine V_aload_n (i := 1) F dJ10_fixAfterDeletion_8 rfl rfl ?_
                refine V_callS (st := []) F dJ10_fixAfterDeletion_9 lk_J10_303 (ct_colorOf (o := some x) hT (fun _ z => Option.some.inj z ▸ hx)) rfl rfl (Nat.le_of_ble_eq_true rfl) (Nat.le_of_ble_eq_true rfl) (Nat.le_of_ble_eq_true rfl) (by first | exact Nat.le_of_ble_eq_true rfl | omega) (by first | exact Nat.le_of_ble_eq_true rfl | omega) ?_
                refine PRk ?_
                refine VV.stk (st' := [.int (cB (C x))]) rfl ?_
                refine V_iconst (v := nI 1) F dJ10_fixAfterDeletion_12 rfl ?_
                refine V_icmp_ne1C (c := C x) (tgt := 345) F dJ10_fixAfterDeletion_13 (by decide) (fun c_13 => absurd (c_13.symm.trans hcx) (by decide)) (fun c_13 => ?_)
                refine V_aload_n (i := 1) F dJ10_fixAfterDeletion_16 rfl rfl ?_
                refine V_aload_n (i := 1) F dJ10_fixAfterDeletion_17 rfl rfl ?_
                refine V_callS (st := [.ref (A x)]) F dJ10_fixAfterDeletion_18 lk_J10_294 (ct_parentOf (o := some x) hT (fun _ z => Option.some.inj z ▸ hx)) rfl rfl (Nat.le_of_ble_eq_true rfl) (Nat.le_of_ble_eq_true rfl) (Nat.le_of_ble_eq_true rfl) (by first | exact Nat.le_of_ble_eq_true rfl | omega) (by first | exact Nat.le_of_ble_eq_true rfl | omega) ?_
                refine PRk ?_
                refine VV.stk (st' := [.ref (A p), .ref (A x)]) (by first | rfl | (rw [show Option.bind (some x) P = _ from hpx]; rfl) | rw [show Option.bind (some x) P = _ from hpx]) ?_
                refine V_callS (st := [.ref (A x)]) F dJ10_fixAfterDeletion_21 lk_J10_297 (ct_leftOf (o := some p) hT (fun _ z => Option.some.inj z ▸ hp)) rfl rfl (Nat.le_of_ble_eq_true rfl) (Nat.le_of_ble_eq_true rfl) (Nat.le_of_ble_eq_true rfl) (by first | exact Nat.le_of_ble_eq_true rfl | omega) (by first | exact Nat.le_of_ble_eq_true rfl | omega) ?_
                refine PRk ?_
                refine VV.stk (st' := [.ref (A s), .ref (A x)]) (by first | rfl | (rw [show Option.bind (some p) L = _ from hs]; rfl) | rw [show Option.bind (some p) L = _ from hs]) ?_
                refine V_acmp_ne (rx := some (A x)) (ry := some (A s)) (tgt := 186) F dJ10_fixAfterDeletion_24 (by decide) (fun c_24 => ?_) (fun c_24 => absurd (hAI _ _ hx hsn (Option.some.inj c_24)) (Ne.symm hsx))
                refine V_aload_n (i := 1) F dJ10_fixAfterDeletion_186 rfl rfl ?_
                refine V_callS (st := []) F dJ10_fixAfterDeletion_187 lk_J10_294 (ct_parentOf (o := some x) hT (fun _ z => Option.some.inj z ▸ hx)) rfl rfl (Nat.le_of_ble_eq_true rfl) (Nat.le_of_ble_eq_true rfl) (Nat.le_of_ble_eq_true rfl) (by first | exact Nat.le_of_ble_eq_true rfl | omega) (by first | exact Nat.le_of_ble_eq_true rfl | omega) ?_
                refine PRk ?_
                refine VV.stk (st' := [.ref (A p)]) (by first | rfl | (rw [show Option.bind (some x) P = _ from hpx]; rfl) | rw [show Option.bind (some x) P = _ from hpx]) ?_
                refine V_callS (st := []) F dJ10_fixAfterDeletion_190 lk_J10_297 (ct_leftOf (o := some p) hT (fun _ z => Option.some.inj z ▸ hp)) rfl rfl (Nat.le_of_ble_eq_true rfl) (Nat.le_of_ble_eq_true rfl) (Nat.le_of_ble_eq_true rfl) (by first | exact Nat.le_of_ble_eq_true rfl | omega) (by first | exact Nat.le_of_ble_eq_true rfl | omega) ?_
                refine PRk ?_
                refine VV.stk (st' := [.ref (A s)]) (by first | rfl | (rw [show Option.bind (some p) L = _ from hs]; rfl) | rw [show Option.bind (some p) L = _ from hs]) ?_
                refine V_astore_n (i := 2) F dJ10_fixAfterDeletion_193 rfl (Nat.le_of_ble_eq_true rfl) (Nat.le_of_ble_eq_true rfl) ?_
                refine V_aload_n (i := 2) F dJ10_fixAfterDeletion_194 rfl rfl ?_
                refine V_callS (st := []) F dJ10_fixAfterDeletion_195 lk_J10_303 (ct_colorOf (o := some s) hT (fun _ z => Option.some.inj z ▸ hsn)) rfl rfl (Nat.le_of_ble_eq_true rfl) (Nat.le_of_ble_eq_true rfl) (Nat.le_of_ble_eq_true rfl) (by first | exact Nat.le_of_ble_eq_true rfl | omega) (by first | exact Nat.le_of_ble_eq_true rfl | omega) ?_
                refine PRk ?_
                refine VV.stk (st' := [.int (cB (C s))]) rfl ?_
                refine V_if_neC (c := C s) (tgt := 230) F dJ10_fixAfterDeletion_198 (by decide) (fun c_198 => ?_) (fun c_198 => absurd (c_198.symm.trans hcs) (by decide))
                refine VV.loc (L' := [some (.ref t), some (.ref (A x)), some (va_rf ((L p).map A))]) (by rw [hs]; rfl) ?_
                exact ph2R _ _ _ _ _ _ _ x _ p (by exact hm) ⟨x0, x1, x6, x7, x8, ht, vw_fr hv1 (Fr.rf (M := fun _ => True) (h := hh)) rfl, vw_fr hv7 (Fr.rf (M := fun _ => True) (h := hh)) rfl⟩ hT hw hx hF hz hp hpx hrp
  exact loop _ L R P C rt lo hi x h (Nat.lt_succ_self _) hC hT hw hx Fr.rf hsb
