theorem ct_fixIns {G : GG} {l : Launch} {h : AH} {t n mc nz : Nat} {A K V : Nat → Nat} {L R P : Nat → Option Nat} {C : Nat → Bool} {rt : Option Nat} {lo hi : Nat → Nat} {x : Nat} (hC : TC h t nz mc (rt.map A)) (hT : TN h n A K V L R P C) (hAI : AI n A) (hw : WT n rt L R P lo hi) (hx : x < n) : Ct G l yJ10_fixAfterInsertion cJ10_fixAfterInsertion 3 none 2 (0) (0) [.ref t, .ref (A x)] h (fun r0 h2 => r0 = none ∧ ∃ L2 R2 P2 C2 rt2 lo2 hi2, TC h2 t nz mc ((rt2 : Option Nat).map A) ∧ TN h2 n A K V L2 R2 P2 C2 ∧ WT n rt2 L2 R2 P2 lo2 hi2 ∧ Fr (mT t n A) h h2) := by
  refine Ct.of (by decide) (Nat.le_of_ble_eq_true rfl) (cat1 rfl) (fun X hXl F HN => ?_)
  subst hXl
  have exitW : ∀ (L R P : Nat → Option Nat) (C : Nat → Bool) (rt : Option Nat) (lo hi : Nat → Nat) (x : Nat) (hh : AH), TC hh t nz mc (rt.map A) → TN hh n A K V L R P C → WT n rt L R P lo hi → x < n → Fr (mT t n A) h hh → VV G X 3 (EQ G X 0 0 (fun r0 h2 => r0 = none ∧ ∃ L2 R2 P2 C2 rt2 lo2 hi2, TC h2 t nz mc ((rt2 : Option Nat).map A) ∧ TN h2 n A K V L2 R2 P2 C2 ∧ WT n rt2 L2 R2 P2 lo2 hi2 ∧ Fr (mT t n A) h h2)) hh 0 0 [some (.ref t), none, none] [] 258 := by
    intro L R P C rt lo hi x hh hC hT hw hx hF
    obtain ⟨x0, x1, x6, x7, x8, ht, hv1, hv7⟩ := id hC
    obtain ⟨r, hrt⟩ : ∃ r, rt = some r := by
      cases hq : rt with
      | none => exact absurd (hw.2.2.2.2.2.2.2.2 hq) (by omega)
      | some r => exact ⟨r, rfl⟩
    have hr1 : r < n := (hw.2.2.2.2.2.2.2.1 r hrt).1
    refine V_aload_n (i := 0) F dJ10_fixAfterInsertion_258 rfl rfl ?_
    refine V_getf F dJ10_fixAfterInsertion_259 fc_J10_101_J10 (.inl ht) (by rw [hrt]; rfl) ?_
    refine V_iconst (v := nI 1) F dJ10_fixAfterInsertion_262 rfl ?_
    refine VV.stk (st' := .int (cB true) :: .ref (A r) :: []) rfl ?_
    refine V_putf F dJ10_fixAfterInsertion_263 fp_J10_290_J41 (hT r hr1) (nar_cB _) (fit_cB _) (Nat.le_of_ble_eq_true rfl) ?_
    have hT1 := hT.putC (o := true) hAI hr1
    exact V_vret F dJ10_fixAfterInsertion_266 (by first | exact Nat.le_of_ble_eq_true rfl | omega) (by first | exact Nat.le_of_ble_eq_true rfl | omega) ⟨rfl, L, R, P, _, rt, lo, hi, ⟨x0, x1, x6, x7, x8, ((hset_ne (ne_oo ht (hT r hr1) (by decide))).trans ht), vw_fr hv1 ((Fr.rf (M := fun _ => True) (h := hh)).put (x := .inr (24, (ndc A K V L R P C r).set 5 (.int (cB true)))) (hT r hr1) rfl rfl (Or.inl trivial)) rfl, vw_fr hv7 ((Fr.rf (M := fun _ => True) (h := hh)).put (x := .inr (24, (ndc A K V L R P C r).set 5 (.int (cB true)))) (hT r hr1) rfl rfl (Or.inl trivial)) rfl⟩, hT1, hw, (hF.put (x := .inr (24, (ndc A K V L R P C r).set 5 (.int (cB true)))) (hT r hr1) rfl rfl (Or.inl (Or.inr ⟨r, hr1, rfl⟩)))⟩
  have exitB : ∀ (L R P : Nat → Option Nat) (C : Nat → Bool) (rt : Option Nat) (lo hi : Nat → Nat) (x : Nat) (hh : AH), TC hh t nz mc (rt.map A) → TN hh n A K V L R P C → WT n rt L R P lo hi → x < n → Fr (mT t n A) h hh → (rt = some x ∨ ∃ p, P x = some p ∧ p < n ∧ C p = true) → VV G X 3 (EQ G X 0 0 (fun r0 h2 => r0 = none ∧ ∃ L2 R2 P2 C2 rt2 lo2 hi2, TC h2 t nz mc ((rt2 : Option Nat).map A) ∧ TN h2 n A K V L2 R2 P2 C2 ∧ WT n rt2 L2 R2 P2 lo2 hi2 ∧ Fr (mT t n A) h h2)) hh 0 0 [some (.ref t), some (.ref (A x)), none] [] 5 := by
    intro L R P C rt lo hi x hh hC hT hw hx hF hb
    obtain ⟨x0, x1, x6, x7, x8, ht, hv1, hv7⟩ := id hC
    by_cases hroot : rt = some x
    · refine V_aload_n (i := 1) F dJ10_fixAfterInsertion_5 rfl rfl ?_
      refine V_ifnull F dJ10_fixAfterInsertion_6 ?_
      refine V_aload_n (i := 1) F dJ10_fixAfterInsertion_9 rfl rfl ?_
      refine V_aload_n (i := 0) F dJ10_fixAfterInsertion_10 rfl rfl ?_
      refine V_getf F dJ10_fixAfterInsertion_11 fc_J10_101_J10 (.inl ht) rfl ?_
      refine V_acmp_eq (rx := some (A x)) (ry := (rt).map A) (tgt := 258) F dJ10_fixAfterInsertion_14 (by decide) (fun c_14 => ?_) (fun c_14 => absurd (by rw [hroot]; rfl) c_14)
      refine VV.weak (L' := [some (.ref (t)), none, none]) (LW.c1 (LW.c0 (LW.c0 LW.nil))) ?_
      exact exitW L R P C rt lo hi x hh hC hT hw hx hF
    · obtain ⟨p, hpx, hp, hcp⟩ := hb.resolve_left hroot
      refine V_aload_n (i := 1) F dJ10_fixAfterInsertion_5 rfl rfl ?_
      refine V_ifnull F dJ10_fixAfterInsertion_6 ?_
      refine V_aload_n (i := 1) F dJ10_fixAfterInsertion_9 rfl rfl ?_
      refine V_aload_n (i := 0) F dJ10_fixAfterInsertion_10 rfl rfl ?_
      refine V_getf F dJ10_fixAfterInsertion_11 fc_J10_101_J10 (.inl ht) rfl ?_
      refine V_acmp_eq (rx := some (A x)) (ry := (rt).map A) (tgt := 258) F dJ10_fixAfterInsertion_14 (by decide) (fun c_14 => absurd (map_eq hAI (fun j hj => (hw.2.2.2.2.2.2.2.1 j hj).1) hx c_14.symm) hroot) (fun c_14 => ?_)
      refine V_aload_n (i := 1) F dJ10_fixAfterInsertion_17 rfl rfl ?_
      refine V_getf F dJ10_fixAfterInsertion_18 fc_J10_124_J41 (.inl (hT x hx)) rfl ?_
      refine VV.stk (st' := [.ref (A p)]) (by first | (rw [hpx]; rfl) | rw [hpx]) ?_
      refine V_getf F dJ10_fixAfterInsertion_21 fc_J10_290_J41 (.inl (hT p hp)) rfl ?_
      refine V_if_neC (c := C p) (tgt := 258) F dJ10_fixAfterInsertion_24 (by decide) (fun c_24 => ?_) (fun c_24 => absurd (c_24.symm.trans hcp) (by decide))
      refine VV.weak (L' := [some (.ref (t)), none, none]) (LW.c1 (LW.c0 (LW.c0 LW.nil))) ?_
      exact exitW L R P C rt lo hi x hh hC hT hw hx hF
  have loop : ∀ (nn : Nat) (L R P : Nat → Option Nat) (C : Nat → Bool) (rt : Option Nat) (lo hi : Nat → Nat) (x : Nat) (hh : AH), n - (hi x - lo x) < nn → TC hh t nz mc (rt.map A) → TN hh n A K V L R P C → WT n rt L R P lo hi → x < n → Fr (mT t n A) h hh → VV G X 3 (EQ G X 0 0 (fun r0 h2 => r0 = none ∧ ∃ L2 R2 P2 C2 rt2 lo2 hi2, TC h2 t nz mc ((rt2 : Option Nat).map A) ∧ TN h2 n A K V L2 R2 P2 C2 ∧ WT n rt2 L2 R2 P2 lo2 hi2 ∧ Fr (mT t n A) h h2)) hh 0 0 [some (.ref t), some (.ref (A x)), none] [] 5 := by
    intro nn
    induction nn with
    | zero => intro L R P C rt lo hi x hh hm; exact absurd hm (by omega)
    | succ nn ih =>
      intro L R P C rt lo hi x hh hm hC hT hw hx hF
      obtain ⟨x0, x1, x6, x7, x8, ht, hv1, hv7⟩ := id hC
      by_cases hroot : rt = some x
      · exact exitB L R P C rt lo hi x hh hC hT hw hx hF (Or.inl hroot)
      · obtain ⟨p, hpx⟩ : ∃ p, P x = some p := by
          cases hq : P x with
          | none => exact absurd (hw.2.2.2.2.2.1 x hx hq) hroot
          | some p => exact ⟨p, rfl⟩
        have hp : p < n := hw.bP hx hpx
        by_cases hcp : C p = true
        · exact exitB L R P C rt lo hi x hh hC hT hw hx hF (Or.inr ⟨p, hpx, hp, hcp⟩)
        · have hcp : C p = false := by simpa using hcp
          have hxp := hw.Pne hx hpx
          have hxi := hw.Pin hx hpx
          have hx1 := hw.1 x hx
          have hp1 := hw.1 p hp
          cases hgp : P p with
          | none =>
            by_cases hlp : L p = some x
            · refine V_aload_n (i := 1) F dJ10_fixAfterInsertion_5 rfl rfl ?_
              refine V_ifnull F dJ10_fixAfterInsertion_6 ?_
              refine V_aload_n (i := 1) F dJ10_fixAfterInsertion_9 rfl rfl ?_
              refine V_aload_n (i := 0) F dJ10_fixAfterInsertion_10 rfl rfl ?_
              refine V_getf F dJ10_fixAfterInsertion_11 fc_J10_101_J10 (.inl ht) rfl ?_
              refine V_acmp_eq (rx := some (A x)) (ry := (rt).map A) (tgt := 258) F dJ10_fixAfterInsertion_14 (by decide) (fun c_14 => absurd (map_eq hAI (fun j hj => (hw.2.2.2.2.2.2.2.1 j hj).1) hx c_14.symm) hroot) (fun c_14 => ?_)
              refine V_aload_n (i := 1) F dJ10_fixAfterInsertion_17 rfl rfl ?_
              refine V_getf F dJ10_fixAfterInsertion_18 fc_J10_124_J41 (.inl (hT x hx)) rfl ?_
              refine VV.stk (st' := [.ref (A p)]) (by first | (rw [hpx]; rfl) | rw [hpx]) ?_
              refine V_getf F dJ10_fixAfterInsertion_21 fc_J10_290_J41 (.inl (hT p hp)) rfl ?_
              refine V_if_neC (c := C p) (tgt := 258) F dJ10_fixAfterInsertion_24 (by decide) (fun c_24 => absurd (c_24.symm.trans hcp) (by decide)) (fun c_24 => ?_)
              refine V_aload_n (i := 1) F dJ10_fixAfterInsertion_27 rfl rfl ?_
              refine V_callS (st := []) F dJ10_fixAfterInsertion_28 lk_J10_294 (ct_parentOf (o := some x) hT (fun _ z => Option.some.inj z ▸ hx)) rfl rfl (Nat.le_of_ble_eq_true rfl) (Nat.le_of_ble_eq_true rfl) (Nat.le_of_ble_eq_true rfl) (by first | exact Nat.le_of_ble_eq_true rfl | omega) (by first | exact Nat.le_of_ble_eq_true rfl | omega) ?_
              refine PRk ?_
              refine VV.stk (st' := [.ref (A p)]) (by first | rfl | (rw [show Option.bind (some x) P = _ from hpx]; rfl) | rw [show Option.bind (some x) P = _ from hpx]) ?_
              refine V_aload_n (i := 1) F dJ10_fixAfterInsertion_31 rfl rfl ?_
              refine V_callS (st := [.ref (A p)]) F dJ10_fixAfterInsertion_32 lk_J10_294 (ct_parentOf (o := some x) hT (fun _ z => Option.some.inj z ▸ hx)) rfl rfl (Nat.le_of_ble_eq_true rfl) (Nat.le_of_ble_eq_true rfl) (Nat.le_of_ble_eq_true rfl) (by first | exact Nat.le_of_ble_eq_true rfl | omega) (by first | exact Nat.le_of_ble_eq_true rfl | omega) ?_
              refine PRk ?_
              refine VV.stk (st' := [.ref (A p), .ref (A p)]) (by first | rfl | (rw [show Option.bind (some x) P = _ from hpx]; rfl) | rw [show Option.bind (some x) P = _ from hpx]) ?_
              refine V_callS (st := [.ref (A p)]) F dJ10_fixAfterInsertion_35 lk_J10_294 (ct_parentOf (o := some p) hT (fun _ z => Option.some.inj z ▸ hp)) rfl rfl (Nat.le_of_ble_eq_true rfl) (Nat.le_of_ble_eq_true rfl) (Nat.le_of_ble_eq_true rfl) (by first | exact Nat.le_of_ble_eq_true rfl | omega) (by first | exact Nat.le_of_ble_eq_true rfl | omega) ?_
              refine PRk ?_
              refine VV.stk (st' := [.null, .ref (A p)]) (by first | rfl | (rw [show Option.bind (some p) P = _ from hgp]; rfl) | rw [show Option.bind (some p) P = _ from hgp]) ?_
              refine V_callS (st := [.ref (A p)]) F dJ10_fixAfterInsertion_38 lk_J10_297 (ct_leftOf (o := none) hT (fun _ z => nomatch z)) rfl rfl (Nat.le_of_ble_eq_true rfl) (Nat.le_of_ble_eq_true rfl) (Nat.le_of_ble_eq_true rfl) (by first | exact Nat.le_of_ble_eq_true rfl | omega) (by first | exact Nat.le_of_ble_eq_true rfl | omega) ?_
              refine PRk ?_
              refine VV.stk (st' := [.null, .ref (A p)]) rfl ?_
              refine V_acmp_ne (rx := some (A p)) (ry := none) (tgt := 151) F dJ10_fixAfterInsertion_41 (by decide) (fun c_41 => ?_) (fun c_41 => nomatch c_41)
              refine V_aload_n (i := 1) F dJ10_fixAfterInsertion_151 rfl rfl ?_
              refine V_callS (st := []) F dJ10_fixAfterInsertion_152 lk_J10_294 (ct_parentOf (o := some x) hT (fun _ z => Option.some.inj z ▸ hx)) rfl rfl (Nat.le_of_ble_eq_true rfl) (Nat.le_of_ble_eq_true rfl) (Nat.le_of_ble_eq_true rfl) (by first | exact Nat.le_of_ble_eq_true rfl | omega) (by first | exact Nat.le_of_ble_eq_true rfl | omega) ?_
              refine PRk ?_
              refine VV.stk (st' := [.ref (A p)]) (by first | rfl | (rw [show Option.bind (some x) P = _ from hpx]; rfl) | rw [show Option.bind (some x) P = _ from hpx]) ?_
              refine V_callS (st := []) F dJ10_fixAfterInsertion_155 lk_J10_294 (ct_parentOf (o := some p) hT (fun _ z => Option.some.inj z ▸ hp)) rfl rfl (Nat.le_of_ble_eq_true rfl) (Nat.le_of_ble_eq_true rfl) (Nat.le_of_ble_eq_true rfl) (by first | exact Nat.le_of_ble_eq_true rfl | omega) (by first | exact Nat.le_of_ble_eq_true rfl | omega) ?_
              refine PRk ?_
              refine VV.stk (st' := [.null]) (by first | rfl | (rw [show Option.bind (some p) P = _ from hgp]; rfl) | rw [show Option.bind (some p) P = _ from hgp]) ?_
              refine V_callS (st := []) F dJ10_fixAfterInsertion_158 lk_J10_297 (ct_leftOf (o := none) hT (fun _ z => nomatch z)) rfl rfl (Nat.le_of_ble_eq_true rfl) (Nat.le_of_ble_eq_true rfl) (Nat.le_of_ble_eq_true rfl) (by first | exact Nat.le_of_ble_eq_true rfl | omega) (by first | exact Nat.le_of_ble_eq_true rfl | omega) ?_
              refine PRk ?_
              refine VV.stk (st' := [.null]) rfl ?_
              refine V_astore_nN (i := 2) F dJ10_fixAfterInsertion_161 rfl (Nat.le_of_ble_eq_true rfl) (Nat.le_of_ble_eq_true rfl) ?_
              refine V_aload_nN (i := 2) F dJ10_fixAfterInsertion_162 rfl rfl ?_
              refine V_callS (st := []) F dJ10_fixAfterInsertion_163 lk_J10_303 (ct_colorOf (o := none) hT (fun _ z => nomatch z)) rfl rfl (Nat.le_of_ble_eq_true rfl) (Nat.le_of_ble_eq_true rfl) (Nat.le_of_ble_eq_true rfl) (by first | exact Nat.le_of_ble_eq_true rfl | omega) (by first | exact Nat.le_of_ble_eq_true rfl | omega) ?_
              refine PRk ?_
              refine VV.stk (st' := [.int (cB (true))]) rfl ?_
              refine V_if_neC (c := true) (tgt := 204) F dJ10_fixAfterInsertion_166 (by decide) (fun c_166 => ?_) (fun c_166 => nomatch c_166)
              refine V_aload_n (i := 1) F dJ10_fixAfterInsertion_204 rfl rfl ?_
              refine V_aload_n (i := 1) F dJ10_fixAfterInsertion_205 rfl rfl ?_
              refine V_callS (st := [.ref (A x)]) F dJ10_fixAfterInsertion_206 lk_J10_294 (ct_parentOf (o := some x) hT (fun _ z => Option.some.inj z ▸ hx)) rfl rfl (Nat.le_of_ble_eq_true rfl) (Nat.le_of_ble_eq_true rfl) (Nat.le_of_ble_eq_true rfl) (by first | exact Nat.le_of_ble_eq_true rfl | omega) (by first | exact Nat.le_of_ble_eq_true rfl | omega) ?_
              refine PRk ?_
              refine VV.stk (st' := [.ref (A p), .ref (A x)]) (by first | rfl | (rw [show Option.bind (some x) P = _ from hpx]; rfl) | rw [show Option.bind (some x) P = _ from hpx]) ?_
              refine V_callS (st := [.ref (A x)]) F dJ10_fixAfterInsertion_209 lk_J10_297 (ct_leftOf (o := some p) hT (fun _ z => Option.some.inj z ▸ hp)) rfl rfl (Nat.le_of_ble_eq_true rfl) (Nat.le_of_ble_eq_true rfl) (Nat.le_of_ble_eq_true rfl) (by first | exact Nat.le_of_ble_eq_true rfl | omega) (by first | exact Nat.le_of_ble_eq_true rfl | omega) ?_
              refine PRk ?_
              refine VV.stk (st' := [.ref (A x), .ref (A x)]) (by first | rfl | (rw [show Option.bind (some p) L = _ from hlp]; rfl) | rw [show Option.bind (some p) L = _ from hlp]) ?_
              refine V_acmp_ne (rx := some (A x)) (ry := some (A x)) (tgt := 225) F dJ10_fixAfterInsertion_212 (by decide) (fun c_212 => absurd rfl c_212) (fun c_212 => ?_)
              refine V_aload_n (i := 1) F dJ10_fixAfterInsertion_215 rfl rfl ?_
              refine V_callS (st := []) F dJ10_fixAfterInsertion_216 lk_J10_294 (ct_parentOf (o := some x) hT (fun _ z => Option.some.inj z ▸ hx)) rfl rfl (Nat.le_of_ble_eq_true rfl) (Nat.le_of_ble_eq_true rfl) (Nat.le_of_ble_eq_true rfl) (by first | exact Nat.le_of_ble_eq_true rfl | omega) (by first | exact Nat.le_of_ble_eq_true rfl | omega) ?_
              refine PRk ?_
              refine VV.stk (st' := [.ref (A p)]) (by first | rfl | (rw [show Option.bind (some x) P = _ from hpx]; rfl) | rw [show Option.bind (some x) P = _ from hpx]) ?_
              refine V_astore_n (i := 1) F dJ10_fixAfterInsertion_219 rfl (Nat.le_of_ble_eq_true rfl) (Nat.le_of_ble_eq_true rfl) ?_
              refine V_aload_n (i := 0) F dJ10_fixAfterInsertion_220 rfl rfl ?_
              refine V_aload_n (i := 1) F dJ10_fixAfterInsertion_221 rfl rfl ?_
              refine V_callV (st := []) F dJ10_fixAfterInsertion_222 lk_J10_314 (ct_rotateRight ⟨x0, x1, x6, x7, x8, ht, vw_fr hv1 (Fr.rf (M := fun _ => True) (h := hh)) rfl, vw_fr hv7 (Fr.rf (M := fun _ => True) (h := hh)) rfl⟩ hT hAI hw hp hlp) ⟨23, _, _, _, rfl, (.inl ht)⟩ rfl rfl (Nat.le_of_ble_eq_true rfl) (Nat.le_of_ble_eq_true rfl) (Nat.le_of_ble_eq_true rfl) (by first | exact Nat.le_of_ble_eq_true rfl | omega) (by first | exact Nat.le_of_ble_eq_true rfl | omega) ?_
              rintro _ k1 ⟨rfl, hC4, hT3, hx2⟩
              obtain ⟨y5, y6, y7, y8, y9, ht10, hv11, hv12⟩ := hC4
              have f13 : Fr (mT t n A) h k1 := hF.cal hx2 (fun b q => Or.inl q)
              have hw14 := hw.rotR (L' := rrL L R P p x) (R' := rrR R P p x) (P' := rrP R P p x) (rt' := roR P rt p x) hp hlp (fun _ => rfl) (fun _ => rfl) (fun _ => rfl) rfl
              have e1 : (rrP R P p x) p = some x := if_pos rfl
              have e2 : (rrP R P p x) x = none := (if_neg hxp).trans ((if_pos rfl).trans hgp)
              refine V_aload_n (i := 1) F dJ10_fixAfterInsertion_225 rfl rfl ?_
              refine V_callS (st := []) F dJ10_fixAfterInsertion_226 lk_J10_294 (ct_parentOf (o := some p) hT3 (fun _ z => Option.some.inj z ▸ hp)) rfl rfl (Nat.le_of_ble_eq_true rfl) (Nat.le_of_ble_eq_true rfl) (Nat.le_of_ble_eq_true rfl) (by first | exact Nat.le_of_ble_eq_true rfl | omega) (by first | exact Nat.le_of_ble_eq_true rfl | omega) ?_
              refine PRk ?_
              refine VV.stk (st' := [.ref (A x)]) (by first | rfl | (rw [show Option.bind (some p) (rrP R P p x) = _ from e1]; rfl) | rw [show Option.bind (some p) (rrP R P p x) = _ from e1]) ?_
              refine V_iconst (v := nI 1) F dJ10_fixAfterInsertion_229 rfl ?_
              refine V_callS (st := []) F dJ10_fixAfterInsertion_230 lk_J10_307 (ct_setColor (o := some x) (c := true) hT3 hAI (fun _ z => Option.some.inj z ▸ hx)) rfl rfl (Nat.le_of_ble_eq_true rfl) (Nat.le_of_ble_eq_true rfl) (Nat.le_of_ble_eq_true rfl) (by first | exact Nat.le_of_ble_eq_true rfl | omega) (by first | exact Nat.le_of_ble_eq_true rfl | omega) ?_
              rintro _ k15 ⟨rfl, hT17, hx16, hk18⟩
              have p19 := (hk18 t (fun i hi => ne_oo ht10 (hT3 i hi) (by decide))).trans ht10
              have f20 := f13.cal hx16 (fun b q => Or.inl (Or.inr q))
              have g21 := (Fr.rf (M := fun _ => True) (h := k1)).cal hx16 (fun _ _ => Or.inl trivial)
              refine V_aload_n (i := 1) F dJ10_fixAfterInsertion_233 rfl rfl ?_
              refine V_callS (st := []) F dJ10_fixAfterInsertion_234 lk_J10_294 (ct_parentOf (o := some p) hT17 (fun _ z => Option.some.inj z ▸ hp)) rfl rfl (Nat.le_of_ble_eq_true rfl) (Nat.le_of_ble_eq_true rfl) (Nat.le_of_ble_eq_true rfl) (by first | exact Nat.le_of_ble_eq_true rfl | omega) (by first | exact Nat.le_of_ble_eq_true rfl | omega) ?_
              refine PRk ?_
              refine VV.stk (st' := [.ref (A x)]) (by first | rfl | (rw [show Option.bind (some p) (rrP R P p x) = _ from e1]; rfl) | rw [show Option.bind (some p) (rrP R P p x) = _ from e1]) ?_
              refine V_callS (st := []) F dJ10_fixAfterInsertion_237 lk_J10_294 (ct_parentOf (o := some x) hT17 (fun _ z => Option.some.inj z ▸ hx)) rfl rfl (Nat.le_of_ble_eq_true rfl) (Nat.le_of_ble_eq_true rfl) (Nat.le_of_ble_eq_true rfl) (by first | exact Nat.le_of_ble_eq_true rfl | omega) (by first | exact Nat.le_of_ble_eq_true rfl | omega) ?_
              refine PRk ?_
              refine VV.stk (st' := [.null]) (by first | rfl | (rw [show Option.bind (some x) (rrP R P p x) = _ from e2]; rfl) | rw [show Option.bind (some x) (rrP R P p x) = _ from e2]) ?_
              refine V_iconst (v := nI 0) F dJ10_fixAfterInsertion_240 rfl ?_
              refine V_callS (st := []) F dJ10_fixAfterInsertion_241 lk_J10_307 (ct_setColor (o := none) (c := false) hT17 hAI (fun _ z => nomatch z)) rfl rfl (Nat.le_of_ble_eq_true rfl) (Nat.le_of_ble_eq_true rfl) (Nat.le_of_ble_eq_true rfl) (by first | exact Nat.le_of_ble_eq_true rfl | omega) (by first | exact Nat.le_of_ble_eq_true rfl | omega) ?_
              rintro _ k22 ⟨rfl, hT24, hx23, hk25⟩
              have p26 := (hk25 t (fun i hi => ne_oo p19 (hT17 i hi) (by decide))).trans p19
              have f27 := f20.cal hx23 (fun b q => Or.inl (Or.inr q))
              have g28 := g21.cal hx23 (fun _ _ => Or.inl trivial)
              refine V_aload_n (i := 0) F dJ10_fixAfterInsertion_244 rfl rfl ?_
              refine V_aload_n (i := 1) F dJ10_fixAfterInsertion_245 rfl rfl ?_
              refine V_callS (st := [.ref (t)]) F dJ10_fixAfterInsertion_246 lk_J10_294 (ct_parentOf (o := some p) hT24 (fun _ z => Option.some.inj z ▸ hp)) rfl rfl (Nat.le_of_ble_eq_true rfl) (Nat.le_of_ble_eq_true rfl) (Nat.le_of_ble_eq_true rfl) (by first | exact Nat.le_of_ble_eq_true rfl | omega) (by first | exact Nat.le_of_ble_eq_true rfl | omega) ?_
              refine PRk ?_
              refine VV.stk (st' := [.ref (A x), .ref (t)]) (by first | rfl | (rw [show Option.bind (some p) (rrP R P p x) = _ from e1]; rfl) | rw [show Option.bind (some p) (rrP R P p x) = _ from e1]) ?_
              refine V_callS (st := [.ref (t)]) F dJ10_fixAfterInsertion_249 lk_J10_294 (ct_parentOf (o := some x) hT24 (fun _ z => Option.some.inj z ▸ hx)) rfl rfl (Nat.le_of_ble_eq_true rfl) (Nat.le_of_ble_eq_true rfl) (Nat.le_of_ble_eq_true rfl) (by first | exact Nat.le_of_ble_eq_true rfl | omega) (by first | exact Nat.le_of_ble_eq_true rfl | omega) ?_
              refine PRk ?_
              refine VV.stk (st' := [.null, .ref (t)]) (by first | rfl | (rw [show Option.bind (some x) (rrP R P p x) = _ from e2]; rfl) | rw [show Option.bind (some x) (rrP R P p x) = _ from e2]) ?_
              refine V_callV (st := []) F dJ10_fixAfterInsertion_252 lk_J10_311 (ct_rotateLeft0) ⟨23, _, _, _, rfl, (.inl p26)⟩ rfl rfl (Nat.le_of_ble_eq_true rfl) (Nat.le_of_ble_eq_true rfl) (Nat.le_of_ble_eq_true rfl) (by first | exact Nat.le_of_ble_eq_true rfl | omega) (by first | exact Nat.le_of_ble_eq_true rfl | omega) ?_
              refine PVk ?_
              refine V_goto (tgt := 5) F dJ10_fixAfterInsertion_255 (by decide) ?_
              refine VV.weak (L' := [some (.ref (t)), some (.ref (A p)), none]) (LW.c1 (LW.c1 (LW.c0 LW.nil))) ?_
              refine exitB _ _ _ _ _ _ _ p _ ⟨y5, y6, y7, y8, y9, p26, vw_fr hv11 g28 rfl, vw_fr hv12 g28 rfl⟩ hT24 hw14 hp f27 (Or.inr ?_)
              exact ⟨x, e1, hx, by simp [stC]⟩
            · have hrp : R p = some x := (hw.2.2.2.2.2.2.1 x p hx hpx).2.resolve_left hlp
              cases hy : L p with
              | none =>
                refine V_aload_n (i := 1) F dJ10_fixAfterInsertion_5 rfl rfl ?_
                refine V_ifnull F dJ10_fixAfterInsertion_6 ?_
                refine V_aload_n (i := 1) F dJ10_fixAfterInsertion_9 rfl rfl ?_
                refine V_aload_n (i := 0) F dJ10_fixAfterInsertion_10 rfl rfl ?_
                refine V_getf F dJ10_fixAfterInsertion_11 fc_J10_101_J10 (.inl ht) rfl ?_
                refine V_acmp_eq (rx := some (A x)) (ry := (rt).map A) (tgt := 258) F dJ10_fixAfterInsertion_14 (by decide) (fun c_14 => absurd (map_eq hAI (fun j hj => (hw.2.2.2.2.2.2.2.1 j hj).1) hx c_14.symm) hroot) (fun c_14 => ?_)
                refine V_aload_n (i := 1) F dJ10_fixAfterInsertion_17 rfl rfl ?_
                refine V_getf F dJ10_fixAfterInsertion_18 fc_J10_124_J41 (.inl (hT x hx)) rfl ?_
                refine VV.stk (st' := [.ref (A p)]) (by first | (rw [hpx]; rfl) | rw [hpx]) ?_
                refine V_getf F dJ10_fixAfterInsertion_21 fc_J10_290_J41 (.inl (hT p hp)) rfl ?_
                refine V_if_neC (c := C p) (tgt := 258) F dJ10_fixAfterInsertion_24 (by decide) (fun c_24 => absurd (c_24.symm.trans hcp) (by decide)) (fun c_24 => ?_)
                refine V_aload_n (i := 1) F dJ10_fixAfterInsertion_27 rfl rfl ?_
                refine V_callS (st := []) F dJ10_fixAfterInsertion_28 lk_J10_294 (ct_parentOf (o := some x) hT (fun _ z => Option.some.inj z ▸ hx)) rfl rfl (Nat.le_of_ble_eq_true rfl) (Nat.le_of_ble_eq_true rfl) (Nat.le_of_ble_eq_true rfl) (by first | exact Nat.le_of_ble_eq_true rfl | omega) (by first | exact Nat.le_of_ble_eq_true rfl | omega) ?_
                refine PRk ?_
                refine VV.stk (st' := [.ref (A p)]) (by first | rfl | (rw [show Option.bind (some x) P = _ from hpx]; rfl) | rw [show Option.bind (some x) P = _ from hpx]) ?_
                refine V_aload_n (i := 1) F dJ10_fixAfterInsertion_31 rfl rfl ?_
                refine V_callS (st := [.ref (A p)]) F dJ10_fixAfterInsertion_32 lk_J10_294 (ct_parentOf (o := some x) hT (fun _ z => Option.some.inj z ▸ hx)) rfl rfl (Nat.le_of_ble_eq_true rfl) (Nat.le_of_ble_eq_true rfl) (Nat.le_of_ble_eq_true rfl) (by first | exact Nat.le_of_ble_eq_true rfl | omega) (by first | exact Nat.le_of_ble_eq_true rfl | omega) ?_
                refine PRk ?_
                refine VV.stk (st' := [.ref (A p), .ref (A p)]) (by first | rfl | (rw [show Option.bind (some x) P = _ from hpx]; rfl) | rw [show Option.bind (some x) P = _ from hpx]) ?_
                refine V_callS (st := [.ref (A p)]) F dJ10_fixAfterInsertion_35 lk_J10_294 (ct_parentOf (o := some p) hT (fun _ z => Option.some.inj z ▸ hp)) rfl rfl (Nat.le_of_ble_eq_true rfl) (Nat.le_of_ble_eq_true rfl) (Nat.le_of_ble_eq_true rfl) (by first | exact Nat.le_of_ble_eq_true rfl | omega) (by first | exact Nat.le_of_ble_eq_true rfl | omega) ?_
                refine PRk ?_
                refine VV.stk (st' := [.null, .ref (A p)]) (by first | rfl | (rw [show Option.bind (some p) P = _ from hgp]; rfl) | rw [show Option.bind (some p) P = _ from hgp]) ?_
                refine V_callS (st := [.ref (A p)]) F dJ10_fixAfterInsertion_38 lk_J10_297 (ct_leftOf (o := none) hT (fun _ z => nomatch z)) rfl rfl (Nat.le_of_ble_eq_true rfl) (Nat.le_of_ble_eq_true rfl) (Nat.le_of_ble_eq_true rfl) (by first | exact Nat.le_of_ble_eq_true rfl | omega) (by first | exact Nat.le_of_ble_eq_true rfl | omega) ?_
                refine PRk ?_
                refine VV.stk (st' := [.null, .ref (A p)]) rfl ?_
                refine V_acmp_ne (rx := some (A p)) (ry := none) (tgt := 151) F dJ10_fixAfterInsertion_41 (by decide) (fun c_41 => ?_) (fun c_41 => nomatch c_41)
                refine V_aload_n (i := 1) F dJ10_fixAfterInsertion_151 rfl rfl ?_
                refine V_callS (st := []) F dJ10_fixAfterInsertion_152 lk_J10_294 (ct_parentOf (o := some x) hT (fun _ z => Option.some.inj z ▸ hx)) rfl rfl (Nat.le_of_ble_eq_true rfl) (Nat.le_of_ble_eq_true rfl) (Nat.le_of_ble_eq_true rfl) (by first | exact Nat.le_of_ble_eq_true rfl | omega) (by first | exact Nat.le_of_ble_eq_true rfl | omega) ?_
                refine PRk ?_
                refine VV.stk (st' := [.ref (A p)]) (by first | rfl | (rw [show Option.bind (some x) P = _ from hpx]; rfl) | rw [show Option.bind (some x) P = _ from hpx]) ?_
                refine V_callS (st := []) F dJ10_fixAfterInsertion_155 lk_J10_294 (ct_parentOf (o := some p) hT (fun _ z => Option.some.inj z ▸ hp)) rfl rfl (Nat.le_of_ble_eq_true rfl) (Nat.le_of_ble_eq_true rfl) (Nat.le_of_ble_eq_true rfl) (by first | exact Nat.le_of_ble_eq_true rfl | omega) (by first | exact Nat.le_of_ble_eq_true rfl | omega) ?_
                refine PRk ?_
                refine VV.stk (st' := [.null]) (by first | rfl | (rw [show Option.bind (some p) P = _ from hgp]; rfl) | rw [show Option.bind (some p) P = _ from hgp]) ?_
                refine V_callS (st := []) F dJ10_fixAfterInsertion_158 lk_J10_297 (ct_leftOf (o := none) hT (fun _ z => nomatch z)) rfl rfl (Nat.le_of_ble_eq_true rfl) (Nat.le_of_ble_eq_true rfl) (Nat.le_of_ble_eq_true rfl) (by first | exact Nat.le_of_ble_eq_true rfl | omega) (by first | exact Nat.le_of_ble_eq_true rfl | omega) ?_
                refine PRk ?_
                refine VV.stk (st' := [.null]) rfl ?_
                refine V_astore_nN (i := 2) F dJ10_fixAfterInsertion_161 rfl (Nat.le_of_ble_eq_true rfl) (Nat.le_of_ble_eq_true rfl) ?_
                refine V_aload_nN (i := 2) F dJ10_fixAfterInsertion_162 rfl rfl ?_
                refine V_callS (st := []) F dJ10_fixAfterInsertion_163 lk_J10_303 (ct_colorOf (o := none) hT (fun _ z => nomatch z)) rfl rfl (Nat.le_of_ble_eq_true rfl) (Nat.le_of_ble_eq_true rfl) (Nat.le_of_ble_eq_true rfl) (by first | exact Nat.le_of_ble_eq_true rfl | omega) (by first | exact Nat.le_of_ble_eq_true rfl | omega) ?_
                refine PRk ?_
                refine VV.stk (st' := [.int (cB (true))]) rfl ?_
                refine V_if_neC (c := true) (tgt := 204) F dJ10_fixAfterInsertion_166 (by decide) (fun c_166 => ?_) (fun c_166 => nomatch c_166)
                refine V_aload_n (i := 1) F dJ10_fixAfterInsertion_204 rfl rfl ?_
                refine V_aload_n (i := 1) F dJ10_fixAfterInsertion_205 rfl rfl ?_
                refine V_callS (st := [.ref (A x)]) F dJ10_fixAfterInsertion_206 lk_J10_294 (ct_parentOf (o := some x) hT (fun _ z => Option.some.inj z ▸ hx)) rfl rfl (Nat.le_of_ble_eq_true rfl) (Nat.le_of_ble_eq_true rfl) (Nat.le_of_ble_eq_true rfl) (by first | exact Nat.le_of_ble_eq_true rfl | omega) (by first | exact Nat.le_of_ble_eq_true rfl | omega) ?_
                refine PRk ?_
                refine VV.stk (st' := [.ref (A p), .ref (A x)]) (by first | rfl | (rw [show Option.bind (some x) P = _ from hpx]; rfl) | rw [show Option.bind (some x) P = _ from hpx]) ?_
                refine V_callS (st := [.ref (A x)]) F dJ10_fixAfterInsertion_209 lk_J10_297 (ct_leftOf (o := some p) hT (fun _ z => Option.some.inj z ▸ hp)) rfl rfl (Nat.le_of_ble_eq_true rfl) (Nat.le_of_ble_eq_true rfl) (Nat.le_of_ble_eq_true rfl) (by first | exact Nat.le_of_ble_eq_true rfl | omega) (by first | exact Nat.le_of_ble_eq_true rfl | omega) ?_
                refine PRk ?_
                refine VV.stk (st' := [.null, .ref (A x)]) (by first | rfl | (rw [show Option.bind (some p) L = _ from hy]; rfl) | rw [show Option.bind (some p) L = _ from hy]) ?_
                refine V_acmp_ne (rx := some (A x)) (ry := none) (tgt := 225) F dJ10_fixAfterInsertion_212 (by decide) (fun c_212 => ?_) (fun c_212 => nomatch c_212)
                refine V_aload_n (i := 1) F dJ10_fixAfterInsertion_225 rfl rfl ?_
                refine V_callS (st := []) F dJ10_fixAfterInsertion_226 lk_J10_294 (ct_parentOf (o := some x) hT (fun _ z => Option.some.inj z ▸ hx)) rfl rfl (Nat.le_of_ble_eq_true rfl) (Nat.le_of_ble_eq_true rfl) (Nat.le_of_ble_eq_true rfl) (by first | exact Nat.le_of_ble_eq_true rfl | omega) (by first | exact Nat.le_of_ble_eq_true rfl | omega) ?_
                refine PRk ?_
                refine VV.stk (st' := [.ref (A p)]) (by first | rfl | (rw [show Option.bind (some x) P = _ from hpx]; rfl) | rw [show Option.bind (some x) P = _ from hpx]) ?_
                refine V_iconst (v := nI 1) F dJ10_fixAfterInsertion_229 rfl ?_
                refine V_callS (st := []) F dJ10_fixAfterInsertion_230 lk_J10_307 (ct_setColor (o := some p) (c := true) hT hAI (fun _ z => Option.some.inj z ▸ hp)) rfl rfl (Nat.le_of_ble_eq_true rfl) (Nat.le_of_ble_eq_true rfl) (Nat.le_of_ble_eq_true rfl) (by first | exact Nat.le_of_ble_eq_true rfl | omega) (by first | exact Nat.le_of_ble_eq_true rfl | omega) ?_
                rintro _ k1 ⟨rfl, hT3, hx2, hk4⟩
                have p5 := (hk4 t (fun i hi => ne_oo ht (hT i hi) (by decide))).trans ht
                have f6 := hF.cal hx2 (fun b q => Or.inl (Or.inr q))
                have g7 := (Fr.rf (M := fun _ => True) (h := hh)).cal hx2 (fun _ _ => Or.inl trivial)
                refine V_aload_n (i := 1) F dJ10_fixAfterInsertion_233 rfl rfl ?_
                refine V_callS (st := []) F dJ10_fixAfterInsertion_234 lk_J10_294 (ct_parentOf (o := some x) hT3 (fun _ z => Option.some.inj z ▸ hx)) rfl rfl (Nat.le_of_ble_eq_true rfl) (Nat.le_of_ble_eq_true rfl) (Nat.le_of_ble_eq_true rfl) (by first | exact Nat.le_of_ble_eq_true rfl | omega) (by first | exact Nat.le_of_ble_eq_true rfl | omega) ?_
                refine PRk ?_
                refine VV.stk (st' := [.ref (A p)]) (by first | rfl | (rw [show Option.bind (some x) P = _ from hpx]; rfl) | rw [show Option.bind (some x) P = _ from hpx]) ?_
                refine V_callS (st := []) F dJ10_fixAfterInsertion_237 lk_J10_294 (ct_parentOf (o := some p) hT3 (fun _ z => Option.some.inj z ▸ hp)) rfl rfl (Nat.le_of_ble_eq_true rfl) (Nat.le_of_ble_eq_true rfl) (Nat.le_of_ble_eq_true rfl) (by first | exact Nat.le_of_ble_eq_true rfl | omega) (by first | exact Nat.le_of_ble_eq_true rfl | omega) ?_
                refine PRk ?_
                refine VV.stk (st' := [.null]) (by first | rfl | (rw [show Option.bind (some p) P = _ from hgp]; rfl) | rw [show Option.bind (some p) P = _ from hgp]) ?_
                refine V_iconst (v := nI 0) F dJ10_fixAfterInsertion_240 rfl ?_
                refine V_callS (st := []) F dJ10_fixAfterInsertion_241 lk_J10_307 (ct_setColor (o := none) (c := false) hT3 hAI (fun _ z => nomatch z)) rfl rfl (Nat.le_of_ble_eq_true rfl) (Nat.le_of_ble_eq_true rfl) (Nat.le_of_ble_eq_true rfl) (by first | exact Nat.le_of_ble_eq_true rfl | omega) (by first | exact Nat.le_of_ble_eq_true rfl | omega) ?_
                rintro _ k8 ⟨rfl, hT10, hx9, hk11⟩
                have p12 := (hk11 t (fun i hi => ne_oo p5 (hT3 i hi) (by decide))).trans p5
                have f13 := f6.cal hx9 (fun b q => Or.inl (Or.inr q))
                have g14 := g7.cal hx9 (fun _ _ => Or.inl trivial)
                refine V_aload_n (i := 0) F dJ10_fixAfterInsertion_244 rfl rfl ?_
                refine V_aload_n (i := 1) F dJ10_fixAfterInsertion_245 rfl rfl ?_
                refine V_callS (st := [.ref (t)]) F dJ10_fixAfterInsertion_246 lk_J10_294 (ct_parentOf (o := some x) hT10 (fun _ z => Option.some.inj z ▸ hx)) rfl rfl (Nat.le_of_ble_eq_true rfl) (Nat.le_of_ble_eq_true rfl) (Nat.le_of_ble_eq_true rfl) (by first | exact Nat.le_of_ble_eq_true rfl | omega) (by first | exact Nat.le_of_ble_eq_true rfl | omega) ?_
                refine PRk ?_
                refine VV.stk (st' := [.ref (A p), .ref (t)]) (by first | rfl | (rw [show Option.bind (some x) P = _ from hpx]; rfl) | rw [show Option.bind (some x) P = _ from hpx]) ?_
                refine V_callS (st := [.ref (t)]) F dJ10_fixAfterInsertion_249 lk_J10_294 (ct_parentOf (o := some p) hT10 (fun _ z => Option.some.inj z ▸ hp)) rfl rfl (Nat.le_of_ble_eq_true rfl) (Nat.le_of_ble_eq_true rfl) (Nat.le_of_ble_eq_true rfl) (by first | exact Nat.le_of_ble_eq_true rfl | omega) (by first | exact Nat.le_of_ble_eq_true rfl | omega) ?_
                refine PRk ?_
                refine VV.stk (st' := [.null, .ref (t)]) (by first | rfl | (rw [show Option.bind (some p) P = _ from hgp]; rfl) | rw [show Option.bind (some p) P = _ from hgp]) ?_
                refine V_callV (st := []) F dJ10_fixAfterInsertion_252 lk_J10_311 (ct_rotateLeft0) ⟨23, _, _, _, rfl, (.inl p12)⟩ rfl rfl (Nat.le_of_ble_eq_true rfl) (Nat.le_of_ble_eq_true rfl) (Nat.le_of_ble_eq_true rfl) (by first | exact Nat.le_of_ble_eq_true rfl | omega) (by first | exact Nat.le_of_ble_eq_true rfl | omega) ?_
                refine PVk ?_
                refine V_goto (tgt := 5) F dJ10_fixAfterInsertion_255 (by decide) ?_
                refine VV.weak (L' := [some (.ref (t)), some (.ref (A x)), none]) (LW.c1 (LW.c1 (LW.c0 LW.nil))) ?_
                refine exitB _ _ _ _ _ _ _ x _ ⟨x0, x1, x6, x7, x8, p12, vw_fr hv1 g14 rfl, vw_fr hv7 g14 rfl⟩ hT10 hw hx f13 (Or.inr ?_)
                exact ⟨p, hpx, hp, by simp [stC]⟩
              | some y =>
                have hyn : y < n := hw.bL hp hy
                have hyx : y ≠ x := fun z => hlp (by rw [hy, z])
                refine V_aload_n (i := 1) F dJ10_fixAfterInsertion_5 rfl rfl ?_
                refine V_ifnull F dJ10_fixAfterInsertion_6 ?_
                refine V_aload_n (i := 1) F dJ10_fixAfterInsertion_9 rfl rfl ?_
                refine V_aload_n (i := 0) F dJ10_fixAfterInsertion_10 rfl rfl ?_
                refine V_getf F dJ10_fixAfterInsertion_11 fc_J10_101_J10 (.inl ht) rfl ?_
                refine V_acmp_eq (rx := some (A x)) (ry := (rt).map A) (tgt := 258) F dJ10_fixAfterInsertion_14 (by decide) (fun c_14 => absurd (map_eq hAI (fun j hj => (hw.2.2.2.2.2.2.2.1 j hj).1) hx c_14.symm) hroot) (fun c_14 => ?_)
                refine V_aload_n (i := 1) F dJ10_fixAfterInsertion_17 rfl rfl ?_
                refine V_getf F dJ10_fixAfterInsertion_18 fc_J10_124_J41 (.inl (hT x hx)) rfl ?_
                refine VV.stk (st' := [.ref (A p)]) (by first | (rw [hpx]; rfl) | rw [hpx]) ?_
                refine V_getf F dJ10_fixAfterInsertion_21 fc_J10_290_J41 (.inl (hT p hp)) rfl ?_
                refine V_if_neC (c := C p) (tgt := 258) F dJ10_fixAfterInsertion_24 (by decide) (fun c_24 => absurd (c_24.symm.trans hcp) (by decide)) (fun c_24 => ?_)
                refine V_aload_n (i := 1) F dJ10_fixAfterInsertion_27 rfl rfl ?_
                refine V_callS (st := []) F dJ10_fixAfterInsertion_28 lk_J10_294 (ct_parentOf (o := some x) hT (fun _ z => Option.some.inj z ▸ hx)) rfl rfl (Nat.le_of_ble_eq_true rfl) (Nat.le_of_ble_eq_true rfl) (Nat.le_of_ble_eq_true rfl) (by first | exact Nat.le_of_ble_eq_true rfl | omega) (by first | exact Nat.le_of_ble_eq_true rfl | omega) ?_
                refine PRk ?_
                refine VV.stk (st' := [.ref (A p)]) (by first | rfl | (rw [show Option.bind (some x) P = _ from hpx]; rfl) | rw [show Option.bind (some x) P = _ from hpx]) ?_
                refine V_aload_n (i := 1) F dJ10_fixAfterInsertion_31 rfl rfl ?_
                refine V_callS (st := [.ref (A p)]) F dJ10_fixAfterInsertion_32 lk_J10_294 (ct_parentOf (o := some x) hT (fun _ z => Option.some.inj z ▸ hx)) rfl rfl (Nat.le_of_ble_eq_true rfl) (Nat.le_of_ble_eq_true rfl) (Nat.le_of_ble_eq_true rfl) (by first | exact Nat.le_of_ble_eq_true rfl | omega) (by first | exact Nat.le_of_ble_eq_true rfl | omega) ?_
                refine PRk ?_
                refine VV.stk (st' := [.ref (A p), .ref (A p)]) (by first | rfl | (rw [show Option.bind (some x) P = _ from hpx]; rfl) | rw [show Option.bind (some x) P = _ from hpx]) ?_
                refine V_callS (st := [.ref (A p)]) F dJ10_fixAfterInsertion_35 lk_J10_294 (ct_parentOf (o := some p) hT (fun _ z => Option.some.inj z ▸ hp)) rfl rfl (Nat.le_of_ble_eq_true rfl) (Nat.le_of_ble_eq_true rfl) (Nat.le_of_ble_eq_true rfl) (by first | exact Nat.le_of_ble_eq_true rfl | omega) (by first | exact Nat.le_of_ble_eq_true rfl | omega) ?_
                refine PRk ?_
                refine VV.stk (st' := [.null, .ref (A p)]) (by first | rfl | (rw [show Option.bind (some p) P = _ from hgp]; rfl) | rw [show Option.bind (some p) P = _ from hgp]) ?_
                refine V_callS (st := [.ref (A p)]) F dJ10_fixAfterInsertion_38 lk_J10_297 (ct_leftOf (o := none) hT (fun _ z => nomatch z)) rfl rfl (Nat.le_of_ble_eq_true rfl) (Nat.le_of_ble_eq_true rfl) (Nat.le_of_ble_eq_true rfl) (by first | exact Nat.le_of_ble_eq_true rfl | omega) (by first | exact Nat.le_of_ble_eq_true rfl | omega) ?_
                refine PRk ?_
                refine VV.stk (st' := [.null, .ref (A p)]) rfl ?_
                refine V_acmp_ne (rx := some (A p)) (ry := none) (tgt := 151) F dJ10_fixAfterInsertion_41 (by decide) (fun c_41 => ?_) (fun c_41 => nomatch c_41)
                refine V_aload_n (i := 1) F dJ10_fixAfterInsertion_151 rfl rfl ?_
                refine V_callS (st := []) F dJ10_fixAfterInsertion_152 lk_J10_294 (ct_parentOf (o := some x) hT (fun _ z => Option.some.inj z ▸ hx)) rfl rfl (Nat.le_of_ble_eq_true rfl) (Nat.le_of_ble_eq_true rfl) (Nat.le_of_ble_eq_true rfl) (by first | exact Nat.le_of_ble_eq_true rfl | omega) (by first | exact Nat.le_of_ble_eq_true rfl | omega) ?_
                refine PRk ?_
                refine VV.stk (st' := [.ref (A p)]) (by first | rfl | (rw [show Option.bind (some x) P = _ from hpx]; rfl) | rw [show Option.bind (some x) P = _ from hpx]) ?_
                refine V_callS (st := []) F dJ10_fixAfterInsertion_155 lk_J10_294 (ct_parentOf (o := some p) hT (fun _ z => Option.some.inj z ▸ hp)) rfl rfl (Nat.le_of_ble_eq_true rfl) (Nat.le_of_ble_eq_true rfl) (Nat.le_of_ble_eq_true rfl) (by first | exact Nat.le_of_ble_eq_true rfl | omega) (by first | exact Nat.le_of_ble_eq_true rfl | omega) ?_
                refine PRk ?_
                refine VV.stk (st' := [.null]) (by first | rfl | (rw [show Option.bind (some p) P = _ from hgp]; rfl) | rw [show Option.bind (some p) P = _ from hgp]) ?_
                refine V_callS (st := []) F dJ10_fixAfterInsertion_158 lk_J10_297 (ct_leftOf (o := none) hT (fun _ z => nomatch z)) rfl rfl (Nat.le_of_ble_eq_true rfl) (Nat.le_of_ble_eq_true rfl) (Nat.le_of_ble_eq_true rfl) (by first | exact Nat.le_of_ble_eq_true rfl | omega) (by first | exact Nat.le_of_ble_eq_true rfl | omega) ?_
                refine PRk ?_
                refine VV.stk (st' := [.null]) rfl ?_
                refine V_astore_nN (i := 2) F dJ10_fixAfterInsertion_161 rfl (Nat.le_of_ble_eq_true rfl) (Nat.le_of_ble_eq_true rfl) ?_
                refine V_aload_nN (i := 2) F dJ10_fixAfterInsertion_162 rfl rfl ?_
                refine V_callS (st := []) F dJ10_fixAfterInsertion_163 lk_J10_303 (ct_colorOf (o := none) hT (fun _ z => nomatch z)) rfl rfl (Nat.le_of_ble_eq_true rfl) (Nat.le_of_ble_eq_true rfl) (Nat.le_of_ble_eq_true rfl) (by first | exact Nat.le_of_ble_eq_true rfl | omega) (by first | exact Nat.le_of_ble_eq_true rfl | omega) ?_
                refine PRk ?_
                refine VV.stk (st' := [.int (cB (true))]) rfl ?_
                refine V_if_neC (c := true) (tgt := 204) F dJ10_fixAfterInsertion_166 (by decide) (fun c_166 => ?_) (fun c_166 => nomatch c_166)
                refine V_aload_n (i := 1) F dJ10_fixAfterInsertion_204 rfl rfl ?_
                refine V_aload_n (i := 1) F dJ10_fixAfterInsertion_205 rfl rfl ?_
                refine V_callS (st := [.ref (A x)]) F dJ10_fixAfterInsertion_206 lk_J10_294 (ct_parentOf (o := some x) hT (fun _ z => Option.some.inj z ▸ hx)) rfl rfl (Nat.le_of_ble_eq_true rfl) (Nat.le_of_ble_eq_true rfl) (Nat.le_of_ble_eq_true rfl) (by first | exact Nat.le_of_ble_eq_true rfl | omega) (by first | exact Nat.le_of_ble_eq_true rfl | omega) ?_
                refine PRk ?_
                refine VV.stk (st' := [.ref (A p), .ref (A x)]) (by first | rfl | (rw [show Option.bind (some x) P = _ from hpx]; rfl) | rw [show Option.bind (some x) P = _ from hpx]) ?_
                refine V_callS (st := [.ref (A x)]) F dJ10_fixAfterInsertion_209 lk_J10_297 (ct_leftOf (o := some p) hT (fun _ z => Option.some.inj z ▸ hp)) rfl rfl (Nat.le_of_ble_eq_true rfl) (Nat.le_of_ble_eq_true rfl) (Nat.le_of_ble_eq_true rfl) (by first | exact Nat.le_of_ble_eq_true rfl | omega) (by first | exact Nat.le_of_ble_eq_true rfl | omega) ?_
                refine PRk ?_
                refine VV.stk (st' := [.ref (A y), .ref (A x)]) (by first | rfl | (rw [show Option.bind (some p) L = _ from hy]; rfl) | rw [show Option.bind (some p) L = _ from hy]) ?_
                refine V_acmp_ne (rx := some (A x)) (ry := some (A y)) (tgt := 225) F dJ10_fixAfterInsertion_212 (by decide) (fun c_212 => ?_) (fun c_212 => absurd (hAI _ _ hx hyn (Option.some.inj c_212)) (Ne.symm hyx))
                refine V_aload_n (i := 1) F dJ10_fixAfterInsertion_225 rfl rfl ?_
                refine V_callS (st := []) F dJ10_fixAfterInsertion_226 lk_J10_294 (ct_parentOf (o := some x) hT (fun _ z => Option.some.inj z ▸ hx)) rfl rfl (Nat.le_of_ble_eq_true rfl) (Nat.le_of_ble_eq_true rfl) (Nat.le_of_ble_eq_true rfl) (by first | exact Nat.le_of_ble_eq_true rfl | omega) (by first | exact Nat.le_of_ble_eq_true rfl | omega) ?_
                refine PRk ?_
                refine VV.stk (st' := [.ref (A p)]) (by first | rfl | (rw [show Option.bind (some x) P = _ from hpx]; rfl) | rw [show Option.bind (some x) P = _ from hpx]) ?_
                refine V_iconst (v := nI 1) F dJ10_fixAfterInsertion_229 rfl ?_
                refine V_callS (st := []) F dJ10_fixAfterInsertion_230 lk_J10_307 (ct_setColor (o := some p) (c := true) hT hAI (fun _ z => Option.some.inj z ▸ hp)) rfl rfl (Nat.le_of_ble_eq_true rfl) (Nat.le_of_ble_eq_true rfl) (Nat.le_of_ble_eq_true rfl) (by first | exact Nat.le_of_ble_eq_true rfl | omega) (by first | exact Nat.le_of_ble_eq_true rfl | omega) ?_
                rintro _ k1 ⟨rfl, hT3, hx2, hk4⟩
                have p5 := (hk4 t (fun i hi => ne_oo ht (hT i hi) (by decide))).trans ht
                have f6 := hF.cal hx2 (fun b q => Or.inl (Or.inr q))
                have g7 := (Fr.rf (M := fun _ => True) (h := hh)).cal hx2 (fun _ _ => Or.inl trivial)
                refine V_aload_n (i := 1) F dJ10_fixAfterInsertion_233 rfl rfl ?_
                refine V_callS (st := []) F dJ10_fixAfterInsertion_234 lk_J10_294 (ct_parentOf (o := some x) hT3 (fun _ z => Option.some.inj z ▸ hx)) rfl rfl (Nat.le_of_ble_eq_true rfl) (Nat.le_of_ble_eq_true rfl) (Nat.le_of_ble_eq_true rfl) (by first | exact Nat.le_of_ble_eq_true rfl | omega) (by first | exact Nat.le_of_ble_eq_true rfl | omega) ?_
                refine PRk ?_
                refine VV.stk (st' := [.ref (A p)]) (by first | rfl | (rw [show Option.bind (some x) P = _ from hpx]; rfl) | rw [show Option.bind (some x) P = _ from hpx]) ?_
                refine V_callS (st := []) F dJ10_fixAfterInsertion_237 lk_J10_294 (ct_parentOf (o := some p) hT3 (fun _ z => Option.some.inj z ▸ hp)) rfl rfl (Nat.le_of_ble_eq_true rfl) (Nat.le_of_ble_eq_true rfl) (Nat.le_of_ble_eq_true rfl) (by first | exact Nat.le_of_ble_eq_true rfl | omega) (by first | exact Nat.le_of_ble_eq_true rfl | omega) ?_
                refine PRk ?_
                refine VV.stk (st' := [.null]) (by first | rfl | (rw [show Option.bind (some p) P = _ from hgp]; rfl) | rw [show Option.bind (some p) P = _ from hgp]) ?_
                refine V_iconst (v := nI 0) F dJ10_fixAfterInsertion_240 rfl ?_
                refine V_callS (st := []) F dJ10_fixAfterInsertion_241 lk_J10_307 (ct_setColor (o := none) (c := false) hT3 hAI (fun _ z => nomatch z)) rfl rfl (Nat.le_of_ble_eq_true rfl) (Nat.le_of_ble_eq_true rfl) (Nat.le_of_ble_eq_true rfl) (by first | exact Nat.le_of_ble_eq_true rfl | omega) (by first | exact Nat.le_of_ble_eq_true rfl | omega) ?_
                rintro _ k8 ⟨rfl, hT10, hx9, hk11⟩
                have p12 := (hk11 t (fun i hi => ne_oo p5 (hT3 i hi) (by decide))).trans p5
                have f13 := f6.cal hx9 (fun b q => Or.inl (Or.inr q))
                have g14 := g7.cal hx9 (fun _ _ => Or.inl trivial)
                refine V_aload_n (i := 0) F dJ10_fixAfterInsertion_244 rfl rfl ?_
                refine V_aload_n (i := 1) F dJ10_fixAfterInsertion_245 rfl rfl ?_
                refine V_callS (st := [.ref (t)]) F dJ10_fixAfterInsertion_246 lk_J10_294 (ct_parentOf (o := some x) hT10 (fun _ z => Option.some.inj z ▸ hx)) rfl rfl (Nat.le_of_ble_eq_true rfl) (Nat.le_of_ble_eq_true rfl) (Nat.le_of_ble_eq_true rfl) (by first | exact Nat.le_of_ble_eq_true rfl | omega) (by first | exact Nat.le_of_ble_eq_true rfl | omega) ?_
                refine PRk ?_
                refine VV.stk (st' := [.ref (A p), .ref (t)]) (by first | rfl | (rw [show Option.bind (some x) P = _ from hpx]; rfl) | rw [show Option.bind (some x) P = _ from hpx]) ?_
                refine V_callS (st := [.ref (t)]) F dJ10_fixAfterInsertion_249 lk_J10_294 (ct_parentOf (o := some p) hT10 (fun _ z => Option.some.inj z ▸ hp)) rfl rfl (Nat.le_of_ble_eq_true rfl) (Nat.le_of_ble_eq_true rfl) (Nat.le_of_ble_eq_true rfl) (by first | exact Nat.le_of_ble_eq_true rfl | omega) (by first | exact Nat.le_of_ble_eq_true rfl | omega) ?_
                refine PRk ?_
                refine VV.stk (st' := [.null, .ref (t)]) (by first | rfl | (rw [show Option.bind (some p) P = _ from hgp]; rfl) | rw [show Option.bind (some p) P = _ from hgp]) ?_
                refine V_callV (st := []) F dJ10_fixAfterInsertion_252 lk_J10_311 (ct_rotateLeft0) ⟨23, _, _, _, rfl, (.inl p12)⟩ rfl rfl (Nat.le_of_ble_eq_true rfl) (Nat.le_of_ble_eq_true rfl) (Nat.le_of_ble_eq_true rfl) (by first | exact Nat.le_of_ble_eq_true rfl | omega) (by first | exact Nat.le_of_ble_eq_true rfl | omega) ?_
                refine PVk ?_
                refine V_goto (tgt := 5) F dJ10_fixAfterInsertion_255 (by decide) ?_
                refine VV.weak (L' := [some (.ref (t)), some (.ref (A x)), none]) (LW.c1 (LW.c1 (LW.c0 LW.nil))) ?_
                refine exitB _ _ _ _ _ _ _ x _ ⟨x0, x1, x6, x7, x8, p12, vw_fr hv1 g14 rfl, vw_fr hv7 g14 rfl⟩ hT10 hw hx f13 (Or.inr ?_)
                exact ⟨p, hpx, hp, by simp [stC]⟩
          | some g =>
            have hg : g < n := hw.bP hp hgp
            have hpg := hw.Pne hp hgp
            have hxg : x ≠ g := by have := hw.Pin hp hgp; omega
            by_cases hlg : L g = some p
            · cases hu : R g with
              | none =>
                by_cases hin : R p = some x
                · refine V_aload_n (i := 1) F dJ10_fixAfterInsertion_5 rfl rfl ?_
                  refine V_ifnull F dJ10_fixAfterInsertion_6 ?_
                  refine V_aload_n (i := 1) F dJ10_fixAfterInsertion_9 rfl rfl ?_
                  refine V_aload_n (i := 0) F dJ10_fixAfterInsertion_10 rfl rfl ?_
                  refine V_getf F dJ10_fixAfterInsertion_11 fc_J10_101_J10 (.inl ht) rfl ?_
                  refine V_acmp_eq (rx := some (A x)) (ry := (rt).map A) (tgt := 258) F dJ10_fixAfterInsertion_14 (by decide) (fun c_14 => absurd (map_eq hAI (fun j hj => (hw.2.2.2.2.2.2.2.1 j hj).1) hx c_14.symm) hroot) (fun c_14 => ?_)
                  refine V_aload_n (i := 1) F dJ10_fixAfterInsertion_17 rfl rfl ?_
                  refine V_getf F dJ10_fixAfterInsertion_18 fc_J10_124_J41 (.inl (hT x hx)) rfl ?_
                  refine VV.stk (st' := [.ref (A p)]) (by first | (rw [hpx]; rfl) | rw [hpx]) ?_
                  refine V_getf F dJ10_fixAfterInsertion_21 fc_J10_290_J41 (.inl (hT p hp)) rfl ?_
                  refine V_if_neC (c := C p) (tgt := 258) F dJ10_fixAfterInsertion_24 (by decide) (fun c_24 => absurd (c_24.symm.trans hcp) (by decide)) (fun c_24 => ?_)
                  refine V_aload_n (i := 1) F dJ10_fixAfterInsertion_27 rfl rfl ?_
                  refine V_callS (st := []) F dJ10_fixAfterInsertion_28 lk_J10_294 (ct_parentOf (o := some x) hT (fun _ z => Option.some.inj z ▸ hx)) rfl rfl (Nat.le_of_ble_eq_true rfl) (Nat.le_of_ble_eq_true rfl) (Nat.le_of_ble_eq_true rfl) (by first | exact Nat.le_of_ble_eq_true rfl | omega) (by first | exact Nat.le_of_ble_eq_true rfl | omega) ?_
                  refine PRk ?_
                  refine VV.stk (st' := [.ref (A p)]) (by first | rfl | (rw [show Option.bind (some x) P = _ from hpx]; rfl) | rw [show Option.bind (some x) P = _ from hpx]) ?_
                  refine V_aload_n (i := 1) F dJ10_fixAfterInsertion_31 rfl rfl ?_
                  refine V_callS (st := [.ref (A p)]) F dJ10_fixAfterInsertion_32 lk_J10_294 (ct_parentOf (o := some x) hT (fun _ z => Option.some.inj z ▸ hx)) rfl rfl (Nat.le_of_ble_eq_true rfl) (Nat.le_of_ble_eq_true rfl) (Nat.le_of_ble_eq_true rfl) (by first | exact Nat.le_of_ble_eq_true rfl | omega) (by first | exact Nat.le_of_ble_eq_true rfl | omega) ?_
                  refine PRk ?_
                  refine VV.stk (st' := [.ref (A p), .ref (A p)]) (by first | rfl | (rw [show Option.bind (some x) P = _ from hpx]; rfl) | rw [show Option.bind (some x) P = _ from hpx]) ?_
                  refine V_callS (st := [.ref (A p)]) F dJ10_fixAfterInsertion_35 lk_J10_294 (ct_parentOf (o := some p) hT (fun _ z => Option.some.inj z ▸ hp)) rfl rfl (Nat.le_of_ble_eq_true rfl) (Nat.le_of_ble_eq_true rfl) (Nat.le_of_ble_eq_true rfl) (by first | exact Nat.le_of_ble_eq_true rfl | omega) (by first | exact Nat.le_of_ble_eq_true rfl | omega) ?_
                  refine PRk ?_
                  refine VV.stk (st' := [.ref (A g), .ref (A p)]) (by first | rfl | (rw [show Option.bind (some p) P = _ from hgp]; rfl) | rw [show Option.bind (some p) P = _ from hgp]) ?_
                  refine V_callS (st := [.ref (A p)]) F dJ10_fixAfterInsertion_38 lk_J10_297 (ct_leftOf (o := some g) hT (fun _ z => Option.some.inj z ▸ hg)) rfl rfl (Nat.le_of_ble_eq_true rfl) (Nat.le_of_ble_eq_true rfl) (Nat.le_of_ble_eq_true rfl) (by first | exact Nat.le_of_ble_eq_true rfl | omega) (by first | exact Nat.le_of_ble_eq_true rfl | omega) ?_
                  refine PRk ?_
                  refine VV.stk (st' := [.ref (A p), .ref (A p)]) (by first | rfl | (rw [show Option.bind (some g) L = _ from hlg]; rfl) | rw [show Option.bind (some g) L = _ from hlg]) ?_
                  refine V_acmp_ne (rx := some (A p)) (ry := some (A p)) (tgt := 151) F dJ10_fixAfterInsertion_41 (by decide) (fun c_41 => absurd rfl c_41) (fun c_41 => ?_)
                  refine V_aload_n (i := 1) F dJ10_fixAfterInsertion_44 rfl rfl ?_
                  refine V_callS (st := []) F dJ10_fixAfterInsertion_45 lk_J10_294 (ct_parentOf (o := some x) hT (fun _ z => Option.some.inj z ▸ hx)) rfl rfl (Nat.le_of_ble_eq_true rfl) (Nat.le_of_ble_eq_true rfl) (Nat.le_of_ble_eq_true rfl) (by first | exact Nat.le_of_ble_eq_true rfl | omega) (by first | exact Nat.le_of_ble_eq_true rfl | omega) ?_
                  refine PRk ?_
                  refine VV.stk (st' := [.ref (A p)]) (by first | rfl | (rw [show Option.bind (some x) P = _ from hpx]; rfl) | rw [show Option.bind (some x) P = _ from hpx]) ?_
                  refine V_callS (st := []) F dJ10_fixAfterInsertion_48 lk_J10_294 (ct_parentOf (o := some p) hT (fun _ z => Option.some.inj z ▸ hp)) rfl rfl (Nat.le_of_ble_eq_true rfl) (Nat.le_of_ble_eq_true rfl) (Nat.le_of_ble_eq_true rfl) (by first | exact Nat.le_of_ble_eq_true rfl | omega) (by first | exact Nat.le_of_ble_eq_true rfl | omega) ?_
                  refine PRk ?_
                  refine VV.stk (st' := [.ref (A g)]) (by first | rfl | (rw [show Option.bind (some p) P = _ from hgp]; rfl) | rw [show Option.bind (some p) P = _ from hgp]) ?_
                  refine V_callS (st := []) F dJ10_fixAfterInsertion_51 lk_J10_300 (ct_rightOf (o := some g) hT (fun _ z => Option.some.inj z ▸ hg)) rfl rfl (Nat.le_of_ble_eq_true rfl) (Nat.le_of_ble_eq_true rfl) (Nat.le_of_ble_eq_true rfl) (by first | exact Nat.le_of_ble_eq_true rfl | omega) (by first | exact Nat.le_of_ble_eq_true rfl | omega) ?_
                  refine PRk ?_
                  refine VV.stk (st' := [.null]) (by first | rfl | (rw [show Option.bind (some g) R = _ from hu]; rfl) | rw [show Option.bind (some g) R = _ from hu]) ?_
                  refine V_astore_nN (i := 2) F dJ10_fixAfterInsertion_54 rfl (Nat.le_of_ble_eq_true rfl) (Nat.le_of_ble_eq_true rfl) ?_
                  refine V_aload_nN (i := 2) F dJ10_fixAfterInsertion_55 rfl rfl ?_
                  refine V_callS (st := []) F dJ10_fixAfterInsertion_56 lk_J10_303 (ct_colorOf (o := none) hT (fun _ z => nomatch z)) rfl rfl (Nat.le_of_ble_eq_true rfl) (Nat.le_of_ble_eq_true rfl) (Nat.le_of_ble_eq_true rfl) (by first | exact Nat.le_of_ble_eq_true rfl | omega) (by first | exact Nat.le_of_ble_eq_true rfl | omega) ?_
                  refine PRk ?_
                  refine VV.stk (st' := [.int (cB (true))]) rfl ?_
                  refine V_if_neC (c := true) (tgt := 97) F dJ10_fixAfterInsertion_59 (by decide) (fun c_59 => ?_) (fun c_59 => nomatch c_59)
                  refine V_aload_n (i := 1) F dJ10_fixAfterInsertion_97 rfl rfl ?_
                  refine V_aload_n (i := 1) F dJ10_fixAfterInsertion_98 rfl rfl ?_
                  refine V_callS (st := [.ref (A x)]) F dJ10_fixAfterInsertion_99 lk_J10_294 (ct_parentOf (o := some x) hT (fun _ z => Option.some.inj z ▸ hx)) rfl rfl (Nat.le_of_ble_eq_true rfl) (Nat.le_of_ble_eq_true rfl) (Nat.le_of_ble_eq_true rfl) (by first | exact Nat.le_of_ble_eq_true rfl | omega) (by first | exact Nat.le_of_ble_eq_true rfl | omega) ?_
                  refine PRk ?_
                  refine VV.stk (st' := [.ref (A p), .ref (A x)]) (by first | rfl | (rw [show Option.bind (some x) P = _ from hpx]; rfl) | rw [show Option.bind (some x) P = _ from hpx]) ?_
                  refine V_callS (st := [.ref (A x)]) F dJ10_fixAfterInsertion_102 lk_J10_300 (ct_rightOf (o := some p) hT (fun _ z => Option.some.inj z ▸ hp)) rfl rfl (Nat.le_of_ble_eq_true rfl) (Nat.le_of_ble_eq_true rfl) (Nat.le_of_ble_eq_true rfl) (by first | exact Nat.le_of_ble_eq_true rfl | omega) (by first | exact Nat.le_of_ble_eq_true rfl | omega) ?_
                  refine PRk ?_
                  refine VV.stk (st' := [.ref (A x), .ref (A x)]) (by first | rfl | (rw [show Option.bind (some p) R = _ from hin]; rfl) | rw [show Option.bind (some p) R = _ from hin]) ?_
                  refine V_acmp_ne (rx := some (A x)) (ry := some (A x)) (tgt := 118) F dJ10_fixAfterInsertion_105 (by decide) (fun c_105 => absurd rfl c_105) (fun c_105 => ?_)
                  refine V_aload_n (i := 1) F dJ10_fixAfterInsertion_108 rfl rfl ?_
                  refine V_callS (st := []) F dJ10_fixAfterInsertion_109 lk_J10_294 (ct_parentOf (o := some x) hT (fun _ z => Option.some.inj z ▸ hx)) rfl rfl (Nat.le_of_ble_eq_true rfl) (Nat.le_of_ble_eq_true rfl) (Nat.le_of_ble_eq_true rfl) (by first | exact Nat.le_of_ble_eq_true rfl | omega) (by first | exact Nat.le_of_ble_eq_true rfl | omega) ?_
                  refine PRk ?_
                  refine VV.stk (st' := [.ref (A p)]) (by first | rfl | (rw [show Option.bind (some x) P = _ from hpx]; rfl) | rw [show Option.bind (some x) P = _ from hpx]) ?_
                  refine V_astore_n (i := 1) F dJ10_fixAfterInsertion_112 rfl (Nat.le_of_ble_eq_true rfl) (Nat.le_of_ble_eq_true rfl) ?_
                  refine V_aload_n (i := 0) F dJ10_fixAfterInsertion_113 rfl rfl ?_
                  refine V_aload_n (i := 1) F dJ10_fixAfterInsertion_114 rfl rfl ?_
                  refine V_callV (st := []) F dJ10_fixAfterInsertion_115 lk_J10_311 (ct_rotateLeft ⟨x0, x1, x6, x7, x8, ht, vw_fr hv1 (Fr.rf (M := fun _ => True) (h := hh)) rfl, vw_fr hv7 (Fr.rf (M := fun _ => True) (h := hh)) rfl⟩ hT hAI hw hp hin) ⟨23, _, _, _, rfl, (.inl ht)⟩ rfl rfl (Nat.le_of_ble_eq_true rfl) (Nat.le_of_ble_eq_true rfl) (Nat.le_of_ble_eq_true rfl) (by first | exact Nat.le_of_ble_eq_true rfl | omega) (by first | exact Nat.le_of_ble_eq_true rfl | omega) ?_
                  rintro _ k1 ⟨rfl, hC4, hT3, hx2⟩
                  obtain ⟨y5, y6, y7, y8, y9, ht10, hv11, hv12⟩ := hC4
                  have f13 : Fr (mT t n A) h k1 := hF.cal hx2 (fun b q => Or.inl q)
                  have hw14 := hw.rotL (L' := rlL L P p x) (R' := rlR L R P p x) (P' := rlP L P p x) (rt' := roR P rt p x) hp hin (fun _ => rfl) (fun _ => rfl) (fun _ => rfl) rfl
                  have e1 : (rlP L P p x) p = some x := by simp [rlP]
                  have e2 : (rlP L P p x) x = some g := by simp [rlP, hxp, hgp]
                  have e3 : (rlL L P p x) g = some x := by simp [rlL, Ne.symm hxg, Ne.symm hpg, hgp, hlg]
                  refine V_aload_n (i := 1) F dJ10_fixAfterInsertion_118 rfl rfl ?_
                  refine V_callS (st := []) F dJ10_fixAfterInsertion_119 lk_J10_294 (ct_parentOf (o := some p) hT3 (fun _ z => Option.some.inj z ▸ hp)) rfl rfl (Nat.le_of_ble_eq_true rfl) (Nat.le_of_ble_eq_true rfl) (Nat.le_of_ble_eq_true rfl) (by first | exact Nat.le_of_ble_eq_true rfl | omega) (by first | exact Nat.le_of_ble_eq_true rfl | omega) ?_
                  refine PRk ?_
                  refine VV.stk (st' := [.ref (A x)]) (by first | rfl | (rw [show Option.bind (some p) (rlP L P p x) = _ from e1]; rfl) | rw [show Option.bind (some p) (rlP L P p x) = _ from e1]) ?_
                  refine V_iconst (v := nI 1) F dJ10_fixAfterInsertion_122 rfl ?_
                  refine V_callS (st := []) F dJ10_fixAfterInsertion_123 lk_J10_307 (ct_setColor (o := some x) (c := true) hT3 hAI (fun _ z => Option.some.inj z ▸ hx)) rfl rfl (Nat.le_of_ble_eq_true rfl) (Nat.le_of_ble_eq_true rfl) (Nat.le_of_ble_eq_true rfl) (by first | exact Nat.le_of_ble_eq_true rfl | omega) (by first | exact Nat.le_of_ble_eq_true rfl | omega) ?_
                  rintro _ k15 ⟨rfl, hT17, hx16, hk18⟩
                  have p19 := (hk18 t (fun i hi => ne_oo ht10 (hT3 i hi) (by decide))).trans ht10
                  have f20 := f13.cal hx16 (fun b q => Or.inl (Or.inr q))
                  have g21 := (Fr.rf (M := fun _ => True) (h := k1)).cal hx16 (fun _ _ => Or.inl trivial)
                  refine V_aload_n (i := 1) F dJ10_fixAfterInsertion_126 rfl rfl ?_
                  refine V_callS (st := []) F dJ10_fixAfterInsertion_127 lk_J10_294 (ct_parentOf (o := some p) hT17 (fun _ z => Option.some.inj z ▸ hp)) rfl rfl (Nat.le_of_ble_eq_true rfl) (Nat.le_of_ble_eq_true rfl) (Nat.le_of_ble_eq_true rfl) (by first | exact Nat.le_of_ble_eq_true rfl | omega) (by first | exact Nat.le_of_ble_eq_true rfl | omega) ?_
                  refine PRk ?_
                  refine VV.stk (st' := [.ref (A x)]) (by first | rfl | (rw [show Option.bind (some p) (rlP L P p x) = _ from e1]; rfl) | rw [show Option.bind (some p) (rlP L P p x) = _ from e1]) ?_
                  refine V_callS (st := []) F dJ10_fixAfterInsertion_130 lk_J10_294 (ct_parentOf (o := some x) hT17 (fun _ z => Option.some.inj z ▸ hx)) rfl rfl (Nat.le_of_ble_eq_true rfl) (Nat.le_of_ble_eq_true rfl) (Nat.le_of_ble_eq_true rfl) (by first | exact Nat.le_of_ble_eq_true rfl | omega) (by first | exact Nat.le_of_ble_eq_true rfl | omega) ?_
                  refine PRk ?_
                  refine VV.stk (st' := [.ref (A g)]) (by first | rfl | (rw [show Option.bind (some x) (rlP L P p x) = _ from e2]; rfl) | rw [show Option.bind (some x) (rlP L P p x) = _ from e2]) ?_
                  refine V_iconst (v := nI 0) F dJ10_fixAfterInsertion_133 rfl ?_
                  refine V_callS (st := []) F dJ10_fixAfterInsertion_134 lk_J10_307 (ct_setColor (o := some g) (c := false) hT17 hAI (fun _ z => Option.some.inj z ▸ hg)) rfl rfl (Nat.le_of_ble_eq_true rfl) (Nat.le_of_ble_eq_true rfl) (Nat.le_of_ble_eq_true rfl) (by first | exact Nat.le_of_ble_eq_true rfl | omega) (by first | exact Nat.le_of_ble_eq_true rfl | omega) ?_
                  rintro _ k22 ⟨rfl, hT24, hx23, hk25⟩
                  have p26 := (hk25 t (fun i hi => ne_oo p19 (hT17 i hi) (by decide))).trans p19
                  have f27 := f20.cal hx23 (fun b q => Or.inl (Or.inr q))
                  have g28 := g21.cal hx23 (fun _ _ => Or.inl trivial)
                  refine V_aload_n (i := 0) F dJ10_fixAfterInsertion_137 rfl rfl ?_
                  refine V_aload_n (i := 1) F dJ10_fixAfterInsertion_138 rfl rfl ?_
                  refine V_callS (st := [.ref (t)]) F dJ10_fixAfterInsertion_139 lk_J10_294 (ct_parentOf (o := some p) hT24 (fun _ z => Option.some.inj z ▸ hp)) rfl rfl (Nat.le_of_ble_eq_true rfl) (Nat.le_of_ble_eq_true rfl) (Nat.le_of_ble_eq_true rfl) (by first | exact Nat.le_of_ble_eq_true rfl | omega) (by first | exact Nat.le_of_ble_eq_true rfl | omega) ?_
                  refine PRk ?_
                  refine VV.stk (st' := [.ref (A x), .ref (t)]) (by first | rfl | (rw [show Option.bind (some p) (rlP L P p x) = _ from e1]; rfl) | rw [show Option.bind (some p) (rlP L P p x) = _ from e1]) ?_
                  refine V_callS (st := [.ref (t)]) F dJ10_fixAfterInsertion_142 lk_J10_294 (ct_parentOf (o := some x) hT24 (fun _ z => Option.some.inj z ▸ hx)) rfl rfl (Nat.le_of_ble_eq_true rfl) (Nat.le_of_ble_eq_true rfl) (Nat.le_of_ble_eq_true rfl) (by first | exact Nat.le_of_ble_eq_true rfl | omega) (by first | exact Nat.le_of_ble_eq_true rfl | omega) ?_
                  refine PRk ?_
                  refine VV.stk (st' := [.ref (A g), .ref (t)]) (by first | rfl | (rw [show Option.bind (some x) (rlP L P p x) = _ from e2]; rfl) | rw [show Option.bind (some x) (rlP L P p x) = _ from e2]) ?_
                  refine V_callV (st := []) F dJ10_fixAfterInsertion_145 lk_J10_314 (ct_rotateRight ⟨y5, y6, y7, y8, y9, p26, vw_fr hv11 g28 rfl, vw_fr hv12 g28 rfl⟩ hT24 hAI hw14 hg e3) ⟨23, _, _, _, rfl, (.inl p26)⟩ rfl rfl (Nat.le_of_ble_eq_true rfl) (Nat.le_of_ble_eq_true rfl) (Nat.le_of_ble_eq_true rfl) (by first | exact Nat.le_of_ble_eq_true rfl | omega) (by first | exact Nat.le_of_ble_eq_true rfl | omega) ?_
                  rintro _ k29 ⟨rfl, hC32, hT31, hx30⟩
                  obtain ⟨y33, y34, y35, y36, y37, ht38, hv39, hv40⟩ := hC32
                  have f41 : Fr (mT t n A) h k29 := f27.cal hx30 (fun b q => Or.inl q)
                  have hw42 := hw14.rotR (L' := rrL (rlL L P p x) (rlR L R P p x) (rlP L P p x) g x) (R' := rrR (rlR L R P p x) (rlP L P p x) g x) (P' := rrP (rlR L R P p x) (rlP L P p x) g x) (rt' := roR (rlP L P p x) (roR P rt p x) g x) hg e3 (fun _ => rfl) (fun _ => rfl) (fun _ => rfl) rfl
                  refine V_goto (tgt := 5) F dJ10_fixAfterInsertion_148 (by decide) ?_
                  refine VV.weak (L' := [some (.ref (t)), some (.ref (A p)), none]) (LW.c1 (LW.c1 (LW.c0 LW.nil))) ?_
                  refine exitB _ _ _ _ _ _ _ p _ ⟨y33, y34, y35, y36, y37, ht38, vw_fr hv39 (Fr.rf (M := fun _ => True) (h := k29)) rfl, vw_fr hv40 (Fr.rf (M := fun _ => True) (h := k29)) rfl⟩ hT31 hw42 hp f41 (Or.inr ?_)
                  have hRx : R x ≠ some p := fun z => hxg (by have := (hw.2.2.2.2.1 x p hx z).2.2.2.2; rw [hgp] at this; exact (Option.some.inj this).symm)
                  exact ⟨x, by grind [rrP, rlR, rlP], hx, by simp [stC, Ne.symm hxg]⟩
                · have hch : L p = some x := (hw.2.2.2.2.2.2.1 x p hx hpx).2.resolve_right hin
                  cases hz : R p with
                  | none =>
                    refine V_aload_n (i := 1) F dJ10_fixAfterInsertion_5 rfl rfl ?_
                    refine V_ifnull F dJ10_fixAfterInsertion_6 ?_
                    refine V_aload_n (i := 1) F dJ10_fixAfterInsertion_9 rfl rfl ?_
                    refine V_aload_n (i := 0) F dJ10_fixAfterInsertion_10 rfl rfl ?_
                    refine V_getf F dJ10_fixAfterInsertion_11 fc_J10_101_J10 (.inl ht) rfl ?_
                    refine V_acmp_eq (rx := some (A x)) (ry := (rt).map A) (tgt := 258) F dJ10_fixAfterInsertion_14 (by decide) (fun c_14 => absurd (map_eq hAI (fun j hj => (hw.2.2.2.2.2.2.2.1 j hj).1) hx c_14.symm) hroot) (fun c_14 => ?_)
                    refine V_aload_n (i := 1) F dJ10_fixAfterInsertion_17 rfl rfl ?_
                    refine V_getf F dJ10_fixAfterInsertion_18 fc_J10_124_J41 (.inl (hT x hx)) rfl ?_
                    refine VV.stk (st' := [.ref (A p)]) (by first | (rw [hpx]; rfl) | rw [hpx]) ?_
                    refine V_getf F dJ10_fixAfterInsertion_21 fc_J10_290_J41 (.inl (hT p hp)) rfl ?_
                    refine V_if_neC (c := C p) (tgt := 258) F dJ10_fixAfterInsertion_24 (by decide) (fun c_24 => absurd (c_24.symm.trans hcp) (by decide)) (fun c_24 => ?_)
                    refine V_aload_n (i := 1) F dJ10_fixAfterInsertion_27 rfl rfl ?_
                    refine V_callS (st := []) F dJ10_fixAfterInsertion_28 lk_J10_294 (ct_parentOf (o := some x) hT (fun _ z => Option.some.inj z ▸ hx)) rfl rfl (Nat.le_of_ble_eq_true rfl) (Nat.le_of_ble_eq_true rfl) (Nat.le_of_ble_eq_true rfl) (by first | exact Nat.le_of_ble_eq_true rfl | omega) (by first | exact Nat.le_of_ble_eq_true rfl | omega) ?_
                    refine PRk ?_
                    refine VV.stk (st' := [.ref (A p)]) (by first | rfl | (rw [show Option.bind (some x) P = _ from hpx]; rfl) | rw [show Option.bind (some x) P = _ from hpx]) ?_
                    refine V_aload_n (i := 1) F dJ10_fixAfterInsertion_31 rfl rfl ?_
                    refine V_callS (st := [.ref (A p)]) F dJ10_fixAfterInsertion_32 lk_J10_294 (ct_parentOf (o := some x) hT (fun _ z => Option.some.inj z ▸ hx)) rfl rfl (Nat.le_of_ble_eq_true rfl) (Nat.le_of_ble_eq_true rfl) (Nat.le_of_ble_eq_true rfl) (by first | exact Nat.le_of_ble_eq_true rfl | omega) (by first | exact Nat.le_of_ble_eq_true rfl | omega) ?_
                    refine PRk ?_
                    refine VV.stk (st' := [.ref (A p), .ref (A p)]) (by first | rfl | (rw [show Option.bind (some x) P = _ from hpx]; rfl) | rw [show Option.bind (some x) P = _ from hpx]) ?_
                    refine V_callS (st := [.ref (A p)]) F dJ10_fixAfterInsertion_35 lk_J10_294 (ct_parentOf (o := some p) hT (fun _ z => Option.some.inj z ▸ hp)) rfl rfl (Nat.le_of_ble_eq_true rfl) (Nat.le_of_ble_eq_true rfl) (Nat.le_of_ble_eq_true rfl) (by first | exact Nat.le_of_ble_eq_true rfl | omega) (by first | exact Nat.le_of_ble_eq_true rfl | omega) ?_
                    refine PRk ?_
                    refine VV.stk (st' := [.ref (A g), .ref (A p)]) (by first | rfl | (rw [show Option.bind (some p) P = _ from hgp]; rfl) | rw [show Option.bind (some p) P = _ from hgp]) ?_
                    refine V_callS (st := [.ref (A p)]) F dJ10_fixAfterInsertion_38 lk_J10_297 (ct_leftOf (o := some g) hT (fun _ z => Option.some.inj z ▸ hg)) rfl rfl (Nat.le_of_ble_eq_true rfl) (Nat.le_of_ble_eq_true rfl) (Nat.le_of_ble_eq_true rfl) (by first | exact Nat.le_of_ble_eq_true rfl | omega) (by first | exact Nat.le_of_ble_eq_true rfl | omega) ?_
                    refine PRk ?_
                    refine VV.stk (st' := [.ref (A p), .ref (A p)]) (by first | rfl | (rw [show Option.bind (some g) L = _ from hlg]; rfl) | rw [show Option.bind (some g) L = _ from hlg]) ?_
                    refine V_acmp_ne (rx := some (A p)) (ry := some (A p)) (tgt := 151) F dJ10_fixAfterInsertion_41 (by decide) (fun c_41 => absurd rfl c_41) (fun c_41 => ?_)
                    refine V_aload_n (i := 1) F dJ10_fixAfterInsertion_44 rfl rfl ?_
                    refine V_callS (st := []) F dJ10_fixAfterInsertion_45 lk_J10_294 (ct_parentOf (o := some x) hT (fun _ z => Option.some.inj z ▸ hx)) rfl rfl (Nat.le_of_ble_eq_true rfl) (Nat.le_of_ble_eq_true rfl) (Nat.le_of_ble_eq_true rfl) (by first | exact Nat.le_of_ble_eq_true rfl | omega) (by first | exact Nat.le_of_ble_eq_true rfl | omega) ?_
                    refine PRk ?_
                    refine VV.stk (st' := [.ref (A p)]) (by first | rfl | (rw [show Option.bind (some x) P = _ from hpx]; rfl) | rw [show Option.bind (some x) P = _ from hpx]) ?_
                    refine V_callS (st := []) F dJ10_fixAfterInsertion_48 lk_J10_294 (ct_parentOf (o := some p) hT (fun _ z => Option.some.inj z ▸ hp)) rfl rfl (Nat.le_of_ble_eq_true rfl) (Nat.le_of_ble_eq_true rfl) (Nat.le_of_ble_eq_true rfl) (by first | exact Nat.le_of_ble_eq_true rfl | omega) (by first | exact Nat.le_of_ble_eq_true rfl | omega) ?_
                    refine PRk ?_
                    refine VV.stk (st' := [.ref (A g)]) (by first | rfl | (rw [show Option.bind (some p) P = _ from hgp]; rfl) | rw [show Option.bind (some p) P = _ from hgp]) ?_
                    refine V_callS (st := []) F dJ10_fixAfterInsertion_51 lk_J10_300 (ct_rightOf (o := some g) hT (fun _ z => Option.some.inj z ▸ hg)) rfl rfl (Nat.le_of_ble_eq_true rfl) (Nat.le_of_ble_eq_true rfl) (Nat.le_of_ble_eq_true rfl) (by first | exact Nat.le_of_ble_eq_true rfl | omega) (by first | exact Nat.le_of_ble_eq_true rfl | omega) ?_
                    refine PRk ?_
                    refine VV.stk (st' := [.null]) (by first | rfl | (rw [show Option.bind (some g) R = _ from hu]; rfl) | rw [show Option.bind (some g) R = _ from hu]) ?_
                    refine V_astore_nN (i := 2) F dJ10_fixAfterInsertion_54 rfl (Nat.le_of_ble_eq_true rfl) (Nat.le_of_ble_eq_true rfl) ?_
                    refine V_aload_nN (i := 2) F dJ10_fixAfterInsertion_55 rfl rfl ?_
                    refine V_callS (st := []) F dJ10_fixAfterInsertion_56 lk_J10_303 (ct_colorOf (o := none) hT (fun _ z => nomatch z)) rfl rfl (Nat.le_of_ble_eq_true rfl) (Nat.le_of_ble_eq_true rfl) (Nat.le_of_ble_eq_true rfl) (by first | exact Nat.le_of_ble_eq_true rfl | omega) (by first | exact Nat.le_of_ble_eq_true rfl | omega) ?_
                    refine PRk ?_
                    refine VV.stk (st' := [.int (cB (true))]) rfl ?_
                    refine V_if_neC (c := true) (tgt := 97) F dJ10_fixAfterInsertion_59 (by decide) (fun c_59 => ?_) (fun c_59 => nomatch c_59)
                    refine V_aload_n (i := 1) F dJ10_fixAfterInsertion_97 rfl rfl ?_
                    refine V_aload_n (i := 1) F dJ10_fixAfterInsertion_98 rfl rfl ?_
                    refine V_callS (st := [.ref (A x)]) F dJ10_fixAfterInsertion_99 lk_J10_294 (ct_parentOf (o := some x) hT (fun _ z => Option.some.inj z ▸ hx)) rfl rfl (Nat.le_of_ble_eq_true rfl) (Nat.le_of_ble_eq_true rfl) (Nat.le_of_ble_eq_true rfl) (by first | exact Nat.le_of_ble_eq_true rfl | omega) (by first | exact Nat.le_of_ble_eq_true rfl | omega) ?_
                    refine PRk ?_
                    refine VV.stk (st' := [.ref (A p), .ref (A x)]) (by first | rfl | (rw [show Option.bind (some x) P = _ from hpx]; rfl) | rw [show Option.bind (some x) P = _ from hpx]) ?_
                    refine V_callS (st := [.ref (A x)]) F dJ10_fixAfterInsertion_102 lk_J10_300 (ct_rightOf (o := some p) hT (fun _ z => Option.some.inj z ▸ hp)) rfl rfl (Nat.le_of_ble_eq_true rfl) (Nat.le_of_ble_eq_true rfl) (Nat.le_of_ble_eq_true rfl) (by first | exact Nat.le_of_ble_eq_true rfl | omega) (by first | exact Nat.le_of_ble_eq_true rfl | omega) ?_
                    refine PRk ?_
                    refine VV.stk (st' := [.null, .ref (A x)]) (by first | rfl | (rw [show Option.bind (some p) R = _ from hz]; rfl) | rw [show Option.bind (some p) R = _ from hz]) ?_
                    refine V_acmp_ne (rx := some (A x)) (ry := none) (tgt := 118) F dJ10_fixAfterInsertion_105 (by decide) (fun c_105 => ?_) (fun c_105 => nomatch c_105)
                    refine V_aload_n (i := 1) F dJ10_fixAfterInsertion_118 rfl rfl ?_
                    refine V_callS (st := []) F dJ10_fixAfterInsertion_119 lk_J10_294 (ct_parentOf (o := some x) hT (fun _ z => Option.some.inj z ▸ hx)) rfl rfl (Nat.le_of_ble_eq_true rfl) (Nat.le_of_ble_eq_true rfl) (Nat.le_of_ble_eq_true rfl) (by first | exact Nat.le_of_ble_eq_true rfl | omega) (by first | exact Nat.le_of_ble_eq_true rfl | omega) ?_
                    refine PRk ?_
                    refine VV.stk (st' := [.ref (A p)]) (by first | rfl | (rw [show Option.bind (some x) P = _ from hpx]; rfl) | rw [show Option.bind (some x) P = _ from hpx]) ?_
                    refine V_iconst (v := nI 1) F dJ10_fixAfterInsertion_122 rfl ?_
                    refine V_callS (st := []) F dJ10_fixAfterInsertion_123 lk_J10_307 (ct_setColor (o := some p) (c := true) hT hAI (fun _ z => Option.some.inj z ▸ hp)) rfl rfl (Nat.le_of_ble_eq_true rfl) (Nat.le_of_ble_eq_true rfl) (Nat.le_of_ble_eq_true rfl) (by first | exact Nat.le_of_ble_eq_true rfl | omega) (by first | exact Nat.le_of_ble_eq_true rfl | omega) ?_
                    rintro _ k1 ⟨rfl, hT3, hx2, hk4⟩
                    have p5 := (hk4 t (fun i hi => ne_oo ht (hT i hi) (by decide))).trans ht
                    have f6 := hF.cal hx2 (fun b q => Or.inl (Or.inr q))
                    have g7 := (Fr.rf (M := fun _ => True) (h := hh)).cal hx2 (fun _ _ => Or.inl trivial)
                    refine V_aload_n (i := 1) F dJ10_fixAfterInsertion_126 rfl rfl ?_
                    refine V_callS (st := []) F dJ10_fixAfterInsertion_127 lk_J10_294 (ct_parentOf (o := some x) hT3 (fun _ z => Option.some.inj z ▸ hx)) rfl rfl (Nat.le_of_ble_eq_true rfl) (Nat.le_of_ble_eq_true rfl) (Nat.le_of_ble_eq_true rfl) (by first | exact Nat.le_of_ble_eq_true rfl | omega) (by first | exact Nat.le_of_ble_eq_true rfl | omega) ?_
                    refine PRk ?_
                    refine VV.stk (st' := [.ref (A p)]) (by first | rfl | (rw [show Option.bind (some x) P = _ from hpx]; rfl) | rw [show Option.bind (some x) P = _ from hpx]) ?_
                    refine V_callS (st := []) F dJ10_fixAfterInsertion_130 lk_J10_294 (ct_parentOf (o := some p) hT3 (fun _ z => Option.some.inj z ▸ hp)) rfl rfl (Nat.le_of_ble_eq_true rfl) (Nat.le_of_ble_eq_true rfl) (Nat.le_of_ble_eq_true rfl) (by first | exact Nat.le_of_ble_eq_true rfl | omega) (by first | exact Nat.le_of_ble_eq_true rfl | omega) ?_
                    refine PRk ?_
                    refine VV.stk (st' := [.ref (A g)]) (by first | rfl | (rw [show Option.bind (some p) P = _ from hgp]; rfl) | rw [show Option.bind (some p) P = _ from hgp]) ?_
                    refine V_iconst (v := nI 0) F dJ10_fixAfterInsertion_133 rfl ?_
                    refine V_callS (st := []) F dJ10_fixAfterInsertion_134 lk_J10_307 (ct_setColor (o := some g) (c := false) hT3 hAI (fun _ z => Option.some.inj z ▸ hg)) rfl rfl (Nat.le_of_ble_eq_true rfl) (Nat.le_of_ble_eq_true rfl) (Nat.le_of_ble_eq_true rfl) (by first | exact Nat.le_of_ble_eq_true rfl | omega) (by first | exact Nat.le_of_ble_eq_true rfl | omega) ?_
                    rintro _ k8 ⟨rfl, hT10, hx9, hk11⟩
                    have p12 := (hk11 t (fun i hi => ne_oo p5 (hT3 i hi) (by decide))).trans p5
                    have f13 := f6.cal hx9 (fun b q => Or.inl (Or.inr q))
                    have g14 := g7.cal hx9 (fun _ _ => Or.inl trivial)
                    refine V_aload_n (i := 0) F dJ10_fixAfterInsertion_137 rfl rfl ?_
                    refine V_aload_n (i := 1) F dJ10_fixAfterInsertion_138 rfl rfl ?_
                    refine V_callS (st := [.ref (t)]) F dJ10_fixAfterInsertion_139 lk_J10_294 (ct_parentOf (o := some x) hT10 (fun _ z => Option.some.inj z ▸ hx)) rfl rfl (Nat.le_of_ble_eq_true rfl) (Nat.le_of_ble_eq_true rfl) (Nat.le_of_ble_eq_true rfl) (by first | exact Nat.le_of_ble_eq_true rfl | omega) (by first | exact Nat.le_of_ble_eq_true rfl | omega) ?_
                    refine PRk ?_
                    refine VV.stk (st' := [.ref (A p), .ref (t)]) (by first | rfl | (rw [show Option.bind (some x) P = _ from hpx]; rfl) | rw [show Option.bind (some x) P = _ from hpx]) ?_
                    refine V_callS (st := [.ref (t)]) F dJ10_fixAfterInsertion_142 lk_J10_294 (ct_parentOf (o := some p) hT10 (fun _ z => Option.some.inj z ▸ hp)) rfl rfl (Nat.le_of_ble_eq_true rfl) (Nat.le_of_ble_eq_true rfl) (Nat.le_of_ble_eq_true rfl) (by first | exact Nat.le_of_ble_eq_true rfl | omega) (by first | exact Nat.le_of_ble_eq_true rfl | omega) ?_
                    refine PRk ?_
                    refine VV.stk (st' := [.ref (A g), .ref (t)]) (by first | rfl | (rw [show Option.bind (some p) P = _ from hgp]; rfl) | rw [show Option.bind (some p) P = _ from hgp]) ?_
                    refine V_callV (st := []) F dJ10_fixAfterInsertion_145 lk_J10_314 (ct_rotateRight ⟨x0, x1, x6, x7, x8, p12, vw_fr hv1 g14 rfl, vw_fr hv7 g14 rfl⟩ hT10 hAI hw hg hlg) ⟨23, _, _, _, rfl, (.inl p12)⟩ rfl rfl (Nat.le_of_ble_eq_true rfl) (Nat.le_of_ble_eq_true rfl) (Nat.le_of_ble_eq_true rfl) (by first | exact Nat.le_of_ble_eq_true rfl | omega) (by first | exact Nat.le_of_ble_eq_true rfl | omega) ?_
                    rintro _ k15 ⟨rfl, hC18, hT17, hx16⟩
                    obtain ⟨y19, y20, y21, y22, y23, ht24, hv25, hv26⟩ := hC18
                    have f27 : Fr (mT t n A) h k15 := f13.cal hx16 (fun b q => Or.inl q)
                    have hw28 := hw.rotR (L' := rrL L R P g p) (R' := rrR R P g p) (P' := rrP R P g p) (rt' := roR P rt g p) hg hlg (fun _ => rfl) (fun _ => rfl) (fun _ => rfl) rfl
                    refine V_goto (tgt := 5) F dJ10_fixAfterInsertion_148 (by decide) ?_
                    refine VV.weak (L' := [some (.ref (t)), some (.ref (A x)), none]) (LW.c1 (LW.c1 (LW.c0 LW.nil))) ?_
                    refine exitB _ _ _ _ _ _ _ x _ ⟨y19, y20, y21, y22, y23, ht24, vw_fr hv25 (Fr.rf (M := fun _ => True) (h := k15)) rfl, vw_fr hv26 (Fr.rf (M := fun _ => True) (h := k15)) rfl⟩ hT17 hw28 hx f27 (Or.inr ?_)
                    exact ⟨p, by grind [rrP], hp, by simp [stC, Ne.symm hpg]⟩
                  | some z =>
                    have hzn : z < n := hw.bR hp hz
                    have hzx : z ≠ x := fun q => hin (by rw [hz, q])
                    refine V_aload_n (i := 1) F dJ10_fixAfterInsertion_5 rfl rfl ?_
                    refine V_ifnull F dJ10_fixAfterInsertion_6 ?_
                    refine V_aload_n (i := 1) F dJ10_fixAfterInsertion_9 rfl rfl ?_
                    refine V_aload_n (i := 0) F dJ10_fixAfterInsertion_10 rfl rfl ?_
                    refine V_getf F dJ10_fixAfterInsertion_11 fc_J10_101_J10 (.inl ht) rfl ?_
                    refine V_acmp_eq (rx := some (A x)) (ry := (rt).map A) (tgt := 258) F dJ10_fixAfterInsertion_14 (by decide) (fun c_14 => absurd (map_eq hAI (fun j hj => (hw.2.2.2.2.2.2.2.1 j hj).1) hx c_14.symm) hroot) (fun c_14 => ?_)
                    refine V_aload_n (i := 1) F dJ10_fixAfterInsertion_17 rfl rfl ?_
                    refine V_getf F dJ10_fixAfterInsertion_18 fc_J10_124_J41 (.inl (hT x hx)) rfl ?_
                    refine VV.stk (st' := [.ref (A p)]) (by first | (rw [hpx]; rfl) | rw [hpx]) ?_
                    refine V_getf F dJ10_fixAfterInsertion_21 fc_J10_290_J41 (.inl (hT p hp)) rfl ?_
                    refine V_if_neC (c := C p) (tgt := 258) F dJ10_fixAfterInsertion_24 (by decide) (fun c_24 => absurd (c_24.symm.trans hcp) (by decide)) (fun c_24 => ?_)
                    refine V_aload_n (i := 1) F dJ10_fixAfterInsertion_27 rfl rfl ?_
                    refine V_callS (st := []) F dJ10_fixAfterInsertion_28 lk_J10_294 (ct_parentOf (o := some x) hT (fun _ z => Option.some.inj z ▸ hx)) rfl rfl (Nat.le_of_ble_eq_true rfl) (Nat.le_of_ble_eq_true rfl) (Nat.le_of_ble_eq_true rfl) (by first | exact Nat.le_of_ble_eq_true rfl | omega) (by first | exact Nat.le_of_ble_eq_true rfl | omega) ?_
                    refine PRk ?_
                    refine VV.stk (st' := [.ref (A p)]) (by first | rfl | (rw [show Option.bind (some x) P = _ from hpx]; rfl) | rw [show Option.bind (some x) P = _ from hpx]) ?_
                    refine V_aload_n (i := 1) F dJ10_fixAfterInsertion_31 rfl rfl ?_
                    refine V_callS (st := [.ref (A p)]) F dJ10_fixAfterInsertion_32 lk_J10_294 (ct_parentOf (o := some x) hT (fun _ z => Option.some.inj z ▸ hx)) rfl rfl (Nat.le_of_ble_eq_true rfl) (Nat.le_of_ble_eq_true rfl) (Nat.le_of_ble_eq_true rfl) (by first | exact Nat.le_of_ble_eq_true rfl | omega) (by first | exact Nat.le_of_ble_eq_true rfl | omega) ?_
                    refine PRk ?_
                    refine VV.stk (st' := [.ref (A p), .ref (A p)]) (by first | rfl | (rw [show Option.bind (some x) P = _ from hpx]; rfl) | rw [show Option.bind (some x) P = _ from hpx]) ?_
                    refine V_callS (st := [.ref (A p)]) F dJ10_fixAfterInsertion_35 lk_J10_294 (ct_parentOf (o := some p) hT (fun _ z => Option.some.inj z ▸ hp)) rfl rfl (Nat.le_of_ble_eq_true rfl) (Nat.le_of_ble_eq_true rfl) (Nat.le_of_ble_eq_true rfl) (by first | exact Nat.le_of_ble_eq_true rfl | omega) (by first | exact Nat.le_of_ble_eq_true rfl | omega) ?_
                    refine PRk ?_
                    refine VV.stk (st' := [.ref (A g), .ref (A p)]) (by first | rfl | (rw [show Option.bind (some p) P = _ from hgp]; rfl) | rw [show Option.bind (some p) P = _ from hgp]) ?_
                    refine V_callS (st := [.ref (A p)]) F dJ10_fixAfterInsertion_38 lk_J10_297 (ct_leftOf (o := some g) hT (fun _ z => Option.some.inj z ▸ hg)) rfl rfl (Nat.le_of_ble_eq_true rfl) (Nat.le_of_ble_eq_true rfl) (Nat.le_of_ble_eq_true rfl) (by first | exact Nat.le_of_ble_eq_true rfl | omega) (by first | exact Nat.le_of_ble_eq_true rfl | omega) ?_
                    refine PRk ?_
                    refine VV.stk (st' := [.ref (A p), .ref (A p)]) (by first | rfl | (rw [show Option.bind (some g) L = _ from hlg]; rfl) | rw [show Option.bind (some g) L = _ from hlg]) ?_
                    refine V_acmp_ne (rx := some (A p)) (ry := some (A p)) (tgt := 151) F dJ10_fixAfterInsertion_41 (by decide) (fun c_41 => absurd rfl c_41) (fun c_41 => ?_)
                    refine V_aload_n (i := 1) F dJ10_fixAfterInsertion_44 rfl rfl ?_
                    refine V_callS (st := []) F dJ10_fixAfterInsertion_45 lk_J10_294 (ct_parentOf (o := some x) hT (fun _ z => Option.some.inj z ▸ hx)) rfl rfl (Nat.le_of_ble_eq_true rfl) (Nat.le_of_ble_eq_true rfl) (Nat.le_of_ble_eq_true rfl) (by first | exact Nat.le_of_ble_eq_true rfl | omega) (by first | exact Nat.le_of_ble_eq_true rfl | omega) ?_
                    refine PRk ?_
                    refine VV.stk (st' := [.ref (A p)]) (by first | rfl | (rw [show Option.bind (some x) P = _ from hpx]; rfl) | rw [show Option.bind (some x) P = _ from hpx]) ?_
                    refine V_callS (st := []) F dJ10_fixAfterInsertion_48 lk_J10_294 (ct_parentOf (o := some p) hT (fun _ z => Option.some.inj z ▸ hp)) rfl rfl (Nat.le_of_ble_eq_true rfl) (Nat.le_of_ble_eq_true rfl) (Nat.le_of_ble_eq_true rfl) (by first | exact Nat.le_of_ble_eq_true rfl | omega) (by first | exact Nat.le_of_ble_eq_true rfl | omega) ?_
                    refine PRk ?_
                    refine VV.stk (st' := [.ref (A g)]) (by first | rfl | (rw [show Option.bind (some p) P = _ from hgp]; rfl) | rw [show Option.bind (some p) P = _ from hgp]) ?_
                    refine V_callS (st := []) F dJ10_fixAfterInsertion_51 lk_J10_300 (ct_rightOf (o := some g) hT (fun _ z => Option.some.inj z ▸ hg)) rfl rfl (Nat.le_of_ble_eq_true rfl) (Nat.le_of_ble_eq_true rfl) (Nat.le_of_ble_eq_true rfl) (by first | exact Nat.le_of_ble_eq_true rfl | omega) (by first | exact Nat.le_of_ble_eq_true rfl | omega) ?_
                    refine PRk ?_
                    refine VV.stk (st' := [.null]) (by first | rfl | (rw [show Option.bind (some g) R = _ from hu]; rfl) | rw [show Option.bind (some g) R = _ from hu]) ?_
                    refine V_astore_nN (i := 2) F dJ10_fixAfterInsertion_54 rfl (Nat.le_of_ble_eq_true rfl) (Nat.le_of_ble_eq_true rfl) ?_
                    refine V_aload_nN (i := 2) F dJ10_fixAfterInsertion_55 rfl rfl ?_
                    refine V_callS (st := []) F dJ10_fixAfterInsertion_56 lk_J10_303 (ct_colorOf (o := none) hT (fun _ z => nomatch z)) rfl rfl (Nat.le_of_ble_eq_true rfl) (Nat.le_of_ble_eq_true rfl) (Nat.le_of_ble_eq_true rfl) (by first | exact Nat.le_of_ble_eq_true rfl | omega) (by first | exact Nat.le_of_ble_eq_true rfl | omega) ?_
                    refine PRk ?_
                    refine VV.stk (st' := [.int (cB (true))]) rfl ?_
                    refine V_if_neC (c := true) (tgt := 97) F dJ10_fixAfterInsertion_59 (by decide) (fun c_59 => ?_) (fun c_59 => nomatch c_59)
                    refine V_aload_n (i := 1) F dJ10_fixAfterInsertion_97 rfl rfl ?_
                    refine V_aload_n (i := 1) F dJ10_fixAfterInsertion_98 rfl rfl ?_
                    refine V_callS (st := [.ref (A x)]) F dJ10_fixAfterInsertion_99 lk_J10_294 (ct_parentOf (o := some x) hT (fun _ z => Option.some.inj z ▸ hx)) rfl rfl (Nat.le_of_ble_eq_true rfl) (Nat.le_of_ble_eq_true rfl) (Nat.le_of_ble_eq_true rfl) (by first | exact Nat.le_of_ble_eq_true rfl | omega) (by first | exact Nat.le_of_ble_eq_true rfl | omega) ?_
                    refine PRk ?_
                    refine VV.stk (st' := [.ref (A p), .ref (A x)]) (by first | rfl | (rw [show Option.bind (some x) P = _ from hpx]; rfl) | rw [show Option.bind (some x) P = _ from hpx]) ?_
                    refine V_callS (st := [.ref (A x)]) F dJ10_fixAfterInsertion_102 lk_J10_300 (ct_rightOf (o := some p) hT (fun _ z => Option.some.inj z ▸ hp)) rfl rfl (Nat.le_of_ble_eq_true rfl) (Nat.le_of_ble_eq_true rfl) (Nat.le_of_ble_eq_true rfl) (by first | exact Nat.le_of_ble_eq_true rfl | omega) (by first | exact Nat.le_of_ble_eq_true rfl | omega) ?_
                    refine PRk ?_
                    refine VV.stk (st' := [.ref (A z), .ref (A x)]) (by first | rfl | (rw [show Option.bind (some p) R = _ from hz]; rfl) | rw [show Option.bind (some p) R = _ from hz]) ?_
                    refine V_acmp_ne (rx := some (A x)) (ry := some (A z)) (tgt := 118) F dJ10_fixAfterInsertion_105 (by decide) (fun c_105 => ?_) (fun c_105 => absurd (hAI _ _ hx hzn (Option.some.inj c_105)) (Ne.symm hzx))
                    refine V_aload_n (i := 1) F dJ10_fixAfterInsertion_118 rfl rfl ?_
                    refine V_callS (st := []) F dJ10_fixAfterInsertion_119 lk_J10_294 (ct_parentOf (o := some x) hT (fun _ z => Option.some.inj z ▸ hx)) rfl rfl (Nat.le_of_ble_eq_true rfl) (Nat.le_of_ble_eq_true rfl) (Nat.le_of_ble_eq_true rfl) (by first | exact Nat.le_of_ble_eq_true rfl | omega) (by first | exact Nat.le_of_ble_eq_true rfl | omega) ?_
                    refine PRk ?_
                    refine VV.stk (st' := [.ref (A p)]) (by first | rfl | (rw [show Option.bind (some x) P = _ from hpx]; rfl) | rw [show Option.bind (some x) P = _ from hpx]) ?_
                    refine V_iconst (v := nI 1) F dJ10_fixAfterInsertion_122 rfl ?_
                    refine V_callS (st := []) F dJ10_fixAfterInsertion_123 lk_J10_307 (ct_setColor (o := some p) (c := true) hT hAI (fun _ z => Option.some.inj z ▸ hp)) rfl rfl (Nat.le_of_ble_eq_true rfl) (Nat.le_of_ble_eq_true rfl) (Nat.le_of_ble_eq_true rfl) (by first | exact Nat.le_of_ble_eq_true rfl | omega) (by first | exact Nat.le_of_ble_eq_true rfl | omega) ?_
                    rintro _ k1 ⟨rfl, hT3, hx2, hk4⟩
                    have p5 := (hk4 t (fun i hi => ne_oo ht (hT i hi) (by decide))).trans ht
                    have f6 := hF.cal hx2 (fun b q => Or.inl (Or.inr q))
                    have g7 := (Fr.rf (M := fun _ => True) (h := hh)).cal hx2 (fun _ _ => Or.inl trivial)
                    refine V_aload_n (i := 1) F dJ10_fixAfterInsertion_126 rfl rfl ?_
                    refine V_callS (st := []) F dJ10_fixAfterInsertion_127 lk_J10_294 (ct_parentOf (o := some x) hT3 (fun _ z => Option.some.inj z ▸ hx)) rfl rfl (Nat.le_of_ble_eq_true rfl) (Nat.le_of_ble_eq_true rfl) (Nat.le_of_ble_eq_true rfl) (by first | exact Nat.le_of_ble_eq_true rfl | omega) (by first | exact Nat.le_of_ble_eq_true rfl | omega) ?_
                    refine PRk ?_
                    refine VV.stk (st' := [.ref (A p)]) (by first | rfl | (rw [show Option.bind (some x) P = _ from hpx]; rfl) | rw [show Option.bind (some x) P = _ from hpx]) ?_
                    refine V_callS (st := []) F dJ10_fixAfterInsertion_130 lk_J10_294 (ct_parentOf (o := some p) hT3 (fun _ z => Option.some.inj z ▸ hp)) rfl rfl (Nat.le_of_ble_eq_true rfl) (Nat.le_of_ble_eq_true rfl) (Nat.le_of_ble_eq_true rfl) (by first | exact Nat.le_of_ble_eq_true rfl | omega) (by first | exact Nat.le_of_ble_eq_true rfl | omega) ?_
                    refine PRk ?_
                    refine VV.stk (st' := [.ref (A g)]) (by first | rfl | (rw [show Option.bind (some p) P = _ from hgp]; rfl) | rw [show Option.bind (some p) P = _ from hgp]) ?_
                    refine V_iconst (v := nI 0) F dJ10_fixAfterInsertion_133 rfl ?_
                    refine V_callS (st := []) F dJ10_fixAfterInsertion_134 lk_J10_307 (ct_setColor (o := some g) (c := false) hT3 hAI (fun _ z => Option.some.inj z ▸ hg)) rfl rfl (Nat.le_of_ble_eq_true rfl) (Nat.le_of_ble_eq_true rfl) (Nat.le_of_ble_eq_true rfl) (by first | exact Nat.le_of_ble_eq_true rfl | omega) (by first | exact Nat.le_of_ble_eq_true rfl | omega) ?_
                    rintro _ k8 ⟨rfl, hT10, hx9, hk11⟩
                    have p12 := (hk11 t (fun i hi => ne_oo p5 (hT3 i hi) (by decide))).trans p5
                    have f13 := f6.cal hx9 (fun b q => Or.inl (Or.inr q))
                    have g14 := g7.cal hx9 (fun _ _ => Or.inl trivial)
                    refine V_aload_n (i := 0) F dJ10_fixAfterInsertion_137 rfl rfl ?_
                    refine V_aload_n (i := 1) F dJ10_fixAfterInsertion_138 rfl rfl ?_
                    refine V_callS (st := [.ref (t)]) F dJ10_fixAfterInsertion_139 lk_J10_294 (ct_parentOf (o := some x) hT10 (fun _ z => Option.some.inj z ▸ hx)) rfl rfl (Nat.le_of_ble_eq_true rfl) (Nat.le_of_ble_eq_true rfl) (Nat.le_of_ble_eq_true rfl) (by first | exact Nat.le_of_ble_eq_true rfl | omega) (by first | exact Nat.le_of_ble_eq_true rfl | omega) ?_
                    refine PRk ?_
                    refine VV.stk (st' := [.ref (A p), .ref (t)]) (by first | rfl | (rw [show Option.bind (some x) P = _ from hpx]; rfl) | rw [show Option.bind (some x) P = _ from hpx]) ?_
                    refine V_callS (st := [.ref (t)]) F dJ10_fixAfterInsertion_142 lk_J10_294 (ct_parentOf (o := some p) hT10 (fun _ z => Option.some.inj z ▸ hp)) rfl rfl (Nat.le_of_ble_eq_true rfl) (Nat.le_of_ble_eq_true rfl) (Nat.le_of_ble_eq_true rfl) (by first | exact Nat.le_of_ble_eq_true rfl | omega) (by first | exact Nat.le_of_ble_eq_true rfl | omega) ?_
                    refine PRk ?_
                    refine VV.stk (st' := [.ref (A g), .ref (t)]) (by first | rfl | (rw [show Option.bind (some p) P = _ from hgp]; rfl) | rw [show Option.bind (some p) P = _ from hgp]) ?_
                    refine V_callV (st := []) F dJ10_fixAfterInsertion_145 lk_J10_314 (ct_rotateRight ⟨x0, x1, x6, x7, x8, p12, vw_fr hv1 g14 rfl, vw_fr hv7 g14 rfl⟩ hT10 hAI hw hg hlg) ⟨23, _, _, _, rfl, (.inl p12)⟩ rfl rfl (Nat.le_of_ble_eq_true rfl) (Nat.le_of_ble_eq_true rfl) (Nat.le_of_ble_eq_true rfl) (by first | exact Nat.le_of_ble_eq_true rfl | omega) (by first | exact Nat.le_of_ble_eq_true rfl | omega) ?_
                    rintro _ k15 ⟨rfl, hC18, hT17, hx16⟩
                    obtain ⟨y19, y20, y21, y22, y23, ht24, hv25, hv26⟩ := hC18
                    have f27 : Fr (mT t n A) h k15 := f13.cal hx16 (fun b q => Or.inl q)
                    have hw28 := hw.rotR (L' := rrL L R P g p) (R' := rrR R P g p) (P' := rrP R P g p) (rt' := roR P rt g p) hg hlg (fun _ => rfl) (fun _ => rfl) (fun _ => rfl) rfl
                    refine V_goto (tgt := 5) F dJ10_fixAfterInsertion_148 (by decide) ?_
                    refine VV.weak (L' := [some (.ref (t)), some (.ref (A x)), none]) (LW.c1 (LW.c1 (LW.c0 LW.nil))) ?_
                    refine exitB _ _ _ _ _ _ _ x _ ⟨y19, y20, y21, y22, y23, ht24, vw_fr hv25 (Fr.rf (M := fun _ => True) (h := k15)) rfl, vw_fr hv26 (Fr.rf (M := fun _ => True) (h := k15)) rfl⟩ hT17 hw28 hx f27 (Or.inr ?_)
                    exact ⟨p, by grind [rrP], hp, by simp [stC, Ne.symm hpg]⟩
              | some u =>
                have hun : u < n := hw.bR hg hu
                have hup : u ≠ p := by
                  have h1 := hw.2.2.1 g _ hg hlg
                  have h2 := hw.2.2.2.2.1 g _ hg hu
                  omega
                by_cases hcu : C u = true
                · by_cases hin : R p = some x
                  · refine V_aload_n (i := 1) F dJ10_fixAfterInsertion_5 rfl rfl ?_
                    refine V_ifnull F dJ10_fixAfterInsertion_6 ?_
                    refine V_aload_n (i := 1) F dJ10_fixAfterInsertion_9 rfl rfl ?_
                    refine V_aload_n (i := 0) F dJ10_fixAfterInsertion_10 rfl rfl ?_
                    refine V_getf F dJ10_fixAfterInsertion_11 fc_J10_101_J10 (.inl ht) rfl ?_
                    refine V_acmp_eq (rx := some (A x)) (ry := (rt).map A) (tgt := 258) F dJ10_fixAfterInsertion_14 (by decide) (fun c_14 => absurd (map_eq hAI (fun j hj => (hw.2.2.2.2.2.2.2.1 j hj).1) hx c_14.symm) hroot) (fun c_14 => ?_)
                    refine V_aload_n (i := 1) F dJ10_fixAfterInsertion_17 rfl rfl ?_
                    refine V_getf F dJ10_fixAfterInsertion_18 fc_J10_124_J41 (.inl (hT x hx)) rfl ?_
                    refine VV.stk (st' := [.ref (A p)]) (by first | (rw [hpx]; rfl) | rw [hpx]) ?_
                    refine V_getf F dJ10_fixAfterInsertion_21 fc_J10_290_J41 (.inl (hT p hp)) rfl ?_
                    refine V_if_neC (c := C p) (tgt := 258) F dJ10_fixAfterInsertion_24 (by decide) (fun c_24 => absurd (c_24.symm.trans hcp) (by decide)) (fun c_24 => ?_)
                    refine V_aload_n (i := 1) F dJ10_fixAfterInsertion_27 rfl rfl ?_
                    refine V_callS (st := []) F dJ10_fixAfterInsertion_28 lk_J10_294 (ct_parentOf (o := some x) hT (fun _ z => Option.some.inj z ▸ hx)) rfl rfl (Nat.le_of_ble_eq_true rfl) (Nat.le_of_ble_eq_true rfl) (Nat.le_of_ble_eq_true rfl) (by first | exact Nat.le_of_ble_eq_true rfl | omega) (by first | exact Nat.le_of_ble_eq_true rfl | omega) ?_
                    refine PRk ?_
                    refine VV.stk (st' := [.ref (A p)]) (by first | rfl | (rw [show Option.bind (some x) P = _ from hpx]; rfl) | rw [show Option.bind (some x) P = _ from hpx]) ?_
                    refine V_aload_n (i := 1) F dJ10_fixAfterInsertion_31 rfl rfl ?_
                    refine V_callS (st := [.ref (A p)]) F dJ10_fixAfterInsertion_32 lk_J10_294 (ct_parentOf (o := some x) hT (fun _ z => Option.some.inj z ▸ hx)) rfl rfl (Nat.le_of_ble_eq_true rfl) (Nat.le_of_ble_eq_true rfl) (Nat.le_of_ble_eq_true rfl) (by first | exact Nat.le_of_ble_eq_true rfl | omega) (by first | exact Nat.le_of_ble_eq_true rfl | omega) ?_
                    refine PRk ?_
                    refine VV.stk (st' := [.ref (A p), .ref (A p)]) (by first | rfl | (rw [show Option.bind (some x) P = _ from hpx]; rfl) | rw [show Option.bind (some x) P = _ from hpx]) ?_
                    refine V_callS (st := [.ref (A p)]) F dJ10_fixAfterInsertion_35 lk_J10_294 (ct_parentOf (o := some p) hT (fun _ z => Option.some.inj z ▸ hp)) rfl rfl (Nat.le_of_ble_eq_true rfl) (Nat.le_of_ble_eq_true rfl) (Nat.le_of_ble_eq_true rfl) (by first | exact Nat.le_of_ble_eq_true rfl | omega) (by first | exact Nat.le_of_ble_eq_true rfl | omega) ?_
                    refine PRk ?_
                    refine VV.stk (st' := [.ref (A g), .ref (A p)]) (by first | rfl | (rw [show Option.bind (some p) P = _ from hgp]; rfl) | rw [show Option.bind (some p) P = _ from hgp]) ?_
                    refine V_callS (st := [.ref (A p)]) F dJ10_fixAfterInsertion_38 lk_J10_297 (ct_leftOf (o := some g) hT (fun _ z => Option.some.inj z ▸ hg)) rfl rfl (Nat.le_of_ble_eq_true rfl) (Nat.le_of_ble_eq_true rfl) (Nat.le_of_ble_eq_true rfl) (by first | exact Nat.le_of_ble_eq_true rfl | omega) (by first | exact Nat.le_of_ble_eq_true rfl | omega) ?_
                    refine PRk ?_
                    refine VV.stk (st' := [.ref (A p), .ref (A p)]) (by first | rfl | (rw [show Option.bind (some g) L = _ from hlg]; rfl) | rw [show Option.bind (some g) L = _ from hlg]) ?_
                    refine V_acmp_ne (rx := some (A p)) (ry := some (A p)) (tgt := 151) F dJ10_fixAfterInsertion_41 (by decide) (fun c_41 => absurd rfl c_41) (fun c_41 => ?_)
                    refine V_aload_n (i := 1) F dJ10_fixAfterInsertion_44 rfl rfl ?_
                    refine V_callS (st := []) F dJ10_fixAfterInsertion_45 lk_J10_294 (ct_parentOf (o := some x) hT (fun _ z => Option.some.inj z ▸ hx)) rfl rfl (Nat.le_of_ble_eq_true rfl) (Nat.le_of_ble_eq_true rfl) (Nat.le_of_ble_eq_true rfl) (by first | exact Nat.le_of_ble_eq_true rfl | omega) (by first | exact Nat.le_of_ble_eq_true rfl | omega) ?_
                    refine PRk ?_
                    refine VV.stk (st' := [.ref (A p)]) (by first | rfl | (rw [show Option.bind (some x) P = _ from hpx]; rfl) | rw [show Option.bind (some x) P = _ from hpx]) ?_
                    refine V_callS (st := []) F dJ10_fixAfterInsertion_48 lk_J10_294 (ct_parentOf (o := some p) hT (fun _ z => Option.some.inj z ▸ hp)) rfl rfl (Nat.le_of_ble_eq_true rfl) (Nat.le_of_ble_eq_true rfl) (Nat.le_of_ble_eq_true rfl) (by first | exact Nat.le_of_ble_eq_true rfl | omega) (by first | exact Nat.le_of_ble_eq_true rfl | omega) ?_
                    refine PRk ?_
                    refine VV.stk (st' := [.ref (A g)]) (by first | rfl | (rw [show Option.bind (some p) P = _ from hgp]; rfl) | rw [show Option.bind (some p) P = _ from hgp]) ?_
                    refine V_callS (st := []) F dJ10_fixAfterInsertion_51 lk_J10_300 (ct_rightOf (o := some g) hT (fun _ z => Option.some.inj z ▸ hg)) rfl rfl (Nat.le_of_ble_eq_true rfl) (Nat.le_of_ble_eq_true rfl) (Nat.le_of_ble_eq_true rfl) (by first | exact Nat.le_of_ble_eq_true rfl | omega) (by first | exact Nat.le_of_ble_eq_true rfl | omega) ?_
                    refine PRk ?_
                    refine VV.stk (st' := [.ref (A u)]) (by first | rfl | (rw [show Option.bind (some g) R = _ from hu]; rfl) | rw [show Option.bind (some g) R = _ from hu]) ?_
                    refine V_astore_n (i := 2) F dJ10_fixAfterInsertion_54 rfl (Nat.le_of_ble_eq_true rfl) (Nat.le_of_ble_eq_true rfl) ?_
                    refine V_aload_n (i := 2) F dJ10_fixAfterInsertion_55 rfl rfl ?_
                    refine V_callS (st := []) F dJ10_fixAfterInsertion_56 lk_J10_303 (ct_colorOf (o := some u) hT (fun _ z => Option.some.inj z ▸ hun)) rfl rfl (Nat.le_of_ble_eq_true rfl) (Nat.le_of_ble_eq_true rfl) (Nat.le_of_ble_eq_true rfl) (by first | exact Nat.le_of_ble_eq_true rfl | omega) (by first | exact Nat.le_of_ble_eq_true rfl | omega) ?_
                    refine PRk ?_
                    refine VV.stk (st' := [.int (cB (C u))]) rfl ?_
                    refine V_if_neC (c := C u) (tgt := 97) F dJ10_fixAfterInsertion_59 (by decide) (fun c_59 => ?_) (fun c_59 => absurd (c_59.symm.trans hcu) (by decide))
                    refine V_aload_n (i := 1) F dJ10_fixAfterInsertion_97 rfl rfl ?_
                    refine V_aload_n (i := 1) F dJ10_fixAfterInsertion_98 rfl rfl ?_
                    refine V_callS (st := [.ref (A x)]) F dJ10_fixAfterInsertion_99 lk_J10_294 (ct_parentOf (o := some x) hT (fun _ z => Option.some.inj z ▸ hx)) rfl rfl (Nat.le_of_ble_eq_true rfl) (Nat.le_of_ble_eq_true rfl) (Nat.le_of_ble_eq_true rfl) (by first | exact Nat.le_of_ble_eq_true rfl | omega) (by first | exact Nat.le_of_ble_eq_true rfl | omega) ?_
                    refine PRk ?_
                    refine VV.stk (st' := [.ref (A p), .ref (A x)]) (by first | rfl | (rw [show Option.bind (some x) P = _ from hpx]; rfl) | rw [show Option.bind (some x) P = _ from hpx]) ?_
                    refine V_callS (st := [.ref (A x)]) F dJ10_fixAfterInsertion_102 lk_J10_300 (ct_rightOf (o := some p) hT (fun _ z => Option.some.inj z ▸ hp)) rfl rfl (Nat.le_of_ble_eq_true rfl) (Nat.le_of_ble_eq_true rfl) (Nat.le_of_ble_eq_true rfl) (by first | exact Nat.le_of_ble_eq_true rfl | omega) (by first | exact Nat.le_of_ble_eq_true rfl | omega) ?_
                    refine PRk ?_
                    refine VV.stk (st' := [.ref (A x), .ref (A x)]) (by first | rfl | (rw [show Option.bind (some p) R = _ from hin]; rfl) | rw [show Option.bind (some p) R = _ from hin]) ?_
                    refine V_acmp_ne (rx := some (A x)) (ry := some (A x)) (tgt := 118) F dJ10_fixAfterInsertion_105 (by decide) (fun c_105 => absurd rfl c_105) (fun c_105 => ?_)
                    refine V_aload_n (i := 1) F dJ10_fixAfterInsertion_108 rfl rfl ?_
                    refine V_callS (st := []) F dJ10_fixAfterInsertion_109 lk_J10_294 (ct_parentOf (o := some x) hT (fun _ z => Option.some.inj z ▸ hx)) rfl rfl (Nat.le_of_ble_eq_true rfl) (Nat.le_of_ble_eq_true rfl) (Nat.le_of_ble_eq_true rfl) (by first | exact Nat.le_of_ble_eq_true rfl | omega) (by first | exact Nat.le_of_ble_eq_true rfl | omega) ?_
                    refine PRk ?_
                    refine VV.stk (st' := [.ref (A p)]) (by first | rfl | (rw [show Option.bind (some x) P = _ from hpx]; rfl) | rw [show Option.bind (some x) P = _ from hpx]) ?_
                    refine V_astore_n (i := 1) F dJ10_fixAfterInsertion_112 rfl (Nat.le_of_ble_eq_true rfl) (Nat.le_of_ble_eq_true rfl) ?_
                    refine V_aload_n (i := 0) F dJ10_fixAfterInsertion_113 rfl rfl ?_
                    refine V_aload_n (i := 1) F dJ10_fixAfterInsertion_114 rfl rfl ?_
                    refine V_callV (st := []) F dJ10_fixAfterInsertion_115 lk_J10_311 (ct_rotateLeft ⟨x0, x1, x6, x7, x8, ht, vw_fr hv1 (Fr.rf (M := fun _ => True) (h := hh)) rfl, vw_fr hv7 (Fr.rf (M := fun _ => True) (h := hh)) rfl⟩ hT hAI hw hp hin) ⟨23, _, _, _, rfl, (.inl ht)⟩ rfl rfl (Nat.le_of_ble_eq_true rfl) (Nat.le_of_ble_eq_true rfl) (Nat.le_of_ble_eq_true rfl) (by first | exact Nat.le_of_ble_eq_true rfl | omega) (by first | exact Nat.le_of_ble_eq_true rfl | omega) ?_
                    rintro _ k1 ⟨rfl, hC4, hT3, hx2⟩
                    obtain ⟨y5, y6, y7, y8, y9, ht10, hv11, hv12⟩ := hC4
                    have f13 : Fr (mT t n A) h k1 := hF.cal hx2 (fun b q => Or.inl q)
                    have hw14 := hw.rotL (L' := rlL L P p x) (R' := rlR L R P p x) (P' := rlP L P p x) (rt' := roR P rt p x) hp hin (fun _ => rfl) (fun _ => rfl) (fun _ => rfl) rfl
                    have e1 : (rlP L P p x) p = some x := by simp [rlP]
                    have e2 : (rlP L P p x) x = some g := by simp [rlP, hxp, hgp]
                    have e3 : (rlL L P p x) g = some x := by simp [rlL, Ne.symm hxg, Ne.symm hpg, hgp, hlg]
                    refine V_aload_n (i := 1) F dJ10_fixAfterInsertion_118 rfl rfl ?_
                    refine V_callS (st := []) F dJ10_fixAfterInsertion_119 lk_J10_294 (ct_parentOf (o := some p) hT3 (fun _ z => Option.some.inj z ▸ hp)) rfl rfl (Nat.le_of_ble_eq_true rfl) (Nat.le_of_ble_eq_true rfl) (Nat.le_of_ble_eq_true rfl) (by first | exact Nat.le_of_ble_eq_true rfl | omega) (by first | exact Nat.le_of_ble_eq_true rfl | omega) ?_
                    refine PRk ?_
                    refine VV.stk (st' := [.ref (A x)]) (by first | rfl | (rw [show Option.bind (some p) (rlP L P p x) = _ from e1]; rfl) | rw [show Option.bind (some p) (rlP L P p x) = _ from e1]) ?_
                    refine V_iconst (v := nI 1) F dJ10_fixAfterInsertion_122 rfl ?_
                    refine V_callS (st := []) F dJ10_fixAfterInsertion_123 lk_J10_307 (ct_setColor (o := some x) (c := true) hT3 hAI (fun _ z => Option.some.inj z ▸ hx)) rfl rfl (Nat.le_of_ble_eq_true rfl) (Nat.le_of_ble_eq_true rfl) (Nat.le_of_ble_eq_true rfl) (by first | exact Nat.le_of_ble_eq_true rfl | omega) (by first | exact Nat.le_of_ble_eq_true rfl | omega) ?_
                    rintro _ k15 ⟨rfl, hT17, hx16, hk18⟩
                    have p19 := (hk18 t (fun i hi => ne_oo ht10 (hT3 i hi) (by decide))).trans ht10
                    have f20 := f13.cal hx16 (fun b q => Or.inl (Or.inr q))
                    have g21 := (Fr.rf (M := fun _ => True) (h := k1)).cal hx16 (fun _ _ => Or.inl trivial)
                    refine V_aload_n (i := 1) F dJ10_fixAfterInsertion_126 rfl rfl ?_
                    refine V_callS (st := []) F dJ10_fixAfterInsertion_127 lk_J10_294 (ct_parentOf (o := some p) hT17 (fun _ z => Option.some.inj z ▸ hp)) rfl rfl (Nat.le_of_ble_eq_true rfl) (Nat.le_of_ble_eq_true rfl) (Nat.le_of_ble_eq_true rfl) (by first | exact Nat.le_of_ble_eq_true rfl | omega) (by first | exact Nat.le_of_ble_eq_true rfl | omega) ?_
                    refine PRk ?_
                    refine VV.stk (st' := [.ref (A x)]) (by first | rfl | (rw [show Option.bind (some p) (rlP L P p x) = _ from e1]; rfl) | rw [show Option.bind (some p) (rlP L P p x) = _ from e1]) ?_
                    refine V_callS (st := []) F dJ10_fixAfterInsertion_130 lk_J10_294 (ct_parentOf (o := some x) hT17 (fun _ z => Option.some.inj z ▸ hx)) rfl rfl (Nat.le_of_ble_eq_true rfl) (Nat.le_of_ble_eq_true rfl) (Nat.le_of_ble_eq_true rfl) (by first | exact Nat.le_of_ble_eq_true rfl | omega) (by first | exact Nat.le_of_ble_eq_true rfl | omega) ?_
                    refine PRk ?_
                    refine VV.stk (st' := [.ref (A g)]) (by first | rfl | (rw [show Option.bind (some x) (rlP L P p x) = _ from e2]; rfl) | rw [show Option.bind (some x) (rlP L P p x) = _ from e2]) ?_
                    refine V_iconst (v := nI 0) F dJ10_fixAfterInsertion_133 rfl ?_
                    refine V_callS (st := []) F dJ10_fixAfterInsertion_134 lk_J10_307 (ct_setColor (o := some g) (c := false) hT17 hAI (fun _ z => Option.some.inj z ▸ hg)) rfl rfl (Nat.le_of_ble_eq_true rfl) (Nat.le_of_ble_eq_true rfl) (Nat.le_of_ble_eq_true rfl) (by first | exact Nat.le_of_ble_eq_true rfl | omega) (by first | exact Nat.le_of_ble_eq_true rfl | omega) ?_
                    rintro _ k22 ⟨rfl, hT24, hx23, hk25⟩
                    have p26 := (hk25 t (fun i hi => ne_oo p19 (hT17 i hi) (by decide))).trans p19
                    have f27 := f20.cal hx23 (fun b q => Or.inl (Or.inr q))
                    have g28 := g21.cal hx23 (fun _ _ => Or.inl trivial)
                    refine V_aload_n (i := 0) F dJ10_fixAfterInsertion_137 rfl rfl ?_
                    refine V_aload_n (i := 1) F dJ10_fixAfterInsertion_138 rfl rfl ?_
                    refine V_callS (st := [.ref (t)]) F dJ10_fixAfterInsertion_139 lk_J10_294 (ct_parentOf (o := some p) hT24 (fun _ z => Option.some.inj z ▸ hp)) rfl rfl (Nat.le_of_ble_eq_true rfl) (Nat.le_of_ble_eq_true rfl) (Nat.le_of_ble_eq_true rfl) (by first | exact Nat.le_of_ble_eq_true rfl | omega) (by first | exact Nat.le_of_ble_eq_true rfl | omega) ?_
                    refine PRk ?_
                    refine VV.stk (st' := [.ref (A x), .ref (t)]) (by first | rfl | (rw [show Option.bind (some p) (rlP L P p x) = _ from e1]; rfl) | rw [show Option.bind (some p) (rlP L P p x) = _ from e1]) ?_
                    refine V_callS (st := [.ref (t)]) F dJ10_fixAfterInsertion_142 lk_J10_294 (ct_parentOf (o := some x) hT24 (fun _ z => Option.some.inj z ▸ hx)) rfl rfl (Nat.le_of_ble_eq_true rfl) (Nat.le_of_ble_eq_true rfl) (Nat.le_of_ble_eq_true rfl) (by first | exact Nat.le_of_ble_eq_true rfl | omega) (by first | exact Nat.le_of_ble_eq_true rfl | omega) ?_
                    refine PRk ?_
                    refine VV.stk (st' := [.ref (A g), .ref (t)]) (by first | rfl | (rw [show Option.bind (some x) (rlP L P p x) = _ from e2]; rfl) | rw [show Option.bind (some x) (rlP L P p x) = _ from e2]) ?_
                    refine V_callV (st := []) F dJ10_fixAfterInsertion_145 lk_J10_314 (ct_rotateRight ⟨y5, y6, y7, y8, y9, p26, vw_fr hv11 g28 rfl, vw_fr hv12 g28 rfl⟩ hT24 hAI hw14 hg e3) ⟨23, _, _, _, rfl, (.inl p26)⟩ rfl rfl (Nat.le_of_ble_eq_true rfl) (Nat.le_of_ble_eq_true rfl) (Nat.le_of_ble_eq_true rfl) (by first | exact Nat.le_of_ble_eq_true rfl | omega) (by first | exact Nat.le_of_ble_eq_true rfl | omega) ?_
                    rintro _ k29 ⟨rfl, hC32, hT31, hx30⟩
                    obtain ⟨y33, y34, y35, y36, y37, ht38, hv39, hv40⟩ := hC32
                    have f41 : Fr (mT t n A) h k29 := f27.cal hx30 (fun b q => Or.inl q)
                    have hw42 := hw14.rotR (L' := rrL (rlL L P p x) (rlR L R P p x) (rlP L P p x) g x) (R' := rrR (rlR L R P p x) (rlP L P p x) g x) (P' := rrP (rlR L R P p x) (rlP L P p x) g x) (rt' := roR (rlP L P p x) (roR P rt p x) g x) hg e3 (fun _ => rfl) (fun _ => rfl) (fun _ => rfl) rfl
                    refine V_goto (tgt := 5) F dJ10_fixAfterInsertion_148 (by decide) ?_
                    refine VV.weak (L' := [some (.ref (t)), some (.ref (A p)), none]) (LW.c1 (LW.c1 (LW.c0 LW.nil))) ?_
                    refine exitB _ _ _ _ _ _ _ p _ ⟨y33, y34, y35, y36, y37, ht38, vw_fr hv39 (Fr.rf (M := fun _ => True) (h := k29)) rfl, vw_fr hv40 (Fr.rf (M := fun _ => True) (h := k29)) rfl⟩ hT31 hw42 hp f41 (Or.inr ?_)
                    have hRx : R x ≠ some p := fun z => hxg (by have := (hw.2.2.2.2.1 x p hx z).2.2.2.2; rw [hgp] at this; exact (Option.some.inj this).symm)
                    exact ⟨x, by grind [rrP, rlR, rlP], hx, by simp [stC, Ne.symm hxg]⟩
                  · have hch : L p = some x := (hw.2.2.2.2.2.2.1 x p hx hpx).2.resolve_right hin
                    cases hz : R p with
                    | none =>
                      refine V_aload_n (i := 1) F dJ10_fixAfterInsertion_5 rfl rfl ?_
                      refine V_ifnull F dJ10_fixAfterInsertion_6 ?_
                      refine V_aload_n (i := 1) F dJ10_fixAfterInsertion_9 rfl rfl ?_
                      refine V_aload_n (i := 0) F dJ10_fixAfterInsertion_10 rfl rfl ?_
                      refine V_getf F dJ10_fixAfterInsertion_11 fc_J10_101_J10 (.inl ht) rfl ?_
                      refine V_acmp_eq (rx := some (A x)) (ry := (rt).map A) (tgt := 258) F dJ10_fixAfterInsertion_14 (by decide) (fun c_14 => absurd (map_eq hAI (fun j hj => (hw.2.2.2.2.2.2.2.1 j hj).1) hx c_14.symm) hroot) (fun c_14 => ?_)
                      refine V_aload_n (i := 1) F dJ10_fixAfterInsertion_17 rfl rfl ?_
                      refine V_getf F dJ10_fixAfterInsertion_18 fc_J10_124_J41 (.inl (hT x hx)) rfl ?_
                      refine VV.stk (st' := [.ref (A p)]) (by first | (rw [hpx]; rfl) | rw [hpx]) ?_
                      refine V_getf F dJ10_fixAfterInsertion_21 fc_J10_290_J41 (.inl (hT p hp)) rfl ?_
                      refine V_if_neC (c := C p) (tgt := 258) F dJ10_fixAfterInsertion_24 (by decide) (fun c_24 => absurd (c_24.symm.trans hcp) (by decide)) (fun c_24 => ?_)
                      refine V_aload_n (i := 1) F dJ10_fixAfterInsertion_27 rfl rfl ?_
                      refine V_callS (st := []) F dJ10_fixAfterInsertion_28 lk_J10_294 (ct_parentOf (o := some x) hT (fun _ z => Option.some.inj z ▸ hx)) rfl rfl (Nat.le_of_ble_eq_true rfl) (Nat.le_of_ble_eq_true rfl) (Nat.le_of_ble_eq_true rfl) (by first | exact Nat.le_of_ble_eq_true rfl | omega) (by first | exact Nat.le_of_ble_eq_true rfl | omega) ?_
                      refine PRk ?_
                      refine VV.stk (st' := [.ref (A p)]) (by first | rfl | (rw [show Option.bind (some x) P = _ from hpx]; rfl) | rw [show Option.bind (some x) P = _ from hpx]) ?_
                      refine V_aload_n (i := 1) F dJ10_fixAfterInsertion_31 rfl rfl ?_
                      refine V_callS (st := [.ref (A p)]) F dJ10_fixAfterInsertion_32 lk_J10_294 (ct_parentOf (o := some x) hT (fun _ z => Option.some.inj z ▸ hx)) rfl rfl (Nat.le_of_ble_eq_true rfl) (Nat.le_of_ble_eq_true rfl) (Nat.le_of_ble_eq_true rfl) (by first | exact Nat.le_of_ble_eq_true rfl | omega) (by first | exact Nat.le_of_ble_eq_true rfl | omega) ?_
                      refine PRk ?_
                      refine VV.stk (st' := [.ref (A p), .ref (A p)]) (by first | rfl | (rw [show Option.bind (some x) P = _ from hpx]; rfl) | rw [show Option.bind (some x) P = _ from hpx]) ?_
                      refine V_callS (st := [.ref (A p)]) F dJ10_fixAfterInsertion_35 lk_J10_294 (ct_parentOf (o := some p) hT (fun _ z => Option.some.inj z ▸ hp)) rfl rfl (Nat.le_of_ble_eq_true rfl) (Nat.le_of_ble_eq_true rfl) (Nat.le_of_ble_eq_true rfl) (by first | exact Nat.le_of_ble_eq_true rfl | omega) (by first | exact Nat.le_of_ble_eq_true rfl | omega) ?_
                      refine PRk ?_
                      refine VV.stk (st' := [.ref (A g), .ref (A p)]) (by first | rfl | (rw [show Option.bind (some p) P = _ from hgp]; rfl) | rw [show Option.bind (some p) P = _ from hgp]) ?_
                      refine V_callS (st := [.ref (A p)]) F dJ10_fixAfterInsertion_38 lk_J10_297 (ct_leftOf (o := some g) hT (fun _ z => Option.some.inj z ▸ hg)) rfl rfl (Nat.le_of_ble_eq_true rfl) (Nat.le_of_ble_eq_true rfl) (Nat.le_of_ble_eq_true rfl) (by first | exact Nat.le_of_ble_eq_true rfl | omega) (by first | exact Nat.le_of_ble_eq_true rfl | omega) ?_
                      refine PRk ?_
                      refine VV.stk (st' := [.ref (A p), .ref (A p)]) (by first | rfl | (rw [show Option.bind (some g) L = _ from hlg]; rfl) | rw [show Option.bind (some g) L = _ from hlg]) ?_
                      refine V_acmp_ne (rx := some (A p)) (ry := some (A p)) (tgt := 151) F dJ10_fixAfterInsertion_41 (by decide) (fun c_41 => absurd rfl c_41) (fun c_41 => ?_)
                      refine V_aload_n (i := 1) F dJ10_fixAfterInsertion_44 rfl rfl ?_
                      refine V_callS (st := []) F dJ10_fixAfterInsertion_45 lk_J10_294 (ct_parentOf (o := some x) hT (fun _ z => Option.some.inj z ▸ hx)) rfl rfl (Nat.le_of_ble_eq_true rfl) (Nat.le_of_ble_eq_true rfl) (Nat.le_of_ble_eq_true rfl) (by first | exact Nat.le_of_ble_eq_true rfl | omega) (by first | exact Nat.le_of_ble_eq_true rfl | omega) ?_
                      refine PRk ?_
                      refine VV.stk (st' := [.ref (A p)]) (by first | rfl | (rw [show Option.bind (some x) P = _ from hpx]; rfl) | rw [show Option.bind (some x) P = _ from hpx]) ?_
                      refine V_callS (st := []) F dJ10_fixAfterInsertion_48 lk_J10_294 (ct_parentOf (o := some p) hT (fun _ z => Option.some.inj z ▸ hp)) rfl rfl (Nat.le_of_ble_eq_true rfl) (Nat.le_of_ble_eq_true rfl) (Nat.le_of_ble_eq_true rfl) (by first | exact Nat.le_of_ble_eq_true rfl | omega) (by first | exact Nat.le_of_ble_eq_true rfl | omega) ?_
                      refine PRk ?_
                      refine VV.stk (st' := [.ref (A g)]) (by first | rfl | (rw [show Option.bind (some p) P = _ from hgp]; rfl) | rw [show Option.bind (some p) P = _ from hgp]) ?_
                      refine V_callS (st := []) F dJ10_fixAfterInsertion_51 lk_J10_300 (ct_rightOf (o := some g) hT (fun _ z => Option.some.inj z ▸ hg)) rfl rfl (Nat.le_of_ble_eq_true rfl) (Nat.le_of_ble_eq_true rfl) (Nat.le_of_ble_eq_true rfl) (by first | exact Nat.le_of_ble_eq_true rfl | omega) (by first | exact Nat.le_of_ble_eq_true rfl | omega) ?_
                      refine PRk ?_
                      refine VV.stk (st' := [.ref (A u)]) (by first | rfl | (rw [show Option.bind (some g) R = _ from hu]; rfl) | rw [show Option.bind (some g) R = _ from hu]) ?_
                      refine V_astore_n (i := 2) F dJ10_fixAfterInsertion_54 rfl (Nat.le_of_ble_eq_true rfl) (Nat.le_of_ble_eq_true rfl) ?_
                      refine V_aload_n (i := 2) F dJ10_fixAfterInsertion_55 rfl rfl ?_
                      refine V_callS (st := []) F dJ10_fixAfterInsertion_56 lk_J10_303 (ct_colorOf (o := some u) hT (fun _ z => Option.some.inj z ▸ hun)) rfl rfl (Nat.le_of_ble_eq_true rfl) (Nat.le_of_ble_eq_true rfl) (Nat.le_of_ble_eq_true rfl) (by first | exact Nat.le_of_ble_eq_true rfl | omega) (by first | exact Nat.le_of_ble_eq_true rfl | omega) ?_
                      refine PRk ?_
                      refine VV.stk (st' := [.int (cB (C u))]) rfl ?_
                      refine V_if_neC (c := C u) (tgt := 97) F dJ10_fixAfterInsertion_59 (by decide) (fun c_59 => ?_) (fun c_59 => absurd (c_59.symm.trans hcu) (by decide))
                      refine V_aload_n (i := 1) F dJ10_fixAfterInsertion_97 rfl rfl ?_
                      refine V_aload_n (i := 1) F dJ10_fixAfterInsertion_98 rfl rfl ?_
                      refine V_callS (st := [.ref (A x)]) F dJ10_fixAfterInsertion_99 lk_J10_294 (ct_parentOf (o := some x) hT (fun _ z => Option.some.inj z ▸ hx)) rfl rfl (Nat.le_of_ble_eq_true rfl) (Nat.le_of_ble_eq_true rfl) (Nat.le_of_ble_eq_true rfl) (by first | exact Nat.le_of_ble_eq_true rfl | omega) (by first | exact Nat.le_of_ble_eq_true rfl | omega) ?_
                      refine PRk ?_
                      refine VV.stk (st' := [.ref (A p), .ref (A x)]) (by first | rfl | (rw [show Option.bind (some x) P = _ from hpx]; rfl) | rw [show Option.bind (some x) P = _ from hpx]) ?_
                      refine V_callS (st := [.ref (A x)]) F dJ10_fixAfterInsertion_102 lk_J10_300 (ct_rightOf (o := some p) hT (fun _ z => Option.some.inj z ▸ hp)) rfl rfl (Nat.le_of_ble_eq_true rfl) (Nat.le_of_ble_eq_true rfl) (Nat.le_of_ble_eq_true rfl) (by first | exact Nat.le_of_ble_eq_true rfl | omega) (by first | exact Nat.le_of_ble_eq_true rfl | omega) ?_
                      refine PRk ?_
                      refine VV.stk (st' := [.null, .ref (A x)]) (by first | rfl | (rw [show Option.bind (some p) R = _ from hz]; rfl) | rw [show Option.bind (some p) R = _ from hz]) ?_
                      refine V_acmp_ne (rx := some (A x)) (ry := none) (tgt := 118) F dJ10_fixAfterInsertion_105 (by decide) (fun c_105 => ?_) (fun c_105 => nomatch c_105)
                      refine V_aload_n (i := 1) F dJ10_fixAfterInsertion_118 rfl rfl ?_
                      refine V_callS (st := []) F dJ10_fixAfterInsertion_119 lk_J10_294 (ct_parentOf (o := some x) hT (fun _ z => Option.some.inj z ▸ hx)) rfl rfl (Nat.le_of_ble_eq_true rfl) (Nat.le_of_ble_eq_true rfl) (Nat.le_of_ble_eq_true rfl) (by first | exact Nat.le_of_ble_eq_true rfl | omega) (by first | exact Nat.le_of_ble_eq_true rfl | omega) ?_
                      refine PRk ?_
                      refine VV.stk (st' := [.ref (A p)]) (by first | rfl | (rw [show Option.bind (some x) P = _ from hpx]; rfl) | rw [show Option.bind (some x) P = _ from hpx]) ?_
                      refine V_iconst (v := nI 1) F dJ10_fixAfterInsertion_122 rfl ?_
                      refine V_callS (st := []) F dJ10_fixAfterInsertion_123 lk_J10_307 (ct_setColor (o := some p) (c := true) hT hAI (fun _ z => Option.some.inj z ▸ hp)) rfl rfl (Nat.le_of_ble_eq_true rfl) (Nat.le_of_ble_eq_true rfl) (Nat.le_of_ble_eq_true rfl) (by first | exact Nat.le_of_ble_eq_true rfl | omega) (by first | exact Nat.le_of_ble_eq_true rfl | omega) ?_
                      rintro _ k1 ⟨rfl, hT3, hx2, hk4⟩
                      have p5 := (hk4 t (fun i hi => ne_oo ht (hT i hi) (by decide))).trans ht
                      have f6 := hF.cal hx2 (fun b q => Or.inl (Or.inr q))
                      have g7 := (Fr.rf (M := fun _ => True) (h := hh)).cal hx2 (fun _ _ => Or.inl trivial)
                      refine V_aload_n (i := 1) F dJ10_fixAfterInsertion_126 rfl rfl ?_
                      refine V_callS (st := []) F dJ10_fixAfterInsertion_127 lk_J10_294 (ct_parentOf (o := some x) hT3 (fun _ z => Option.some.inj z ▸ hx)) rfl rfl (Nat.le_of_ble_eq_true rfl) (Nat.le_of_ble_eq_true rfl) (Nat.le_of_ble_eq_true rfl) (by first | exact Nat.le_of_ble_eq_true rfl | omega) (by first | exact Nat.le_of_ble_eq_true rfl | omega) ?_
                      refine PRk ?_
                      refine VV.stk (st' := [.ref (A p)]) (by first | rfl | (rw [show Option.bind (some x) P = _ from hpx]; rfl) | rw [show Option.bind (some x) P = _ from hpx]) ?_
                      refine V_callS (st := []) F dJ10_fixAfterInsertion_130 lk_J10_294 (ct_parentOf (o := some p) hT3 (fun _ z => Option.some.inj z ▸ hp)) rfl rfl (Nat.le_of_ble_eq_true rfl) (Nat.le_of_ble_eq_true rfl) (Nat.le_of_ble_eq_true rfl) (by first | exact Nat.le_of_ble_eq_true rfl | omega) (by first | exact Nat.le_of_ble_eq_true rfl | omega) ?_
                      refine PRk ?_
                      refine VV.stk (st' := [.ref (A g)]) (by first | rfl | (rw [show Option.bind (some p) P = _ from hgp]; rfl) | rw [show Option.bind (some p) P = _ from hgp]) ?_
                      refine V_iconst (v := nI 0) F dJ10_fixAfterInsertion_133 rfl ?_
                      refine V_callS (st := []) F dJ10_fixAfterInsertion_134 lk_J10_307 (ct_setColor (o := some g) (c := false) hT3 hAI (fun _ z => Option.some.inj z ▸ hg)) rfl rfl (Nat.le_of_ble_eq_true rfl) (Nat.le_of_ble_eq_true rfl) (Nat.le_of_ble_eq_true rfl) (by first | exact Nat.le_of_ble_eq_true rfl | omega) (by first | exact Nat.le_of_ble_eq_true rfl | omega) ?_
                      rintro _ k8 ⟨rfl, hT10, hx9, hk11⟩
                      have p12 := (hk11 t (fun i hi => ne_oo p5 (hT3 i hi) (by decide))).trans p5
                      have f13 := f6.cal hx9 (fun b q => Or.inl (Or.inr q))
                      have g14 := g7.cal hx9 (fun _ _ => Or.inl trivial)
                      refine V_aload_n (i := 0) F dJ10_fixAfterInsertion_137 rfl rfl ?_
                      refine V_aload_n (i := 1) F dJ10_fixAfterInsertion_138 rfl rfl ?_
                      refine V_callS (st := [.ref (t)]) F dJ10_fixAfterInsertion_139 lk_J10_294 (ct_parentOf (o := some x) hT10 (fun _ z => Option.some.inj z ▸ hx)) rfl rfl (Nat.le_of_ble_eq_true rfl) (Nat.le_of_ble_eq_true rfl) (Nat.le_of_ble_eq_true rfl) (by first | exact Nat.le_of_ble_eq_true rfl | omega) (by first | exact Nat.le_of_ble_eq_true rfl | omega) ?_
                      refine PRk ?_
                      refine VV.stk (st' := [.ref (A p), .ref (t)]) (by first | rfl | (rw [show Option.bind (some x) P = _ from hpx]; rfl) | rw [show Option.bind (some x) P = _ from hpx]) ?_
                      refine V_callS (st := [.ref (t)]) F dJ10_fixAfterInsertion_142 lk_J10_294 (ct_parentOf (o := some p) hT10 (fun _ z => Option.some.inj z ▸ hp)) rfl rfl (Nat.le_of_ble_eq_true rfl) (Nat.le_of_ble_eq_true rfl) (Nat.le_of_ble_eq_true rfl) (by first | exact Nat.le_of_ble_eq_true rfl | omega) (by first | exact Nat.le_of_ble_eq_true rfl | omega) ?_
                      refine PRk ?_
                      refine VV.stk (st' := [.ref (A g), .ref (t)]) (by first | rfl | (rw [show Option.bind (some p) P = _ from hgp]; rfl) | rw [show Option.bind (some p) P = _ from hgp]) ?_
                      refine V_callV (st := []) F dJ10_fixAfterInsertion_145 lk_J10_314 (ct_rotateRight ⟨x0, x1, x6, x7, x8, p12, vw_fr hv1 g14 rfl, vw_fr hv7 g14 rfl⟩ hT10 hAI hw hg hlg) ⟨23, _, _, _, rfl, (.inl p12)⟩ rfl rfl (Nat.le_of_ble_eq_true rfl) (Nat.le_of_ble_eq_true rfl) (Nat.le_of_ble_eq_true rfl) (by first | exact Nat.le_of_ble_eq_true rfl | omega) (by first | exact Nat.le_of_ble_eq_true rfl | omega) ?_
                      rintro _ k15 ⟨rfl, hC18, hT17, hx16⟩
                      obtain ⟨y19, y20, y21, y22, y23, ht24, hv25, hv26⟩ := hC18
                      have f27 : Fr (mT t n A) h k15 := f13.cal hx16 (fun b q => Or.inl q)
                      have hw28 := hw.rotR (L' := rrL L R P g p) (R' := rrR R P g p) (P' := rrP R P g p) (rt' := roR P rt g p) hg hlg (fun _ => rfl) (fun _ => rfl) (fun _ => rfl) rfl
                      refine V_goto (tgt := 5) F dJ10_fixAfterInsertion_148 (by decide) ?_
                      refine VV.weak (L' := [some (.ref (t)), some (.ref (A x)), none]) (LW.c1 (LW.c1 (LW.c0 LW.nil))) ?_
                      refine exitB _ _ _ _ _ _ _ x _ ⟨y19, y20, y21, y22, y23, ht24, vw_fr hv25 (Fr.rf (M := fun _ => True) (h := k15)) rfl, vw_fr hv26 (Fr.rf (M := fun _ => True) (h := k15)) rfl⟩ hT17 hw28 hx f27 (Or.inr ?_)
                      exact ⟨p, by grind [rrP], hp, by simp [stC, Ne.symm hpg]⟩
                    | some z =>
                      have hzn : z < n := hw.bR hp hz
                      have hzx : z ≠ x := fun q => hin (by rw [hz, q])
                      refine V_aload_n (i := 1) F dJ10_fixAfterInsertion_5 rfl rfl ?_
                      refine V_ifnull F dJ10_fixAfterInsertion_6 ?_
                      refine V_aload_n (i := 1) F dJ10_fixAfterInsertion_9 rfl rfl ?_
                      refine V_aload_n (i := 0) F dJ10_fixAfterInsertion_10 rfl rfl ?_
                      refine V_getf F dJ10_fixAfterInsertion_11 fc_J10_101_J10 (.inl ht) rfl ?_
                      refine V_acmp_eq (rx := some (A x)) (ry := (rt).map A) (tgt := 258) F dJ10_fixAfterInsertion_14 (by decide) (fun c_14 => absurd (map_eq hAI (fun j hj => (hw.2.2.2.2.2.2.2.1 j hj).1) hx c_14.symm) hroot) (fun c_14 => ?_)
                      refine V_aload_n (i := 1) F dJ10_fixAfterInsertion_17 rfl rfl ?_
                      refine V_getf F dJ10_fixAfterInsertion_18 fc_J10_124_J41 (.inl (hT x hx)) rfl ?_
                      refine VV.stk (st' := [.ref (A p)]) (by first | (rw [hpx]; rfl) | rw [hpx]) ?_
                      refine V_getf F dJ10_fixAfterInsertion_21 fc_J10_290_J41 (.inl (hT p hp)) rfl ?_
                      refine V_if_neC (c := C p) (tgt := 258) F dJ10_fixAfterInsertion_24 (by decide) (fun c_24 => absurd (c_24.symm.trans hcp) (by decide)) (fun c_24 => ?_)
                      refine V_aload_n (i := 1) F dJ10_fixAfterInsertion_27 rfl rfl ?_
                      refine V_callS (st := []) F dJ10_fixAfterInsertion_28 lk_J10_294 (ct_parentOf (o := some x) hT (fun _ z => Option.some.inj z ▸ hx)) rfl rfl (Nat.le_of_ble_eq_true rfl) (Nat.le_of_ble_eq_true rfl) (Nat.le_of_ble_eq_true rfl) (by first | exact Nat.le_of_ble_eq_true rfl | omega) (by first | exact Nat.le_of_ble_eq_true rfl | omega) ?_
                      refine PRk ?_
                      refine VV.stk (st' := [.ref (A p)]) (by first | rfl | (rw [show Option.bind (some x) P = _ from hpx]; rfl) | rw [show Option.bind (some x) P = _ from hpx]) ?_
                      refine V_aload_n (i := 1) F dJ10_fixAfterInsertion_31 rfl rfl ?_
                      refine V_callS (st := [.ref (A p)]) F dJ10_fixAfterInsertion_32 lk_J10_294 (ct_parentOf (o := some x) hT (fun _ z => Option.some.inj z ▸ hx)) rfl rfl (Nat.le_of_ble_eq_true rfl) (Nat.le_of_ble_eq_true rfl) (Nat.le_of_ble_eq_true rfl) (by first | exact Nat.le_of_ble_eq_true rfl | omega) (by first | exact Nat.le_of_ble_eq_true rfl | omega) ?_
                      refine PRk ?_
                      refine VV.stk (st' := [.ref (A p), .ref (A p)]) (by first | rfl | (rw [show Option.bind (some x) P = _ from hpx]; rfl) | rw [show Option.bind (some x) P = _ from hpx]) ?_
                      refine V_callS (st := [.ref (A p)]) F dJ10_fixAfterInsertion_35 lk_J10_294 (ct_parentOf (o := some p) hT (fun _ z => Option.some.inj z ▸ hp)) rfl rfl (Nat.le_of_ble_eq_true rfl) (Nat.le_of_ble_eq_true rfl) (Nat.le_of_ble_eq_true rfl) (by first | exact Nat.le_of_ble_eq_true rfl | omega) (by first | exact Nat.le_of_ble_eq_true rfl | omega) ?_
                      refine PRk ?_
                      refine VV.stk (st' := [.ref (A g), .ref (A p)]) (by first | rfl | (rw [show Option.bind (some p) P = _ from hgp]; rfl) | rw [show Option.bind (some p) P = _ from hgp]) ?_
                      refine V_callS (st := [.ref (A p)]) F dJ10_fixAfterInsertion_38 lk_J10_297 (ct_leftOf (o := some g) hT (fun _ z => Option.some.inj z ▸ hg)) rfl rfl (Nat.le_of_ble_eq_true rfl) (Nat.le_of_ble_eq_true rfl) (Nat.le_of_ble_eq_true rfl) (by first | exact Nat.le_of_ble_eq_true rfl | omega) (by first | exact Nat.le_of_ble_eq_true rfl | omega) ?_
                      refine PRk ?_
                      refine VV.stk (st' := [.ref (A p), .ref (A p)]) (by first | rfl | (rw [show Option.bind (some g) L = _ from hlg]; rfl) | rw [show Option.bind (some g) L = _ from hlg]) ?_
                      refine V_acmp_ne (rx := some (A p)) (ry := some (A p)) (tgt := 151) F dJ10_fixAfterInsertion_41 (by decide) (fun c_41 => absurd rfl c_41) (fun c_41 => ?_)
                      refine V_aload_n (i := 1) F dJ10_fixAfterInsertion_44 rfl rfl ?_
                      refine V_callS (st := []) F dJ10_fixAfterInsertion_45 lk_J10_294 (ct_parentOf (o := some x) hT (fun _ z => Option.some.inj z ▸ hx)) rfl rfl (Nat.le_of_ble_eq_true rfl) (Nat.le_of_ble_eq_true rfl) (Nat.le_of_ble_eq_true rfl) (by first | exact Nat.le_of_ble_eq_true rfl | omega) (by first | exact Nat.le_of_ble_eq_true rfl | omega) ?_
                      refine PRk ?_
                      refine VV.stk (st' := [.ref (A p)]) (by first | rfl | (rw [show Option.bind (some x) P = _ from hpx]; rfl) | rw [show Option.bind (some x) P = _ from hpx]) ?_
                      refine V_callS (st := []) F dJ10_fixAfterInsertion_48 lk_J10_294 (ct_parentOf (o := some p) hT (fun _ z => Option.some.inj z ▸ hp)) rfl rfl (Nat.le_of_ble_eq_true rfl) (Nat.le_of_ble_eq_true rfl) (Nat.le_of_ble_eq_true rfl) (by first | exact Nat.le_of_ble_eq_true rfl | omega) (by first | exact Nat.le_of_ble_eq_true rfl | omega) ?_
                      refine PRk ?_
                      refine VV.stk (st' := [.ref (A g)]) (by first | rfl | (rw [show Option.bind (some p) P = _ from hgp]; rfl) | rw [show Option.bind (some p) P = _ from hgp]) ?_
                      refine V_callS (st := []) F dJ10_fixAfterInsertion_51 lk_J10_300 (ct_rightOf (o := some g) hT (fun _ z => Option.some.inj z ▸ hg)) rfl rfl (Nat.le_of_ble_eq_true rfl) (Nat.le_of_ble_eq_true rfl) (Nat.le_of_ble_eq_true rfl) (by first | exact Nat.le_of_ble_eq_true rfl | omega) (by first | exact Nat.le_of_ble_eq_true rfl | omega) ?_
                      refine PRk ?_
                      refine VV.stk (st' := [.ref (A u)]) (by first | rfl | (rw [show Option.bind (some g) R = _ from hu]; rfl) | rw [show Option.bind (some g) R = _ from hu]) ?_
                      refine V_astore_n (i := 2) F dJ10_fixAfterInsertion_54 rfl (Nat.le_of_ble_eq_true rfl) (Nat.le_of_ble_eq_true rfl) ?_
                      refine V_aload_n (i := 2) F dJ10_fixAfterInsertion_55 rfl rfl ?_
                      refine V_callS (st := []) F dJ10_fixAfterInsertion_56 lk_J10_303 (ct_colorOf (o := some u) hT (fun _ z => Option.some.inj z ▸ hun)) rfl rfl (Nat.le_of_ble_eq_true rfl) (Nat.le_of_ble_eq_true rfl) (Nat.le_of_ble_eq_true rfl) (by first | exact Nat.le_of_ble_eq_true rfl | omega) (by first | exact Nat.le_of_ble_eq_true rfl | omega) ?_
                      refine PRk ?_
                      refine VV.stk (st' := [.int (cB (C u))]) rfl ?_
                      refine V_if_neC (c := C u) (tgt := 97) F dJ10_fixAfterInsertion_59 (by decide) (fun c_59 => ?_) (fun c_59 => absurd (c_59.symm.trans hcu) (by decide))
                      refine V_aload_n (i := 1) F dJ10_fixAfterInsertion_97 rfl rfl ?_
                      refine V_aload_n (i := 1) F dJ10_fixAfterInsertion_98 rfl rfl ?_
                      refine V_callS (st := [.ref (A x)]) F dJ10_fixAfterInsertion_99 lk_J10_294 (ct_parentOf (o := some x) hT (fun _ z => Option.some.inj z ▸ hx)) rfl rfl (Nat.le_of_ble_eq_true rfl) (Nat.le_of_ble_eq_true rfl) (Nat.le_of_ble_eq_true rfl) (by first | exact Nat.le_of_ble_eq_true rfl | omega) (by first | exact Nat.le_of_ble_eq_true rfl | omega) ?_
                      refine PRk ?_
                      refine VV.stk (st' := [.ref (A p), .ref (A x)]) (by first | rfl | (rw [show Option.bind (some x) P = _ from hpx]; rfl) | rw [show Option.bind (some x) P = _ from hpx]) ?_
                      refine V_callS (st := [.ref (A x)]) F dJ10_fixAfterInsertion_102 lk_J10_300 (ct_rightOf (o := some p) hT (fun _ z => Option.some.inj z ▸ hp)) rfl rfl (Nat.le_of_ble_eq_true rfl) (Nat.le_of_ble_eq_true rfl) (Nat.le_of_ble_eq_true rfl) (by first | exact Nat.le_of_ble_eq_true rfl | omega) (by first | exact Nat.le_of_ble_eq_true rfl | omega) ?_
                      refine PRk ?_
                      refine VV.stk (st' := [.ref (A z), .ref (A x)]) (by first | rfl | (rw [show Option.bind (some p) R = _ from hz]; rfl) | rw [show Option.bind (some p) R = _ from hz]) ?_
                      refine V_acmp_ne (rx := some (A x)) (ry := some (A z)) (tgt := 118) F dJ10_fixAfterInsertion_105 (by decide) (fun c_105 => ?_) (fun c_105 => absurd (hAI _ _ hx hzn (Option.some.inj c_105)) (Ne.symm hzx))
                      refine V_aload_n (i := 1) F dJ10_fixAfterInsertion_118 rfl rfl ?_
                      refine V_callS (st := []) F dJ10_fixAfterInsertion_119 lk_J10_294 (ct_parentOf (o := some x) hT (fun _ z => Option.some.inj z ▸ hx)) rfl rfl (Nat.le_of_ble_eq_true rfl) (Nat.le_of_ble_eq_true rfl) (Nat.le_of_ble_eq_true rfl) (by first | exact Nat.le_of_ble_eq_true rfl | omega) (by first | exact Nat.le_of_ble_eq_true rfl | omega) ?_
                      refine PRk ?_
                      refine VV.stk (st' := [.ref (A p)]) (by first | rfl | (rw [show Option.bind (some x) P = _ from hpx]; rfl) | rw [show Option.bind (some x) P = _ from hpx]) ?_
                      refine V_iconst (v := nI 1) F dJ10_fixAfterInsertion_122 rfl ?_
                      refine V_callS (st := []) F dJ10_fixAfterInsertion_123 lk_J10_307 (ct_setColor (o := some p) (c := true) hT hAI (fun _ z => Option.some.inj z ▸ hp)) rfl rfl (Nat.le_of_ble_eq_true rfl) (Nat.le_of_ble_eq_true rfl) (Nat.le_of_ble_eq_true rfl) (by first | exact Nat.le_of_ble_eq_true rfl | omega) (by first | exact Nat.le_of_ble_eq_true rfl | omega) ?_
                      rintro _ k1 ⟨rfl, hT3, hx2, hk4⟩
                      have p5 := (hk4 t (fun i hi => ne_oo ht (hT i hi) (by decide))).trans ht
                      have f6 := hF.cal hx2 (fun b q => Or.inl (Or.inr q))
                      have g7 := (Fr.rf (M := fun _ => True) (h := hh)).cal hx2 (fun _ _ => Or.inl trivial)
                      refine V_aload_n (i := 1) F dJ10_fixAfterInsertion_126 rfl rfl ?_
                      refine V_callS (st := []) F dJ10_fixAfterInsertion_127 lk_J10_294 (ct_parentOf (o := some x) hT3 (fun _ z => Option.some.inj z ▸ hx)) rfl rfl (Nat.le_of_ble_eq_true rfl) (Nat.le_of_ble_eq_true rfl) (Nat.le_of_ble_eq_true rfl) (by first | exact Nat.le_of_ble_eq_true rfl | omega) (by first | exact Nat.le_of_ble_eq_true rfl | omega) ?_
                      refine PRk ?_
                      refine VV.stk (st' := [.ref (A p)]) (by first | rfl | (rw [show Option.bind (some x) P = _ from hpx]; rfl) | rw [show Option.bind (some x) P = _ from hpx]) ?_
                      refine V_callS (st := []) F dJ10_fixAfterInsertion_130 lk_J10_294 (ct_parentOf (o := some p) hT3 (fun _ z => Option.some.inj z ▸ hp)) rfl rfl (Nat.le_of_ble_eq_true rfl) (Nat.le_of_ble_eq_true rfl) (Nat.le_of_ble_eq_true rfl) (by first | exact Nat.le_of_ble_eq_true rfl | omega) (by first | exact Nat.le_of_ble_eq_true rfl | omega) ?_
                      refine PRk ?_
                      refine VV.stk (st' := [.ref (A g)]) (by first | rfl | (rw [show Option.bind (some p) P = _ from hgp]; rfl) | rw [show Option.bind (some p) P = _ from hgp]) ?_
                      refine V_iconst (v := nI 0) F dJ10_fixAfterInsertion_133 rfl ?_
                      refine V_callS (st := []) F dJ10_fixAfterInsertion_134 lk_J10_307 (ct_setColor (o := some g) (c := false) hT3 hAI (fun _ z => Option.some.inj z ▸ hg)) rfl rfl (Nat.le_of_ble_eq_true rfl) (Nat.le_of_ble_eq_true rfl) (Nat.le_of_ble_eq_true rfl) (by first | exact Nat.le_of_ble_eq_true rfl | omega) (by first | exact Nat.le_of_ble_eq_true rfl | omega) ?_
                      rintro _ k8 ⟨rfl, hT10, hx9, hk11⟩
                      have p12 := (hk11 t (fun i hi => ne_oo p5 (hT3 i hi) (by decide))).trans p5
                      have f13 := f6.cal hx9 (fun b q => Or.inl (Or.inr q))
                      have g14 := g7.cal hx9 (fun _ _ => Or.inl trivial)
                      refine V_aload_n (i := 0) F dJ10_fixAfterInsertion_137 rfl rfl ?_
                      refine V_aload_n (i := 1) F dJ10_fixAfterInsertion_138 rfl rfl ?_
                      refine V_callS (st := [.ref (t)]) F dJ10_fixAfterInsertion_139 lk_J10_294 (ct_parentOf (o := some x) hT10 (fun _ z => Option.some.inj z ▸ hx)) rfl rfl (Nat.le_of_ble_eq_true rfl) (Nat.le_of_ble_eq_true rfl) (Nat.le_of_ble_eq_true rfl) (by first | exact Nat.le_of_ble_eq_true rfl | omega) (by first | exact Nat.le_of_ble_eq_true rfl | omega) ?_
                      refine PRk ?_
                      refine VV.stk (st' := [.ref (A p), .ref (t)]) (by first | rfl | (rw [show Option.bind (some x) P = _ from hpx]; rfl) | rw [show Option.bind (some x) P = _ from hpx]) ?_
                      refine V_callS (st := [.ref (t)]) F dJ10_fixAfterInsertion_142 lk_J10_294 (ct_parentOf (o := some p) hT10 (fun _ z => Option.some.inj z ▸ hp)) rfl rfl (Nat.le_of_ble_eq_true rfl) (Nat.le_of_ble_eq_true rfl) (Nat.le_of_ble_eq_true rfl) (by first | exact Nat.le_of_ble_eq_true rfl | omega) (by first | exact Nat.le_of_ble_eq_true rfl | omega) ?_
                      refine PRk ?_
                      refine VV.stk (st' := [.ref (A g), .ref (t)]) (by first | rfl | (rw [show Option.bind (some p) P = _ from hgp]; rfl) | rw [show Option.bind (some p) P = _ from hgp]) ?_
                      refine V_callV (st := []) F dJ10_fixAfterInsertion_145 lk_J10_314 (ct_rotateRight ⟨x0, x1, x6, x7, x8, p12, vw_fr hv1 g14 rfl, vw_fr hv7 g14 rfl⟩ hT10 hAI hw hg hlg) ⟨23, _, _, _, rfl, (.inl p12)⟩ rfl rfl (Nat.le_of_ble_eq_true rfl) (Nat.le_of_ble_eq_true rfl) (Nat.le_of_ble_eq_true rfl) (by first | exact Nat.le_of_ble_eq_true rfl | omega) (by first | exact Nat.le_of_ble_eq_true rfl | omega) ?_
                      rintro _ k15 ⟨rfl, hC18, hT17, hx16⟩
                      obtain ⟨y19, y20, y21, y22, y23, ht24, hv25, hv26⟩ := hC18
                      have f27 : Fr (mT t n A) h k15 := f13.cal hx16 (fun b q => Or.inl q)
                      have hw28 := hw.rotR (L' := rrL L R P g p) (R' := rrR R P g p) (P' := rrP R P g p) (rt' := roR P rt g p) hg hlg (fun _ => rfl) (fun _ => rfl) (fun _ => rfl) rfl
                      refine V_goto (tgt := 5) F dJ10_fixAfterInsertion_148 (by decide) ?_
                      refine VV.weak (L' := [some (.ref (t)), some (.ref (A x)), none]) (LW.c1 (LW.c1 (LW.c0 LW.nil))) ?_
                      refine exitB _ _ _ _ _ _ _ x _ ⟨y19, y20, y21, y22, y23, ht24, vw_fr hv25 (Fr.rf (M := fun _ => True) (h := k15)) rfl, vw_fr hv26 (Fr.rf (M := fun _ => True) (h := k15)) rfl⟩ hT17 hw28 hx f27 (Or.inr ?_)
                      exact ⟨p, by grind [rrP], hp, by simp [stC, Ne.symm hpg]⟩
                · have hcu2 : C u = false := by simpa using hcu
                  refine V_aload_n (i := 1) F dJ10_fixAfterInsertion_5 rfl rfl ?_
                  refine V_ifnull F dJ10_fixAfterInsertion_6 ?_
                  refine V_aload_n (i := 1) F dJ10_fixAfterInsertion_9 rfl rfl ?_
                  refine V_aload_n (i := 0) F dJ10_fixAfterInsertion_10 rfl rfl ?_
                  refine V_getf F dJ10_fixAfterInsertion_11 fc_J10_101_J10 (.inl ht) rfl ?_
                  refine V_acmp_eq (rx := some (A x)) (ry := (rt).map A) (tgt := 258) F dJ10_fixAfterInsertion_14 (by decide) (fun c_14 => absurd (map_eq hAI (fun j hj => (hw.2.2.2.2.2.2.2.1 j hj).1) hx c_14.symm) hroot) (fun c_14 => ?_)
                  refine V_aload_n (i := 1) F dJ10_fixAfterInsertion_17 rfl rfl ?_
                  refine V_getf F dJ10_fixAfterInsertion_18 fc_J10_124_J41 (.inl (hT x hx)) rfl ?_
                  refine VV.stk (st' := [.ref (A p)]) (by first | (rw [hpx]; rfl) | rw [hpx]) ?_
                  refine V_getf F dJ10_fixAfterInsertion_21 fc_J10_290_J41 (.inl (hT p hp)) rfl ?_
                  refine V_if_neC (c := C p) (tgt := 258) F dJ10_fixAfterInsertion_24 (by decide) (fun c_24 => absurd (c_24.symm.trans hcp) (by decide)) (fun c_24 => ?_)
                  refine V_aload_n (i := 1) F dJ10_fixAfterInsertion_27 rfl rfl ?_
                  refine V_callS (st := []) F dJ10_fixAfterInsertion_28 lk_J10_294 (ct_parentOf (o := some x) hT (fun _ z => Option.some.inj z ▸ hx)) rfl rfl (Nat.le_of_ble_eq_true rfl) (Nat.le_of_ble_eq_true rfl) (Nat.le_of_ble_eq_true rfl) (by first | exact Nat.le_of_ble_eq_true rfl | omega) (by first | exact Nat.le_of_ble_eq_true rfl | omega) ?_
                  refine PRk ?_
                  refine VV.stk (st' := [.ref (A p)]) (by first | rfl | (rw [show Option.bind (some x) P = _ from hpx]; rfl) | rw [show Option.bind (some x) P = _ from hpx]) ?_
                  refine V_aload_n (i := 1) F dJ10_fixAfterInsertion_31 rfl rfl ?_
                  refine V_callS (st := [.ref (A p)]) F dJ10_fixAfterInsertion_32 lk_J10_294 (ct_parentOf (o := some x) hT (fun _ z => Option.some.inj z ▸ hx)) rfl rfl (Nat.le_of_ble_eq_true rfl) (Nat.le_of_ble_eq_true rfl) (Nat.le_of_ble_eq_true rfl) (by first | exact Nat.le_of_ble_eq_true rfl | omega) (by first | exact Nat.le_of_ble_eq_true rfl | omega) ?_
                  refine PRk ?_
                  refine VV.stk (st' := [.ref (A p), .ref (A p)]) (by first | rfl | (rw [show Option.bind (some x) P = _ from hpx]; rfl) | rw [show Option.bind (some x) P = _ from hpx]) ?_
                  refine V_callS (st := [.ref (A p)]) F dJ10_fixAfterInsertion_35 lk_J10_294 (ct_parentOf (o := some p) hT (fun _ z => Option.some.inj z ▸ hp)) rfl rfl (Nat.le_of_ble_eq_true rfl) (Nat.le_of_ble_eq_true rfl) (Nat.le_of_ble_eq_true rfl) (by first | exact Nat.le_of_ble_eq_true rfl | omega) (by first | exact Nat.le_of_ble_eq_true rfl | omega) ?_
                  refine PRk ?_
                  refine VV.stk (st' := [.ref (A g), .ref (A p)]) (by first | rfl | (rw [show Option.bind (some p) P = _ from hgp]; rfl) | rw [show Option.bind (some p) P = _ from hgp]) ?_
                  refine V_callS (st := [.ref (A p)]) F dJ10_fixAfterInsertion_38 lk_J10_297 (ct_leftOf (o := some g) hT (fun _ z => Option.some.inj z ▸ hg)) rfl rfl (Nat.le_of_ble_eq_true rfl) (Nat.le_of_ble_eq_true rfl) (Nat.le_of_ble_eq_true rfl) (by first | exact Nat.le_of_ble_eq_true rfl | omega) (by first | exact Nat.le_of_ble_eq_true rfl | omega) ?_
                  refine PRk ?_
                  refine VV.stk (st' := [.ref (A p), .ref (A p)]) (by first | rfl | (rw [show Option.bind (some g) L = _ from hlg]; rfl) | rw [show Option.bind (some g) L = _ from hlg]) ?_
                  refine V_acmp_ne (rx := some (A p)) (ry := some (A p)) (tgt := 151) F dJ10_fixAfterInsertion_41 (by decide) (fun c_41 => absurd rfl c_41) (fun c_41 => ?_)
                  refine V_aload_n (i := 1) F dJ10_fixAfterInsertion_44 rfl rfl ?_
                  refine V_callS (st := []) F dJ10_fixAfterInsertion_45 lk_J10_294 (ct_parentOf (o := some x) hT (fun _ z => Option.some.inj z ▸ hx)) rfl rfl (Nat.le_of_ble_eq_true rfl) (Nat.le_of_ble_eq_true rfl) (Nat.le_of_ble_eq_true rfl) (by first | exact Nat.le_of_ble_eq_true rfl | omega) (by first | exact Nat.le_of_ble_eq_true rfl | omega) ?_
                  refine PRk ?_
                  refine VV.stk (st' := [.ref (A p)]) (by first | rfl | (rw [show Option.bind (some x) P = _ from hpx]; rfl) | rw [show Option.bind (some x) P = _ from hpx]) ?_
                  refine V_callS (st := []) F dJ10_fixAfterInsertion_48 lk_J10_294 (ct_parentOf (o := some p) hT (fun _ z => Option.some.inj z ▸ hp)) rfl rfl (Nat.le_of_ble_eq_true rfl) (Nat.le_of_ble_eq_true rfl) (Nat.le_of_ble_eq_true rfl) (by first | exact Nat.le_of_ble_eq_true rfl | omega) (by first | exact Nat.le_of_ble_eq_true rfl | omega) ?_
                  refine PRk ?_
                  refine VV.stk (st' := [.ref (A g)]) (by first | rfl | (rw [show Option.bind (some p) P = _ from hgp]; rfl) | rw [show Option.bind (some p) P = _ from hgp]) ?_
                  refine V_callS (st := []) F dJ10_fixAfterInsertion_51 lk_J10_300 (ct_rightOf (o := some g) hT (fun _ z => Option.some.inj z ▸ hg)) rfl rfl (Nat.le_of_ble_eq_true rfl) (Nat.le_of_ble_eq_true rfl) (Nat.le_of_ble_eq_true rfl) (by first | exact Nat.le_of_ble_eq_true rfl | omega) (by first | exact Nat.le_of_ble_eq_true rfl | omega) ?_
                  refine PRk ?_
                  refine VV.stk (st' := [.ref (A u)]) (by first | rfl | (rw [show Option.bind (some g) R = _ from hu]; rfl) | rw [show Option.bind (some g) R = _ from hu]) ?_
                  refine V_astore_n (i := 2) F dJ10_fixAfterInsertion_54 rfl (Nat.le_of_ble_eq_true rfl) (Nat.le_of_ble_eq_true rfl) ?_
                  refine V_aload_n (i := 2) F dJ10_fixAfterInsertion_55 rfl rfl ?_
                  refine V_callS (st := []) F dJ10_fixAfterInsertion_56 lk_J10_303 (ct_colorOf (o := some u) hT (fun _ z => Option.some.inj z ▸ hun)) rfl rfl (Nat.le_of_ble_eq_true rfl) (Nat.le_of_ble_eq_true rfl) (Nat.le_of_ble_eq_true rfl) (by first | exact Nat.le_of_ble_eq_true rfl | omega) (by first | exact Nat.le_of_ble_eq_true rfl | omega) ?_
                  refine PRk ?_
                  refine VV.stk (st' := [.int (cB (C u))]) rfl ?_
                  refine V_if_neC (c := C u) (tgt := 97) F dJ10_fixAfterInsertion_59 (by decide) (fun c_59 => absurd (c_59.symm.trans hcu2) (by decide)) (fun c_59 => ?_)
                  refine V_aload_n (i := 1) F dJ10_fixAfterInsertion_62 rfl rfl ?_
                  refine V_callS (st := []) F dJ10_fixAfterInsertion_63 lk_J10_294 (ct_parentOf (o := some x) hT (fun _ z => Option.some.inj z ▸ hx)) rfl rfl (Nat.le_of_ble_eq_true rfl) (Nat.le_of_ble_eq_true rfl) (Nat.le_of_ble_eq_true rfl) (by first | exact Nat.le_of_ble_eq_true rfl | omega) (by first | exact Nat.le_of_ble_eq_true rfl | omega) ?_
                  refine PRk ?_
                  refine VV.stk (st' := [.ref (A p)]) (by first | rfl | (rw [show Option.bind (some x) P = _ from hpx]; rfl) | rw [show Option.bind (some x) P = _ from hpx]) ?_
                  refine V_iconst (v := nI 1) F dJ10_fixAfterInsertion_66 rfl ?_
                  refine V_callS (st := []) F dJ10_fixAfterInsertion_67 lk_J10_307 (ct_setColor (o := some p) (c := true) hT hAI (fun _ z => Option.some.inj z ▸ hp)) rfl rfl (Nat.le_of_ble_eq_true rfl) (Nat.le_of_ble_eq_true rfl) (Nat.le_of_ble_eq_true rfl) (by first | exact Nat.le_of_ble_eq_true rfl | omega) (by first | exact Nat.le_of_ble_eq_true rfl | omega) ?_
                  rintro _ k1 ⟨rfl, hT3, hx2, hk4⟩
                  have p5 := (hk4 t (fun i hi => ne_oo ht (hT i hi) (by decide))).trans ht
                  have f6 := hF.cal hx2 (fun b q => Or.inl (Or.inr q))
                  have g7 := (Fr.rf (M := fun _ => True) (h := hh)).cal hx2 (fun _ _ => Or.inl trivial)
                  refine V_aload_n (i := 2) F dJ10_fixAfterInsertion_70 rfl rfl ?_
                  refine V_iconst (v := nI 1) F dJ10_fixAfterInsertion_71 rfl ?_
                  refine V_callS (st := []) F dJ10_fixAfterInsertion_72 lk_J10_307 (ct_setColor (o := some u) (c := true) hT3 hAI (fun _ z => Option.some.inj z ▸ hun)) rfl rfl (Nat.le_of_ble_eq_true rfl) (Nat.le_of_ble_eq_true rfl) (Nat.le_of_ble_eq_true rfl) (by first | exact Nat.le_of_ble_eq_true rfl | omega) (by first | exact Nat.le_of_ble_eq_true rfl | omega) ?_
                  rintro _ k8 ⟨rfl, hT10, hx9, hk11⟩
                  have p12 := (hk11 t (fun i hi => ne_oo p5 (hT3 i hi) (by decide))).trans p5
                  have f13 := f6.cal hx9 (fun b q => Or.inl (Or.inr q))
                  have g14 := g7.cal hx9 (fun _ _ => Or.inl trivial)
                  refine V_aload_n (i := 1) F dJ10_fixAfterInsertion_75 rfl rfl ?_
                  refine V_callS (st := []) F dJ10_fixAfterInsertion_76 lk_J10_294 (ct_parentOf (o := some x) hT10 (fun _ z => Option.some.inj z ▸ hx)) rfl rfl (Nat.le_of_ble_eq_true rfl) (Nat.le_of_ble_eq_true rfl) (Nat.le_of_ble_eq_true rfl) (by first | exact Nat.le_of_ble_eq_true rfl | omega) (by first | exact Nat.le_of_ble_eq_true rfl | omega) ?_
                  refine PRk ?_
                  refine VV.stk (st' := [.ref (A p)]) (by first | rfl | (rw [show Option.bind (some x) P = _ from hpx]; rfl) | rw [show Option.bind (some x) P = _ from hpx]) ?_
                  refine V_callS (st := []) F dJ10_fixAfterInsertion_79 lk_J10_294 (ct_parentOf (o := some p) hT10 (fun _ z => Option.some.inj z ▸ hp)) rfl rfl (Nat.le_of_ble_eq_true rfl) (Nat.le_of_ble_eq_true rfl) (Nat.le_of_ble_eq_true rfl) (by first | exact Nat.le_of_ble_eq_true rfl | omega) (by first | exact Nat.le_of_ble_eq_true rfl | omega) ?_
                  refine PRk ?_
                  refine VV.stk (st' := [.ref (A g)]) (by first | rfl | (rw [show Option.bind (some p) P = _ from hgp]; rfl) | rw [show Option.bind (some p) P = _ from hgp]) ?_
                  refine V_iconst (v := nI 0) F dJ10_fixAfterInsertion_82 rfl ?_
                  refine V_callS (st := []) F dJ10_fixAfterInsertion_83 lk_J10_307 (ct_setColor (o := some g) (c := false) hT10 hAI (fun _ z => Option.some.inj z ▸ hg)) rfl rfl (Nat.le_of_ble_eq_true rfl) (Nat.le_of_ble_eq_true rfl) (Nat.le_of_ble_eq_true rfl) (by first | exact Nat.le_of_ble_eq_true rfl | omega) (by first | exact Nat.le_of_ble_eq_true rfl | omega) ?_
                  rintro _ k15 ⟨rfl, hT17, hx16, hk18⟩
                  have p19 := (hk18 t (fun i hi => ne_oo p12 (hT10 i hi) (by decide))).trans p12
                  have f20 := f13.cal hx16 (fun b q => Or.inl (Or.inr q))
                  have g21 := g14.cal hx16 (fun _ _ => Or.inl trivial)
                  refine V_aload_n (i := 1) F dJ10_fixAfterInsertion_86 rfl rfl ?_
                  refine V_callS (st := []) F dJ10_fixAfterInsertion_87 lk_J10_294 (ct_parentOf (o := some x) hT17 (fun _ z => Option.some.inj z ▸ hx)) rfl rfl (Nat.le_of_ble_eq_true rfl) (Nat.le_of_ble_eq_true rfl) (Nat.le_of_ble_eq_true rfl) (by first | exact Nat.le_of_ble_eq_true rfl | omega) (by first | exact Nat.le_of_ble_eq_true rfl | omega) ?_
                  refine PRk ?_
                  refine VV.stk (st' := [.ref (A p)]) (by first | rfl | (rw [show Option.bind (some x) P = _ from hpx]; rfl) | rw [show Option.bind (some x) P = _ from hpx]) ?_
                  refine V_callS (st := []) F dJ10_fixAfterInsertion_90 lk_J10_294 (ct_parentOf (o := some p) hT17 (fun _ z => Option.some.inj z ▸ hp)) rfl rfl (Nat.le_of_ble_eq_true rfl) (Nat.le_of_ble_eq_true rfl) (Nat.le_of_ble_eq_true rfl) (by first | exact Nat.le_of_ble_eq_true rfl | omega) (by first | exact Nat.le_of_ble_eq_true rfl | omega) ?_
                  refine PRk ?_
                  refine VV.stk (st' := [.ref (A g)]) (by first | rfl | (rw [show Option.bind (some p) P = _ from hgp]; rfl) | rw [show Option.bind (some p) P = _ from hgp]) ?_
                  refine V_astore_n (i := 1) F dJ10_fixAfterInsertion_93 rfl (Nat.le_of_ble_eq_true rfl) (Nat.le_of_ble_eq_true rfl) ?_
                  refine V_goto (tgt := 148) F dJ10_fixAfterInsertion_94 (by decide) ?_
                  refine V_goto (tgt := 5) F dJ10_fixAfterInsertion_148 (by decide) ?_
                  refine VV.weak (L' := [some (.ref (t)), some (.ref (A g)), none]) (LW.c1 (LW.c1 (LW.c0 LW.nil))) ?_
                  exact ih _ _ _ _ _ lo hi g _ (by have := hw.Pin hp hgp; have := hw.1 g hg; omega) ⟨x0, x1, x6, x7, x8, p19, vw_fr hv1 g21 rfl, vw_fr hv7 g21 rfl⟩ hT17 hw hg f20
            · have hrg : R g = some p := (hw.2.2.2.2.2.2.1 p g hp hgp).2.resolve_left hlg
              cases hu : L g with
              | none =>
                by_cases hin : L p = some x
                · refine V_aload_n (i := 1) F dJ10_fixAfterInsertion_5 rfl rfl ?_
                  refine V_ifnull F dJ10_fixAfterInsertion_6 ?_
                  refine V_aload_n (i := 1) F dJ10_fixAfterInsertion_9 rfl rfl ?_
                  refine V_aload_n (i := 0) F dJ10_fixAfterInsertion_10 rfl rfl ?_
                  refine V_getf F dJ10_fixAfterInsertion_11 fc_J10_101_J10 (.inl ht) rfl ?_
                  refine V_acmp_eq (rx := some (A x)) (ry := (rt).map A) (tgt := 258) F dJ10_fixAfterInsertion_14 (by decide) (fun c_14 => absurd (map_eq hAI (fun j hj => (hw.2.2.2.2.2.2.2.1 j hj).1) hx c_14.symm) hroot) (fun c_14 => ?_)
                  refine V_aload_n (i := 1) F dJ10_fixAfterInsertion_17 rfl rfl ?_
                  refine V_getf F dJ10_fixAfterInsertion_18 fc_J10_124_J41 (.inl (hT x hx)) rfl ?_
                  refine VV.stk (st' := [.ref (A p)]) (by first | (rw [hpx]; rfl) | rw [hpx]) ?_
                  refine V_getf F dJ10_fixAfterInsertion_21 fc_J10_290_J41 (.inl (hT p hp)) rfl ?_
                  refine V_if_neC (c := C p) (tgt := 258) F dJ10_fixAfterInsertion_24 (by decide) (fun c_24 => absurd (c_24.symm.trans hcp) (by decide)) (fun c_24 => ?_)
                  refine V_aload_n (i := 1) F dJ10_fixAfterInsertion_27 rfl rfl ?_
                  refine V_callS (st := []) F dJ10_fixAfterInsertion_28 lk_J10_294 (ct_parentOf (o := some x) hT (fun _ z => Option.some.inj z ▸ hx)) rfl rfl (Nat.le_of_ble_eq_true rfl) (Nat.le_of_ble_eq_true rfl) (Nat.le_of_ble_eq_true rfl) (by first | exact Nat.le_of_ble_eq_true rfl | omega) (by first | exact Nat.le_of_ble_eq_true rfl | omega) ?_
                  refine PRk ?_
                  refine VV.stk (st' := [.ref (A p)]) (by first | rfl | (rw [show Option.bind (some x) P = _ from hpx]; rfl) | rw [show Option.bind (some x) P = _ from hpx]) ?_
                  refine V_aload_n (i := 1) F dJ10_fixAfterInsertion_31 rfl rfl ?_
                  refine V_callS (st := [.ref (A p)]) F dJ10_fixAfterInsertion_32 lk_J10_294 (ct_parentOf (o := some x) hT (fun _ z => Option.some.inj z ▸ hx)) rfl rfl (Nat.le_of_ble_eq_true rfl) (Nat.le_of_ble_eq_true rfl) (Nat.le_of_ble_eq_true rfl) (by first | exact Nat.le_of_ble_eq_true rfl | omega) (by first | exact Nat.le_of_ble_eq_true rfl | omega) ?_
                  refine PRk ?_
                  refine VV.stk (st' := [.ref (A p), .ref (A p)]) (by first | rfl | (rw [show Option.bind (some x) P = _ from hpx]; rfl) | rw [show Option.bind (some x) P = _ from hpx]) ?_
                  refine V_callS (st := [.ref (A p)]) F dJ10_fixAfterInsertion_35 lk_J10_294 (ct_parentOf (o := some p) hT (fun _ z => Option.some.inj z ▸ hp)) rfl rfl (Nat.le_of_ble_eq_true rfl) (Nat.le_of_ble_eq_true rfl) (Nat.le_of_ble_eq_true rfl) (by first | exact Nat.le_of_ble_eq_true rfl | omega) (by first | exact Nat.le_of_ble_eq_true rfl | omega) ?_
                  refine PRk ?_
                  refine VV.stk (st' := [.ref (A g), .ref (A p)]) (by first | rfl | (rw [show Option.bind (some p) P = _ from hgp]; rfl) | rw [show Option.bind (some p) P = _ from hgp]) ?_
                  refine V_callS (st := [.ref (A p)]) F dJ10_fixAfterInsertion_38 lk_J10_297 (ct_leftOf (o := some g) hT (fun _ z => Option.some.inj z ▸ hg)) rfl rfl (Nat.le_of_ble_eq_true rfl) (Nat.le_of_ble_eq_true rfl) (Nat.le_of_ble_eq_true rfl) (by first | exact Nat.le_of_ble_eq_true rfl | omega) (by first | exact Nat.le_of_ble_eq_true rfl | omega) ?_
                  refine PRk ?_
                  refine VV.stk (st' := [.null, .ref (A p)]) (by first | rfl | (rw [show Option.bind (some g) L = _ from hu]; rfl) | rw [show Option.bind (some g) L = _ from hu]) ?_
                  refine V_acmp_ne (rx := some (A p)) (ry := none) (tgt := 151) F dJ10_fixAfterInsertion_41 (by decide) (fun c_41 => ?_) (fun c_41 => nomatch c_41)
                  refine V_aload_n (i := 1) F dJ10_fixAfterInsertion_151 rfl rfl ?_
                  refine V_callS (st := []) F dJ10_fixAfterInsertion_152 lk_J10_294 (ct_parentOf (o := some x) hT (fun _ z => Option.some.inj z ▸ hx)) rfl rfl (Nat.le_of_ble_eq_true rfl) (Nat.le_of_ble_eq_true rfl) (Nat.le_of_ble_eq_true rfl) (by first | exact Nat.le_of_ble_eq_true rfl | omega) (by first | exact Nat.le_of_ble_eq_true rfl | omega) ?_
                  refine PRk ?_
                  refine VV.stk (st' := [.ref (A p)]) (by first | rfl | (rw [show Option.bind (some x) P = _ from hpx]; rfl) | rw [show Option.bind (some x) P = _ from hpx]) ?_
                  refine V_callS (st := []) F dJ10_fixAfterInsertion_155 lk_J10_294 (ct_parentOf (o := some p) hT (fun _ z => Option.some.inj z ▸ hp)) rfl rfl (Nat.le_of_ble_eq_true rfl) (Nat.le_of_ble_eq_true rfl) (Nat.le_of_ble_eq_true rfl) (by first | exact Nat.le_of_ble_eq_true rfl | omega) (by first | exact Nat.le_of_ble_eq_true rfl | omega) ?_
                  refine PRk ?_
                  refine VV.stk (st' := [.ref (A g)]) (by first | rfl | (rw [show Option.bind (some p) P = _ from hgp]; rfl) | rw [show Option.bind (some p) P = _ from hgp]) ?_
                  refine V_callS (st := []) F dJ10_fixAfterInsertion_158 lk_J10_297 (ct_leftOf (o := some g) hT (fun _ z => Option.some.inj z ▸ hg)) rfl rfl (Nat.le_of_ble_eq_true rfl) (Nat.le_of_ble_eq_true rfl) (Nat.le_of_ble_eq_true rfl) (by first | exact Nat.le_of_ble_eq_true rfl | omega) (by first | exact Nat.le_of_ble_eq_true rfl | omega) ?_
                  refine PRk ?_
                  refine VV.stk (st' := [.null]) (by first | rfl | (rw [show Option.bind (some g) L = _ from hu]; rfl) | rw [show Option.bind (some g) L = _ from hu]) ?_
                  refine V_astore_nN (i := 2) F dJ10_fixAfterInsertion_161 rfl (Nat.le_of_ble_eq_true rfl) (Nat.le_of_ble_eq_true rfl) ?_
                  refine V_aload_nN (i := 2) F dJ10_fixAfterInsertion_162 rfl rfl ?_
                  refine V_callS (st := []) F dJ10_fixAfterInsertion_163 lk_J10_303 (ct_colorOf (o := none) hT (fun _ z => nomatch z)) rfl rfl (Nat.le_of_ble_eq_true rfl) (Nat.le_of_ble_eq_true rfl) (Nat.le_of_ble_eq_true rfl) (by first | exact Nat.le_of_ble_eq_true rfl | omega) (by first | exact Nat.le_of_ble_eq_true rfl | omega) ?_
                  refine PRk ?_
                  refine VV.stk (st' := [.int (cB (true))]) rfl ?_
                  refine V_if_neC (c := true) (tgt := 204) F dJ10_fixAfterInsertion_166 (by decide) (fun c_166 => ?_) (fun c_166 => nomatch c_166)
                  refine V_aload_n (i := 1) F dJ10_fixAfterInsertion_204 rfl rfl ?_
                  refine V_aload_n (i := 1) F dJ10_fixAfterInsertion_205 rfl rfl ?_
                  refine V_callS (st := [.ref (A x)]) F dJ10_fixAfterInsertion_206 lk_J10_294 (ct_parentOf (o := some x) hT (fun _ z => Option.some.inj z ▸ hx)) rfl rfl (Nat.le_of_ble_eq_true rfl) (Nat.le_of_ble_eq_true rfl) (Nat.le_of_ble_eq_true rfl) (by first | exact Nat.le_of_ble_eq_true rfl | omega) (by first | exact Nat.le_of_ble_eq_true rfl | omega) ?_
                  refine PRk ?_
                  refine VV.stk (st' := [.ref (A p), .ref (A x)]) (by first | rfl | (rw [show Option.bind (some x) P = _ from hpx]; rfl) | rw [show Option.bind (some x) P = _ from hpx]) ?_
                  refine V_callS (st := [.ref (A x)]) F dJ10_fixAfterInsertion_209 lk_J10_297 (ct_leftOf (o := some p) hT (fun _ z => Option.some.inj z ▸ hp)) rfl rfl (Nat.le_of_ble_eq_true rfl) (Nat.le_of_ble_eq_true rfl) (Nat.le_of_ble_eq_true rfl) (by first | exact Nat.le_of_ble_eq_true rfl | omega) (by first | exact Nat.le_of_ble_eq_true rfl | omega) ?_
                  refine PRk ?_
                  refine VV.stk (st' := [.ref (A x), .ref (A x)]) (by first | rfl | (rw [show Option.bind (some p) L = _ from hin]; rfl) | rw [show Option.bind (some p) L = _ from hin]) ?_
                  refine V_acmp_ne (rx := some (A x)) (ry := some (A x)) (tgt := 225) F dJ10_fixAfterInsertion_212 (by decide) (fun c_212 => absurd rfl c_212) (fun c_212 => ?_)
                  refine V_aload_n (i := 1) F dJ10_fixAfterInsertion_215 rfl rfl ?_
                  refine V_callS (st := []) F dJ10_fixAfterInsertion_216 lk_J10_294 (ct_parentOf (o := some x) hT (fun _ z => Option.some.inj z ▸ hx)) rfl rfl (Nat.le_of_ble_eq_true rfl) (Nat.le_of_ble_eq_true rfl) (Nat.le_of_ble_eq_true rfl) (by first | exact Nat.le_of_ble_eq_true rfl | omega) (by first | exact Nat.le_of_ble_eq_true rfl | omega) ?_
                  refine PRk ?_
                  refine VV.stk (st' := [.ref (A p)]) (by first | rfl | (rw [show Option.bind (some x) P = _ from hpx]; rfl) | rw [show Option.bind (some x) P = _ from hpx]) ?_
                  refine V_astore_n (i := 1) F dJ10_fixAfterInsertion_219 rfl (Nat.le_of_ble_eq_true rfl) (Nat.le_of_ble_eq_true rfl) ?_
                  refine V_aload_n (i := 0) F dJ10_fixAfterInsertion_220 rfl rfl ?_
                  refine V_aload_n (i := 1) F dJ10_fixAfterInsertion_221 rfl rfl ?_
                  refine V_callV (st := []) F dJ10_fixAfterInsertion_222 lk_J10_314 (ct_rotateRight ⟨x0, x1, x6, x7, x8, ht, vw_fr hv1 (Fr.rf (M := fun _ => True) (h := hh)) rfl, vw_fr hv7 (Fr.rf (M := fun _ => True) (h := hh)) rfl⟩ hT hAI hw hp hin) ⟨23, _, _, _, rfl, (.inl ht)⟩ rfl rfl (Nat.le_of_ble_eq_true rfl) (Nat.le_of_ble_eq_true rfl) (Nat.le_of_ble_eq_true rfl) (by first | exact Nat.le_of_ble_eq_true rfl | omega) (by first | exact Nat.le_of_ble_eq_true rfl | omega) ?_
                  rintro _ k1 ⟨rfl, hC4, hT3, hx2⟩
                  obtain ⟨y5, y6, y7, y8, y9, ht10, hv11, hv12⟩ := hC4
                  have f13 : Fr (mT t n A) h k1 := hF.cal hx2 (fun b q => Or.inl q)
                  have hw14 := hw.rotR (L' := rrL L R P p x) (R' := rrR R P p x) (P' := rrP R P p x) (rt' := roR P rt p x) hp hin (fun _ => rfl) (fun _ => rfl) (fun _ => rfl) rfl
                  have e1 : (rrP R P p x) p = some x := by simp [rrP]
                  have e2 : (rrP R P p x) x = some g := by simp [rrP, hxp, hgp]
                  have e3 : (rrR R P p x) g = some x := by simp [rrR, Ne.symm hxg, Ne.symm hpg, hgp, hrg, hlg]
                  refine V_aload_n (i := 1) F dJ10_fixAfterInsertion_225 rfl rfl ?_
                  refine V_callS (st := []) F dJ10_fixAfterInsertion_226 lk_J10_294 (ct_parentOf (o := some p) hT3 (fun _ z => Option.some.inj z ▸ hp)) rfl rfl (Nat.le_of_ble_eq_true rfl) (Nat.le_of_ble_eq_true rfl) (Nat.le_of_ble_eq_true rfl) (by first | exact Nat.le_of_ble_eq_true rfl | omega) (by first | exact Nat.le_of_ble_eq_true rfl | omega) ?_
                  refine PRk ?_
                  refine VV.stk (st' := [.ref (A x)]) (by first | rfl | (rw [show Option.bind (some p) (rrP R P p x) = _ from e1]; rfl) | rw [show Option.bind (some p) (rrP R P p x) = _ from e1]) ?_
                  refine V_iconst (v := nI 1) F dJ10_fixAfterInsertion_229 rfl ?_
                  refine V_callS (st := []) F dJ10_fixAfterInsertion_230 lk_J10_307 (ct_setColor (o := some x) (c := true) hT3 hAI (fun _ z => Option.some.inj z ▸ hx)) rfl rfl (Nat.le_of_ble_eq_true rfl) (Nat.le_of_ble_eq_true rfl) (Nat.le_of_ble_eq_true rfl) (by first | exact Nat.le_of_ble_eq_true rfl | omega) (by first | exact Nat.le_of_ble_eq_true rfl | omega) ?_
                  rintro _ k15 ⟨rfl, hT17, hx16, hk18⟩
                  have p19 := (hk18 t (fun i hi => ne_oo ht10 (hT3 i hi) (by decide))).trans ht10
                  have f20 := f13.cal hx16 (fun b q => Or.inl (Or.inr q))
                  have g21 := (Fr.rf (M := fun _ => True) (h := k1)).cal hx16 (fun _ _ => Or.inl trivial)
                  refine V_aload_n (i := 1) F dJ10_fixAfterInsertion_233 rfl rfl ?_
                  refine V_callS (st := []) F dJ10_fixAfterInsertion_234 lk_J10_294 (ct_parentOf (o := some p) hT17 (fun _ z => Option.some.inj z ▸ hp)) rfl rfl (Nat.le_of_ble_eq_true rfl) (Nat.le_of_ble_eq_true rfl) (Nat.le_of_ble_eq_true rfl) (by first | exact Nat.le_of_ble_eq_true rfl | omega) (by first | exact Nat.le_of_ble_eq_true rfl | omega) ?_
                  refine PRk ?_
                  refine VV.stk (st' := [.ref (A x)]) (by first | rfl | (rw [show Option.bind (some p) (rrP R P p x) = _ from e1]; rfl) | rw [show Option.bind (some p) (rrP R P p x) = _ from e1]) ?_
                  refine V_callS (st := []) F dJ10_fixAfterInsertion_237 lk_J10_294 (ct_parentOf (o := some x) hT17 (fun _ z => Option.some.inj z ▸ hx)) rfl rfl (Nat.le_of_ble_eq_true rfl) (Nat.le_of_ble_eq_true rfl) (Nat.le_of_ble_eq_true rfl) (by first | exact Nat.le_of_ble_eq_true rfl | omega) (by first | exact Nat.le_of_ble_eq_true rfl | omega) ?_
                  refine PRk ?_
                  refine VV.stk (st' := [.ref (A g)]) (by first | rfl | (rw [show Option.bind (some x) (rrP R P p x) = _ from e2]; rfl) | rw [show Option.bind (some x) (rrP R P p x) = _ from e2]) ?_
                  refine V_iconst (v := nI 0) F dJ10_fixAfterInsertion_240 rfl ?_
                  refine V_callS (st := []) F dJ10_fixAfterInsertion_241 lk_J10_307 (ct_setColor (o := some g) (c := false) hT17 hAI (fun _ z => Option.some.inj z ▸ hg)) rfl rfl (Nat.le_of_ble_eq_true rfl) (Nat.le_of_ble_eq_true rfl) (Nat.le_of_ble_eq_true rfl) (by first | exact Nat.le_of_ble_eq_true rfl | omega) (by first | exact Nat.le_of_ble_eq_true rfl | omega) ?_
                  rintro _ k22 ⟨rfl, hT24, hx23, hk25⟩
                  have p26 := (hk25 t (fun i hi => ne_oo p19 (hT17 i hi) (by decide))).trans p19
                  have f27 := f20.cal hx23 (fun b q => Or.inl (Or.inr q))
                  have g28 := g21.cal hx23 (fun _ _ => Or.inl trivial)
                  refine V_aload_n (i := 0) F dJ10_fixAfterInsertion_244 rfl rfl ?_
                  refine V_aload_n (i := 1) F dJ10_fixAfterInsertion_245 rfl rfl ?_
                  refine V_callS (st := [.ref (t)]) F dJ10_fixAfterInsertion_246 lk_J10_294 (ct_parentOf (o := some p) hT24 (fun _ z => Option.some.inj z ▸ hp)) rfl rfl (Nat.le_of_ble_eq_true rfl) (Nat.le_of_ble_eq_true rfl) (Nat.le_of_ble_eq_true rfl) (by first | exact Nat.le_of_ble_eq_true rfl | omega) (by first | exact Nat.le_of_ble_eq_true rfl | omega) ?_
                  refine PRk ?_
                  refine VV.stk (st' := [.ref (A x), .ref (t)]) (by first | rfl | (rw [show Option.bind (some p) (rrP R P p x) = _ from e1]; rfl) | rw [show Option.bind (some p) (rrP R P p x) = _ from e1]) ?_
                  refine V_callS (st := [.ref (t)]) F dJ10_fixAfterInsertion_249 lk_J10_294 (ct_parentOf (o := some x) hT24 (fun _ z => Option.some.inj z ▸ hx)) rfl rfl (Nat.le_of_ble_eq_true rfl) (Nat.le_of_ble_eq_true rfl) (Nat.le_of_ble_eq_true rfl) (by first | exact Nat.le_of_ble_eq_true rfl | omega) (by first | exact Nat.le_of_ble_eq_true rfl | omega) ?_
                  refine PRk ?_
                  refine VV.stk (st' := [.ref (A g), .ref (t)]) (by first | rfl | (rw [show Option.bind (some x) (rrP R P p x) = _ from e2]; rfl) | rw [show Option.bind (some x) (rrP R P p x) = _ from e2]) ?_
                  refine V_callV (st := []) F dJ10_fixAfterInsertion_252 lk_J10_311 (ct_rotateLeft ⟨y5, y6, y7, y8, y9, p26, vw_fr hv11 g28 rfl, vw_fr hv12 g28 rfl⟩ hT24 hAI hw14 hg e3) ⟨23, _, _, _, rfl, (.inl p26)⟩ rfl rfl (Nat.le_of_ble_eq_true rfl) (Nat.le_of_ble_eq_true rfl) (Nat.le_of_ble_eq_true rfl) (by first | exact Nat.le_of_ble_eq_true rfl | omega) (by first | exact Nat.le_of_ble_eq_true rfl | omega) ?_
                  rintro _ k29 ⟨rfl, hC32, hT31, hx30⟩
                  obtain ⟨y33, y34, y35, y36, y37, ht38, hv39, hv40⟩ := hC32
                  have f41 : Fr (mT t n A) h k29 := f27.cal hx30 (fun b q => Or.inl q)
                  have hw42 := hw14.rotL (L' := rlL (rrL L R P p x) (rrP R P p x) g x) (R' := rlR (rrL L R P p x) (rrR R P p x) (rrP R P p x) g x) (P' := rlP (rrL L R P p x) (rrP R P p x) g x) (rt' := roR (rrP R P p x) (roR P rt p x) g x) hg e3 (fun _ => rfl) (fun _ => rfl) (fun _ => rfl) rfl
                  refine V_goto (tgt := 5) F dJ10_fixAfterInsertion_255 (by decide) ?_
                  refine VV.weak (L' := [some (.ref (t)), some (.ref (A p)), none]) (LW.c1 (LW.c1 (LW.c0 LW.nil))) ?_
                  refine exitB _ _ _ _ _ _ _ p _ ⟨y33, y34, y35, y36, y37, ht38, vw_fr hv39 (Fr.rf (M := fun _ => True) (h := k29)) rfl, vw_fr hv40 (Fr.rf (M := fun _ => True) (h := k29)) rfl⟩ hT31 hw42 hp f41 (Or.inr ?_)
                  have hRx : L x ≠ some p := fun z => hxg (by have := (hw.2.2.1 x p hx z).2.2.2; rw [hgp] at this; exact (Option.some.inj this).symm)
                  exact ⟨x, by grind [rlP, rrL, rrP], hx, by simp [stC, Ne.symm hxg]⟩
                · have hch : R p = some x := (hw.2.2.2.2.2.2.1 x p hx hpx).2.resolve_left hin
                  cases hz : L p with
                  | none =>
                    refine V_aload_n (i := 1) F dJ10_fixAfterInsertion_5 rfl rfl ?_
                    refine V_ifnull F dJ10_fixAfterInsertion_6 ?_
                    refine V_aload_n (i := 1) F dJ10_fixAfterInsertion_9 rfl rfl ?_
                    refine V_aload_n (i := 0) F dJ10_fixAfterInsertion_10 rfl rfl ?_
                    refine V_getf F dJ10_fixAfterInsertion_11 fc_J10_101_J10 (.inl ht) rfl ?_
                    refine V_acmp_eq (rx := some (A x)) (ry := (rt).map A) (tgt := 258) F dJ10_fixAfterInsertion_14 (by decide) (fun c_14 => absurd (map_eq hAI (fun j hj => (hw.2.2.2.2.2.2.2.1 j hj).1) hx c_14.symm) hroot) (fun c_14 => ?_)
                    refine V_aload_n (i := 1) F dJ10_fixAfterInsertion_17 rfl rfl ?_
                    refine V_getf F dJ10_fixAfterInsertion_18 fc_J10_124_J41 (.inl (hT x hx)) rfl ?_
                    refine VV.stk (st' := [.ref (A p)]) (by first | (rw [hpx]; rfl) | rw [hpx]) ?_
                    refine V_getf F dJ10_fixAfterInsertion_21 fc_J10_290_J41 (.inl (hT p hp)) rfl ?_
                    refine V_if_neC (c := C p) (tgt := 258) F dJ10_fixAfterInsertion_24 (by decide) (fun c_24 => absurd (c_24.symm.trans hcp) (by decide)) (fun c_24 => ?_)
                    refine V_aload_n (i := 1) F dJ10_fixAfterInsertion_27 rfl rfl ?_
                    refine V_callS (st := []) F dJ10_fixAfterInsertion_28 lk_J10_294 (ct_parentOf (o := some x) hT (fun _ z => Option.some.inj z ▸ hx)) rfl rfl (Nat.le_of_ble_eq_true rfl) (Nat.le_of_ble_eq_true rfl) (Nat.le_of_ble_eq_true rfl) (by first | exact Nat.le_of_ble_eq_true rfl | omega) (by first | exact Nat.le_of_ble_eq_true rfl | omega) ?_
                    refine PRk ?_
                    refine VV.stk (st' := [.ref (A p)]) (by first | rfl | (rw [show Option.bind (some x) P = _ from hpx]; rfl) | rw [show Option.bind (some x) P = _ from hpx]) ?_
                    refine V_aload_n (i := 1) F dJ10_fixAfterInsertion_31 rfl rfl ?_
                    refine V_callS (st := [.ref (A p)]) F dJ10_fixAfterInsertion_32 lk_J10_294 (ct_parentOf (o := some x) hT (fun _ z => Option.some.inj z ▸ hx)) rfl rfl (Nat.le_of_ble_eq_true rfl) (Nat.le_of_ble_eq_true rfl) (Nat.le_of_ble_eq_true rfl) (by first | exact Nat.le_of_ble_eq_true rfl | omega) (by first | exact Nat.le_of_ble_eq_true rfl | omega) ?_
                    refine PRk ?_
                    refine VV.stk (st' := [.ref (A p), .ref (A p)]) (by first | rfl | (rw [show Option.bind (some x) P = _ from hpx]; rfl) | rw [show Option.bind (some x) P = _ from hpx]) ?_
                    refine V_callS (st := [.ref (A p)]) F dJ10_fixAfterInsertion_35 lk_J10_294 (ct_parentOf (o := some p) hT (fun _ z => Option.some.inj z ▸ hp)) rfl rfl (Nat.le_of_ble_eq_true rfl) (Nat.le_of_ble_eq_true rfl) (Nat.le_of_ble_eq_true rfl) (by first | exact Nat.le_of_ble_eq_true rfl | omega) (by first | exact Nat.le_of_ble_eq_true rfl | omega) ?_
                    refine PRk ?_
                    refine VV.stk (st' := [.ref (A g), .ref (A p)]) (by first | rfl | (rw [show Option.bind (some p) P = _ from hgp]; rfl) | rw [show Option.bind (some p) P = _ from hgp]) ?_
                    refine V_callS (st := [.ref (A p)]) F dJ10_fixAfterInsertion_38 lk_J10_297 (ct_leftOf (o := some g) hT (fun _ z => Option.some.inj z ▸ hg)) rfl rfl (Nat.le_of_ble_eq_true rfl) (Nat.le_of_ble_eq_true rfl) (Nat.le_of_ble_eq_true rfl) (by first | exact Nat.le_of_ble_eq_true rfl | omega) (by first | exact Nat.le_of_ble_eq_true rfl | omega) ?_
                    refine PRk ?_
                    refine VV.stk (st' := [.null, .ref (A p)]) (by first | rfl | (rw [show Option.bind (some g) L = _ from hu]; rfl) | rw [show Option.bind (some g) L = _ from hu]) ?_
                    refine V_acmp_ne (rx := some (A p)) (ry := none) (tgt := 151) F dJ10_fixAfterInsertion_41 (by decide) (fun c_41 => ?_) (fun c_41 => nomatch c_41)
                    refine V_aload_n (i := 1) F dJ10_fixAfterInsertion_151 rfl rfl ?_
                    refine V_callS (st := []) F dJ10_fixAfterInsertion_152 lk_J10_294 (ct_parentOf (o := some x) hT (fun _ z => Option.some.inj z ▸ hx)) rfl rfl (Nat.le_of_ble_eq_true rfl) (Nat.le_of_ble_eq_true rfl) (Nat.le_of_ble_eq_true rfl) (by first | exact Nat.le_of_ble_eq_true rfl | omega) (by first | exact Nat.le_of_ble_eq_true rfl | omega) ?_
                    refine PRk ?_
                    refine VV.stk (st' := [.ref (A p)]) (by first | rfl | (rw [show Option.bind (some x) P = _ from hpx]; rfl) | rw [show Option.bind (some x) P = _ from hpx]) ?_
                    refine V_callS (st := []) F dJ10_fixAfterInsertion_155 lk_J10_294 (ct_parentOf (o := some p) hT (fun _ z => Option.some.inj z ▸ hp)) rfl rfl (Nat.le_of_ble_eq_true rfl) (Nat.le_of_ble_eq_true rfl) (Nat.le_of_ble_eq_true rfl) (by first | exact Nat.le_of_ble_eq_true rfl | omega) (by first | exact Nat.le_of_ble_eq_true rfl | omega) ?_
                    refine PRk ?_
                    refine VV.stk (st' := [.ref (A g)]) (by first | rfl | (rw [show Option.bind (some p) P = _ from hgp]; rfl) | rw [show Option.bind (some p) P = _ from hgp]) ?_
                    refine V_callS (st := []) F dJ10_fixAfterInsertion_158 lk_J10_297 (ct_leftOf (o := some g) hT (fun _ z => Option.some.inj z ▸ hg)) rfl rfl (Nat.le_of_ble_eq_true rfl) (Nat.le_of_ble_eq_true rfl) (Nat.le_of_ble_eq_true rfl) (by first | exact Nat.le_of_ble_eq_true rfl | omega) (by first | exact Nat.le_of_ble_eq_true rfl | omega) ?_
                    refine PRk ?_
                    refine VV.stk (st' := [.null]) (by first | rfl | (rw [show Option.bind (some g) L = _ from hu]; rfl) | rw [show Option.bind (some g) L = _ from hu]) ?_
                    refine V_astore_nN (i := 2) F dJ10_fixAfterInsertion_161 rfl (Nat.le_of_ble_eq_true rfl) (Nat.le_of_ble_eq_true rfl) ?_
                    refine V_aload_nN (i := 2) F dJ10_fixAfterInsertion_162 rfl rfl ?_
                    refine V_callS (st := []) F dJ10_fixAfterInsertion_163 lk_J10_303 (ct_colorOf (o := none) hT (fun _ z => nomatch z)) rfl rfl (Nat.le_of_ble_eq_true rfl) (Nat.le_of_ble_eq_true rfl) (Nat.le_of_ble_eq_true rfl) (by first | exact Nat.le_of_ble_eq_true rfl | omega) (by first | exact Nat.le_of_ble_eq_true rfl | omega) ?_
                    refine PRk ?_
                    refine VV.stk (st' := [.int (cB (true))]) rfl ?_
                    refine V_if_neC (c := true) (tgt := 204) F dJ10_fixAfterInsertion_166 (by decide) (fun c_166 => ?_) (fun c_166 => nomatch c_166)
                    refine V_aload_n (i := 1) F dJ10_fixAfterInsertion_204 rfl rfl ?_
                    refine V_aload_n (i := 1) F dJ10_fixAfterInsertion_205 rfl rfl ?_
                    refine V_callS (st := [.ref (A x)]) F dJ10_fixAfterInsertion_206 lk_J10_294 (ct_parentOf (o := some x) hT (fun _ z => Option.some.inj z ▸ hx)) rfl rfl (Nat.le_of_ble_eq_true rfl) (Nat.le_of_ble_eq_true rfl) (Nat.le_of_ble_eq_true rfl) (by first | exact Nat.le_of_ble_eq_true rfl | omega) (by first | exact Nat.le_of_ble_eq_true rfl | omega) ?_
                    refine PRk ?_
                    refine VV.stk (st' := [.ref (A p), .ref (A x)]) (by first | rfl | (rw [show Option.bind (some x) P = _ from hpx]; rfl) | rw [show Option.bind (some x) P = _ from hpx]) ?_
                    refine V_callS (st := [.ref (A x)]) F dJ10_fixAfterInsertion_209 lk_J10_297 (ct_leftOf (o := some p) hT (fun _ z => Option.some.inj z ▸ hp)) rfl rfl (Nat.le_of_ble_eq_true rfl) (Nat.le_of_ble_eq_true rfl) (Nat.le_of_ble_eq_true rfl) (by first | exact Nat.le_of_ble_eq_true rfl | omega) (by first | exact Nat.le_of_ble_eq_true rfl | omega) ?_
                    refine PRk ?_
                    refine VV.stk (st' := [.null, .ref (A x)]) (by first | rfl | (rw [show Option.bind (some p) L = _ from hz]; rfl) | rw [show Option.bind (some p) L = _ from hz]) ?_
                    refine V_acmp_ne (rx := some (A x)) (ry := none) (tgt := 225) F dJ10_fixAfterInsertion_212 (by decide) (fun c_212 => ?_) (fun c_212 => nomatch c_212)
                    refine V_aload_n (i := 1) F dJ10_fixAfterInsertion_225 rfl rfl ?_
                    refine V_callS (st := []) F dJ10_fixAfterInsertion_226 lk_J10_294 (ct_parentOf (o := some x) hT (fun _ z => Option.some.inj z ▸ hx)) rfl rfl (Nat.le_of_ble_eq_true rfl) (Nat.le_of_ble_eq_true rfl) (Nat.le_of_ble_eq_true rfl) (by first | exact Nat.le_of_ble_eq_true rfl | omega) (by first | exact Nat.le_of_ble_eq_true rfl | omega) ?_
                    refine PRk ?_
                    refine VV.stk (st' := [.ref (A p)]) (by first | rfl | (rw [show Option.bind (some x) P = _ from hpx]; rfl) | rw [show Option.bind (some x) P = _ from hpx]) ?_
                    refine V_iconst (v := nI 1) F dJ10_fixAfterInsertion_229 rfl ?_
                    refine V_callS (st := []) F dJ10_fixAfterInsertion_230 lk_J10_307 (ct_setColor (o := some p) (c := true) hT hAI (fun _ z => Option.some.inj z ▸ hp)) rfl rfl (Nat.le_of_ble_eq_true rfl) (Nat.le_of_ble_eq_true rfl) (Nat.le_of_ble_eq_true rfl) (by first | exact Nat.le_of_ble_eq_true rfl | omega) (by first | exact Nat.le_of_ble_eq_true rfl | omega) ?_
                    rintro _ k1 ⟨rfl, hT3, hx2, hk4⟩
                    have p5 := (hk4 t (fun i hi => ne_oo ht (hT i hi) (by decide))).trans ht
                    have f6 := hF.cal hx2 (fun b q => Or.inl (Or.inr q))
                    have g7 := (Fr.rf (M := fun _ => True) (h := hh)).cal hx2 (fun _ _ => Or.inl trivial)
                    refine V_aload_n (i := 1) F dJ10_fixAfterInsertion_233 rfl rfl ?_
                    refine V_callS (st := []) F dJ10_fixAfterInsertion_234 lk_J10_294 (ct_parentOf (o := some x) hT3 (fun _ z => Option.some.inj z ▸ hx)) rfl rfl (Nat.le_of_ble_eq_true rfl) (Nat.le_of_ble_eq_true rfl) (Nat.le_of_ble_eq_true rfl) (by first | exact Nat.le_of_ble_eq_true rfl | omega) (by first | exact Nat.le_of_ble_eq_true rfl | omega) ?_
                    refine PRk ?_
                    refine VV.stk (st' := [.ref (A p)]) (by first | rfl | (rw [show Option.bind (some x) P = _ from hpx]; rfl) | rw [show Option.bind (some x) P = _ from hpx]) ?_
                    refine V_callS (st := []) F dJ10_fixAfterInsertion_237 lk_J10_294 (ct_parentOf (o := some p) hT3 (fun _ z => Option.some.inj z ▸ hp)) rfl rfl (Nat.le_of_ble_eq_true rfl) (Nat.le_of_ble_eq_true rfl) (Nat.le_of_ble_eq_true rfl) (by first | exact Nat.le_of_ble_eq_true rfl | omega) (by first | exact Nat.le_of_ble_eq_true rfl | omega) ?_
                    refine PRk ?_
                    refine VV.stk (st' := [.ref (A g)]) (by first | rfl | (rw [show Option.bind (some p) P = _ from hgp]; rfl) | rw [show Option.bind (some p) P = _ from hgp]) ?_
                    refine V_iconst (v := nI 0) F dJ10_fixAfterInsertion_240 rfl ?_
                    refine V_callS (st := []) F dJ10_fixAfterInsertion_241 lk_J10_307 (ct_setColor (o := some g) (c := false) hT3 hAI (fun _ z => Option.some.inj z ▸ hg)) rfl rfl (Nat.le_of_ble_eq_true rfl) (Nat.le_of_ble_eq_true rfl) (Nat.le_of_ble_eq_true rfl) (by first | exact Nat.le_of_ble_eq_true rfl | omega) (by first | exact Nat.le_of_ble_eq_true rfl | omega) ?_
                    rintro _ k8 ⟨rfl, hT10, hx9, hk11⟩
                    have p12 := (hk11 t (fun i hi => ne_oo p5 (hT3 i hi) (by decide))).trans p5
                    have f13 := f6.cal hx9 (fun b q => Or.inl (Or.inr q))
                    have g14 := g7.cal hx9 (fun _ _ => Or.inl trivial)
                    refine V_aload_n (i := 0) F dJ10_fixAfterInsertion_244 rfl rfl ?_
                    refine V_aload_n (i := 1) F dJ10_fixAfterInsertion_245 rfl rfl ?_
                    refine V_callS (st := [.ref (t)]) F dJ10_fixAfterInsertion_246 lk_J10_294 (ct_parentOf (o := some x) hT10 (fun _ z => Option.some.inj z ▸ hx)) rfl rfl (Nat.le_of_ble_eq_true rfl) (Nat.le_of_ble_eq_true rfl) (Nat.le_of_ble_eq_true rfl) (by first | exact Nat.le_of_ble_eq_true rfl | omega) (by first | exact Nat.le_of_ble_eq_true rfl | omega) ?_
                    refine PRk ?_
                    refine VV.stk (st' := [.ref (A p), .ref (t)]) (by first | rfl | (rw [show Option.bind (some x) P = _ from hpx]; rfl) | rw [show Option.bind (some x) P = _ from hpx]) ?_
                    refine V_callS (st := [.ref (t)]) F dJ10_fixAfterInsertion_249 lk_J10_294 (ct_parentOf (o := some p) hT10 (fun _ z => Option.some.inj z ▸ hp)) rfl rfl (Nat.le_of_ble_eq_true rfl) (Nat.le_of_ble_eq_true rfl) (Nat.le_of_ble_eq_true rfl) (by first | exact Nat.le_of_ble_eq_true rfl | omega) (by first | exact Nat.le_of_ble_eq_true rfl | omega) ?_
                    refine PRk ?_
                    refine VV.stk (st' := [.ref (A g), .ref (t)]) (by first | rfl | (rw [show Option.bind (some p) P = _ from hgp]; rfl) | rw [show Option.bind (some p) P = _ from hgp]) ?_
                    refine V_callV (st := []) F dJ10_fixAfterInsertion_252 lk_J10_311 (ct_rotateLeft ⟨x0, x1, x6, x7, x8, p12, vw_fr hv1 g14 rfl, vw_fr hv7 g14 rfl⟩ hT10 hAI hw hg hrg) ⟨23, _, _, _, rfl, (.inl p12)⟩ rfl rfl (Nat.le_of_ble_eq_true rfl) (Nat.le_of_ble_eq_true rfl) (Nat.le_of_ble_eq_true rfl) (by first | exact Nat.le_of_ble_eq_true rfl | omega) (by first | exact Nat.le_of_ble_eq_true rfl | omega) ?_
                    rintro _ k15 ⟨rfl, hC18, hT17, hx16⟩
                    obtain ⟨y19, y20, y21, y22, y23, ht24, hv25, hv26⟩ := hC18
                    have f27 : Fr (mT t n A) h k15 := f13.cal hx16 (fun b q => Or.inl q)
                    have hw28 := hw.rotL (L' := rlL L P g p) (R' := rlR L R P g p) (P' := rlP L P g p) (rt' := roR P rt g p) hg hrg (fun _ => rfl) (fun _ => rfl) (fun _ => rfl) rfl
                    refine V_goto (tgt := 5) F dJ10_fixAfterInsertion_255 (by decide) ?_
                    refine VV.weak (L' := [some (.ref (t)), some (.ref (A x)), none]) (LW.c1 (LW.c1 (LW.c0 LW.nil))) ?_
                    refine exitB _ _ _ _ _ _ _ x _ ⟨y19, y20, y21, y22, y23, ht24, vw_fr hv25 (Fr.rf (M := fun _ => True) (h := k15)) rfl, vw_fr hv26 (Fr.rf (M := fun _ => True) (h := k15)) rfl⟩ hT17 hw28 hx f27 (Or.inr ?_)
                    exact ⟨p, by grind [rlP], hp, by simp [stC, Ne.symm hpg]⟩
                  | some z =>
                    have hzn : z < n := hw.bL hp hz
                    have hzx : z ≠ x := fun q => hin (by rw [hz, q])
                    refine V_aload_n (i := 1) F dJ10_fixAfterInsertion_5 rfl rfl ?_
                    refine V_ifnull F dJ10_fixAfterInsertion_6 ?_
                    refine V_aload_n (i := 1) F dJ10_fixAfterInsertion_9 rfl rfl ?_
                    refine V_aload_n (i := 0) F dJ10_fixAfterInsertion_10 rfl rfl ?_
                    refine V_getf F dJ10_fixAfterInsertion_11 fc_J10_101_J10 (.inl ht) rfl ?_
                    refine V_acmp_eq (rx := some (A x)) (ry := (rt).map A) (tgt := 258) F dJ10_fixAfterInsertion_14 (by decide) (fun c_14 => absurd (map_eq hAI (fun j hj => (hw.2.2.2.2.2.2.2.1 j hj).1) hx c_14.symm) hroot) (fun c_14 => ?_)
                    refine V_aload_n (i := 1) F dJ10_fixAfterInsertion_17 rfl rfl ?_
                    refine V_getf F dJ10_fixAfterInsertion_18 fc_J10_124_J41 (.inl (hT x hx)) rfl ?_
                    refine VV.stk (st' := [.ref (A p)]) (by first | (rw [hpx]; rfl) | rw [hpx]) ?_
                    refine V_getf F dJ10_fixAfterInsertion_21 fc_J10_290_J41 (.inl (hT p hp)) rfl ?_
                    refine V_if_neC (c := C p) (tgt := 258) F dJ10_fixAfterInsertion_24 (by decide) (fun c_24 => absurd (c_24.symm.trans hcp) (by decide)) (fun c_24 => ?_)
                    refine V_aload_n (i := 1) F dJ10_fixAfterInsertion_27 rfl rfl ?_
                    refine V_callS (st := []) F dJ10_fixAfterInsertion_28 lk_J10_294 (ct_parentOf (o := some x) hT (fun _ z => Option.some.inj z ▸ hx)) rfl rfl (Nat.le_of_ble_eq_true rfl) (Nat.le_of_ble_eq_true rfl) (Nat.le_of_ble_eq_true rfl) (by first | exact Nat.le_of_ble_eq_true rfl | omega) (by first | exact Nat.le_of_ble_eq_true rfl | omega) ?_
                    refine PRk ?_
                    refine VV.stk (st' := [.ref (A p)]) (by first | rfl | (rw [show Option.bind (some x) P = _ from hpx]; rfl) | rw [show Option.bind (some x) P = _ from hpx]) ?_
                    refine V_aload_n (i := 1) F dJ10_fixAfterInsertion_31 rfl rfl ?_
                    refine V_callS (st := [.ref (A p)]) F dJ10_fixAfterInsertion_32 lk_J10_294 (ct_parentOf (o := some x) hT (fun _ z => Option.some.inj z ▸ hx)) rfl rfl (Nat.le_of_ble_eq_true rfl) (Nat.le_of_ble_eq_true rfl) (Nat.le_of_ble_eq_true rfl) (by first | exact Nat.le_of_ble_eq_true rfl | omega) (by first | exact Nat.le_of_ble_eq_true rfl | omega) ?_
                    refine PRk ?_
                    refine VV.stk (st' := [.ref (A p), .ref (A p)]) (by first | rfl | (rw [show Option.bind (some x) P = _ from hpx]; rfl) | rw [show Option.bind (some x) P = _ from hpx]) ?_
                    refine V_callS (st := [.ref (A p)]) F dJ10_fixAfterInsertion_35 lk_J10_294 (ct_parentOf (o := some p) hT (fun _ z => Option.some.inj z ▸ hp)) rfl rfl (Nat.le_of_ble_eq_true rfl) (Nat.le_of_ble_eq_true rfl) (Nat.le_of_ble_eq_true rfl) (by first | exact Nat.le_of_ble_eq_true rfl | omega) (by first | exact Nat.le_of_ble_eq_true rfl | omega) ?_
                    refine PRk ?_
                    refine VV.stk (st' := [.ref (A g), .ref (A p)]) (by first | rfl | (rw [show Option.bind (some p) P = _ from hgp]; rfl) | rw [show Option.bind (some p) P = _ from hgp]) ?_
                    refine V_callS (st := [.ref (A p)]) F dJ10_fixAfterInsertion_38 lk_J10_297 (ct_leftOf (o := some g) hT (fun _ z => Option.some.inj z ▸ hg)) rfl rfl (Nat.le_of_ble_eq_true rfl) (Nat.le_of_ble_eq_true rfl) (Nat.le_of_ble_eq_true rfl) (by first | exact Nat.le_of_ble_eq_true rfl | omega) (by first | exact Nat.le_of_ble_eq_true rfl | omega) ?_
                    refine PRk ?_
                    refine VV.stk (st' := [.null, .ref (A p)]) (by first | rfl | (rw [show Option.bind (some g) L = _ from hu]; rfl) | rw [show Option.bind (some g) L = _ from hu]) ?_
                    refine V_acmp_ne (rx := some (A p)) (ry := none) (tgt := 151) F dJ10_fixAfterInsertion_41 (by decide) (fun c_41 => ?_) (fun c_41 => nomatch c_41)
                    refine V_aload_n (i := 1) F dJ10_fixAfterInsertion_151 rfl rfl ?_
                    refine V_callS (st := []) F dJ10_fixAfterInsertion_152 lk_J10_294 (ct_parentOf (o := some x) hT (fun _ z => Option.some.inj z ▸ hx)) rfl rfl (Nat.le_of_ble_eq_true rfl) (Nat.le_of_ble_eq_true rfl) (Nat.le_of_ble_eq_true rfl) (by first | exact Nat.le_of_ble_eq_true rfl | omega) (by first | exact Nat.le_of_ble_eq_true rfl | omega) ?_
                    refine PRk ?_
                    refine VV.stk (st' := [.ref (A p)]) (by first | rfl | (rw [show Option.bind (some x) P = _ from hpx]; rfl) | rw [show Option.bind (some x) P = _ from hpx]) ?_
                    refine V_callS (st := []) F dJ10_fixAfterInsertion_155 lk_J10_294 (ct_parentOf (o := some p) hT (fun _ z => Option.some.inj z ▸ hp)) rfl rfl (Nat.le_of_ble_eq_true rfl) (Nat.le_of_ble_eq_true rfl) (Nat.le_of_ble_eq_true rfl) (by first | exact Nat.le_of_ble_eq_true rfl | omega) (by first | exact Nat.le_of_ble_eq_true rfl | omega) ?_
                    refine PRk ?_
                    refine VV.stk (st' := [.ref (A g)]) (by first | rfl | (rw [show Option.bind (some p) P = _ from hgp]; rfl) | rw [show Option.bind (some p) P = _ from hgp]) ?_
                    refine V_callS (st := []) F dJ10_fixAfterInsertion_158 lk_J10_297 (ct_leftOf (o := some g) hT (fun _ z => Option.some.inj z ▸ hg)) rfl rfl (Nat.le_of_ble_eq_true rfl) (Nat.le_of_ble_eq_true rfl) (Nat.le_of_ble_eq_true rfl) (by first | exact Nat.le_of_ble_eq_true rfl | omega) (by first | exact Nat.le_of_ble_eq_true rfl | omega) ?_
                    refine PRk ?_
                    refine VV.stk (st' := [.null]) (by first | rfl | (rw [show Option.bind (some g) L = _ from hu]; rfl) | rw [show Option.bind (some g) L = _ from hu]) ?_
                    refine V_astore_nN (i := 2) F dJ10_fixAfterInsertion_161 rfl (Nat.le_of_ble_eq_true rfl) (Nat.le_of_ble_eq_true rfl) ?_
                    refine V_aload_nN (i := 2) F dJ10_fixAfterInsertion_162 rfl rfl ?_
                    refine V_callS (st := []) F dJ10_fixAfterInsertion_163 lk_J10_303 (ct_colorOf (o := none) hT (fun _ z => nomatch z)) rfl rfl (Nat.le_of_ble_eq_true rfl) (Nat.le_of_ble_eq_true rfl) (Nat.le_of_ble_eq_true rfl) (by first | exact Nat.le_of_ble_eq_true rfl | omega) (by first | exact Nat.le_of_ble_eq_true rfl | omega) ?_
                    refine PRk ?_
                    refine VV.stk (st' := [.int (cB (true))]) rfl ?_
                    refine V_if_neC (c := true) (tgt := 204) F dJ10_fixAfterInsertion_166 (by decide) (fun c_166 => ?_) (fun c_166 => nomatch c_166)
                    refine V_aload_n (i := 1) F dJ10_fixAfterInsertion_204 rfl rfl ?_
                    refine V_aload_n (i := 1) F dJ10_fixAfterInsertion_205 rfl rfl ?_
                    refine V_callS (st := [.ref (A x)]) F dJ10_fixAfterInsertion_206 lk_J10_294 (ct_parentOf (o := some x) hT (fun _ z => Option.some.inj z ▸ hx)) rfl rfl (Nat.le_of_ble_eq_true rfl) (Nat.le_of_ble_eq_true rfl) (Nat.le_of_ble_eq_true rfl) (by first | exact Nat.le_of_ble_eq_true rfl | omega) (by first | exact Nat.le_of_ble_eq_true rfl | omega) ?_
                    refine PRk ?_
                    refine VV.stk (st' := [.ref (A p), .ref (A x)]) (by first | rfl | (rw [show Option.bind (some x) P = _ from hpx]; rfl) | rw [show Option.bind (some x) P = _ from hpx]) ?_
                    refine V_callS (st := [.ref (A x)]) F dJ10_fixAfterInsertion_209 lk_J10_297 (ct_leftOf (o := some p) hT (fun _ z => Option.some.inj z ▸ hp)) rfl rfl (Nat.le_of_ble_eq_true rfl) (Nat.le_of_ble_eq_true rfl) (Nat.le_of_ble_eq_true rfl) (by first | exact Nat.le_of_ble_eq_true rfl | omega) (by first | exact Nat.le_of_ble_eq_true rfl | omega) ?_
                    refine PRk ?_
                    refine VV.stk (st' := [.ref (A z), .ref (A x)]) (by first | rfl | (rw [show Option.bind (some p) L = _ from hz]; rfl) | rw [show Option.bind (some p) L = _ from hz]) ?_
                    refine V_acmp_ne (rx := some (A x)) (ry := some (A z)) (tgt := 225) F dJ10_fixAfterInsertion_212 (by decide) (fun c_212 => ?_) (fun c_212 => absurd (hAI _ _ hx hzn (Option.some.inj c_212)) (Ne.symm hzx))
                    refine V_aload_n (i := 1) F dJ10_fixAfterInsertion_225 rfl rfl ?_
                    refine V_callS (st := []) F dJ10_fixAfterInsertion_226 lk_J10_294 (ct_parentOf (o := some x) hT (fun _ z => Option.some.inj z ▸ hx)) rfl rfl (Nat.le_of_ble_eq_true rfl) (Nat.le_of_ble_eq_true rfl) (Nat.le_of_ble_eq_true rfl) (by first | exact Nat.le_of_ble_eq_true rfl | omega) (by first | exact Nat.le_of_ble_eq_true rfl | omega) ?_
                    refine PRk ?_
                    refine VV.stk (st' := [.ref (A p)]) (by first | rfl | (rw [show Option.bind (some x) P = _ from hpx]; rfl) | rw [show Option.bind (some x) P = _ from hpx]) ?_
                    refine V_iconst (v := nI 1) F dJ10_fixAfterInsertion_229 rfl ?_
                    refine V_callS (st := []) F dJ10_fixAfterInsertion_230 lk_J10_307 (ct_setColor (o := some p) (c := true) hT hAI (fun _ z => Option.some.inj z ▸ hp)) rfl rfl (Nat.le_of_ble_eq_true rfl) (Nat.le_of_ble_eq_true rfl) (Nat.le_of_ble_eq_true rfl) (by first | exact Nat.le_of_ble_eq_true rfl | omega) (by first | exact Nat.le_of_ble_eq_true rfl | omega) ?_
                    rintro _ k1 ⟨rfl, hT3, hx2, hk4⟩
                    have p5 := (hk4 t (fun i hi => ne_oo ht (hT i hi) (by decide))).trans ht
                    have f6 := hF.cal hx2 (fun b q => Or.inl (Or.inr q))
                    have g7 := (Fr.rf (M := fun _ => True) (h := hh)).cal hx2 (fun _ _ => Or.inl trivial)
                    refine V_aload_n (i := 1) F dJ10_fixAfterInsertion_233 rfl rfl ?_
                    refine V_callS (st := []) F dJ10_fixAfterInsertion_234 lk_J10_294 (ct_parentOf (o := some x) hT3 (fun _ z => Option.some.inj z ▸ hx)) rfl rfl (Nat.le_of_ble_eq_true rfl) (Nat.le_of_ble_eq_true rfl) (Nat.le_of_ble_eq_true rfl) (by first | exact Nat.le_of_ble_eq_true rfl | omega) (by first | exact Nat.le_of_ble_eq_true rfl | omega) ?_
                    refine PRk ?_
                    refine VV.stk (st' := [.ref (A p)]) (by first | rfl | (rw [show Option.bind (some x) P = _ from hpx]; rfl) | rw [show Option.bind (some x) P = _ from hpx]) ?_
                    refine V_callS (st := []) F dJ10_fixAfterInsertion_237 lk_J10_294 (ct_parentOf (o := some p) hT3 (fun _ z => Option.some.inj z ▸ hp)) rfl rfl (Nat.le_of_ble_eq_true rfl) (Nat.le_of_ble_eq_true rfl) (Nat.le_of_ble_eq_true rfl) (by first | exact Nat.le_of_ble_eq_true rfl | omega) (by first | exact Nat.le_of_ble_eq_true rfl | omega) ?_
                    refine PRk ?_
                    refine VV.stk (st' := [.ref (A g)]) (by first | rfl | (rw [show Option.bind (some p) P = _ from hgp]; rfl) | rw [show Option.bind (some p) P = _ from hgp]) ?_
                    refine V_iconst (v := nI 0) F dJ10_fixAfterInsertion_240 rfl ?_
                    refine V_callS (st := []) F dJ10_fixAfterInsertion_241 lk_J10_307 (ct_setColor (o := some g) (c := false) hT3 hAI (fun _ z => Option.some.inj z ▸ hg)) rfl rfl (Nat.le_of_ble_eq_true rfl) (Nat.le_of_ble_eq_true rfl) (Nat.le_of_ble_eq_true rfl) (by first | exact Nat.le_of_ble_eq_true rfl | omega) (by first | exact Nat.le_of_ble_eq_true rfl | omega) ?_
                    rintro _ k8 ⟨rfl, hT10, hx9, hk11⟩
                    have p12 := (hk11 t (fun i hi => ne_oo p5 (hT3 i hi) (by decide))).trans p5
                    have f13 := f6.cal hx9 (fun b q => Or.inl (Or.inr q))
                    have g14 := g7.cal hx9 (fun _ _ => Or.inl trivial)
                    refine V_aload_n (i := 0) F dJ10_fixAfterInsertion_244 rfl rfl ?_
                    refine V_aload_n (i := 1) F dJ10_fixAfterInsertion_245 rfl rfl ?_
                    refine V_callS (st := [.ref (t)]) F dJ10_fixAfterInsertion_246 lk_J10_294 (ct_parentOf (o := some x) hT10 (fun _ z => Option.some.inj z ▸ hx)) rfl rfl (Nat.le_of_ble_eq_true rfl) (Nat.le_of_ble_eq_true rfl) (Nat.le_of_ble_eq_true rfl) (by first | exact Nat.le_of_ble_eq_true rfl | omega) (by first | exact Nat.le_of_ble_eq_true rfl | omega) ?_
                    refine PRk ?_
                    refine VV.stk (st' := [.ref (A p), .ref (t)]) (by first | rfl | (rw [show Option.bind (some x) P = _ from hpx]; rfl) | rw [show Option.bind (some x) P = _ from hpx]) ?_
                    refine V_callS (st := [.ref (t)]) F dJ10_fixAfterInsertion_249 lk_J10_294 (ct_parentOf (o := some p) hT10 (fun _ z => Option.some.inj z ▸ hp)) rfl rfl (Nat.le_of_ble_eq_true rfl) (Nat.le_of_ble_eq_true rfl) (Nat.le_of_ble_eq_true rfl) (by first | exact Nat.le_of_ble_eq_true rfl | omega) (by first | exact Nat.le_of_ble_eq_true rfl | omega) ?_
                    refine PRk ?_
                    refine VV.stk (st' := [.ref (A g), .ref (t)]) (by first | rfl | (rw [show Option.bind (some p) P = _ from hgp]; rfl) | rw [show Option.bind (some p) P = _ from hgp]) ?_
                    refine V_callV (st := []) F dJ10_fixAfterInsertion_252 lk_J10_311 (ct_rotateLeft ⟨x0, x1, x6, x7, x8, p12, vw_fr hv1 g14 rfl, vw_fr hv7 g14 rfl⟩ hT10 hAI hw hg hrg) ⟨23, _, _, _, rfl, (.inl p12)⟩ rfl rfl (Nat.le_of_ble_eq_true rfl) (Nat.le_of_ble_eq_true rfl) (Nat.le_of_ble_eq_true rfl) (by first | exact Nat.le_of_ble_eq_true rfl | omega) (by first | exact Nat.le_of_ble_eq_true rfl | omega) ?_
                    rintro _ k15 ⟨rfl, hC18, hT17, hx16⟩
                    obtain ⟨y19, y20, y21, y22, y23, ht24, hv25, hv26⟩ := hC18
                    have f27 : Fr (mT t n A) h k15 := f13.cal hx16 (fun b q => Or.inl q)
                    have hw28 := hw.rotL (L' := rlL L P g p) (R' := rlR L R P g p) (P' := rlP L P g p) (rt' := roR P rt g p) hg hrg (fun _ => rfl) (fun _ => rfl) (fun _ => rfl) rfl
                    refine V_goto (tgt := 5) F dJ10_fixAfterInsertion_255 (by decide) ?_
                    refine VV.weak (L' := [some (.ref (t)), some (.ref (A x)), none]) (LW.c1 (LW.c1 (LW.c0 LW.nil))) ?_
                    refine exitB _ _ _ _ _ _ _ x _ ⟨y19, y20, y21, y22, y23, ht24, vw_fr hv25 (Fr.rf (M := fun _ => True) (h := k15)) rfl, vw_fr hv26 (Fr.rf (M := fun _ => True) (h := k15)) rfl⟩ hT17 hw28 hx f27 (Or.inr ?_)
                    exact ⟨p, by grind [rlP], hp, by simp [stC, Ne.symm hpg]⟩
              | some u =>
                have hun : u < n := hw.bL hg hu
                have hup : u ≠ p := by
                  have h1 := hw.2.2.1 g _ hg hu
                  have h2 := hw.2.2.2.2.1 g _ hg hrg
                  omega
                by_cases hcu : C u = true
                · by_cases hin : L p = some x
                  · refine V_aload_n (i := 1) F dJ10_fixAfterInsertion_5 rfl rfl ?_
                    refine V_ifnull F dJ10_fixAfterInsertion_6 ?_
                    refine V_aload_n (i := 1) F dJ10_fixAfterInsertion_9 rfl rfl ?_
                    refine V_aload_n (i := 0) F dJ10_fixAfterInsertion_10 rfl rfl ?_
                    refine V_getf F dJ10_fixAfterInsertion_11 fc_J10_101_J10 (.inl ht) rfl ?_
                    refine V_acmp_eq (rx := some (A x)) (ry := (rt).map A) (tgt := 258) F dJ10_fixAfterInsertion_14 (by decide) (fun c_14 => absurd (map_eq hAI (fun j hj => (hw.2.2.2.2.2.2.2.1 j hj).1) hx c_14.symm) hroot) (fun c_14 => ?_)
                    refine V_aload_n (i := 1) F dJ10_fixAfterInsertion_17 rfl rfl ?_
                    refine V_getf F dJ10_fixAfterInsertion_18 fc_J10_124_J41 (.inl (hT x hx)) rfl ?_
                    refine VV.stk (st' := [.ref (A p)]) (by first | (rw [hpx]; rfl) | rw [hpx]) ?_
                    refine V_getf F dJ10_fixAfterInsertion_21 fc_J10_290_J41 (.inl (hT p hp)) rfl ?_
                    refine V_if_neC (c := C p) (tgt := 258) F dJ10_fixAfterInsertion_24 (by decide) (fun c_24 => absurd (c_24.symm.trans hcp) (by decide)) (fun c_24 => ?_)
                    refine V_aload_n (i := 1) F dJ10_fixAfterInsertion_27 rfl rfl ?_
                    refine V_callS (st := []) F dJ10_fixAfterInsertion_28 lk_J10_294 (ct_parentOf (o := some x) hT (fun _ z => Option.some.inj z ▸ hx)) rfl rfl (Nat.le_of_ble_eq_true rfl) (Nat.le_of_ble_eq_true rfl) (Nat.le_of_ble_eq_true rfl) (by first | exact Nat.le_of_ble_eq_true rfl | omega) (by first | exact Nat.le_of_ble_eq_true rfl | omega) ?_
                    refine PRk ?_
                    refine VV.stk (st' := [.ref (A p)]) (by first | rfl | (rw [show Option.bind (some x) P = _ from hpx]; rfl) | rw [show Option.bind (some x) P = _ from hpx]) ?_
                    refine V_aload_n (i := 1) F dJ10_fixAfterInsertion_31 rfl rfl ?_
                    refine V_callS (st := [.ref (A p)]) F dJ10_fixAfterInsertion_32 lk_J10_294 (ct_parentOf (o := some x) hT (fun _ z => Option.some.inj z ▸ hx)) rfl rfl (Nat.le_of_ble_eq_true rfl) (Nat.le_of_ble_eq_true rfl) (Nat.le_of_ble_eq_true rfl) (by first | exact Nat.le_of_ble_eq_true rfl | omega) (by first | exact Nat.le_of_ble_eq_true rfl | omega) ?_
                    refine PRk ?_
                    refine VV.stk (st' := [.ref (A p), .ref (A p)]) (by first | rfl | (rw [show Option.bind (some x) P = _ from hpx]; rfl) | rw [show Option.bind (some x) P = _ from hpx]) ?_
                    refine V_callS (st := [.ref (A p)]) F dJ10_fixAfterInsertion_35 lk_J10_294 (ct_parentOf (o := some p) hT (fun _ z => Option.some.inj z ▸ hp)) rfl rfl (Nat.le_of_ble_eq_true rfl) (Nat.le_of_ble_eq_true rfl) (Nat.le_of_ble_eq_true rfl) (by first | exact Nat.le_of_ble_eq_true rfl | omega) (by first | exact Nat.le_of_ble_eq_true rfl | omega) ?_
                    refine PRk ?_
                    refine VV.stk (st' := [.ref (A g), .ref (A p)]) (by first | rfl | (rw [show Option.bind (some p) P = _ from hgp]; rfl) | rw [show Option.bind (some p) P = _ from hgp]) ?_
                    refine V_callS (st := [.ref (A p)]) F dJ10_fixAfterInsertion_38 lk_J10_297 (ct_leftOf (o := some g) hT (fun _ z => Option.some.inj z ▸ hg)) rfl rfl (Nat.le_of_ble_eq_true rfl) (Nat.le_of_ble_eq_true rfl) (Nat.le_of_ble_eq_true rfl) (by first | exact Nat.le_of_ble_eq_true rfl | omega) (by first | exact Nat.le_of_ble_eq_true rfl | omega) ?_
                    refine PRk ?_
                    refine VV.stk (st' := [.ref (A u), .ref (A p)]) (by first | rfl | (rw [show Option.bind (some g) L = _ from hu]; rfl) | rw [show Option.bind (some g) L = _ from hu]) ?_
                    refine V_acmp_ne (rx := some (A p)) (ry := some (A u)) (tgt := 151) F dJ10_fixAfterInsertion_41 (by decide) (fun c_41 => ?_) (fun c_41 => absurd (hAI _ _ hp hun (Option.some.inj c_41)) (Ne.symm hup))
                    refine V_aload_n (i := 1) F dJ10_fixAfterInsertion_151 rfl rfl ?_
                    refine V_callS (st := []) F dJ10_fixAfterInsertion_152 lk_J10_294 (ct_parentOf (o := some x) hT (fun _ z => Option.some.inj z ▸ hx)) rfl rfl (Nat.le_of_ble_eq_true rfl) (Nat.le_of_ble_eq_true rfl) (Nat.le_of_ble_eq_true rfl) (by first | exact Nat.le_of_ble_eq_true rfl | omega) (by first | exact Nat.le_of_ble_eq_true rfl | omega) ?_
                    refine PRk ?_
                    refine VV.stk (st' := [.ref (A p)]) (by first | rfl | (rw [show Option.bind (some x) P = _ from hpx]; rfl) | rw [show Option.bind (some x) P = _ from hpx]) ?_
                    refine V_callS (st := []) F dJ10_fixAfterInsertion_155 lk_J10_294 (ct_parentOf (o := some p) hT (fun _ z => Option.some.inj z ▸ hp)) rfl rfl (Nat.le_of_ble_eq_true rfl) (Nat.le_of_ble_eq_true rfl) (Nat.le_of_ble_eq_true rfl) (by first | exact Nat.le_of_ble_eq_true rfl | omega) (by first | exact Nat.le_of_ble_eq_true rfl | omega) ?_
                    refine PRk ?_
                    refine VV.stk (st' := [.ref (A g)]) (by first | rfl | (rw [show Option.bind (some p) P = _ from hgp]; rfl) | rw [show Option.bind (some p) P = _ from hgp]) ?_
                    refine V_callS (st := []) F dJ10_fixAfterInsertion_158 lk_J10_297 (ct_leftOf (o := some g) hT (fun _ z => Option.some.inj z ▸ hg)) rfl rfl (Nat.le_of_ble_eq_true rfl) (Nat.le_of_ble_eq_true rfl) (Nat.le_of_ble_eq_true rfl) (by first | exact Nat.le_of_ble_eq_true rfl | omega) (by first | exact Nat.le_of_ble_eq_true rfl | omega) ?_
                    refine PRk ?_
                    refine VV.stk (st' := [.ref (A u)]) (by first | rfl | (rw [show Option.bind (some g) L = _ from hu]; rfl) | rw [show Option.bind (some g) L = _ from hu]) ?_
                    refine V_astore_n (i := 2) F dJ10_fixAfterInsertion_161 rfl (Nat.le_of_ble_eq_true rfl) (Nat.le_of_ble_eq_true rfl) ?_
                    refine V_aload_n (i := 2) F dJ10_fixAfterInsertion_162 rfl rfl ?_
                    refine V_callS (st := []) F dJ10_fixAfterInsertion_163 lk_J10_303 (ct_colorOf (o := some u) hT (fun _ z => Option.some.inj z ▸ hun)) rfl rfl (Nat.le_of_ble_eq_true rfl) (Nat.le_of_ble_eq_true rfl) (Nat.le_of_ble_eq_true rfl) (by first | exact Nat.le_of_ble_eq_true rfl | omega) (by first | exact Nat.le_of_ble_eq_true rfl | omega) ?_
                    refine PRk ?_
                    refine VV.stk (st' := [.int (cB (C u))]) rfl ?_
                    refine V_if_neC (c := C u) (tgt := 204) F dJ10_fixAfterInsertion_166 (by decide) (fun c_166 => ?_) (fun c_166 => absurd (c_166.symm.trans hcu) (by decide))
                    refine V_aload_n (i := 1) F dJ10_fixAfterInsertion_204 rfl rfl ?_
                    refine V_aload_n (i := 1) F dJ10_fixAfterInsertion_205 rfl rfl ?_
                    refine V_callS (st := [.ref (A x)]) F dJ10_fixAfterInsertion_206 lk_J10_294 (ct_parentOf (o := some x) hT (fun _ z => Option.some.inj z ▸ hx)) rfl rfl (Nat.le_of_ble_eq_true rfl) (Nat.le_of_ble_eq_true rfl) (Nat.le_of_ble_eq_true rfl) (by first | exact Nat.le_of_ble_eq_true rfl | omega) (by first | exact Nat.le_of_ble_eq_true rfl | omega) ?_
                    refine PRk ?_
                    refine VV.stk (st' := [.ref (A p), .ref (A x)]) (by first | rfl | (rw [show Option.bind (some x) P = _ from hpx]; rfl) | rw [show Option.bind (some x) P = _ from hpx]) ?_
                    refine V_callS (st := [.ref (A x)]) F dJ10_fixAfterInsertion_209 lk_J10_297 (ct_leftOf (o := some p) hT (fun _ z => Option.some.inj z ▸ hp)) rfl rfl (Nat.le_of_ble_eq_true rfl) (Nat.le_of_ble_eq_true rfl) (Nat.le_of_ble_eq_true rfl) (by first | exact Nat.le_of_ble_eq_true rfl | omega) (by first | exact Nat.le_of_ble_eq_true rfl | omega) ?_
                    refine PRk ?_
                    refine VV.stk (st' := [.ref (A x), .ref (A x)]) (by first | rfl | (rw [show Option.bind (some p) L = _ from hin]; rfl) | rw [show Option.bind (some p) L = _ from hin]) ?_
                    refine V_acmp_ne (rx := some (A x)) (ry := some (A x)) (tgt := 225) F dJ10_fixAfterInsertion_212 (by decide) (fun c_212 => absurd rfl c_212) (fun c_212 => ?_)
                    refine V_aload_n (i := 1) F dJ10_fixAfterInsertion_215 rfl rfl ?_
                    refine V_callS (st := []) F dJ10_fixAfterInsertion_216 lk_J10_294 (ct_parentOf (o := some x) hT (fun _ z => Option.some.inj z ▸ hx)) rfl rfl (Nat.le_of_ble_eq_true rfl) (Nat.le_of_ble_eq_true rfl) (Nat.le_of_ble_eq_true rfl) (by first | exact Nat.le_of_ble_eq_true rfl | omega) (by first | exact Nat.le_of_ble_eq_true rfl | omega) ?_
                    refine PRk ?_
                    refine VV.stk (st' := [.ref (A p)]) (by first | rfl | (rw [show Option.bind (some x) P = _ from hpx]; rfl) | rw [show Option.bind (some x) P = _ from hpx]) ?_
                    refine V_astore_n (i := 1) F dJ10_fixAfterInsertion_219 rfl (Nat.le_of_ble_eq_true rfl) (Nat.le_of_ble_eq_true rfl) ?_
                    refine V_aload_n (i := 0) F dJ10_fixAfterInsertion_220 rfl rfl ?_
                    refine V_aload_n (i := 1) F dJ10_fixAfterInsertion_221 rfl rfl ?_
                    refine V_callV (st := []) F dJ10_fixAfterInsertion_222 lk_J10_314 (ct_rotateRight ⟨x0, x1, x6, x7, x8, ht, vw_fr hv1 (Fr.rf (M := fun _ => True) (h := hh)) rfl, vw_fr hv7 (Fr.rf (M := fun _ => True) (h := hh)) rfl⟩ hT hAI hw hp hin) ⟨23, _, _, _, rfl, (.inl ht)⟩ rfl rfl (Nat.le_of_ble_eq_true rfl) (Nat.le_of_ble_eq_true rfl) (Nat.le_of_ble_eq_true rfl) (by first | exact Nat.le_of_ble_eq_true rfl | omega) (by first | exact Nat.le_of_ble_eq_true rfl | omega) ?_
                    rintro _ k1 ⟨rfl, hC4, hT3, hx2⟩
                    obtain ⟨y5, y6, y7, y8, y9, ht10, hv11, hv12⟩ := hC4
                    have f13 : Fr (mT t n A) h k1 := hF.cal hx2 (fun b q => Or.inl q)
                    have hw14 := hw.rotR (L' := rrL L R P p x) (R' := rrR R P p x) (P' := rrP R P p x) (rt' := roR P rt p x) hp hin (fun _ => rfl) (fun _ => rfl) (fun _ => rfl) rfl
                    have e1 : (rrP R P p x) p = some x := by simp [rrP]
                    have e2 : (rrP R P p x) x = some g := by simp [rrP, hxp, hgp]
                    have e3 : (rrR R P p x) g = some x := by simp [rrR, Ne.symm hxg, Ne.symm hpg, hgp, hrg, hlg]
                    refine V_aload_n (i := 1) F dJ10_fixAfterInsertion_225 rfl rfl ?_
                    refine V_callS (st := []) F dJ10_fixAfterInsertion_226 lk_J10_294 (ct_parentOf (o := some p) hT3 (fun _ z => Option.some.inj z ▸ hp)) rfl rfl (Nat.le_of_ble_eq_true rfl) (Nat.le_of_ble_eq_true rfl) (Nat.le_of_ble_eq_true rfl) (by first | exact Nat.le_of_ble_eq_true rfl | omega) (by first | exact Nat.le_of_ble_eq_true rfl | omega) ?_
                    refine PRk ?_
                    refine VV.stk (st' := [.ref (A x)]) (by first | rfl | (rw [show Option.bind (some p) (rrP R P p x) = _ from e1]; rfl) | rw [show Option.bind (some p) (rrP R P p x) = _ from e1]) ?_
                    refine V_iconst (v := nI 1) F dJ10_fixAfterInsertion_229 rfl ?_
                    refine V_callS (st := []) F dJ10_fixAfterInsertion_230 lk_J10_307 (ct_setColor (o := some x) (c := true) hT3 hAI (fun _ z => Option.some.inj z ▸ hx)) rfl rfl (Nat.le_of_ble_eq_true rfl) (Nat.le_of_ble_eq_true rfl) (Nat.le_of_ble_eq_true rfl) (by first | exact Nat.le_of_ble_eq_true rfl | omega) (by first | exact Nat.le_of_ble_eq_true rfl | omega) ?_
                    rintro _ k15 ⟨rfl, hT17, hx16, hk18⟩
                    have p19 := (hk18 t (fun i hi => ne_oo ht10 (hT3 i hi) (by decide))).trans ht10
                    have f20 := f13.cal hx16 (fun b q => Or.inl (Or.inr q))
                    have g21 := (Fr.rf (M := fun _ => True) (h := k1)).cal hx16 (fun _ _ => Or.inl trivial)
                    refine V_aload_n (i := 1) F dJ10_fixAfterInsertion_233 rfl rfl ?_
                    refine V_callS (st := []) F dJ10_fixAfterInsertion_234 lk_J10_294 (ct_parentOf (o := some p) hT17 (fun _ z => Option.some.inj z ▸ hp)) rfl rfl (Nat.le_of_ble_eq_true rfl) (Nat.le_of_ble_eq_true rfl) (Nat.le_of_ble_eq_true rfl) (by first | exact Nat.le_of_ble_eq_true rfl | omega) (by first | exact Nat.le_of_ble_eq_true rfl | omega) ?_
                    refine PRk ?_
                    refine VV.stk (st' := [.ref (A x)]) (by first | rfl | (rw [show Option.bind (some p) (rrP R P p x) = _ from e1]; rfl) | rw [show Option.bind (some p) (rrP R P p x) = _ from e1]) ?_
                    refine V_callS (st := []) F dJ10_fixAfterInsertion_237 lk_J10_294 (ct_parentOf (o := some x) hT17 (fun _ z => Option.some.inj z ▸ hx)) rfl rfl (Nat.le_of_ble_eq_true rfl) (Nat.le_of_ble_eq_true rfl) (Nat.le_of_ble_eq_true rfl) (by first | exact Nat.le_of_ble_eq_true rfl | omega) (by first | exact Nat.le_of_ble_eq_true rfl | omega) ?_
                    refine PRk ?_
                    refine VV.stk (st' := [.ref (A g)]) (by first | rfl | (rw [show Option.bind (some x) (rrP R P p x) = _ from e2]; rfl) | rw [show Option.bind (some x) (rrP R P p x) = _ from e2]) ?_
                    refine V_iconst (v := nI 0) F dJ10_fixAfterInsertion_240 rfl ?_
                    refine V_callS (st := []) F dJ10_fixAfterInsertion_241 lk_J10_307 (ct_setColor (o := some g) (c := false) hT17 hAI (fun _ z => Option.some.inj z ▸ hg)) rfl rfl (Nat.le_of_ble_eq_true rfl) (Nat.le_of_ble_eq_true rfl) (Nat.le_of_ble_eq_true rfl) (by first | exact Nat.le_of_ble_eq_true rfl | omega) (by first | exact Nat.le_of_ble_eq_true rfl | omega) ?_
                    rintro _ k22 ⟨rfl, hT24, hx23, hk25⟩
                    have p26 := (hk25 t (fun i hi => ne_oo p19 (hT17 i hi) (by decide))).trans p19
                    have f27 := f20.cal hx23 (fun b q => Or.inl (Or.inr q))
                    have g28 := g21.cal hx23 (fun _ _ => Or.inl trivial)
                    refine V_aload_n (i := 0) F dJ10_fixAfterInsertion_244 rfl rfl ?_
                    refine V_aload_n (i := 1) F dJ10_fixAfterInsertion_245 rfl rfl ?_
                    refine V_callS (st := [.ref (t)]) F dJ10_fixAfterInsertion_246 lk_J10_294 (ct_parentOf (o := some p) hT24 (fun _ z => Option.some.inj z ▸ hp)) rfl rfl (Nat.le_of_ble_eq_true rfl) (Nat.le_of_ble_eq_true rfl) (Nat.le_of_ble_eq_true rfl) (by first | exact Nat.le_of_ble_eq_true rfl | omega) (by first | exact Nat.le_of_ble_eq_true rfl | omega) ?_
                    refine PRk ?_
                    refine VV.stk (st' := [.ref (A x), .ref (t)]) (by first | rfl | (rw [show Option.bind (some p) (rrP R P p x) = _ from e1]; rfl) | rw [show Option.bind (some p) (rrP R P p x) = _ from e1]) ?_
                    refine V_callS (st := [.ref (t)]) F dJ10_fixAfterInsertion_249 lk_J10_294 (ct_parentOf (o := some x) hT24 (fun _ z => Option.some.inj z ▸ hx)) rfl rfl (Nat.le_of_ble_eq_true rfl) (Nat.le_of_ble_eq_true rfl) (Nat.le_of_ble_eq_true rfl) (by first | exact Nat.le_of_ble_eq_true rfl | omega) (by first | exact Nat.le_of_ble_eq_true rfl | omega) ?_
                    refine PRk ?_
                    refine VV.stk (st' := [.ref (A g), .ref (t)]) (by first | rfl | (rw [show Option.bind (some x) (rrP R P p x) = _ from e2]; rfl) | rw [show Option.bind (some x) (rrP R P p x) = _ from e2]) ?_
                    refine V_callV (st := []) F dJ10_fixAfterInsertion_252 lk_J10_311 (ct_rotateLeft ⟨y5, y6, y7, y8, y9, p26, vw_fr hv11 g28 rfl, vw_fr hv12 g28 rfl⟩ hT24 hAI hw14 hg e3) ⟨23, _, _, _, rfl, (.inl p26)⟩ rfl rfl (Nat.le_of_ble_eq_true rfl) (Nat.le_of_ble_eq_true rfl) (Nat.le_of_ble_eq_true rfl) (by first | exact Nat.le_of_ble_eq_true rfl | omega) (by first | exact Nat.le_of_ble_eq_true rfl | omega) ?_
                    rintro _ k29 ⟨rfl, hC32, hT31, hx30⟩
                    obtain ⟨y33, y34, y35, y36, y37, ht38, hv39, hv40⟩ := hC32
                    have f41 : Fr (mT t n A) h k29 := f27.cal hx30 (fun b q => Or.inl q)
                    have hw42 := hw14.rotL (L' := rlL (rrL L R P p x) (rrP R P p x) g x) (R' := rlR (rrL L R P p x) (rrR R P p x) (rrP R P p x) g x) (P' := rlP (rrL L R P p x) (rrP R P p x) g x) (rt' := roR (rrP R P p x) (roR P rt p x) g x) hg e3 (fun _ => rfl) (fun _ => rfl) (fun _ => rfl) rfl
                    refine V_goto (tgt := 5) F dJ10_fixAfterInsertion_255 (by decide) ?_
                    refine VV.weak (L' := [some (.ref (t)), some (.ref (A p)), none]) (LW.c1 (LW.c1 (LW.c0 LW.nil))) ?_
                    refine exitB _ _ _ _ _ _ _ p _ ⟨y33, y34, y35, y36, y37, ht38, vw_fr hv39 (Fr.rf (M := fun _ => True) (h := k29)) rfl, vw_fr hv40 (Fr.rf (M := fun _ => True) (h := k29)) rfl⟩ hT31 hw42 hp f41 (Or.inr ?_)
                    have hRx : L x ≠ some p := fun z => hxg (by have := (hw.2.2.1 x p hx z).2.2.2; rw [hgp] at this; exact (Option.some.inj this).symm)
                    exact ⟨x, by grind [rlP, rrL, rrP], hx, by simp [stC, Ne.symm hxg]⟩
                  · have hch : R p = some x := (hw.2.2.2.2.2.2.1 x p hx hpx).2.resolve_left hin
                    cases hz : L p with
                    | none =>
                      refine V_aload_n (i := 1) F dJ10_fixAfterInsertion_5 rfl rfl ?_
                      refine V_ifnull F dJ10_fixAfterInsertion_6 ?_
                      refine V_aload_n (i := 1) F dJ10_fixAfterInsertion_9 rfl rfl ?_
                      refine V_aload_n (i := 0) F dJ10_fixAfterInsertion_10 rfl rfl ?_
                      refine V_getf F dJ10_fixAfterInsertion_11 fc_J10_101_J10 (.inl ht) rfl ?_
                      refine V_acmp_eq (rx := some (A x)) (ry := (rt).map A) (tgt := 258) F dJ10_fixAfterInsertion_14 (by decide) (fun c_14 => absurd (map_eq hAI (fun j hj => (hw.2.2.2.2.2.2.2.1 j hj).1) hx c_14.symm) hroot) (fun c_14 => ?_)
                      refine V_aload_n (i := 1) F dJ10_fixAfterInsertion_17 rfl rfl ?_
                      refine V_getf F dJ10_fixAfterInsertion_18 fc_J10_124_J41 (.inl (hT x hx)) rfl ?_
                      refine VV.stk (st' := [.ref (A p)]) (by first | (rw [hpx]; rfl) | rw [hpx]) ?_
                      refine V_getf F dJ10_fixAfterInsertion_21 fc_J10_290_J41 (.inl (hT p hp)) rfl ?_
                      refine V_if_neC (c := C p) (tgt := 258) F dJ10_fixAfterInsertion_24 (by decide) (fun c_24 => absurd (c_24.symm.trans hcp) (by decide)) (fun c_24 => ?_)
                      refine V_aload_n (i := 1) F dJ10_fixAfterInsertion_27 rfl rfl ?_
                      refine V_callS (st := []) F dJ10_fixAfterInsertion_28 lk_J10_294 (ct_parentOf (o := some x) hT (fun _ z => Option.some.inj z ▸ hx)) rfl rfl (Nat.le_of_ble_eq_true rfl) (Nat.le_of_ble_eq_true rfl) (Nat.le_of_ble_eq_true rfl) (by first | exact Nat.le_of_ble_eq_true rfl | omega) (by first | exact Nat.le_of_ble_eq_true rfl | omega) ?_
                      refine PRk ?_
                      refine VV.stk (st' := [.ref (A p)]) (by first | rfl | (rw [show Option.bind (some x) P = _ from hpx]; rfl) | rw [show Option.bind (some x) P = _ from hpx]) ?_
                      refine V_aload_n (i := 1) F dJ10_fixAfterInsertion_31 rfl rfl ?_
                      refine V_callS (st := [.ref (A p)]) F dJ10_fixAfterInsertion_32 lk_J10_294 (ct_parentOf (o := some x) hT (fun _ z => Option.some.inj z ▸ hx)) rfl rfl (Nat.le_of_ble_eq_true rfl) (Nat.le_of_ble_eq_true rfl) (Nat.le_of_ble_eq_true rfl) (by first | exact Nat.le_of_ble_eq_true rfl | omega) (by first | exact Nat.le_of_ble_eq_true rfl | omega) ?_
                      refine PRk ?_
                      refine VV.stk (st' := [.ref (A p), .ref (A p)]) (by first | rfl | (rw [show Option.bind (some x) P = _ from hpx]; rfl) | rw [show Option.bind (some x) P = _ from hpx]) ?_
                      refine V_callS (st := [.ref (A p)]) F dJ10_fixAfterInsertion_35 lk_J10_294 (ct_parentOf (o := some p) hT (fun _ z => Option.some.inj z ▸ hp)) rfl rfl (Nat.le_of_ble_eq_true rfl) (Nat.le_of_ble_eq_true rfl) (Nat.le_of_ble_eq_true rfl) (by first | exact Nat.le_of_ble_eq_true rfl | omega) (by first | exact Nat.le_of_ble_eq_true rfl | omega) ?_
                      refine PRk ?_
                      refine VV.stk (st' := [.ref (A g), .ref (A p)]) (by first | rfl | (rw [show Option.bind (some p) P = _ from hgp]; rfl) | rw [show Option.bind (some p) P = _ from hgp]) ?_
                      refine V_callS (st := [.ref (A p)]) F dJ10_fixAfterInsertion_38 lk_J10_297 (ct_leftOf (o := some g) hT (fun _ z => Option.some.inj z ▸ hg)) rfl rfl (Nat.le_of_ble_eq_true rfl) (Nat.le_of_ble_eq_true rfl) (Nat.le_of_ble_eq_true rfl) (by first | exact Nat.le_of_ble_eq_true rfl | omega) (by first | exact Nat.le_of_ble_eq_true rfl | omega) ?_
                      refine PRk ?_
                      refine VV.stk (st' := [.ref (A u), .ref (A p)]) (by first | rfl | (rw [show Option.bind (some g) L = _ from hu]; rfl) | rw [show Option.bind (some g) L = _ from hu]) ?_
                      refine V_acmp_ne (rx := some (A p)) (ry := some (A u)) (tgt := 151) F dJ10_fixAfterInsertion_41 (by decide) (fun c_41 => ?_) (fun c_41 => absurd (hAI _ _ hp hun (Option.some.inj c_41)) (Ne.symm hup))
                      refine V_aload_n (i := 1) F dJ10_fixAfterInsertion_151 rfl rfl ?_
                      refine V_callS (st := []) F dJ10_fixAfterInsertion_152 lk_J10_294 (ct_parentOf (o := some x) hT (fun _ z => Option.some.inj z ▸ hx)) rfl rfl (Nat.le_of_ble_eq_true rfl) (Nat.le_of_ble_eq_true rfl) (Nat.le_of_ble_eq_true rfl) (by first | exact Nat.le_of_ble_eq_true rfl | omega) (by first | exact Nat.le_of_ble_eq_true rfl | omega) ?_
                      refine PRk ?_
                      refine VV.stk (st' := [.ref (A p)]) (by first | rfl | (rw [show Option.bind (some x) P = _ from hpx]; rfl) | rw [show Option.bind (some x) P = _ from hpx]) ?_
                      refine V_callS (st := []) F dJ10_fixAfterInsertion_155 lk_J10_294 (ct_parentOf (o := some p) hT (fun _ z => Option.some.inj z ▸ hp)) rfl rfl (Nat.le_of_ble_eq_true rfl) (Nat.le_of_ble_eq_true rfl) (Nat.le_of_ble_eq_true rfl) (by first | exact Nat.le_of_ble_eq_true rfl | omega) (by first | exact Nat.le_of_ble_eq_true rfl | omega) ?_
                      refine PRk ?_
                      refine VV.stk (st' := [.ref (A g)]) (by first | rfl | (rw [show Option.bind (some p) P = _ from hgp]; rfl) | rw [show Option.bind (some p) P = _ from hgp]) ?_
                      refine V_callS (st := []) F dJ10_fixAfterInsertion_158 lk_J10_297 (ct_leftOf (o := some g) hT (fun _ z => Option.some.inj z ▸ hg)) rfl rfl (Nat.le_of_ble_eq_true rfl) (Nat.le_of_ble_eq_true rfl) (Nat.le_of_ble_eq_true rfl) (by first | exact Nat.le_of_ble_eq_true rfl | omega) (by first | exact Nat.le_of_ble_eq_true rfl | omega) ?_
                      refine PRk ?_
                      refine VV.stk (st' := [.ref (A u)]) (by first | rfl | (rw [show Option.bind (some g) L = _ from hu]; rfl) | rw [show Option.bind (some g) L = _ from hu]) ?_
                      refine V_astore_n (i := 2) F dJ10_fixAfterInsertion_161 rfl (Nat.le_of_ble_eq_true rfl) (Nat.le_of_ble_eq_true rfl) ?_
                      refine V_aload_n (i := 2) F dJ10_fixAfterInsertion_162 rfl rfl ?_
                      refine V_callS (st := []) F dJ10_fixAfterInsertion_163 lk_J10_303 (ct_colorOf (o := some u) hT (fun _ z => Option.some.inj z ▸ hun)) rfl rfl (Nat.le_of_ble_eq_true rfl) (Nat.le_of_ble_eq_true rfl) (Nat.le_of_ble_eq_true rfl) (by first | exact Nat.le_of_ble_eq_true rfl | omega) (by first | exact Nat.le_of_ble_eq_true rfl | omega) ?_
                      refine PRk ?_
                      refine VV.stk (st' := [.int (cB (C u))]) rfl ?_
                      refine V_if_neC (c := C u) (tgt := 204) F dJ10_fixAfterInsertion_166 (by decide) (fun c_166 => ?_) (fun c_166 => absurd (c_166.symm.trans hcu) (by decide))
                      refine V_aload_n (i := 1) F dJ10_fixAfterInsertion_204 rfl rfl ?_
                      refine V_aload_n (i := 1) F dJ10_fixAfterInsertion_205 rfl rfl ?_
                      refine V_callS (st := [.ref (A x)]) F dJ10_fixAfterInsertion_206 lk_J10_294 (ct_parentOf (o := some x) hT (fun _ z => Option.some.inj z ▸ hx)) rfl rfl (Nat.le_of_ble_eq_true rfl) (Nat.le_of_ble_eq_true rfl) (Nat.le_of_ble_eq_true rfl) (by first | exact Nat.le_of_ble_eq_true rfl | omega) (by first | exact Nat.le_of_ble_eq_true rfl | omega) ?_
                      refine PRk ?_
                      refine VV.stk (st' := [.ref (A p), .ref (A x)]) (by first | rfl | (rw [show Option.bind (some x) P = _ from hpx]; rfl) | rw [show Option.bind (some x) P = _ from hpx]) ?_
                      refine V_callS (st := [.ref (A x)]) F dJ10_fixAfterInsertion_209 lk_J10_297 (ct_leftOf (o := some p) hT (fun _ z => Option.some.inj z ▸ hp)) rfl rfl (Nat.le_of_ble_eq_true rfl) (Nat.le_of_ble_eq_true rfl) (Nat.le_of_ble_eq_true rfl) (by first | exact Nat.le_of_ble_eq_true rfl | omega) (by first | exact Nat.le_of_ble_eq_true rfl | omega) ?_
                      refine PRk ?_
                      refine VV.stk (st' := [.null, .ref (A x)]) (by first | rfl | (rw [show Option.bind (some p) L = _ from hz]; rfl) | rw [show Option.bind (some p) L = _ from hz]) ?_
                      refine V_acmp_ne (rx := some (A x)) (ry := none) (tgt := 225) F dJ10_fixAfterInsertion_212 (by decide) (fun c_212 => ?_) (fun c_212 => nomatch c_212)
                      refine V_aload_n (i := 1) F dJ10_fixAfterInsertion_225 rfl rfl ?_
                      refine V_callS (st := []) F dJ10_fixAfterInsertion_226 lk_J10_294 (ct_parentOf (o := some x) hT (fun _ z => Option.some.inj z ▸ hx)) rfl rfl (Nat.le_of_ble_eq_true rfl) (Nat.le_of_ble_eq_true rfl) (Nat.le_of_ble_eq_true rfl) (by first | exact Nat.le_of_ble_eq_true rfl | omega) (by first | exact Nat.le_of_ble_eq_true rfl | omega) ?_
                      refine PRk ?_
                      refine VV.stk (st' := [.ref (A p)]) (by first | rfl | (rw [show Option.bind (some x) P = _ from hpx]; rfl) | rw [show Option.bind (some x) P = _ from hpx]) ?_
                      refine V_iconst (v := nI 1) F dJ10_fixAfterInsertion_229 rfl ?_
                      refine V_callS (st := []) F dJ10_fixAfterInsertion_230 lk_J10_307 (ct_setColor (o := some p) (c := true) hT hAI (fun _ z => Option.some.inj z ▸ hp)) rfl rfl (Nat.le_of_ble_eq_true rfl) (Nat.le_of_ble_eq_true rfl) (Nat.le_of_ble_eq_true rfl) (by first | exact Nat.le_of_ble_eq_true rfl | omega) (by first | exact Nat.le_of_ble_eq_true rfl | omega) ?_
                      rintro _ k1 ⟨rfl, hT3, hx2, hk4⟩
                      have p5 := (hk4 t (fun i hi => ne_oo ht (hT i hi) (by decide))).trans ht
                      have f6 := hF.cal hx2 (fun b q => Or.inl (Or.inr q))
                      have g7 := (Fr.rf (M := fun _ => True) (h := hh)).cal hx2 (fun _ _ => Or.inl trivial)
                      refine V_aload_n (i := 1) F dJ10_fixAfterInsertion_233 rfl rfl ?_
                      refine V_callS (st := []) F dJ10_fixAfterInsertion_234 lk_J10_294 (ct_parentOf (o := some x) hT3 (fun _ z => Option.some.inj z ▸ hx)) rfl rfl (Nat.le_of_ble_eq_true rfl) (Nat.le_of_ble_eq_true rfl) (Nat.le_of_ble_eq_true rfl) (by first | exact Nat.le_of_ble_eq_true rfl | omega) (by first | exact Nat.le_of_ble_eq_true rfl | omega) ?_
                      refine PRk ?_
                      refine VV.stk (st' := [.ref (A p)]) (by first | rfl | (rw [show Option.bind (some x) P = _ from hpx]; rfl) | rw [show Option.bind (some x) P = _ from hpx]) ?_
                      refine V_callS (st := []) F dJ10_fixAfterInsertion_237 lk_J10_294 (ct_parentOf (o := some p) hT3 (fun _ z => Option.some.inj z ▸ hp)) rfl rfl (Nat.le_of_ble_eq_true rfl) (Nat.le_of_ble_eq_true rfl) (Nat.le_of_ble_eq_true rfl) (by first | exact Nat.le_of_ble_eq_true rfl | omega) (by first | exact Nat.le_of_ble_eq_true rfl | omega) ?_
                      refine PRk ?_
                      refine VV.stk (st' := [.ref (A g)]) (by first | rfl | (rw [show Option.bind (some p) P = _ from hgp]; rfl) | rw [show Option.bind (some p) P = _ from hgp]) ?_
                      refine V_iconst (v := nI 0) F dJ10_fixAfterInsertion_240 rfl ?_
                      refine V_callS (st := []) F dJ10_fixAfterInsertion_241 lk_J10_307 (ct_setColor (o := some g) (c := false) hT3 hAI (fun _ z => Option.some.inj z ▸ hg)) rfl rfl (Nat.le_of_ble_eq_true rfl) (Nat.le_of_ble_eq_true rfl) (Nat.le_of_ble_eq_true rfl) (by first | exact Nat.le_of_ble_eq_true rfl | omega) (by first | exact Nat.le_of_ble_eq_true rfl | omega) ?_
                      rintro _ k8 ⟨rfl, hT10, hx9, hk11⟩
                      have p12 := (hk11 t (fun i hi => ne_oo p5 (hT3 i hi) (by decide))).trans p5
                      have f13 := f6.cal hx9 (fun b q => Or.inl (Or.inr q))
                      have g14 := g7.cal hx9 (fun _ _ => Or.inl trivial)
                      refine V_aload_n (i := 0) F dJ10_fixAfterInsertion_244 rfl rfl ?_
                      refine V_aload_n (i := 1) F dJ10_fixAfterInsertion_245 rfl rfl ?_
                      refine V_callS (st := [.ref (t)]) F dJ10_fixAfterInsertion_246 lk_J10_294 (ct_parentOf (o := some x) hT10 (fun _ z => Option.some.inj z ▸ hx)) rfl rfl (Nat.le_of_ble_eq_true rfl) (Nat.le_of_ble_eq_true rfl) (Nat.le_of_ble_eq_true rfl) (by first | exact Nat.le_of_ble_eq_true rfl | omega) (by first | exact Nat.le_of_ble_eq_true rfl | omega) ?_
                      refine PRk ?_
                      refine VV.stk (st' := [.ref (A p), .ref (t)]) (by first | rfl | (rw [show Option.bind (some x) P = _ from hpx]; rfl) | rw [show Option.bind (some x) P = _ from hpx]) ?_
                      refine V_callS (st := [.ref (t)]) F dJ10_fixAfterInsertion_249 lk_J10_294 (ct_parentOf (o := some p) hT10 (fun _ z => Option.some.inj z ▸ hp)) rfl rfl (Nat.le_of_ble_eq_true rfl) (Nat.le_of_ble_eq_true rfl) (Nat.le_of_ble_eq_true rfl) (by first | exact Nat.le_of_ble_eq_true rfl | omega) (by first | exact Nat.le_of_ble_eq_true rfl | omega) ?_
                      refine PRk ?_
                      refine VV.stk (st' := [.ref (A g), .ref (t)]) (by first | rfl | (rw [show Option.bind (some p) P = _ from hgp]; rfl) | rw [show Option.bind (some p) P = _ from hgp]) ?_
                      refine V_callV (st := []) F dJ10_fixAfterInsertion_252 lk_J10_311 (ct_rotateLeft ⟨x0, x1, x6, x7, x8, p12, vw_fr hv1 g14 rfl, vw_fr hv7 g14 rfl⟩ hT10 hAI hw hg hrg) ⟨23, _, _, _, rfl, (.inl p12)⟩ rfl rfl (Nat.le_of_ble_eq_true rfl) (Nat.le_of_ble_eq_true rfl) (Nat.le_of_ble_eq_true rfl) (by first | exact Nat.le_of_ble_eq_true rfl | omega) (by first | exact Nat.le_of_ble_eq_true rfl | omega) ?_
                      rintro _ k15 ⟨rfl, hC18, hT17, hx16⟩
                      obtain ⟨y19, y20, y21, y22, y23, ht24, hv25, hv26⟩ := hC18
                      have f27 : Fr (mT t n A) h k15 := f13.cal hx16 (fun b q => Or.inl q)
                      have hw28 := hw.rotL (L' := rlL L P g p) (R' := rlR L R P g p) (P' := rlP L P g p) (rt' := roR P rt g p) hg hrg (fun _ => rfl) (fun _ => rfl) (fun _ => rfl) rfl
                      refine V_goto (tgt := 5) F dJ10_fixAfterInsertion_255 (by decide) ?_
                      refine VV.weak (L' := [some (.ref (t)), some (.ref (A x)), none]) (LW.c1 (LW.c1 (LW.c0 LW.nil))) ?_
                      refine exitB _ _ _ _ _ _ _ x _ ⟨y19, y20, y21, y22, y23, ht24, vw_fr hv25 (Fr.rf (M := fun _ => True) (h := k15)) rfl, vw_fr hv26 (Fr.rf (M := fun _ => True) (h := k15)) rfl⟩ hT17 hw28 hx f27 (Or.inr ?_)
                      exact ⟨p, by grind [rlP], hp, by simp [stC, Ne.symm hpg]⟩
                    | some z =>
                      have hzn : z < n := hw.bL hp hz
                      have hzx : z ≠ x := fun q => hin (by rw [hz, q])
                      refine V_aload_n (i := 1) F dJ10_fixAfterInsertion_5 rfl rfl ?_
                      refine V_ifnull F dJ10_fixAfterInsertion_6 ?_
                      refine V_aload_n (i := 1) F dJ10_fixAfterInsertion_9 rfl rfl ?_
                      refine V_aload_n (i := 0) F dJ10_fixAfterInsertion_10 rfl rfl ?_
                      refine V_getf F dJ10_fixAfterInsertion_11 fc_J10_101_J10 (.inl ht) rfl ?_
                      refine V_acmp_eq (rx := some (A x)) (ry := (rt).map A) (tgt := 258) F dJ10_fixAfterInsertion_14 (by decide) (fun c_14 => absurd (map_eq hAI (fun j hj => (hw.2.2.2.2.2.2.2.1 j hj).1) hx c_14.symm) hroot) (fun c_14 => ?_)
                      refine V_aload_n (i := 1) F dJ10_fixAfterInsertion_17 rfl rfl ?_
                      refine V_getf F dJ10_fixAfterInsertion_18 fc_J10_124_J41 (.inl (hT x hx)) rfl ?_
                      refine VV.stk (st' := [.ref (A p)]) (by first | (rw [hpx]; rfl) | rw [hpx]) ?_
                      refine V_getf F dJ10_fixAfterInsertion_21 fc_J10_290_J41 (.inl (hT p hp)) rfl ?_
                      refine V_if_neC (c := C p) (tgt := 258) F dJ10_fixAfterInsertion_24 (by decide) (fun c_24 => absurd (c_24.symm.trans hcp) (by decide)) (fun c_24 => ?_)
                      refine V_aload_n (i := 1) F dJ10_fixAfterInsertion_27 rfl rfl ?_
                      refine V_callS (st := []) F dJ10_fixAfterInsertion_28 lk_J10_294 (ct_parentOf (o := some x) hT (fun _ z => Option.some.inj z ▸ hx)) rfl rfl (Nat.le_of_ble_eq_true rfl) (Nat.le_of_ble_eq_true rfl) (Nat.le_of_ble_eq_true rfl) (by first | exact Nat.le_of_ble_eq_true rfl | omega) (by first | exact Nat.le_of_ble_eq_true rfl | omega) ?_
                      refine PRk ?_
                      refine VV.stk (st' := [.ref (A p)]) (by first | rfl | (rw [show Option.bind (some x) P = _ from hpx]; rfl) | rw [show Option.bind (some x) P = _ from hpx]) ?_
                      refine V_aload_n (i := 1) F dJ10_fixAfterInsertion_31 rfl rfl ?_
                      refine V_callS (st := [.ref (A p)]) F dJ10_fixAfterInsertion_32 lk_J10_294 (ct_parentOf (o := some x) hT (fun _ z => Option.some.inj z ▸ hx)) rfl rfl (Nat.le_of_ble_eq_true rfl) (Nat.le_of_ble_eq_true rfl) (Nat.le_of_ble_eq_true rfl) (by first | exact Nat.le_of_ble_eq_true rfl | omega) (by first | exact Nat.le_of_ble_eq_true rfl | omega) ?_
                      refine PRk ?_
                      refine VV.stk (st' := [.ref (A p), .ref (A p)]) (by first | rfl | (rw [show Option.bind (some x) P = _ from hpx]; rfl) | rw [show Option.bind (some x) P = _ from hpx]) ?_
                      refine V_callS (st := [.ref (A p)]) F dJ10_fixAfterInsertion_35 lk_J10_294 (ct_parentOf (o := some p) hT (fun _ z => Option.some.inj z ▸ hp)) rfl rfl (Nat.le_of_ble_eq_true rfl) (Nat.le_of_ble_eq_true rfl) (Nat.le_of_ble_eq_true rfl) (by first | exact Nat.le_of_ble_eq_true rfl | omega) (by first | exact Nat.le_of_ble_eq_true rfl | omega) ?_
                      refine PRk ?_
                      refine VV.stk (st' := [.ref (A g), .ref (A p)]) (by first | rfl | (rw [show Option.bind (some p) P = _ from hgp]; rfl) | rw [show Option.bind (some p) P = _ from hgp]) ?_
                      refine V_callS (st := [.ref (A p)]) F dJ10_fixAfterInsertion_38 lk_J10_297 (ct_leftOf (o := some g) hT (fun _ z => Option.some.inj z ▸ hg)) rfl rfl (Nat.le_of_ble_eq_true rfl) (Nat.le_of_ble_eq_true rfl) (Nat.le_of_ble_eq_true rfl) (by first | exact Nat.le_of_ble_eq_true rfl | omega) (by first | exact Nat.le_of_ble_eq_true rfl | omega) ?_
                      refine PRk ?_
                      refine VV.stk (st' := [.ref (A u), .ref (A p)]) (by first | rfl | (rw [show Option.bind (some g) L = _ from hu]; rfl) | rw [show Option.bind (some g) L = _ from hu]) ?_
                      refine V_acmp_ne (rx := some (A p)) (ry := some (A u)) (tgt := 151) F dJ10_fixAfterInsertion_41 (by decide) (fun c_41 => ?_) (fun c_41 => absurd (hAI _ _ hp hun (Option.some.inj c_41)) (Ne.symm hup))
                      refine V_aload_n (i := 1) F dJ10_fixAfterInsertion_151 rfl rfl ?_
                      refine V_callS (st := []) F dJ10_fixAfterInsertion_152 lk_J10_294 (ct_parentOf (o := some x) hT (fun _ z => Option.some.inj z ▸ hx)) rfl rfl (Nat.le_of_ble_eq_true rfl) (Nat.le_of_ble_eq_true rfl) (Nat.le_of_ble_eq_true rfl) (by first | exact Nat.le_of_ble_eq_true rfl | omega) (by first | exact Nat.le_of_ble_eq_true rfl | omega) ?_
                      refine PRk ?_
                      refine VV.stk (st' := [.ref (A p)]) (by first | rfl | (rw [show Option.bind (some x) P = _ from hpx]; rfl) | rw [show Option.bind (some x) P = _ from hpx]) ?_
                      refine V_callS (st := []) F dJ10_fixAfterInsertion_155 lk_J10_294 (ct_parentOf (o := some p) hT (fun _ z => Option.some.inj z ▸ hp)) rfl rfl (Nat.le_of_ble_eq_true rfl) (Nat.le_of_ble_eq_true rfl) (Nat.le_of_ble_eq_true rfl) (by first | exact Nat.le_of_ble_eq_true rfl | omega) (by first | exact Nat.le_of_ble_eq_true rfl | omega) ?_
                      refine PRk ?_
                      refine VV.stk (st' := [.ref (A g)]) (by first | rfl | (rw [show Option.bind (some p) P = _ from hgp]; rfl) | rw [show Option.bind (some p) P = _ from hgp]) ?_
                      refine V_callS (st := []) F dJ10_fixAfterInsertion_158 lk_J10_297 (ct_leftOf (o := some g) hT (fun _ z => Option.some.inj z ▸ hg)) rfl rfl (Nat.le_of_ble_eq_true rfl) (Nat.le_of_ble_eq_true rfl) (Nat.le_of_ble_eq_true rfl) (by first | exact Nat.le_of_ble_eq_true rfl | omega) (by first | exact Nat.le_of_ble_eq_true rfl | omega) ?_
                      refine PRk ?_
                      refine VV.stk (st' := [.ref (A u)]) (by first | rfl | (rw [show Option.bind (some g) L = _ from hu]; rfl) | rw [show Option.bind (some g) L = _ from hu]) ?_
                      refine V_astore_n (i := 2) F dJ10_fixAfterInsertion_161 rfl (Nat.le_of_ble_eq_true rfl) (Nat.le_of_ble_eq_true rfl) ?_
                      refine V_aload_n (i := 2) F dJ10_fixAfterInsertion_162 rfl rfl ?_
                      refine V_callS (st := []) F dJ10_fixAfterInsertion_163 lk_J10_303 (ct_colorOf (o := some u) hT (fun _ z => Option.some.inj z ▸ hun)) rfl rfl (Nat.le_of_ble_eq_true rfl) (Nat.le_of_ble_eq_true rfl) (Nat.le_of_ble_eq_true rfl) (by first | exact Nat.le_of_ble_eq_true rfl | omega) (by first | exact Nat.le_of_ble_eq_true rfl | omega) ?_
                      refine PRk ?_
                      refine VV.stk (st' := [.int (cB (C u))]) rfl ?_
                      refine V_if_neC (c := C u) (tgt := 204) F dJ10_fixAfterInsertion_166 (by decide) (fun c_166 => ?_) (fun c_166 => absurd (c_166.symm.trans hcu) (by decide))
                      refine V_aload_n (i := 1) F dJ10_fixAfterInsertion_204 rfl rfl ?_
                      refine V_aload_n (i := 1) F dJ10_fixAfterInsertion_205 rfl rfl ?_
                      refine V_callS (st := [.ref (A x)]) F dJ10_fixAfterInsertion_206 lk_J10_294 (ct_parentOf (o := some x) hT (fun _ z => Option.some.inj z ▸ hx)) rfl rfl (Nat.le_of_ble_eq_true rfl) (Nat.le_of_ble_eq_true rfl) (Nat.le_of_ble_eq_true rfl) (by first | exact Nat.le_of_ble_eq_true rfl | omega) (by first | exact Nat.le_of_ble_eq_true rfl | omega) ?_
                      refine PRk ?_
                      refine VV.stk (st' := [.ref (A p), .ref (A x)]) (by first | rfl | (rw [show Option.bind (some x) P = _ from hpx]; rfl) | rw [show Option.bind (some x) P = _ from hpx]) ?_
                      refine V_callS (st := [.ref (A x)]) F dJ10_fixAfterInsertion_209 lk_J10_297 (ct_leftOf (o := some p) hT (fun _ z => Option.some.inj z ▸ hp)) rfl rfl (Nat.le_of_ble_eq_true rfl) (Nat.le_of_ble_eq_true rfl) (Nat.le_of_ble_eq_true rfl) (by first | exact Nat.le_of_ble_eq_true rfl | omega) (by first | exact Nat.le_of_ble_eq_true rfl | omega) ?_
                      refine PRk ?_
                      refine VV.stk (st' := [.ref (A z), .ref (A x)]) (by first | rfl | (rw [show Option.bind (some p) L = _ from hz]; rfl) | rw [show Option.bind (some p) L = _ from hz]) ?_
                      refine V_acmp_ne (rx := some (A x)) (ry := some (A z)) (tgt := 225) F dJ10_fixAfterInsertion_212 (by decide) (fun c_212 => ?_) (fun c_212 => absurd (hAI _ _ hx hzn (Option.some.inj c_212)) (Ne.symm hzx))
                      refine V_aload_n (i := 1) F dJ10_fixAfterInsertion_225 rfl rfl ?_
                      refine V_callS (st := []) F dJ10_fixAfterInsertion_226 lk_J10_294 (ct_parentOf (o := some x) hT (fun _ z => Option.some.inj z ▸ hx)) rfl rfl (Nat.le_of_ble_eq_true rfl) (Nat.le_of_ble_eq_true rfl) (Nat.le_of_ble_eq_true rfl) (by first | exact Nat.le_of_ble_eq_true rfl | omega) (by first | exact Nat.le_of_ble_eq_true rfl | omega) ?_
                      refine PRk ?_
                      refine VV.stk (st' := [.ref (A p)]) (by first | rfl | (rw [show Option.bind (some x) P = _ from hpx]; rfl) | rw [show Option.bind (some x) P = _ from hpx]) ?_
                      refine V_iconst (v := nI 1) F dJ10_fixAfterInsertion_229 rfl ?_
                      refine V_callS (st := []) F dJ10_fixAfterInsertion_230 lk_J10_307 (ct_setColor (o := some p) (c := true) hT hAI (fun _ z => Option.some.inj z ▸ hp)) rfl rfl (Nat.le_of_ble_eq_true rfl) (Nat.le_of_ble_eq_true rfl) (Nat.le_of_ble_eq_true rfl) (by first | exact Nat.le_of_ble_eq_true rfl | omega) (by first | exact Nat.le_of_ble_eq_true rfl | omega) ?_
                      rintro _ k1 ⟨rfl, hT3, hx2, hk4⟩
                      have p5 := (hk4 t (fun i hi => ne_oo ht (hT i hi) (by decide))).trans ht
                      have f6 := hF.cal hx2 (fun b q => Or.inl (Or.inr q))
                      have g7 := (Fr.rf (M := fun _ => True) (h := hh)).cal hx2 (fun _ _ => Or.inl trivial)
                      refine V_aload_n (i := 1) F dJ10_fixAfterInsertion_233 rfl rfl ?_
                      refine V_callS (st := []) F dJ10_fixAfterInsertion_234 lk_J10_294 (ct_parentOf (o := some x) hT3 (fun _ z => Option.some.inj z ▸ hx)) rfl rfl (Nat.le_of_ble_eq_true rfl) (Nat.le_of_ble_eq_true rfl) (Nat.le_of_ble_eq_true rfl) (by first | exact Nat.le_of_ble_eq_true rfl | omega) (by first | exact Nat.le_of_ble_eq_true rfl | omega) ?_
                      refine PRk ?_
                      refine VV.stk (st' := [.ref (A p)]) (by first | rfl | (rw [show Option.bind (some x) P = _ from hpx]; rfl) | rw [show Option.bind (some x) P = _ from hpx]) ?_
                      refine V_callS (st := []) F dJ10_fixAfterInsertion_237 lk_J10_294 (ct_parentOf (o := some p) hT3 (fun _ z => Option.some.inj z ▸ hp)) rfl rfl (Nat.le_of_ble_eq_true rfl) (Nat.le_of_ble_eq_true rfl) (Nat.le_of_ble_eq_true rfl) (by first | exact Nat.le_of_ble_eq_true rfl | omega) (by first | exact Nat.le_of_ble_eq_true rfl | omega) ?_
                      refine PRk ?_
                      refine VV.stk (st' := [.ref (A g)]) (by first | rfl | (rw [show Option.bind (some p) P = _ from hgp]; rfl) | rw [show Option.bind (some p) P = _ from hgp]) ?_
                      refine V_iconst (v := nI 0) F dJ10_fixAfterInsertion_240 rfl ?_
                      refine V_callS (st := []) F dJ10_fixAfterInsertion_241 lk_J10_307 (ct_setColor (o := some g) (c := false) hT3 hAI (fun _ z => Option.some.inj z ▸ hg)) rfl rfl (Nat.le_of_ble_eq_true rfl) (Nat.le_of_ble_eq_true rfl) (Nat.le_of_ble_eq_true rfl) (by first | exact Nat.le_of_ble_eq_true rfl | omega) (by first | exact Nat.le_of_ble_eq_true rfl | omega) ?_
                      rintro _ k8 ⟨rfl, hT10, hx9, hk11⟩
                      have p12 := (hk11 t (fun i hi => ne_oo p5 (hT3 i hi) (by decide))).trans p5
                      have f13 := f6.cal hx9 (fun b q => Or.inl (Or.inr q))
                      have g14 := g7.cal hx9 (fun _ _ => Or.inl trivial)
                      refine V_aload_n (i := 0) F dJ10_fixAfterInsertion_244 rfl rfl ?_
                      refine V_aload_n (i := 1) F dJ10_fixAfterInsertion_245 rfl rfl ?_
                      refine V_callS (st := [.ref (t)]) F dJ10_fixAfterInsertion_246 lk_J10_294 (ct_parentOf (o := some x) hT10 (fun _ z => Option.some.inj z ▸ hx)) rfl rfl (Nat.le_of_ble_eq_true rfl) (Nat.le_of_ble_eq_true rfl) (Nat.le_of_ble_eq_true rfl) (by first | exact Nat.le_of_ble_eq_true rfl | omega) (by first | exact Nat.le_of_ble_eq_true rfl | omega) ?_
                      refine PRk ?_
                      refine VV.stk (st' := [.ref (A p), .ref (t)]) (by first | rfl | (rw [show Option.bind (some x) P = _ from hpx]; rfl) | rw [show Option.bind (some x) P = _ from hpx]) ?_
                      refine V_callS (st := [.ref (t)]) F dJ10_fixAfterInsertion_249 lk_J10_294 (ct_parentOf (o := some p) hT10 (fun _ z => Option.some.inj z ▸ hp)) rfl rfl (Nat.le_of_ble_eq_true rfl) (Nat.le_of_ble_eq_true rfl) (Nat.le_of_ble_eq_true rfl) (by first | exact Nat.le_of_ble_eq_true rfl | omega) (by first | exact Nat.le_of_ble_eq_true rfl | omega) ?_
                      refine PRk ?_
                      refine VV.stk (st' := [.ref (A g), .ref (t)]) (by first | rfl | (rw [show Option.bind (some p) P = _ from hgp]; rfl) | rw [show Option.bind (some p) P = _ from hgp]) ?_
                      refine V_callV (st := []) F dJ10_fixAfterInsertion_252 lk_J10_311 (ct_rotateLeft ⟨x0, x1, x6, x7, x8, p12, vw_fr hv1 g14 rfl, vw_fr hv7 g14 rfl⟩ hT10 hAI hw hg hrg) ⟨23, _, _, _, rfl, (.inl p12)⟩ rfl rfl (Nat.le_of_ble_eq_true rfl) (Nat.le_of_ble_eq_true rfl) (Nat.le_of_ble_eq_true rfl) (by first | exact Nat.le_of_ble_eq_true rfl | omega) (by first | exact Nat.le_of_ble_eq_true rfl | omega) ?_
                      rintro _ k15 ⟨rfl, hC18, hT17, hx16⟩
                      obtain ⟨y19, y20, y21, y22, y23, ht24, hv25, hv26⟩ := hC18
                      have f27 : Fr (mT t n A) h k15 := f13.cal hx16 (fun b q => Or.inl q)
                      have hw28 := hw.rotL (L' := rlL L P g p) (R' := rlR L R P g p) (P' := rlP L P g p) (rt' := roR P rt g p) hg hrg (fun _ => rfl) (fun _ => rfl) (fun _ => rfl) rfl
                      refine V_goto (tgt := 5) F dJ10_fixAfterInsertion_255 (by decide) ?_
                      refine VV.weak (L' := [some (.ref (t)), some (.ref (A x)), none]) (LW.c1 (LW.c1 (LW.c0 LW.nil))) ?_
                      refine exitB _ _ _ _ _ _ _ x _ ⟨y19, y20, y21, y22, y23, ht24, vw_fr hv25 (Fr.rf (M := fun _ => True) (h := k15)) rfl, vw_fr hv26 (Fr.rf (M := fun _ => True) (h := k15)) rfl⟩ hT17 hw28 hx f27 (Or.inr ?_)
                      exact ⟨p, by grind [rlP], hp, by simp [stC, Ne.symm hpg]⟩
                · have hcu2 : C u = false := by simpa using hcu
                  refine V_aload_n (i := 1) F dJ10_fixAfterInsertion_5 rfl rfl ?_
                  refine V_ifnull F dJ10_fixAfterInsertion_6 ?_
                  refine V_aload_n (i := 1) F dJ10_fixAfterInsertion_9 rfl rfl ?_
                  refine V_aload_n (i := 0) F dJ10_fixAfterInsertion_10 rfl rfl ?_
                  refine V_getf F dJ10_fixAfterInsertion_11 fc_J10_101_J10 (.inl ht) rfl ?_
                  refine V_acmp_eq (rx := some (A x)) (ry := (rt).map A) (tgt := 258) F dJ10_fixAfterInsertion_14 (by decide) (fun c_14 => absurd (map_eq hAI (fun j hj => (hw.2.2.2.2.2.2.2.1 j hj).1) hx c_14.symm) hroot) (fun c_14 => ?_)
                  refine V_aload_n (i := 1) F dJ10_fixAfterInsertion_17 rfl rfl ?_
                  refine V_getf F dJ10_fixAfterInsertion_18 fc_J10_124_J41 (.inl (hT x hx)) rfl ?_
                  refine VV.stk (st' := [.ref (A p)]) (by first | (rw [hpx]; rfl) | rw [hpx]) ?_
                  refine V_getf F dJ10_fixAfterInsertion_21 fc_J10_290_J41 (.inl (hT p hp)) rfl ?_
                  refine V_if_neC (c := C p) (tgt := 258) F dJ10_fixAfterInsertion_24 (by decide) (fun c_24 => absurd (c_24.symm.trans hcp) (by decide)) (fun c_24 => ?_)
                  refine V_aload_n (i := 1) F dJ10_fixAfterInsertion_27 rfl rfl ?_
                  refine V_callS (st := []) F dJ10_fixAfterInsertion_28 lk_J10_294 (ct_parentOf (o := some x) hT (fun _ z => Option.some.inj z ▸ hx)) rfl rfl (Nat.le_of_ble_eq_true rfl) (Nat.le_of_ble_eq_true rfl) (Nat.le_of_ble_eq_true rfl) (by first | exact Nat.le_of_ble_eq_true rfl | omega) (by first | exact Nat.le_of_ble_eq_true rfl | omega) ?_
                  refine PRk ?_
                  refine VV.stk (st' := [.ref (A p)]) (by first | rfl | (rw [show Option.bind (some x) P = _ from hpx]; rfl) | rw [show Option.bind (some x) P = _ from hpx]) ?_
                  refine V_aload_n (i := 1) F dJ10_fixAfterInsertion_31 rfl rfl ?_
                  refine V_callS (st := [.ref (A p)]) F dJ10_fixAfterInsertion_32 lk_J10_294 (ct_parentOf (o := some x) hT (fun _ z => Option.some.inj z ▸ hx)) rfl rfl (Nat.le_of_ble_eq_true rfl) (Nat.le_of_ble_eq_true rfl) (Nat.le_of_ble_eq_true rfl) (by first | exact Nat.le_of_ble_eq_true rfl | omega) (by first | exact Nat.le_of_ble_eq_true rfl | omega) ?_
                  refine PRk ?_
                  refine VV.stk (st' := [.ref (A p), .ref (A p)]) (by first | rfl | (rw [show Option.bind (some x) P = _ from hpx]; rfl) | rw [show Option.bind (some x) P = _ from hpx]) ?_
                  refine V_callS (st := [.ref (A p)]) F dJ10_fixAfterInsertion_35 lk_J10_294 (ct_parentOf (o := some p) hT (fun _ z => Option.some.inj z ▸ hp)) rfl rfl (Nat.le_of_ble_eq_true rfl) (Nat.le_of_ble_eq_true rfl) (Nat.le_of_ble_eq_true rfl) (by first | exact Nat.le_of_ble_eq_true rfl | omega) (by first | exact Nat.le_of_ble_eq_true rfl | omega) ?_
                  refine PRk ?_
                  refine VV.stk (st' := [.ref (A g), .ref (A p)]) (by first | rfl | (rw [show Option.bind (some p) P = _ from hgp]; rfl) | rw [show Option.bind (some p) P = _ from hgp]) ?_
                  refine V_callS (st := [.ref (A p)]) F dJ10_fixAfterInsertion_38 lk_J10_297 (ct_leftOf (o := some g) hT (fun _ z => Option.some.inj z ▸ hg)) rfl rfl (Nat.le_of_ble_eq_true rfl) (Nat.le_of_ble_eq_true rfl) (Nat.le_of_ble_eq_true rfl) (by first | exact Nat.le_of_ble_eq_true rfl | omega) (by first | exact Nat.le_of_ble_eq_true rfl | omega) ?_
                  refine PRk ?_
                  refine VV.stk (st' := [.ref (A u), .ref (A p)]) (by first | rfl | (rw [show Option.bind (some g) L = _ from hu]; rfl) | rw [show Option.bind (some g) L = _ from hu]) ?_
                  refine V_acmp_ne (rx := some (A p)) (ry := some (A u)) (tgt := 151) F dJ10_fixAfterInsertion_41 (by decide) (fun c_41 => ?_) (fun c_41 => absurd (hAI _ _ hp hun (Option.some.inj c_41)) (Ne.symm hup))
                  refine V_aload_n (i := 1) F dJ10_fixAfterInsertion_151 rfl rfl ?_
                  refine V_callS (st := []) F dJ10_fixAfterInsertion_152 lk_J10_294 (ct_parentOf (o := some x) hT (fun _ z => Option.some.inj z ▸ hx)) rfl rfl (Nat.le_of_ble_eq_true rfl) (Nat.le_of_ble_eq_true rfl) (Nat.le_of_ble_eq_true rfl) (by first | exact Nat.le_of_ble_eq_true rfl | omega) (by first | exact Nat.le_of_ble_eq_true rfl | omega) ?_
                  refine PRk ?_
                  refine VV.stk (st' := [.ref (A p)]) (by first | rfl | (rw [show Option.bind (some x) P = _ from hpx]; rfl) | rw [show Option.bind (some x) P = _ from hpx]) ?_
                  refine V_callS (st := []) F dJ10_fixAfterInsertion_155 lk_J10_294 (ct_parentOf (o := some p) hT (fun _ z => Option.some.inj z ▸ hp)) rfl rfl (Nat.le_of_ble_eq_true rfl) (Nat.le_of_ble_eq_true rfl) (Nat.le_of_ble_eq_true rfl) (by first | exact Nat.le_of_ble_eq_true rfl | omega) (by first | exact Nat.le_of_ble_eq_true rfl | omega) ?_
                  refine PRk ?_
                  refine VV.stk (st' := [.ref (A g)]) (by first | rfl | (rw [show Option.bind (some p) P = _ from hgp]; rfl) | rw [show Option.bind (some p) P = _ from hgp]) ?_
                  refine V_callS (st := []) F dJ10_fixAfterInsertion_158 lk_J10_297 (ct_leftOf (o := some g) hT (fun _ z => Option.some.inj z ▸ hg)) rfl rfl (Nat.le_of_ble_eq_true rfl) (Nat.le_of_ble_eq_true rfl) (Nat.le_of_ble_eq_true rfl) (by first | exact Nat.le_of_ble_eq_true rfl | omega) (by first | exact Nat.le_of_ble_eq_true rfl | omega) ?_
                  refine PRk ?_
                  refine VV.stk (st' := [.ref (A u)]) (by first | rfl | (rw [show Option.bind (some g) L = _ from hu]; rfl) | rw [show Option.bind (some g) L = _ from hu]) ?_
                  refine V_astore_n (i := 2) F dJ10_fixAfterInsertion_161 rfl (Nat.le_of_ble_eq_true rfl) (Nat.le_of_ble_eq_true rfl) ?_
                  refine V_aload_n (i := 2) F dJ10_fixAfterInsertion_162 rfl rfl ?_
                  refine V_callS (st := []) F dJ10_fixAfterInsertion_163 lk_J10_303 (ct_colorOf (o := some u) hT (fun _ z => Option.some.inj z ▸ hun)) rfl rfl (Nat.le_of_ble_eq_true rfl) (Nat.le_of_ble_eq_true rfl) (Nat.le_of_ble_eq_true rfl) (by first | exact Nat.le_of_ble_eq_true rfl | omega) (by first | exact Nat.le_of_ble_eq_true rfl | omega) ?_
                  refine PRk ?_
                  refine VV.stk (st' := [.int (cB (C u))]) rfl ?_
                  refine V_if_neC (c := C u) (tgt := 204) F dJ10_fixAfterInsertion_166 (by decide) (fun c_166 => absurd (c_166.symm.trans hcu2) (by decide)) (fun c_166 => ?_)
                  refine V_aload_n (i := 1) F dJ10_fixAfterInsertion_169 rfl rfl ?_
                  refine V_callS (st := []) F dJ10_fixAfterInsertion_170 lk_J10_294 (ct_parentOf (o := some x) hT (fun _ z => Option.some.inj z ▸ hx)) rfl rfl (Nat.le_of_ble_eq_true rfl) (Nat.le_of_ble_eq_true rfl) (Nat.le_of_ble_eq_true rfl) (by first | exact Nat.le_of_ble_eq_true rfl | omega) (by first | exact Nat.le_of_ble_eq_true rfl | omega) ?_
                  refine PRk ?_
                  refine VV.stk (st' := [.ref (A p)]) (by first | rfl | (rw [show Option.bind (some x) P = _ from hpx]; rfl) | rw [show Option.bind (some x) P = _ from hpx]) ?_
                  refine V_iconst (v := nI 1) F dJ10_fixAfterInsertion_173 rfl ?_
                  refine V_callS (st := []) F dJ10_fixAfterInsertion_174 lk_J10_307 (ct_setColor (o := some p) (c := true) hT hAI (fun _ z => Option.some.inj z ▸ hp)) rfl rfl (Nat.le_of_ble_eq_true rfl) (Nat.le_of_ble_eq_true rfl) (Nat.le_of_ble_eq_true rfl) (by first | exact Nat.le_of_ble_eq_true rfl | omega) (by first | exact Nat.le_of_ble_eq_true rfl | omega) ?_
                  rintro _ k1 ⟨rfl, hT3, hx2, hk4⟩
                  have p5 := (hk4 t (fun i hi => ne_oo ht (hT i hi) (by decide))).trans ht
                  have f6 := hF.cal hx2 (fun b q => Or.inl (Or.inr q))
                  have g7 := (Fr.rf (M := fun _ => True) (h := hh)).cal hx2 (fun _ _ => Or.inl trivial)
                  refine V_aload_n (i := 2) F dJ10_fixAfterInsertion_177 rfl rfl ?_
                  refine V_iconst (v := nI 1) F dJ10_fixAfterInsertion_178 rfl ?_
                  refine V_callS (st := []) F dJ10_fixAfterInsertion_179 lk_J10_307 (ct_setColor (o := some u) (c := true) hT3 hAI (fun _ z => Option.some.inj z ▸ hun)) rfl rfl (Nat.le_of_ble_eq_true rfl) (Nat.le_of_ble_eq_true rfl) (Nat.le_of_ble_eq_true rfl) (by first | exact Nat.le_of_ble_eq_true rfl | omega) (by first | exact Nat.le_of_ble_eq_true rfl | omega) ?_
                  rintro _ k8 ⟨rfl, hT10, hx9, hk11⟩
                  have p12 := (hk11 t (fun i hi => ne_oo p5 (hT3 i hi) (by decide))).trans p5
                  have f13 := f6.cal hx9 (fun b q => Or.inl (Or.inr q))
                  have g14 := g7.cal hx9 (fun _ _ => Or.inl trivial)
                  refine V_aload_n (i := 1) F dJ10_fixAfterInsertion_182 rfl rfl ?_
                  refine V_callS (st := []) F dJ10_fixAfterInsertion_183 lk_J10_294 (ct_parentOf (o := some x) hT10 (fun _ z => Option.some.inj z ▸ hx)) rfl rfl (Nat.le_of_ble_eq_true rfl) (Nat.le_of_ble_eq_true rfl) (Nat.le_of_ble_eq_true rfl) (by first | exact Nat.le_of_ble_eq_true rfl | omega) (by first | exact Nat.le_of_ble_eq_true rfl | omega) ?_
                  refine PRk ?_
                  refine VV.stk (st' := [.ref (A p)]) (by first | rfl | (rw [show Option.bind (some x) P = _ from hpx]; rfl) | rw [show Option.bind (some x) P = _ from hpx]) ?_
                  refine V_callS (st := []) F dJ10_fixAfterInsertion_186 lk_J10_294 (ct_parentOf (o := some p) hT10 (fun _ z => Option.some.inj z ▸ hp)) rfl rfl (Nat.le_of_ble_eq_true rfl) (Nat.le_of_ble_eq_true rfl) (Nat.le_of_ble_eq_true rfl) (by first | exact Nat.le_of_ble_eq_true rfl | omega) (by first | exact Nat.le_of_ble_eq_true rfl | omega) ?_
                  refine PRk ?_
                  refine VV.stk (st' := [.ref (A g)]) (by first | rfl | (rw [show Option.bind (some p) P = _ from hgp]; rfl) | rw [show Option.bind (some p) P = _ from hgp]) ?_
                  refine V_iconst (v := nI 0) F dJ10_fixAfterInsertion_189 rfl ?_
                  refine V_callS (st := []) F dJ10_fixAfterInsertion_190 lk_J10_307 (ct_setColor (o := some g) (c := false) hT10 hAI (fun _ z => Option.some.inj z ▸ hg)) rfl rfl (Nat.le_of_ble_eq_true rfl) (Nat.le_of_ble_eq_true rfl) (Nat.le_of_ble_eq_true rfl) (by first | exact Nat.le_of_ble_eq_true rfl | omega) (by first | exact Nat.le_of_ble_eq_true rfl | omega) ?_
                  rintro _ k15 ⟨rfl, hT17, hx16, hk18⟩
                  have p19 := (hk18 t (fun i hi => ne_oo p12 (hT10 i hi) (by decide))).trans p12
                  have f20 := f13.cal hx16 (fun b q => Or.inl (Or.inr q))
                  have g21 := g14.cal hx16 (fun _ _ => Or.inl trivial)
                  refine V_aload_n (i := 1) F dJ10_fixAfterInsertion_193 rfl rfl ?_
                  refine V_callS (st := []) F dJ10_fixAfterInsertion_194 lk_J10_294 (ct_parentOf (o := some x) hT17 (fun _ z => Option.some.inj z ▸ hx)) rfl rfl (Nat.le_of_ble_eq_true rfl) (Nat.le_of_ble_eq_true rfl) (Nat.le_of_ble_eq_true rfl) (by first | exact Nat.le_of_ble_eq_true rfl | omega) (by first | exact Nat.le_of_ble_eq_true rfl | omega) ?_
                  refine PRk ?_
                  refine VV.stk (st' := [.ref (A p)]) (by first | rfl | (rw [show Option.bind (some x) P = _ from hpx]; rfl) | rw [show Option.bind (some x) P = _ from hpx]) ?_
                  refine V_callS (st := []) F dJ10_fixAfterInsertion_197 lk_J10_294 (ct_parentOf (o := some p) hT17 (fun _ z => Option.some.inj z ▸ hp)) rfl rfl (Nat.le_of_ble_eq_true rfl) (Nat.le_of_ble_eq_true rfl) (Nat.le_of_ble_eq_true rfl) (by first | exact Nat.le_of_ble_eq_true rfl | omega) (by first | exact Nat.le_of_ble_eq_true rfl | omega) ?_
                  refine PRk ?_
                  refine VV.stk (st' := [.ref (A g)]) (by first | rfl | (rw [show Option.bind (some p) P = _ from hgp]; rfl) | rw [show Option.bind (some p) P = _ from hgp]) ?_
                  refine V_astore_n (i := 1) F dJ10_fixAfterInsertion_200 rfl (Nat.le_of_ble_eq_true rfl) (Nat.le_of_ble_eq_true rfl) ?_
                  refine V_goto (tgt := 255) F dJ10_fixAfterInsertion_201 (by decide) ?_
                  refine V_goto (tgt := 5) F dJ10_fixAfterInsertion_255 (by decide) ?_
                  refine VV.weak (L' := [some (.ref (t)), some (.ref (A g)), none]) (LW.c1 (LW.c1 (LW.c0 LW.nil))) ?_
                  exact ih _ _ _ _ _ lo hi g _ (by have := hw.Pin hp hgp; have := hw.1 g hg; omega) ⟨x0, x1, x6, x7, x8, p19, vw_fr hv1 g21 rfl, vw_fr hv7 g21 rfl⟩ hT17 hw hg f20
  obtain ⟨x0, x1, x6, x7, x8, ht, hv1, hv7⟩ := id hC
  refine V_aload_n (i := 1) F dJ10_fixAfterInsertion_0 rfl rfl ?_
  refine V_iconst (v := nI 0) F dJ10_fixAfterInsertion_1 rfl ?_
  refine VV.stk (st' := .int (cB false) :: .ref (A x) :: []) rfl ?_
  refine V_putf F dJ10_fixAfterInsertion_2 fp_J10_290_J41 (hT x hx) (nar_cB _) (fit_cB _) (Nat.le_of_ble_eq_true rfl) ?_
  have hT1 := hT.putC (o := false) hAI hx
  exact loop _ _ _ _ _ _ lo hi x _ (Nat.lt_succ_self _) ⟨x0, x1, x6, x7, x8, ((hset_ne (ne_oo ht (hT x hx) (by decide))).trans ht), vw_fr hv1 ((Fr.rf (M := fun _ => True) (h := h)).put (x := .inr (24, (ndc A K V L R P C x).set 5 (.int (cB false)))) (hT x hx) rfl rfl (Or.inl trivial)) rfl, vw_fr hv7 ((Fr.rf (M := fun _ => True) (h := h)).put (x := .inr (24, (ndc A K V L R P C x).set 5 (.int (cB false)))) (hT x hx) rfl rfl (Or.inl trivial)) rfl⟩ hT1 hw hx ((Fr.rf (M := mT t n A) (h := h)).put (x := .inr (24, (ndc A K V L R P C x).set 5 (.int (cB false)))) (hT x hx) rfl rfl (Or.inl (Or.inr ⟨x, hx, rfl⟩)))
