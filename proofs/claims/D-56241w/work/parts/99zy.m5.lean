set_option maxRecDepth 100000
/-! ===== the reference over its whole world: boardings, berths ===== -/
theorem bdL_27 {g : Nat → Nat} {a v c : Nat} (hI : GW g) : ∀ (K n s : Nat) (e f : Nat → Nat), (∀ i, e i < 2 ^ 27) → (∀ i, f i < 2 ^ 27) → (∀ i, (bdL g a v c K n s e f).2.1 i < 2 ^ 27) ∧ ∀ i, (bdL g a v c K n s e f).2.2 i < 2 ^ 27
  | 0, n, s, e, f, he, hf => ⟨he, hf⟩
  | K + 1, n, s, e, f, he, hf => by
    unfold bdL
    split
    · have hok := riO_ok (R := fun _ => e) (a := a) (v := v) hI (show okR (mxN e f 8) ((0 : Nat), mxN e f 8).1 ((0 : Nat), mxN e f 8).2 from ⟨(show (0 : Nat) < 2 by decide), mxN_27 he hf, Nat.le_refl _⟩) (g 1) (Nat.le_refl _)
      obtain ⟨o1, o2, o3⟩ := hok
      exact bdL_27 hI K (n + 1) _ _ _ (mxN_27 o2 he) o2
    · exact ⟨he, hf⟩
theorem cdJ_in {g : Nat → Nat} {p q u : Int32} (hc : cdJ g p q u = 0) : tn p < g 0 ∧ tn q < g 0 ∧ tn u ≤ 9999 := by
  unfold cdJ at hc
  split at hc
  · cases hc
  · rename_i h1
    split at hc
    · cases hc
    · rename_i h2
      have h3 : iR p (g 0) := Classical.byContradiction fun z => h1 (Or.inl z)
      have h4 : iR q (g 0) := Classical.byContradiction fun z => h1 (Or.inr z)
      have hu : nI 0 ≤ u ∧ u ≤ nI 9999 := Classical.byContradiction fun z => h2 z
      obtain ⟨a, -, ha, rfl⟩ := nI_btw hu (by decide) (by decide)
      obtain ⟨z1, z2⟩ := h3
      obtain ⟨z3, z4⟩ := h4
      refine ⟨by unfold tn; omega, by unfold tn; omega, ?_⟩
      unfold tn; rw [toNat_nI (by omega)]; exact ha
theorem cm_boardings {G : GG} {l : Launch} {h : AH} {m : Nat} {A : Nat → Nat} {W tm : Nat} {gb τ g : Nat → Nat} {sn : Option (Nat → Nat)} {hs : List (Nat → Nat)} {tx : List Nat} {ep fc : Nat} {ot : List Nat} {cd n : Nat} {p : Int32} {q : Int32} {u : Int32} (hM : MW G h m A W tm gb τ g sn hs tx ep fc ot cd) (hV : SVI n g sn hs tx ep fc ot) : Ct G l yX4_boardings cX4_boardings 7 (some .int) 5 0 0 [.ref m, .int p, .int q, .int u] h (QE G h m A W tm gb τ g sn hs tx ep fc ot (if cdJ g p q u ≠ 0 then cdJ g p q u else if (BWv g (tn p) (tn q) (tn u)).2 (tn q) = 1000000 then 3 else 0) (.int (nI 0)) (.int (nI (BWv g (tn p) (tn q) (tn u)).1))) := by
  obtain ⟨V, F, hC, hE⟩ := hM
  obtain rfl := hE.gg
  refine (ct_boardings hC.mm rfl hC.a0 rfl hC.a6 rfl hC.a7 rfl hV.1.1.W (hC.ne (by decide) (by decide) (by decide)) hE.e (hC.ne (by decide) (by decide) (by decide)) (hC.ne (by decide) (by decide) (by decide)) hE.f).mono (fun r h2 hp => ?_)
  by_cases hq : cdJ (F 0) p q u = 0
  · obtain ⟨c1, c2, c3⟩ := cdJ_in hq
    obtain ⟨j1, j2⟩ := bdR_BW (gt := F 7) hV.1.1 c1 c2 c3 hE.e hE.f
    have hc : cdBD (F 0) p q u (F 6) (F 7) = if (BWv (F 0) (tn p) (tn q) (tn u)).2 (tn q) = 1000000 then 3 else 0 := by
      unfold cdBD
      rw [if_neg (fun z => z hq)]
      by_cases z : (bdR (F 0) (tn p) (tn u) (tn q) (F 6) (F 7)).2.1 (tn q) = 1000000
      · rw [if_pos z, if_pos (j1.mp z)]
      · rw [if_neg z, if_neg (fun y => z (j1.mpr y))]
    rw [if_neg (fun z => z hq)]
    rw [hc] at hp
    obtain ⟨b1, b2⟩ := bdL_27 (a := tn p) (v := tn u) (c := tn q) hV.1.1.W (smE 8 (bgP (tn p) (tn u) (F 6) 8) + 1) 0 1 (bgP (tn p) (tn u) (F 6) 8) (F 7) (bgP_27 (by omega) hE.e 8) hE.f
    obtain ⟨k1, k2⟩ := hC.bg (upV V 7 (.int (nI 0))) (a := tn p) (v := tn u) (e := (bdR (F 0) (tn p) (tn u) (tn q) (F 6) (F 7)).2.1)
    have k4 := k1.seta 7 (by decide) (bdR (F 0) (tn p) (tn u) (tn q) (F 6) (F 7)).2.2
    have k5 : EqM m A h (hset (bgH G h m (mF A (upV V 7 (.int (nI 0)))) (tn p) (tn u) (A 6) (bdR (F 0) (tn p) (tn u) (tn q) (F 6) (F 7)).2.1) (A 7) (mC G 7 (bdR (F 0) (tn p) (tn u) (tn q) (F 6) (F 7)).2.2)) := k2.seta (by decide)
    have k3 := ((hE.cod 0).bg (a := tn p) (v := tn u) b1).th b2
    by_cases z : (BWv (F 0) (tn p) (tn q) (tn u)).2 (tn q) = 1000000
    · rw [if_pos z] at hp ⊢
      obtain ⟨rfl, rfl⟩ := hp.1 (by decide)
      exact QE.mk hC rfl (k4.setm (upV (bgV (upV V 7 (.int (nI 0))) (tn p) (tn u)) 7 (.int (nI 3)))) (k3.cod 3) k5.setm
    · rw [if_neg z] at hp ⊢
      rw [j2 (fun y => z (j1.mp y))] at hp
      obtain ⟨rfl, rfl⟩ := hp.2 rfl
      exact QE.mk hC rfl (k4.setm (upV (bgV (upV V 7 (.int (nI 0))) (tn p) (tn u)) 7 (.int (nI 0)))) (k3.cod 0) k5.setm
  · have hc : cdBD (F 0) p q u (F 6) (F 7) = cdJ (F 0) p q u := by unfold cdBD; rw [if_pos hq]
    rw [if_pos hq]
    rw [hc] at hp
    obtain ⟨rfl, rfl⟩ := hp.1 hq
    have h3 : cdJ (F 0) p q u ≠ 3 := by unfold cdJ; (repeat' split) <;> decide
    dsimp only
    rw [if_neg h3]
    exact QE.mk hC (by rw [if_neg hq]) (hC.setm (upV V 7 (.int (nI (cdJ (F 0) p q u))))) (hE.cod _) EqM.rf.setm
theorem cm_berthOf {G : GG} {l : Launch} {h : AH} {m : Nat} {A : Nat → Nat} {W tm : Nat} {gb τ g : Nat → Nat} {sn : Option (Nat → Nat)} {hs : List (Nat → Nat)} {tx : List Nat} {ep fc : Nat} {ot : List Nat} {cd n : Nat} {p : Int32} (hM : MW G h m A W tm gb τ g sn hs tx ep fc ot cd) (hV : SVI n g sn hs tx ep fc ot) : Ct G l yX4_berthOf cX4_berthOf 3 (some .int) 2 0 0 [.ref m, .int p] h (QE G h m A W tm gb τ g sn hs tx ep fc ot ((fdO g 264 p (g 3)).elim 1 (fun _ => 0)) (.int (nI 0)) (.int ((fdO g 264 p (g 3)).elim (nI 0) (fun k => rP (gvB g (g (264 + 4 * k + 1)) (fun _ => 0) k))))) := by
  obtain ⟨V, F, hC, hE⟩ := hM
  obtain rfl := hE.gg
  cases hf : fdO (F 0) 264 p (F 0 3) with
  | none => exact ((ct_berthOfN hC.mm rfl hC.a0 rfl hV.1.1.W hf).up (by decide)).mono (fun r h2 hp => QE.pr 1 hC hE rfl hp)
  | some k =>
    refine (ct_berthOfS hC.mm rfl hC.a0 rfl hC.a10 (hC.ne (by decide) (by decide) (by decide)) rfl hV.1.1.W hf).mono (fun r h2 hp => ?_)
    obtain ⟨rfl, rfl⟩ := hp
    exact QE.mk hC (by rw [gvB_ind (b1 := fun _ => 0) (fdO_lt hf).1]; rfl) ((hC.setm (upV V 7 (.int (nI 0)))).seta 10 (by decide) _) ((hE.cod 0).arr (by decide)) (EqM.rf.setm.seta (by decide))
