set_option maxRecDepth 100000
/-! ===== the law's cases whose calls bring a new state ===== -/
def NOK (P : Nat → Prop) (h : AH) (c : Nat) (v : Int32) (W : AH → Prop) : Int32 → AH → Prop := fun y h2 => c = 0 ∧ (y = v ∧ W h2) ∧ Fr P h h2
section ckn
variable {G : GG} {l : Launch} {h : AH} {P : Nat → Prop} {xo n : Nat} {g : Nat → Nat} {sn : Option (Nat → Nat)} {hs : List (Nat → Nat)} {tx : List Nat} {ep fc : Nat} {ot : List Nat}
theorem ck_renderSuitcase {p : Int32} (hl0 : l.stackTraces = false) (hC : CW G P h xo g sn hs tx (rP ep) (rP fc) ot) (hP : ∀ z, h z = none → P z) (hV : SVI n g sn hs tx ep fc ot) (hn : n < 10000) : CtX G l yX1_renderSuitcase cX1_renderSuitcase 2 (some .int) 9 (30) (3000) [.ref xo, .int p] h (fun r0 h2 => ∃ y : Int32, r0 = some (.int y) ∧ NOK P h ((fdO g 232 p (g 2)).elim 1 (fun _ => 0)) (nI ((fdO g 232 p (g 2)).elim 0 (fun k => (rcT g k).length))) (fun h2 => ∃ k, fdO g 232 p (g 2) = some k ∧ CW G P h2 xo g sn hs tx (rP ep) (rP fc) (rcT g k)) y h2) (fun E q h2 => (E = eEL ∧ SNO G P h xo g sn hs tx ep fc ot ((fdO g 232 p (g 2)).elim 1 (fun _ => 0)) 1 h2)) := by
  refine (ct_X1_renderSuitcase hl0 hC hP hV.1.1 hn).mono (fun r0 h2 hp => ?_) (fun E q h2 hp => ?_)
  · obtain ⟨⟨k, kl, hk, rfl, hC2⟩, hx⟩ := hp
    exact ⟨_, rfl, by rw [hk]; rfl, ⟨by rw [hk]; rfl, k, hk, hC2⟩, hx⟩
  · obtain ⟨⟨z1, rfl⟩, hx⟩ := hp
    exact ⟨rfl, by rw [z1]; rfl, hC.fr0 hx, hx.mono (fun _ z => z.elim)⟩
theorem ck_type {c : Nat} (hl0 : l.stackTraces = false) (hC : CW G P h xo g sn hs tx (rP ep) (rP fc) ot) (hP : ∀ z, h z = none → P z) (hV : SVI n g sn hs tx ep fc ot) (hc6 : c < 65536) : CtX G l yX1_type cX1_type 2 (some .int) 7 (4) (220) [.ref xo, .int (nI c)] h (fun r0 h2 => ∃ y : Int32, r0 = some (.int y) ∧ NOK P h (if ¬ (nI 32 ≤ nI c ∧ nI c ≤ nI 126) then 1 else if tx.length = 60 then 2 else 0) (nI (tx.length + 1)) (fun h2 => CW G P h2 xo g sn hs (tx ++ [c]) (rP ep) (rP fc) ot) y h2) (fun E q h2 => (E = eAR ∧ SNO G P h xo g sn hs tx ep fc ot (if ¬ (nI 32 ≤ nI c ∧ nI c ≤ nI 126) then 1 else if tx.length = 60 then 2 else 0) 1 h2) ∨ (E = eST ∧ SNO G P h xo g sn hs tx ep fc ot (if ¬ (nI 32 ≤ nI c ∧ nI c ≤ nI 126) then 1 else if tx.length = 60 then 2 else 0) 2 h2)) := by
  have h60 := hV.2.2.2.2.1
  refine (ct_X1_type (n := n) hl0 hC hP hc6 h60).mono (fun r0 h2 hp => ?_) (fun E q h2 hp => ?_)
  · obtain ⟨z1, z2, rfl, hC2, hx⟩ := hp
    exact ⟨_, rfl, by rw [if_neg (fun w => w z1), if_neg (Nat.ne_of_lt z2)], ⟨rfl, hC2⟩, hx⟩
  · obtain ⟨⟨z1, rfl⟩ | ⟨z1, z2, rfl⟩, hx⟩ := hp
    · exact Or.inl ⟨rfl, if_pos z1, hC.fr0 hx, hx.mono (fun _ z => z.elim)⟩
    · exact Or.inr ⟨rfl, by rw [if_neg (fun w => w z1), if_pos (by omega)], hC.fr0 hx, hx.mono (fun _ z => z.elim)⟩
theorem ck_undo (hl0 : l.stackTraces = false) (hC : CW G P h xo g sn hs tx (rP ep) (rP fc) ot) (hP : ∀ z, h z = none → P z) (hV : SVI n g sn hs tx ep fc ot) : CtX G l yX1_undo cX1_undo 1 (some .int) 7 (1) (6) [.ref xo] h (fun r0 h2 => ∃ y : Int32, r0 = some (.int y) ∧ NOK P h (if hs.length = 0 then 1 else 0) (nI (hs.length - 1)) (fun h2 => CW G P h2 xo (hs.getD (hs.length - 1) Z0) sn hs.dropLast tx (rP ep) (rP fc) ot) y h2) (fun E q h2 => (E = eEL ∧ SNO G P h xo g sn hs tx ep fc ot (if hs.length = 0 then 1 else 0) 1 h2)) := by
  refine (ct_X1_undo (n := n) hl0 hC hP hV.2.2.2.1).mono (fun r0 h2 hp => ?_) (fun E q h2 hp => ?_)
  · obtain ⟨z1, rfl, hC2, hx⟩ := hp
    exact ⟨_, rfl, if_neg z1, ⟨rfl, hC2⟩, hx⟩
  · obtain ⟨⟨z1, rfl⟩, hx⟩ := hp
    exact ⟨rfl, if_pos z1, hC.fr0 hx, hx.mono (fun _ z => z.elim)⟩
theorem ck_restore (hl0 : l.stackTraces = false) (hC : CW G P h xo g sn hs tx (rP ep) (rP fc) ot) (hP : ∀ z, h z = none → P z) (hV : SVI n g sn hs tx ep fc ot) : CtX G l yX1_restore cX1_restore 1 (some .int) 7 (1) (6) [.ref xo] h (fun r0 h2 => ∃ y : Int32, r0 = some (.int y) ∧ NOK P h (sn.elim 1 (fun _ => 0)) (nI (sn.elim 0 (fun gs => gs 2))) (fun h2 => ∃ gs, sn = some gs ∧ CW G P h2 xo gs sn [] tx (rP ep) (rP fc) ot) y h2) (fun E q h2 => (E = eST ∧ SNO G P h xo g sn hs tx ep fc ot (sn.elim 1 (fun _ => 0)) 1 h2)) := by
  refine (ct_X1_restore hl0 hC hP (fun gs z => (hV.2.1 gs z).1)).mono (fun r0 h2 hp => ?_) (fun E q h2 hp => ?_)
  · obtain ⟨⟨gs, z1, rfl, hC2⟩, hx⟩ := hp
    exact ⟨_, rfl, by rw [z1]; rfl, ⟨by rw [z1]; rfl, gs, z1, hC2⟩, hx⟩
  · obtain ⟨⟨z1, rfl⟩, hx⟩ := hp
    exact ⟨rfl, by rw [z1]; rfl, hC.fr0 hx, hx.mono (fun _ z => z.elim)⟩
end ckn
theorem SVI.ot {n : Nat} {g : Nat → Nat} {sn : Option (Nat → Nat)} {hs : List (Nat → Nat)} {l : List Nat} {ep fc : Nat} {ot o2 : List Nat} (h : SVI n g sn hs l ep fc ot) (h1 : o2.length ≤ 60) (h2 : ∀ c, c ∈ o2 → c < 256) : SVI n g sn hs l ep fc o2 := ⟨h.1, h.2.1, h.2.2.1, h.2.2.2.1, h.2.2.2.2.1, h.2.2.2.2.2.1, h.2.2.2.2.2.2.1, h.2.2.2.2.2.2.2.1, h1, h2⟩
theorem SVI.rc {n k : Nat} {g : Nat → Nat} {sn : Option (Nat → Nat)} {hs : List (Nat → Nat)} {l : List Nat} {ep fc : Nat} {ot : List Nat} {p : Int32} (h : SVI n g sn hs l ep fc ot) (hn : n < 10000) (hk : fdO g 232 p (g 2) = some k) : SVI n g sn hs l ep fc (rcT g k) := by
  obtain ⟨c1, c2, c3⟩ := h.1.1.cs k (fdO_lt hk).1
  have q0 := h.1.1.nx k (fdO_lt hk).1
  have q1 := h.1.1.cn
  have q2 := h.1.1.W.2.1
  exact h.ot (Nat.le_trans (rcT_len (by omega) (by omega) (by omega) (by omega)) (by decide)) (fun c => rcT_b h.1.1.b)
theorem SVI.txt {n c : Nat} {g : Nat → Nat} {sn : Option (Nat → Nat)} {hs : List (Nat → Nat)} {l : List Nat} {ep fc : Nat} {ot : List Nat} (h : SVI n g sn hs l ep fc ot) (hc6 : c < 65536) (h0 : (if ¬ (nI 32 ≤ nI c ∧ nI c ≤ nI 126) then 1 else if l.length = 60 then 2 else 0 : Nat) = 0) : SVI n g sn hs (l ++ [c]) ep fc ot := by
  have h60 := h.2.2.2.2.1
  split at h0
  · exact absurd h0 (by decide)
  · rename_i z
    split at h0
    · exact absurd h0 (by decide)
    · have z := Classical.byContradiction z
      have z1 : 32 ≤ c ∧ c ≤ 126 := by
        have e1 : (nI 32).toInt = 32 := rfl
        have e2 : (nI 126).toInt = 126 := rfl
        have e3 : (nI c).toInt = (c : Int) := nI_toInt (by omega)
        have a1 := Int32.le_iff_toInt_le.mp z.1
        have a2 := Int32.le_iff_toInt_le.mp z.2
        omega
      refine ⟨h.1, h.2.1, h.2.2.1, h.2.2.2.1, by rw [List.length_append, List.length_singleton]; omega, fun x hx => ?_, h.2.2.2.2.2.2⟩
      rcases List.mem_append.mp hx with hx | hx
      · exact h.2.2.2.2.2.1 x hx
      · rw [List.mem_singleton.mp hx]; exact z1
theorem SVI.und {n : Nat} {g : Nat → Nat} {sn : Option (Nat → Nat)} {hs : List (Nat → Nat)} {l : List Nat} {ep fc : Nat} {ot : List Nat} (h : SVI n g sn hs l ep fc ot) (h0 : hs.length ≠ 0) : SVI n (hs.getD (hs.length - 1) Z0) sn hs.dropLast l ep fc ot := by
  obtain ⟨a1, a2, a3, a4, a5⟩ := h
  refine ⟨a3 _ (by omega), a2, fun i hi => ?_, by rw [List.length_dropLast]; omega, a5⟩
  rw [List.length_dropLast] at hi
  rw [dropLast_getD hi]
  exact a3 i (by omega)
theorem SVI.sav {n : Nat} {g : Nat → Nat} {sn : Option (Nat → Nat)} {hs : List (Nat → Nat)} {l : List Nat} {ep fc : Nat} {ot : List Nat} (h : SVI n g sn hs l ep fc ot) : SVI n g (some g) hs l ep fc ot := ⟨h.1, fun gs z => Option.some.inj z ▸ h.1, h.2.2⟩
theorem SVI.res {n : Nat} {g gs : Nat → Nat} {sn : Option (Nat → Nat)} {hs : List (Nat → Nat)} {l : List Nat} {ep fc : Nat} {ot : List Nat} (h : SVI n g sn hs l ep fc ot) (hz : sn = some gs) : SVI n gs sn [] l ep fc ot := ⟨h.2.1 gs hz, h.2.1, fun i hi => absurd hi (Nat.not_lt_zero _), Nat.zero_le _, h.2.2.2.2⟩
theorem i2c_ex (x : Int32) : ∃ c, c < 65536 ∧ (x.toUInt32 % 65536).toInt32 = nI c := ⟨(x.toUInt32 % 65536).toNat, by rw [UInt32.toNat_mod]; exact Nat.mod_lt _ (by decide), by show _ = (UInt32.ofNat _).toInt32; rw [UInt32.ofNat_toNat]⟩

theorem law_45 {G : GG} {X : CX} {Q : State → Prop} {h : AH} {b L xo m ao ad n j kc nn : Nat} {xs : Nat → Int32} {A : Nat → Nat} {g : Nat → Nat} {sn : Option (Nat → Nat)} {hs : List (Nat → Nat)} {tx : List Nat} {ep fc : Nat} {ot : List Nat} {rt : Option FieldType} (F : Fx G X cL_law 9 RX0 rt 1000 1200144 5494714) (hl0 : (xl X).stackTraces = false) (hscr : SCR G X b L xs) (hL : L ≤ 120) (hj : 5 * j + 5 ≤ L) (hn : n ≤ 600) (hD : DIS m A ao ad) (hW : LWD G h xo m A ao ad n j g sn hs tx ep fc ot) (hk : kc + 50000 ≤ 1200144) (hs0 : nn + 228000 ≤ 5494714)
    (next : ∀ h2 g2 sn2 hs2 tx2 ep2 fc2 ot2, LWD G h2 xo m A ao ad (n + 21) (j + 1) g2 sn2 hs2 tx2 ep2 fc2 ot2 → VV G X 9 Q h2 (kc + 50000) (nn + 228000) (LL b xo m ao ad j) [] 3195) : VV G X 9 Q h kc nn (LL b xo m ao ad j) [] 2792 := by
  obtain ⟨hC, ⟨tm, cd, gb, τ, hM⟩, hV, ⟨f0, hao⟩, ⟨f1, had⟩, htx⟩ := id hW
  have hpo : ¬ PL m A ao ad ao := fun z => z.2.1 rfl
  have hpd : ¬ PL m A ao ad ad := fun z => z.2.2 rfl
  refine V_aload_n (i := 1) F dL_law_2792 rfl rfl ?_
  refine V_aload_n (i := 0) F dL_law_2793 rfl rfl ?_
  refine V_iload (i := 5) F dL_law_2794 rfl ?_
  refine V_iconst (v := nI 1) F dL_law_2796 rfl ?_
  refine V_iaddN F dL_law_2797 ?_
  refine V_ialdX F dL_law_2798 hscr (by omega) (by omega) ?_
  refine V_aload_n (i := 3) F dL_law_2799 rfl rfl ?_
  have hw := (x0_renderSuitcase (ao := ao) (p0 := (xs (5 * j + 1))) (ck_renderSuitcase hl0 hC (hW.P0) hV (by omega)) hC.isC (fun y h3 z => ⟨f0, z.2.2.ao hao hpo rfl⟩)).mono (fun r h2 hq => XN.of (Nx := (fun y h2 => y = nI ((fdO g 232 (xs (5 * j + 1)) (g 2)).elim 0 (fun k => (rcT g k).length)) ∧ ((fun h2 => ∃ k, fdO g 232 (xs (5 * j + 1)) (g 2) = some k ∧ CW G (PL m A ao ad) h2 xo g sn hs tx (rP ep) (rP fc) (rcT g k))) h2)) (c := (fdO g 232 (xs (5 * j + 1)) (g 2)).elim 1 (fun _ => 0)) (sn := sn) (hs := hs) (l := tx) (ep := ep) (fc := fc) (ot := ot) (xo := xo) (g := g) hao hpo (fun y h3 h4 f z hz hx => ⟨z.1, (fun ⟨k, z1, z2⟩ => ⟨k, z1, z2.frX hx (OFM.l hz hpo)⟩) z.2⟩) hq) (fun E q h2 hq => hq)
  refine V_xcSW (st := []) (nn := 3) F dL_law_2800 ⟨lw_SW q3289 q3290 q100 q3291, by decide +kernel⟩ hw rfl rfl (Nat.le_of_ble_eq_true rfl) (Nat.le_of_ble_eq_true rfl) (Nat.le_of_ble_eq_true rfl) (by omega) (by omega) ?_ (fun E q h2 hp => hp.elim)
  rintro _ h2 ⟨f, hc5, rfl, hao2, hCn, hCy, hx⟩
  have hM2 := hM.off hx (fun b hb z => z.elim (fun z => z.1 hb) (fun z => hD.2.1 (z ▸ hb)))
  have had2 := hx.ao had (fun z => z.elim (fun z => z.2.2 rfl) (fun z => hD.1 z.symm)) rfl
  obtain ⟨V2, F2, hMC2, -⟩ := id hM2
  refine V_istore (i := 6) F dL_law_2803 (Nat.le_of_ble_eq_true rfl) (Nat.le_of_ble_eq_true rfl) ?_
  refine V_aload_n (i := 2) F dL_law_2805 rfl rfl ?_
  refine V_aload_n (i := 0) F dL_law_2806 rfl rfl ?_
  refine V_iload (i := 5) F dL_law_2807 rfl ?_
  refine V_iconst (v := nI 1) F dL_law_2809 rfl ?_
  refine V_iaddN F dL_law_2810 ?_
  refine V_ialdX F dL_law_2811 hscr (by omega) (by omega) ?_
  have hm := cm_renderSuitcase (l := xl X) (p := (xs (5 * j + 1))) hM2 hV
  generalize hcd : ((fdO g 232 (xs (5 * j + 1)) (g 2)).elim 1 (fun _ => 0)) = c at hc5 hCn hCy hm ⊢
  refine V_callV (st := []) (nn := 1) F dL_law_2812 lk_X0_328 hm ⟨0, _, _, _, rfl, .inl hMC2.mm⟩ rfl rfl (Nat.le_of_ble_eq_true rfl) (Nat.le_of_ble_eq_true rfl) (Nat.le_of_ble_eq_true rfl) (by omega) (by omega) ?_
  rintro _ h3 ⟨rfl, hMn, hMy, hx3⟩
  by_cases c0 : c = 0
  · subst c0
    rw [if_pos rfl]
    obtain ⟨y, hy, rfl, hW2⟩ := hCy rfl
    obtain ⟨k1, e1, hC2⟩ := hW2
    obtain ⟨k2, e2, hM3⟩ := hMy rfl
    obtain rfl : k1 = k2 := Option.some.inj (e1.symm.trans e2)
    have hV2 := hV.rc (by omega) e1
    have hC3 := hC2.frX hx3 (MW.ofm hMC2)
    have hao3 := hx3.ao hao2 hD.2.1 rfl
    have had3 := hx3.ao had2 hD.2.2 rfl
    obtain ⟨V3, F3, hMC3, hMV3⟩ := id hM3
    refine V_istore (i := 7) F dL_law_2815 (Nat.le_of_ble_eq_true rfl) (Nat.le_of_ble_eq_true rfl) ?_
    refine V_aload_n (i := 2) F dL_law_2817 rfl rfl ?_
    refine V_cV0r F dL_law_2818 lk_X0_178 (ct_thrown hMC3.mm (congrArg some hMV3.v7)) ⟨0, _, _, _, rfl, .inl hMC3.mm⟩ (Nat.le_of_ble_eq_true rfl) (Nat.le_of_ble_eq_true rfl) (Nat.le_of_ble_eq_true rfl) (by omega) (by omega) ?_
    refine V_iload (i := 6) F dL_law_2821 rfl ?_
    refine V_icmp_eqN (tgt := 2828) F dL_law_2823 (by decide) (by decide) (by decide) (fun _ => ?_) (fun z => absurd rfl z)
    refine V_iload (i := 6) F dL_law_2828 rfl ?_
    refine V_if_neN (tgt := 2845) F dL_law_2830 (by decide) (by decide) (fun z => absurd z (Nat.lt_irrefl 0)) (fun _ => ?_)
    refine V_aload_n (i := 3) F dL_law_2833 rfl rfl ?_
    refine V_iconst (v := nI 0) F dL_law_2834 rfl ?_
    refine V_laldN F 1 dL_law_2835 rfl (.inl hao3) (by decide) (by decide) ?_
    refine V_iload (i := 7) F dL_law_2836 rfl ?_
    refine V_i2l F dL_law_2838 ?_
    refine V_lcmp F dL_law_2839 ?_
    refine V_if_eq (tgt := 2845) F dL_law_2840 (by decide) (fun _ => ?_) (fun z => absurd (lg_self (hy)) z)
    refine V_goto (tgt := 3195) F dL_law_2845 (by decide) ?_
    exact VV.weak (L' := LL b xo m ao ad j) (LW.c1 (LW.c1 (LW.c1 (LW.c1 (LW.c1 (LW.c1 (LW.c0 (LW.c0 (LW.c0 LW.nil))))))))) (VV.wide (by omega) (by omega) (next _ _ _ _ _ _ _ _ ⟨hC3, ⟨_, _, _, _, hM3⟩, hV2.up (by omega), ⟨_, hao3⟩, ⟨_, had3⟩, by omega⟩))
  · have hC2 := hCn c0
    have hM3 := hMn c0
    rw [if_neg c0]
    have hC3 := hC2.frX hx3 (MW.ofm hMC2)
    have hao3 := hx3.ao hao2 hD.2.1 rfl
    have had3 := hx3.ao had2 hD.2.2 rfl
    obtain ⟨V3, F3, hMC3, hMV3⟩ := id hM3
    refine V_istore (i := 7) F dL_law_2815 (Nat.le_of_ble_eq_true rfl) (Nat.le_of_ble_eq_true rfl) ?_
    refine V_aload_n (i := 2) F dL_law_2817 rfl rfl ?_
    refine V_cV0r F dL_law_2818 lk_X0_178 (ct_thrown hMC3.mm (congrArg some hMV3.v7)) ⟨0, _, _, _, rfl, .inl hMC3.mm⟩ (Nat.le_of_ble_eq_true rfl) (Nat.le_of_ble_eq_true rfl) (Nat.le_of_ble_eq_true rfl) (by omega) (by omega) ?_
    refine V_iload (i := 6) F dL_law_2821 rfl ?_
    refine V_icmp_eqN (tgt := 2828) F dL_law_2823 (by decide) (by omega) (by omega) (fun _ => ?_) (fun z => absurd rfl z)
    refine V_iload (i := 6) F dL_law_2828 rfl ?_
    refine V_if_neN (tgt := 2845) F dL_law_2830 (by decide) (by omega) (fun _ => ?_) (fun z => absurd z c0)
    refine V_goto (tgt := 3195) F dL_law_2845 (by decide) ?_
    exact VV.weak (L' := LL b xo m ao ad j) (LW.c1 (LW.c1 (LW.c1 (LW.c1 (LW.c1 (LW.c1 (LW.c0 (LW.c0 (LW.c0 LW.nil))))))))) (VV.wide (by omega) (by omega) (next _ _ _ _ _ _ _ _ ⟨hC3, ⟨_, _, _, _, hM3⟩, hV.up (by omega), ⟨_, hao3⟩, ⟨_, had3⟩, by omega⟩))
theorem law_47 {G : GG} {X : CX} {Q : State → Prop} {h : AH} {b L xo m ao ad n j kc nn : Nat} {xs : Nat → Int32} {A : Nat → Nat} {g : Nat → Nat} {sn : Option (Nat → Nat)} {hs : List (Nat → Nat)} {tx : List Nat} {ep fc : Nat} {ot : List Nat} {rt : Option FieldType} (F : Fx G X cL_law 9 RX0 rt 1000 1200144 5494714) (hl0 : (xl X).stackTraces = false) (hscr : SCR G X b L xs) (hL : L ≤ 120) (hj : 5 * j + 5 ≤ L) (hn : n ≤ 600) (hD : DIS m A ao ad) (hW : LWD G h xo m A ao ad n j g sn hs tx ep fc ot) (hk : kc + 50000 ≤ 1200144) (hs0 : nn + 228000 ≤ 5494714)
    (next : ∀ h2 g2 sn2 hs2 tx2 ep2 fc2 ot2, LWD G h2 xo m A ao ad (n + 21) (j + 1) g2 sn2 hs2 tx2 ep2 fc2 ot2 → VV G X 9 Q h2 (kc + 50000) (nn + 228000) (LL b xo m ao ad j) [] 3195) : VV G X 9 Q h kc nn (LL b xo m ao ad j) [] 2904 := by
  obtain ⟨hC, ⟨tm, cd, gb, τ, hM⟩, hV, ⟨f0, hao⟩, ⟨f1, had⟩, htx⟩ := id hW
  have hpo : ¬ PL m A ao ad ao := fun z => z.2.1 rfl
  have hpd : ¬ PL m A ao ad ad := fun z => z.2.2 rfl
  obtain ⟨cc, hc6, ec⟩ := i2c_ex (xs (5 * j + 1))
  refine V_aload_n (i := 1) F dL_law_2904 rfl rfl ?_
  refine V_aload_n (i := 0) F dL_law_2905 rfl rfl ?_
  refine V_iload (i := 5) F dL_law_2906 rfl ?_
  refine V_iconst (v := nI 1) F dL_law_2908 rfl ?_
  refine V_iaddN F dL_law_2909 ?_
  refine V_ialdX F dL_law_2910 hscr (by omega) (by omega) ?_
  refine V_i2c F dL_law_2911 ?_
  rw [ec]
  refine V_aload_n (i := 3) F dL_law_2912 rfl rfl ?_
  have hw := (x0_type (ao := ao) (p0 := nI cc) (ck_type hl0 hC hW.P0 hV hc6) hC.isC (fun y h3 z => ⟨f0, z.2.2.ao hao hpo rfl⟩)).mono (fun r h2 hq => XN.of (Nx := (fun y h2 => y = nI (tx.length + 1) ∧ ((fun h2 => CW G (PL m A ao ad) h2 xo g sn hs (tx ++ [cc]) (rP ep) (rP fc) ot)) h2)) (c := if ¬ (nI 32 ≤ nI cc ∧ nI cc ≤ nI 126) then 1 else if tx.length = 60 then 2 else 0) (sn := sn) (hs := hs) (l := tx) (ep := ep) (fc := fc) (ot := ot) (xo := xo) (g := g) hao hpo (fun y h3 h4 f z hz hx => ⟨z.1, (fun z => z.frX hx (OFM.l hz hpo)) z.2⟩) hq) (fun E q h2 hq => hq)
  refine V_xcSW (st := []) (nn := 3) F dL_law_2913 ⟨lw_SW q3333 q3334 q100 q3335, by decide +kernel⟩ hw rfl rfl (Nat.le_of_ble_eq_true rfl) (Nat.le_of_ble_eq_true rfl) (Nat.le_of_ble_eq_true rfl) (by omega) (by omega) ?_ (fun E q h2 hp => hp.elim)
  rintro _ h2 ⟨f, hc5, rfl, hao2, hCn, hCy, hx⟩
  have hM2 := hM.off hx (fun b hb z => z.elim (fun z => z.1 hb) (fun z => hD.2.1 (z ▸ hb)))
  have had2 := hx.ao had (fun z => z.elim (fun z => z.2.2 rfl) (fun z => hD.1 z.symm)) rfl
  obtain ⟨V2, F2, hMC2, -⟩ := id hM2
  refine V_istore (i := 6) F dL_law_2916 (Nat.le_of_ble_eq_true rfl) (Nat.le_of_ble_eq_true rfl) ?_
  refine V_aload_n (i := 2) F dL_law_2918 rfl rfl ?_
  refine V_aload_n (i := 0) F dL_law_2919 rfl rfl ?_
  refine V_iload (i := 5) F dL_law_2920 rfl ?_
  refine V_iconst (v := nI 1) F dL_law_2922 rfl ?_
  refine V_iaddN F dL_law_2923 ?_
  refine V_ialdX F dL_law_2924 hscr (by omega) (by omega) ?_
  refine V_i2c F dL_law_2925 ?_
  rw [ec]
  have hm := cm_type (l := xl X) hM2 hV hc6
  generalize hcd : (if ¬ (nI 32 ≤ nI cc ∧ nI cc ≤ nI 126) then 1 else if tx.length = 60 then 2 else 0) = c at hc5 hCn hCy hm ⊢
  refine V_callV (st := []) (nn := 1) F dL_law_2926 lk_X0_335 hm ⟨0, _, _, _, rfl, .inl hMC2.mm⟩ rfl rfl (Nat.le_of_ble_eq_true rfl) (Nat.le_of_ble_eq_true rfl) (Nat.le_of_ble_eq_true rfl) (by omega) (by omega) ?_
  rintro _ h3 ⟨rfl, hMn, hMy, hx3⟩
  by_cases c0 : c = 0
  · subst c0
    rw [if_pos rfl]
    obtain ⟨y, hy, rfl, hW2⟩ := hCy rfl
    have hC2 := hW2
    have hM3 := hMy rfl
    have hV2 := hV.txt hc6 hcd
    have hC3 := hC2.frX hx3 (MW.ofm hMC2)
    have hao3 := hx3.ao hao2 hD.2.1 rfl
    have had3 := hx3.ao had2 hD.2.2 rfl
    obtain ⟨V3, F3, hMC3, hMV3⟩ := id hM3
    refine V_istore (i := 7) F dL_law_2929 (Nat.le_of_ble_eq_true rfl) (Nat.le_of_ble_eq_true rfl) ?_
    refine V_aload_n (i := 2) F dL_law_2931 rfl rfl ?_
    refine V_cV0r F dL_law_2932 lk_X0_178 (ct_thrown hMC3.mm (congrArg some hMV3.v7)) ⟨0, _, _, _, rfl, .inl hMC3.mm⟩ (Nat.le_of_ble_eq_true rfl) (Nat.le_of_ble_eq_true rfl) (Nat.le_of_ble_eq_true rfl) (by omega) (by omega) ?_
    refine V_iload (i := 6) F dL_law_2935 rfl ?_
    refine V_icmp_eqN (tgt := 2942) F dL_law_2937 (by decide) (by decide) (by decide) (fun _ => ?_) (fun z => absurd rfl z)
    refine V_iload (i := 6) F dL_law_2942 rfl ?_
    refine V_if_neN (tgt := 2959) F dL_law_2944 (by decide) (by decide) (fun z => absurd z (Nat.lt_irrefl 0)) (fun _ => ?_)
    refine V_aload_n (i := 3) F dL_law_2947 rfl rfl ?_
    refine V_iconst (v := nI 0) F dL_law_2948 rfl ?_
    refine V_laldN F 1 dL_law_2949 rfl (.inl hao3) (by decide) (by decide) ?_
    refine V_iload (i := 7) F dL_law_2950 rfl ?_
    refine V_i2l F dL_law_2952 ?_
    refine V_lcmp F dL_law_2953 ?_
    refine V_if_eq (tgt := 2959) F dL_law_2954 (by decide) (fun _ => ?_) (fun z => absurd (lg_self (hy)) z)
    refine V_goto (tgt := 3195) F dL_law_2959 (by decide) ?_
    exact VV.weak (L' := LL b xo m ao ad j) (LW.c1 (LW.c1 (LW.c1 (LW.c1 (LW.c1 (LW.c1 (LW.c0 (LW.c0 (LW.c0 LW.nil))))))))) (VV.wide (by omega) (by omega) (next _ _ _ _ _ _ _ _ ⟨hC3, ⟨_, _, _, _, hM3⟩, hV2.up (by omega), ⟨_, hao3⟩, ⟨_, had3⟩, by rw [List.length_append, List.length_singleton]; omega⟩))
  · have hC2 := hCn c0
    have hM3 := hMn c0
    rw [if_neg c0]
    have hC3 := hC2.frX hx3 (MW.ofm hMC2)
    have hao3 := hx3.ao hao2 hD.2.1 rfl
    have had3 := hx3.ao had2 hD.2.2 rfl
    obtain ⟨V3, F3, hMC3, hMV3⟩ := id hM3
    refine V_istore (i := 7) F dL_law_2929 (Nat.le_of_ble_eq_true rfl) (Nat.le_of_ble_eq_true rfl) ?_
    refine V_aload_n (i := 2) F dL_law_2931 rfl rfl ?_
    refine V_cV0r F dL_law_2932 lk_X0_178 (ct_thrown hMC3.mm (congrArg some hMV3.v7)) ⟨0, _, _, _, rfl, .inl hMC3.mm⟩ (Nat.le_of_ble_eq_true rfl) (Nat.le_of_ble_eq_true rfl) (Nat.le_of_ble_eq_true rfl) (by omega) (by omega) ?_
    refine V_iload (i := 6) F dL_law_2935 rfl ?_
    refine V_icmp_eqN (tgt := 2942) F dL_law_2937 (by decide) (by omega) (by omega) (fun _ => ?_) (fun z => absurd rfl z)
    refine V_iload (i := 6) F dL_law_2942 rfl ?_
    refine V_if_neN (tgt := 2959) F dL_law_2944 (by decide) (by omega) (fun _ => ?_) (fun z => absurd z c0)
    refine V_goto (tgt := 3195) F dL_law_2959 (by decide) ?_
    exact VV.weak (L' := LL b xo m ao ad j) (LW.c1 (LW.c1 (LW.c1 (LW.c1 (LW.c1 (LW.c1 (LW.c0 (LW.c0 (LW.c0 LW.nil))))))))) (VV.wide (by omega) (by omega) (next _ _ _ _ _ _ _ _ ⟨hC3, ⟨_, _, _, _, hM3⟩, hV.up (by omega), ⟨_, hao3⟩, ⟨_, had3⟩, by omega⟩))
theorem law_51 {G : GG} {X : CX} {Q : State → Prop} {h : AH} {b L xo m ao ad n j kc nn : Nat} {xs : Nat → Int32} {A : Nat → Nat} {g : Nat → Nat} {sn : Option (Nat → Nat)} {hs : List (Nat → Nat)} {tx : List Nat} {ep fc : Nat} {ot : List Nat} {rt : Option FieldType} (F : Fx G X cL_law 9 RX0 rt 1000 1200144 5494714) (hl0 : (xl X).stackTraces = false) (hscr : SCR G X b L xs) (hL : L ≤ 120) (hj : 5 * j + 5 ≤ L) (hn : n ≤ 600) (hD : DIS m A ao ad) (hW : LWD G h xo m A ao ad n j g sn hs tx ep fc ot) (hk : kc + 50000 ≤ 1200144) (hs0 : nn + 228000 ≤ 5494714)
    (next : ∀ h2 g2 sn2 hs2 tx2 ep2 fc2 ot2, LWD G h2 xo m A ao ad (n + 21) (j + 1) g2 sn2 hs2 tx2 ep2 fc2 ot2 → VV G X 9 Q h2 (kc + 50000) (nn + 228000) (LL b xo m ao ad j) [] 3195) : VV G X 9 Q h kc nn (LL b xo m ao ad j) [] 3094 := by
  obtain ⟨hC, ⟨tm, cd, gb, τ, hM⟩, hV, ⟨f0, hao⟩, ⟨f1, had⟩, htx⟩ := id hW
  have hpo : ¬ PL m A ao ad ao := fun z => z.2.1 rfl
  have hpd : ¬ PL m A ao ad ad := fun z => z.2.2 rfl
  refine V_aload_n (i := 1) F dL_law_3094 rfl rfl ?_
  refine V_aload_n (i := 3) F dL_law_3095 rfl rfl ?_
  have hw := (x0_undo (ao := ao) (ck_undo hl0 hC hW.P0 hV) hC.isC (fun y h3 z => ⟨f0, z.2.2.ao hao hpo rfl⟩)).mono (fun r h2 hq => XN.of (Nx := (fun y h2 => y = nI (hs.length - 1) ∧ ((fun h2 => CW G (PL m A ao ad) h2 xo (hs.getD (hs.length - 1) Z0) sn hs.dropLast tx (rP ep) (rP fc) ot)) h2)) (c := if hs.length = 0 then 1 else 0) (sn := sn) (hs := hs) (l := tx) (ep := ep) (fc := fc) (ot := ot) (xo := xo) (g := g) hao hpo (fun y h3 h4 f z hz hx => ⟨z.1, (fun z => z.frX hx (OFM.l hz hpo)) z.2⟩) hq) (fun E q h2 hq => hq)
  refine V_xcSW (st := []) (nn := 2) F dL_law_3096 ⟨lw_SW q3664 q3665 q100 q3666, by decide +kernel⟩ hw rfl rfl (Nat.le_of_ble_eq_true rfl) (Nat.le_of_ble_eq_true rfl) (Nat.le_of_ble_eq_true rfl) (by omega) (by omega) ?_ (fun E q h2 hp => hp.elim)
  rintro _ h2 ⟨f, hc5, rfl, hao2, hCn, hCy, hx⟩
  have hM2 := hM.off hx (fun b hb z => z.elim (fun z => z.1 hb) (fun z => hD.2.1 (z ▸ hb)))
  have had2 := hx.ao had (fun z => z.elim (fun z => z.2.2 rfl) (fun z => hD.1 z.symm)) rfl
  obtain ⟨V2, F2, hMC2, -⟩ := id hM2
  refine V_istore (i := 6) F dL_law_3099 (Nat.le_of_ble_eq_true rfl) (Nat.le_of_ble_eq_true rfl) ?_
  refine V_aload_n (i := 2) F dL_law_3101 rfl rfl ?_
  have hm := cm_undo (l := xl X) hM2 hV
  generalize hcd : (if hs.length = 0 then 1 else 0) = c at hc5 hCn hCy hm ⊢
  refine V_callV (st := []) (nn := 0) F dL_law_3102 lk_X0_348 hm ⟨0, _, _, _, rfl, .inl hMC2.mm⟩ rfl rfl (Nat.le_of_ble_eq_true rfl) (Nat.le_of_ble_eq_true rfl) (Nat.le_of_ble_eq_true rfl) (by omega) (by omega) ?_
  rintro _ h3 ⟨rfl, hMn, hMy, hx3⟩
  by_cases c0 : c = 0
  · subst c0
    rw [if_pos rfl]
    obtain ⟨y, hy, rfl, hW2⟩ := hCy rfl
    have hC2 := hW2
    have hM3 := hMy rfl
    have hV2 := hV.und (fun z => by rw [if_pos z] at hcd; cases hcd)
    have hC3 := hC2.frX hx3 (MW.ofm hMC2)
    have hao3 := hx3.ao hao2 hD.2.1 rfl
    have had3 := hx3.ao had2 hD.2.2 rfl
    obtain ⟨V3, F3, hMC3, hMV3⟩ := id hM3
    refine V_istore (i := 7) F dL_law_3105 (Nat.le_of_ble_eq_true rfl) (Nat.le_of_ble_eq_true rfl) ?_
    refine V_aload_n (i := 2) F dL_law_3107 rfl rfl ?_
    refine V_cV0r F dL_law_3108 lk_X0_178 (ct_thrown hMC3.mm (congrArg some hMV3.v7)) ⟨0, _, _, _, rfl, .inl hMC3.mm⟩ (Nat.le_of_ble_eq_true rfl) (Nat.le_of_ble_eq_true rfl) (Nat.le_of_ble_eq_true rfl) (by omega) (by omega) ?_
    refine V_iload (i := 6) F dL_law_3111 rfl ?_
    refine V_icmp_eqN (tgt := 3118) F dL_law_3113 (by decide) (by decide) (by decide) (fun _ => ?_) (fun z => absurd rfl z)
    refine V_iload (i := 6) F dL_law_3118 rfl ?_
    refine V_if_neN (tgt := 3135) F dL_law_3120 (by decide) (by decide) (fun z => absurd z (Nat.lt_irrefl 0)) (fun _ => ?_)
    refine V_aload_n (i := 3) F dL_law_3123 rfl rfl ?_
    refine V_iconst (v := nI 0) F dL_law_3124 rfl ?_
    refine V_laldN F 1 dL_law_3125 rfl (.inl hao3) (by decide) (by decide) ?_
    refine V_iload (i := 7) F dL_law_3126 rfl ?_
    refine V_i2l F dL_law_3128 ?_
    refine V_lcmp F dL_law_3129 ?_
    refine V_if_eq (tgt := 3135) F dL_law_3130 (by decide) (fun _ => ?_) (fun z => absurd (lg_self (hy)) z)
    refine V_goto (tgt := 3195) F dL_law_3135 (by decide) ?_
    exact VV.weak (L' := LL b xo m ao ad j) (LW.c1 (LW.c1 (LW.c1 (LW.c1 (LW.c1 (LW.c1 (LW.c0 (LW.c0 (LW.c0 LW.nil))))))))) (VV.wide (by omega) (by omega) (next _ _ _ _ _ _ _ _ ⟨hC3, ⟨_, _, _, _, hM3⟩, hV2.up (by omega), ⟨_, hao3⟩, ⟨_, had3⟩, by omega⟩))
  · have hC2 := hCn c0
    have hM3 := hMn c0
    rw [if_neg c0]
    have hC3 := hC2.frX hx3 (MW.ofm hMC2)
    have hao3 := hx3.ao hao2 hD.2.1 rfl
    have had3 := hx3.ao had2 hD.2.2 rfl
    obtain ⟨V3, F3, hMC3, hMV3⟩ := id hM3
    refine V_istore (i := 7) F dL_law_3105 (Nat.le_of_ble_eq_true rfl) (Nat.le_of_ble_eq_true rfl) ?_
    refine V_aload_n (i := 2) F dL_law_3107 rfl rfl ?_
    refine V_cV0r F dL_law_3108 lk_X0_178 (ct_thrown hMC3.mm (congrArg some hMV3.v7)) ⟨0, _, _, _, rfl, .inl hMC3.mm⟩ (Nat.le_of_ble_eq_true rfl) (Nat.le_of_ble_eq_true rfl) (Nat.le_of_ble_eq_true rfl) (by omega) (by omega) ?_
    refine V_iload (i := 6) F dL_law_3111 rfl ?_
    refine V_icmp_eqN (tgt := 3118) F dL_law_3113 (by decide) (by omega) (by omega) (fun _ => ?_) (fun z => absurd rfl z)
    refine V_iload (i := 6) F dL_law_3118 rfl ?_
    refine V_if_neN (tgt := 3135) F dL_law_3120 (by decide) (by omega) (fun _ => ?_) (fun z => absurd z c0)
    refine V_goto (tgt := 3195) F dL_law_3135 (by decide) ?_
    exact VV.weak (L' := LL b xo m ao ad j) (LW.c1 (LW.c1 (LW.c1 (LW.c1 (LW.c1 (LW.c1 (LW.c0 (LW.c0 (LW.c0 LW.nil))))))))) (VV.wide (by omega) (by omega) (next _ _ _ _ _ _ _ _ ⟨hC3, ⟨_, _, _, _, hM3⟩, hV.up (by omega), ⟨_, hao3⟩, ⟨_, had3⟩, by omega⟩))
theorem law_53 {G : GG} {X : CX} {Q : State → Prop} {h : AH} {b L xo m ao ad n j kc nn : Nat} {xs : Nat → Int32} {A : Nat → Nat} {g : Nat → Nat} {sn : Option (Nat → Nat)} {hs : List (Nat → Nat)} {tx : List Nat} {ep fc : Nat} {ot : List Nat} {rt : Option FieldType} (F : Fx G X cL_law 9 RX0 rt 1000 1200144 5494714) (hl0 : (xl X).stackTraces = false) (hscr : SCR G X b L xs) (hL : L ≤ 120) (hj : 5 * j + 5 ≤ L) (hn : n ≤ 600) (hD : DIS m A ao ad) (hW : LWD G h xo m A ao ad n j g sn hs tx ep fc ot) (hk : kc + 50000 ≤ 1200144) (hs0 : nn + 228000 ≤ 5494714)
    (next : ∀ h2 g2 sn2 hs2 tx2 ep2 fc2 ot2, LWD G h2 xo m A ao ad (n + 21) (j + 1) g2 sn2 hs2 tx2 ep2 fc2 ot2 → VV G X 9 Q h2 (kc + 50000) (nn + 228000) (LL b xo m ao ad j) [] 3195) : VV G X 9 Q h kc nn (LL b xo m ao ad j) [] 3151 := by
  obtain ⟨hC, ⟨tm, cd, gb, τ, hM⟩, hV, ⟨f0, hao⟩, ⟨f1, had⟩, htx⟩ := id hW
  have hpo : ¬ PL m A ao ad ao := fun z => z.2.1 rfl
  have hpd : ¬ PL m A ao ad ad := fun z => z.2.2 rfl
  refine V_aload_n (i := 1) F dL_law_3151 rfl rfl ?_
  refine V_aload_n (i := 3) F dL_law_3152 rfl rfl ?_
  have hw := (x0_restore (ao := ao) (ck_restore hl0 hC hW.P0 hV) hC.isC (fun y h3 z => ⟨f0, z.2.2.ao hao hpo rfl⟩)).mono (fun r h2 hq => XN.of (Nx := (fun y h2 => y = nI (sn.elim 0 (fun gs => gs 2)) ∧ ((fun h2 => ∃ gs, sn = some gs ∧ CW G (PL m A ao ad) h2 xo gs sn [] tx (rP ep) (rP fc) ot)) h2)) (c := sn.elim 1 (fun _ => 0)) (sn := sn) (hs := hs) (l := tx) (ep := ep) (fc := fc) (ot := ot) (xo := xo) (g := g) hao hpo (fun y h3 h4 f z hz hx => ⟨z.1, (fun ⟨k, z1, z2⟩ => ⟨k, z1, z2.frX hx (OFM.l hz hpo)⟩) z.2⟩) hq) (fun E q h2 hq => hq)
  refine V_xcSW (st := []) (nn := 2) F dL_law_3153 ⟨lw_SW q3682 q3683 q100 q3684, by decide +kernel⟩ hw rfl rfl (Nat.le_of_ble_eq_true rfl) (Nat.le_of_ble_eq_true rfl) (Nat.le_of_ble_eq_true rfl) (by omega) (by omega) ?_ (fun E q h2 hp => hp.elim)
  rintro _ h2 ⟨f, hc5, rfl, hao2, hCn, hCy, hx⟩
  have hM2 := hM.off hx (fun b hb z => z.elim (fun z => z.1 hb) (fun z => hD.2.1 (z ▸ hb)))
  have had2 := hx.ao had (fun z => z.elim (fun z => z.2.2 rfl) (fun z => hD.1 z.symm)) rfl
  obtain ⟨V2, F2, hMC2, -⟩ := id hM2
  refine V_istore (i := 6) F dL_law_3156 (Nat.le_of_ble_eq_true rfl) (Nat.le_of_ble_eq_true rfl) ?_
  refine V_aload_n (i := 2) F dL_law_3158 rfl rfl ?_
  have hm := cm_restore (l := xl X) hM2 hV
  generalize hcd : (sn.elim 1 (fun _ => 0)) = c at hc5 hCn hCy hm ⊢
  refine V_callV (st := []) (nn := 0) F dL_law_3159 lk_X0_355 hm ⟨0, _, _, _, rfl, .inl hMC2.mm⟩ rfl rfl (Nat.le_of_ble_eq_true rfl) (Nat.le_of_ble_eq_true rfl) (Nat.le_of_ble_eq_true rfl) (by omega) (by omega) ?_
  rintro _ h3 ⟨rfl, hMn, hMy, hx3⟩
  by_cases c0 : c = 0
  · subst c0
    rw [if_pos rfl]
    obtain ⟨y, hy, rfl, hW2⟩ := hCy rfl
    obtain ⟨k1, e1, hC2⟩ := hW2
    obtain ⟨k2, e2, hM3⟩ := hMy rfl
    obtain rfl : k1 = k2 := Option.some.inj (e1.symm.trans e2)
    have hV2 := hV.res e1
    have hC3 := hC2.frX hx3 (MW.ofm hMC2)
    have hao3 := hx3.ao hao2 hD.2.1 rfl
    have had3 := hx3.ao had2 hD.2.2 rfl
    obtain ⟨V3, F3, hMC3, hMV3⟩ := id hM3
    refine V_istore (i := 7) F dL_law_3162 (Nat.le_of_ble_eq_true rfl) (Nat.le_of_ble_eq_true rfl) ?_
    refine V_aload_n (i := 2) F dL_law_3164 rfl rfl ?_
    refine V_cV0r F dL_law_3165 lk_X0_178 (ct_thrown hMC3.mm (congrArg some hMV3.v7)) ⟨0, _, _, _, rfl, .inl hMC3.mm⟩ (Nat.le_of_ble_eq_true rfl) (Nat.le_of_ble_eq_true rfl) (Nat.le_of_ble_eq_true rfl) (by omega) (by omega) ?_
    refine V_iload (i := 6) F dL_law_3168 rfl ?_
    refine V_icmp_eqN (tgt := 3175) F dL_law_3170 (by decide) (by decide) (by decide) (fun _ => ?_) (fun z => absurd rfl z)
    refine V_iload (i := 6) F dL_law_3175 rfl ?_
    refine V_if_neN (tgt := 3192) F dL_law_3177 (by decide) (by decide) (fun z => absurd z (Nat.lt_irrefl 0)) (fun _ => ?_)
    refine V_aload_n (i := 3) F dL_law_3180 rfl rfl ?_
    refine V_iconst (v := nI 0) F dL_law_3181 rfl ?_
    refine V_laldN F 1 dL_law_3182 rfl (.inl hao3) (by decide) (by decide) ?_
    refine V_iload (i := 7) F dL_law_3183 rfl ?_
    refine V_i2l F dL_law_3185 ?_
    refine V_lcmp F dL_law_3186 ?_
    refine V_if_eq (tgt := 3192) F dL_law_3187 (by decide) (fun _ => ?_) (fun z => absurd (lg_self (hy)) z)
    refine V_goto (tgt := 3195) F dL_law_3192 (by decide) ?_
    exact VV.weak (L' := LL b xo m ao ad j) (LW.c1 (LW.c1 (LW.c1 (LW.c1 (LW.c1 (LW.c1 (LW.c0 (LW.c0 (LW.c0 LW.nil))))))))) (VV.wide (by omega) (by omega) (next _ _ _ _ _ _ _ _ ⟨hC3, ⟨_, _, _, _, hM3⟩, hV2.up (by omega), ⟨_, hao3⟩, ⟨_, had3⟩, by omega⟩))
  · have hC2 := hCn c0
    have hM3 := hMn c0
    rw [if_neg c0]
    have hC3 := hC2.frX hx3 (MW.ofm hMC2)
    have hao3 := hx3.ao hao2 hD.2.1 rfl
    have had3 := hx3.ao had2 hD.2.2 rfl
    obtain ⟨V3, F3, hMC3, hMV3⟩ := id hM3
    refine V_istore (i := 7) F dL_law_3162 (Nat.le_of_ble_eq_true rfl) (Nat.le_of_ble_eq_true rfl) ?_
    refine V_aload_n (i := 2) F dL_law_3164 rfl rfl ?_
    refine V_cV0r F dL_law_3165 lk_X0_178 (ct_thrown hMC3.mm (congrArg some hMV3.v7)) ⟨0, _, _, _, rfl, .inl hMC3.mm⟩ (Nat.le_of_ble_eq_true rfl) (Nat.le_of_ble_eq_true rfl) (Nat.le_of_ble_eq_true rfl) (by omega) (by omega) ?_
    refine V_iload (i := 6) F dL_law_3168 rfl ?_
    refine V_icmp_eqN (tgt := 3175) F dL_law_3170 (by decide) (by omega) (by omega) (fun _ => ?_) (fun z => absurd rfl z)
    refine V_iload (i := 6) F dL_law_3175 rfl ?_
    refine V_if_neN (tgt := 3192) F dL_law_3177 (by decide) (by omega) (fun _ => ?_) (fun z => absurd z c0)
    refine V_goto (tgt := 3195) F dL_law_3192 (by decide) ?_
    exact VV.weak (L' := LL b xo m ao ad j) (LW.c1 (LW.c1 (LW.c1 (LW.c1 (LW.c1 (LW.c1 (LW.c0 (LW.c0 (LW.c0 LW.nil))))))))) (VV.wide (by omega) (by omega) (next _ _ _ _ _ _ _ _ ⟨hC3, ⟨_, _, _, _, hM3⟩, hV.up (by omega), ⟨_, hao3⟩, ⟨_, had3⟩, by omega⟩))
theorem law_52 {G : GG} {X : CX} {Q : State → Prop} {h : AH} {b L xo m ao ad n j kc nn : Nat} {xs : Nat → Int32} {A : Nat → Nat} {g : Nat → Nat} {sn : Option (Nat → Nat)} {hs : List (Nat → Nat)} {tx : List Nat} {ep fc : Nat} {ot : List Nat} {rt : Option FieldType} (F : Fx G X cL_law 9 RX0 rt 1000 1200144 5494714) (hl0 : (xl X).stackTraces = false) (hscr : SCR G X b L xs) (hL : L ≤ 120) (hj : 5 * j + 5 ≤ L) (hn : n ≤ 600) (hD : DIS m A ao ad) (hW : LWD G h xo m A ao ad n j g sn hs tx ep fc ot) (hk : kc + 50000 ≤ 1200144) (hs0 : nn + 228000 ≤ 5494714)
    (next : ∀ h2 g2 sn2 hs2 tx2 ep2 fc2 ot2, LWD G h2 xo m A ao ad (n + 21) (j + 1) g2 sn2 hs2 tx2 ep2 fc2 ot2 → VV G X 9 Q h2 (kc + 50000) (nn + 228000) (LL b xo m ao ad j) [] 3195) : VV G X 9 Q h kc nn (LL b xo m ao ad j) [] 3138 := by
  obtain ⟨hC, ⟨tm, cd, gb, τ, hM⟩, hV, ⟨f0, hao⟩, ⟨f1, had⟩, htx⟩ := id hW
  have hpo : ¬ PL m A ao ad ao := fun z => z.2.1 rfl
  have hpd : ¬ PL m A ao ad ad := fun z => z.2.2 rfl
  refine V_aload_n (i := 1) F dL_law_3138 rfl rfl ?_
  refine V_callV (st := []) (nn := 0) F dL_law_3139 lk_X0_349 (ct_X1_save hC hW.P0 hV.1.1) hC.isC rfl rfl (Nat.le_of_ble_eq_true rfl) (Nat.le_of_ble_eq_true rfl) (Nat.le_of_ble_eq_true rfl) (by omega) (by omega) ?_
  rintro _ h2 ⟨rfl, hC2, hx⟩
  have hM2 := hM.off hx (fun b hb z => z.1 hb)
  have hao2 := hx.ao hao hpo rfl
  have had2 := hx.ao had hpd rfl
  obtain ⟨V2, F2, hMC2, -⟩ := id hM2
  refine V_aload_n (i := 2) F dL_law_3142 rfl rfl ?_
  refine V_callV (st := [.int (nI (g 2))]) (nn := 0) F dL_law_3143 lk_X0_352 (cm_save hM2 hV) ⟨0, _, _, _, rfl, .inl hMC2.mm⟩ rfl rfl (Nat.le_of_ble_eq_true rfl) (Nat.le_of_ble_eq_true rfl) (Nat.le_of_ble_eq_true rfl) (by omega) (by omega) ?_
  rintro _ h3 ⟨rfl, -, hMy, hx3⟩
  have hM3 := hMy rfl
  have hC3 := hC2.frX hx3 (MW.ofm hMC2)
  have hao3 := hx3.ao hao2 hD.2.1 rfl
  have had3 := hx3.ao had2 hD.2.2 rfl
  obtain ⟨V3, F3, hMC3, hMV3⟩ := id hM3
  rw [if_pos rfl]
  refine V_icmp_eq (tgt := 3195) F dL_law_3146 (by decide) (fun _ => ?_) (fun z => absurd rfl z)
  exact VV.weak (L' := LL b xo m ao ad j) (LW.c1 (LW.c1 (LW.c1 (LW.c1 (LW.c1 (LW.c1 (LW.c0 (LW.c0 (LW.c0 LW.nil))))))))) (VV.wide (by omega) (by omega) (next _ _ _ _ _ _ _ _ ⟨hC3, ⟨_, _, _, _, hM3⟩, hV.sav.up (by omega), ⟨_, hao3⟩, ⟨_, had3⟩, by omega⟩))
