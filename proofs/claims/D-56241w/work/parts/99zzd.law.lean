set_option maxRecDepth 100000
/-! ===== the law's case of the script ===== -/
theorem run_Z3 : ∀ {L : List (Nat × List Nat)} {n : Nat} {g g2 : Nat → Nat}, INV n g → Z3 g → n + L.length < 1000 → (∀ x, x ∈ L → x.1 < 10) → RUN L g g2 → Z3 g2
  | [], _, _, _, _, hz, _, _, h => by
    have h : _ = _ := h
    rw [h]; exact hz
  | x :: L, n, g, g2, hV, hz, hn, hk, h => by
    obtain ⟨v, a, p1, p2, p3⟩ := h
    rw [List.length_cons] at hn
    have hx := hk x List.mem_cons_self
    exact run_Z3 (invp n x.1 g a _ v (by omega) hV hx p1 p2) (chg_Z3 hV hz hx p1 p2) (by omega) (fun y hy => hk y (List.mem_cons_of_mem _ hy)) p3
section skn
variable (G : GG) (P : Nat → Prop) (h : AH) (xo n : Nat) (g : Nat → Nat) (sn : Option (Nat → Nat)) (hs : List (Nat → Nat)) (tx : List Nat) (ep fc : Nat) (ot : List Nat)
def SKO : Int32 → AH → Prop := fun y h2 => ∃ L g2, y = nI L.length ∧ PRS tx 0 L ∧ RUN L g g2 ∧ INV (n + L.length) g2 ∧ CW G P h2 xo g2 sn (pushH hs g) [] (rP ep) (rP fc) ot ∧ Fr P h h2
def SKN : Nat → AH → Prop := fun k h2 => ((k = 1 ∧ ∃ pos, PRN tx 0 pos ∧ CW G P h2 xo g sn hs [] (rP (pos + 1)) (rP fc) ot) ∨ (k = 2 ∧ ∃ L idx, PRS tx 0 L ∧ RUX L g idx ∧ CW G P h2 xo g sn hs [] (rP ep) (rP (idx + 1)) ot)) ∧ Fr P h h2
def XS (ao : Nat) : Option Value → AH → Prop := fun r h2 => ∃ c f, r = some (.int (nI c)) ∧ h2 ao = some (lA G 1 f) ∧ Fr (fun z => P z ∨ z = ao) h h2 ∧
  ((c = 0 ∧ ∃ L g2, f 0 = (nI L.length).toInt64 ∧ PRS tx 0 L ∧ RUN L g g2 ∧ INV (n + L.length) g2 ∧ CW G P h2 xo g2 sn (pushH hs g) [] (rP ep) (rP fc) ot) ∨ (c = 1 ∧ ∃ pos, PRN tx 0 pos ∧ CW G P h2 xo g sn hs [] (rP (pos + 1)) (rP fc) ot) ∨ (c = 2 ∧ ∃ L idx, PRS tx 0 L ∧ RUX L g idx ∧ CW G P h2 xo g sn hs [] (rP ep) (rP (idx + 1)) ot))
end skn
theorem ck_runScript {G : GG} {l : Launch} {h : AH} {P : Nat → Prop} {xo n : Nat} {g : Nat → Nat} {sn : Option (Nat → Nat)} {hs : List (Nat → Nat)} {tx : List Nat} {ep fc : Nat} {ot : List Nat} (hl0 : l.stackTraces = false) (hC : CW G P h xo g sn hs tx (rP ep) (rP fc) ot) (hP : ∀ z, h z = none → P z) (hV : SVI n g sn hs tx ep fc ot) (hn9 : n ≤ 900) : CtH G l yX1_runScript cX1_runScript 3 (some .int) [((16 : Nat), (31 : Nat), (32 : Nat), (416 : Nat)), ((16 : Nat), (31 : Nat), (46 : Nat), (397 : Nat))] 18 (400 + 800 * (tx.length / 7 + 2)) (4000 + 34100 * (tx.length / 7 + 2)) [.ref xo] h (fun r0 h2 => ∃ y : Int32, r0 = some (.int y) ∧ SKO G P h xo n g sn hs tx ep fc ot y h2) (fun E q h2 => (E = eAR ∧ SKN G P h xo g sn hs tx ep fc ot 1 h2) ∨ (E = eST ∧ SKN G P h xo g sn hs tx ep fc ot 2 h2)) := by
  refine (ct_X1_runScript hl0 invp hC hP hV.1.1 hn9 hV.2.2.2.1 hV.2.2.2.2.1).mono (fun r0 h2 hp => ?_) (fun E q h2 hp => ?_)
  · obtain ⟨L, g2, rfl, z1, z2, z3, z4, z5, z6⟩ := hp
    exact ⟨_, rfl, L, g2, rfl, z1, z3, z4, z5, z6⟩
  · obtain ⟨-, hx, ⟨pos, z1, rfl, -, z2⟩ | ⟨L, idx, z1, -, z2, rfl, -, z3⟩⟩ := hp
    · exact Or.inl ⟨rfl, Or.inl ⟨rfl, pos, z1, z2⟩, hx⟩
    · exact Or.inr ⟨rfl, Or.inr ⟨rfl, L, idx, z1, z2, z3⟩, hx⟩
theorem XS.of {G : GG} {P : Nat → Prop} {h : AH} {xo ao n : Nat} {g : Nat → Nat} {sn : Option (Nat → Nat)} {hs : List (Nat → Nat)} {tx : List Nat} {ep fc : Nat} {ot : List Nat} {f0 : Nat → Int64} (hao : h ao = some (lA G 1 f0)) (hp : ¬ P ao) {r : Option Value} {h2 : AH}
    (hq : (∃ (y : Int32) (h3 : AH) (f : Nat → Int64), SKO G P h xo n g sn hs tx ep fc ot y h3 ∧ h3 ao = some (lA G 1 f) ∧ r = some (.int (nI 0)) ∧ h2 = hset h3 ao (lA G 1 (vp_updL f 0 (y.toInt64)))) ∨ (∃ k, 0 < k ∧ k < 5 ∧ r = some (.int (nI k)) ∧ SKN G P h xo g sn hs tx ep fc ot k h2)) : XS G P h xo n g sn hs tx ep fc ot ao r h2 := by
  rcases hq with ⟨y, h3, f, ⟨L, g2, rfl, z1, z2, z3, z4, hx⟩, hf, rfl, rfl⟩ | ⟨k, k0, k5, rfl, z1, hx⟩
  · have k1 : Fr (m1 ao) h3 (hset h3 ao (lA G 1 (vp_updL f 0 ((nI L.length).toInt64)))) := Fr.rf.put (x := lA G 1 (vp_updL f 0 ((nI L.length).toInt64))) hf ⟨rfl, rfl⟩ rfl (Or.inl rfl)
    exact ⟨_, _, rfl, hset_self, (hx.mono (fun z q => Or.inl q)).cal k1 (fun z q => Or.inl (Or.inr q)), Or.inl ⟨rfl, L, g2, if_pos rfl, z1, z2, z3, z4.frX k1 (OFM.l hf hp)⟩⟩
  · exact ⟨k, f0, rfl, hx.ao hao hp rfl, hx.mono (fun z q => Or.inl q), Or.inr z1⟩
theorem SVI.tl {n a b : Nat} {g : Nat → Nat} {sn : Option (Nat → Nat)} {hs : List (Nat → Nat)} {l : List Nat} {ep fc : Nat} {ot : List Nat} (h : SVI n g sn hs l ep fc ot) (ha : a ≤ 100) (hb : b ≤ 100) : SVI n g sn hs [] a b ot := ⟨h.1, h.2.1, h.2.2.1, h.2.2.2.1, Nat.zero_le _, fun c hc => absurd hc List.not_mem_nil, ha, hb, h.2.2.2.2.2.2.2.2⟩

theorem law_48 {G : GG} {X : CX} {Q : State → Prop} {h : AH} {b L xo m ao ad n j kc nn : Nat} {xs : Nat → Int32} {A : Nat → Nat} {g : Nat → Nat} {sn : Option (Nat → Nat)} {hs : List (Nat → Nat)} {tx : List Nat} {ep fc : Nat} {ot : List Nat} {rt : Option FieldType} (F : Fx G X cL_law 9 RX0 rt 1000 1200144 5494714) (hl0 : (xl X).stackTraces = false) (hscr : SCR G X b L xs) (hL : L ≤ 120) (hj : 5 * j + 5 ≤ L) (hn : n ≤ 600) (hD : DIS m A ao ad) (hW : LWD G h xo m A ao ad n j g sn hs tx ep fc ot) (hk : kc + 50000 ≤ 1200144) (hs0 : nn + 228000 ≤ 5494714)
    (next : ∀ h2 g2 sn2 hs2 tx2 ep2 fc2 ot2, LWD G h2 xo m A ao ad (n + 21) (j + 1) g2 sn2 hs2 tx2 ep2 fc2 ot2 → VV G X 9 Q h2 (kc + 50000) (nn + 228000) (LL b xo m ao ad j) [] 3195) : VV G X 9 Q h kc nn (LL b xo m ao ad j) [] 2962 := by
  obtain ⟨hC, ⟨tm, cd, gb, τ, hM⟩, hV, ⟨f0, hao⟩, ⟨f1, had⟩, htx⟩ := id hW
  have hpo : ¬ PL m A ao ad ao := fun z => z.2.1 rfl
  have hpd : ¬ PL m A ao ad ad := fun z => z.2.2 rfl
  refine V_aload_n (i := 1) F dL_law_2962 rfl rfl ?_
  refine V_aload_n (i := 3) F dL_law_2963 rfl rfl ?_
  have htl := hV.2.2.2.2.1
  have hw := (x0_runScript (ao := ao) (ck_runScript hl0 hC hW.P0 hV (by omega)) hC.isC (fun y h3 z => by obtain ⟨L, g2, z1, z2, z3, z4, z5, z6⟩ := z; exact ⟨f0, z6.ao hao hpo rfl⟩)).mono (fun r h2 hq => XS.of hao hpo hq) (fun E q h2 hq => hq)
  have hc1 : 400 + 800 * (tx.length / 7 + 2) ≤ 50000 := by omega
  have hc2 : 4000 + 34100 * (tx.length / 7 + 2) ≤ 228000 := Nat.le_trans (Nat.add_le_add_left (Nat.mul_le_mul_left 34100 (show tx.length / 7 + 2 ≤ 5 by omega)) 4000) (Nat.le_of_ble_eq_true rfl)
  generalize 400 + 800 * (tx.length / 7 + 2) = u1 at hw hc1
  generalize 4000 + 34100 * (tx.length / 7 + 2) = u2 at hw hc2
  refine V_xcSW (st := []) (nn := 2) F dL_law_2964 ⟨lw_SW q3359 q3360 q100 q3361, by decide +kernel⟩ hw rfl rfl (Nat.le_of_ble_eq_true rfl) (Nat.le_of_ble_eq_true rfl) (Nat.le_of_ble_eq_true rfl) (by omega) (by omega) ?_ (fun E q h2 hp => hp.elim)
  rintro _ h2 ⟨c, f, rfl, hao2, hx, hcls⟩
  have hM2 := hM.off hx (fun b hb z => z.elim (fun z => z.1 hb) (fun z => hD.2.1 (z ▸ hb)))
  have had2 := hx.ao had (fun z => z.elim (fun z => z.2.2 rfl) (fun z => hD.1 z.symm)) rfl
  obtain ⟨V2, F2, hMC2, -⟩ := id hM2
  refine V_istore (i := 6) F dL_law_2967 (Nat.le_of_ble_eq_true rfl) (Nat.le_of_ble_eq_true rfl) ?_
  refine V_aload_n (i := 2) F dL_law_2969 rfl rfl ?_
  have hm := cm_runScript (l := xl X) hM2 hV (by omega) (fun gi z => pars htl z)
  refine V_callV (st := []) (nn := 0) F dL_law_2970 lk_X0_339 hm ⟨0, _, _, _, rfl, .inl hMC2.mm⟩ rfl rfl (Nat.le_of_ble_eq_true rfl) (Nat.le_of_ble_eq_true rfl) (Nat.le_of_ble_eq_true rfl) (by omega) (by omega) ?_
  rintro _ h3 ⟨hx3, ⟨y, rfl⟩, tm3, gb3, τ3, href⟩
  rcases hcls with ⟨rfl, L, g2, e0, hL, hR, hI, hC2⟩ | ⟨rfl, pos, hpo2, hC2⟩ | ⟨rfl, L, idx, hL, hR, hC2⟩
  · rcases href with ⟨pos3, hp60, hpn, hM3⟩ | ⟨L3, idx3, hL3, h20, hX3, hM3⟩ | ⟨L3, g3, hL3, h20, hX3, e3, hM3⟩
    · exact (prs_no hL hpn).elim
    · obtain rfl := prs_fun hL hL3
      exact (run_rux hV.1.1 (by omega) hL.k10 hR hX3).elim
    obtain rfl := prs_fun hL hL3
    obtain rfl := run_fun hV.1.1 (by omega) hL.k10 hR hX3
    obtain rfl : y = nI L.length := Value.int.inj (Option.some.inj e3)
    have hz2 := run_Z3 hV.1.1 hV.1.2 (by omega) hL.k10 hR
    have hC3 := hC2.frX hx3 (MW.ofm hMC2)
    have hao3 := hx3.ao hao2 hD.2.1 rfl
    have had3 := hx3.ao had2 hD.2.2 rfl
    obtain ⟨V3, F3, hMC3, hMV3⟩ := id hM3
    refine V_istore (i := 7) F dL_law_2973 (Nat.le_of_ble_eq_true rfl) (Nat.le_of_ble_eq_true rfl) ?_
    refine V_aload_n (i := 2) F dL_law_2975 rfl rfl ?_
    refine V_cV0r F dL_law_2976 lk_X0_178 (ct_thrown hMC3.mm (congrArg some hMV3.v7)) ⟨0, _, _, _, rfl, .inl hMC3.mm⟩ (Nat.le_of_ble_eq_true rfl) (Nat.le_of_ble_eq_true rfl) (Nat.le_of_ble_eq_true rfl) (by omega) (by omega) ?_
    refine V_iload (i := 6) F dL_law_2979 rfl ?_
    refine V_icmp_eqN (tgt := 2986) F dL_law_2981 (by decide) (by decide) (by decide) (fun _ => ?_) (fun z => absurd rfl z)
    refine V_iload (i := 6) F dL_law_2986 rfl ?_
    refine V_if_neN (tgt := 3003) F dL_law_2988 (by decide) (by decide) (fun z => absurd z (Nat.lt_irrefl 0)) (fun _ => ?_)
    refine V_aload_n (i := 3) F dL_law_2991 rfl rfl ?_
    refine V_iconst (v := nI 0) F dL_law_2992 rfl ?_
    refine V_laldN F 1 dL_law_2993 rfl (.inl hao3) (by decide) (by decide) ?_
    refine V_iload (i := 7) F dL_law_2994 rfl ?_
    refine V_i2l F dL_law_2996 ?_
    refine V_lcmp F dL_law_2997 ?_
    refine V_if_eq (tgt := 3003) F dL_law_2998 (by decide) (fun _ => ?_) (fun z => absurd (lg_self (e0)) z)
    refine V_goto (tgt := 3195) F dL_law_3003 (by decide) ?_
    exact VV.weak (L' := LL b xo m ao ad j) (LW.c1 (LW.c1 (LW.c1 (LW.c1 (LW.c1 (LW.c1 (LW.c0 (LW.c0 (LW.c0 LW.nil))))))))) (VV.wide (by omega) (by omega) (next _ _ _ _ _ _ _ _ ⟨hC3, ⟨_, _, _, _, hM3⟩, (hV.push (by omega) (hI.up (by omega)) hz2).emp, ⟨_, hao3⟩, ⟨_, had3⟩, Nat.zero_le _⟩))
  · rcases href with ⟨pos3, hp60, hpn, hM3⟩ | ⟨L3, idx3, hL3, h20, hX3, hM3⟩ | ⟨L3, g3, hL3, h20, hX3, e3, hM3⟩
    rotate_left
    · exact (prs_no hL3 hpo2).elim
    · exact (prs_no hL3 hpo2).elim
    obtain rfl := prn_fun hpo2 hpn
    have c0 : (1 : Nat) ≠ 0 := by decide
    have hC3 := hC2.frX hx3 (MW.ofm hMC2)
    have hao3 := hx3.ao hao2 hD.2.1 rfl
    have had3 := hx3.ao had2 hD.2.2 rfl
    obtain ⟨V3, F3, hMC3, hMV3⟩ := id hM3
    refine V_istore (i := 7) F dL_law_2973 (Nat.le_of_ble_eq_true rfl) (Nat.le_of_ble_eq_true rfl) ?_
    refine V_aload_n (i := 2) F dL_law_2975 rfl rfl ?_
    refine V_cV0r F dL_law_2976 lk_X0_178 (ct_thrown hMC3.mm (congrArg some hMV3.v7)) ⟨0, _, _, _, rfl, .inl hMC3.mm⟩ (Nat.le_of_ble_eq_true rfl) (Nat.le_of_ble_eq_true rfl) (Nat.le_of_ble_eq_true rfl) (by omega) (by omega) ?_
    refine V_iload (i := 6) F dL_law_2979 rfl ?_
    refine V_icmp_eqN (tgt := 2986) F dL_law_2981 (by decide) (by omega) (by omega) (fun _ => ?_) (fun z => absurd rfl z)
    refine V_iload (i := 6) F dL_law_2986 rfl ?_
    refine V_if_neN (tgt := 3003) F dL_law_2988 (by decide) (by omega) (fun _ => ?_) (fun z => absurd z c0)
    refine V_goto (tgt := 3195) F dL_law_3003 (by decide) ?_
    exact VV.weak (L' := LL b xo m ao ad j) (LW.c1 (LW.c1 (LW.c1 (LW.c1 (LW.c1 (LW.c1 (LW.c0 (LW.c0 (LW.c0 LW.nil))))))))) (VV.wide (by omega) (by omega) (next _ _ _ _ _ _ _ _ ⟨hC3, ⟨_, _, _, _, hM3⟩, (hV.tl (by omega) hV.2.2.2.2.2.2.2.1).up (by omega), ⟨_, hao3⟩, ⟨_, had3⟩, Nat.zero_le _⟩))
  · rcases href with ⟨pos3, hp60, hpn, hM3⟩ | ⟨L3, idx3, hL3, h20, hX3, hM3⟩ | ⟨L3, g3, hL3, h20, hX3, e3, hM3⟩
    · exact (prs_no hL hpn).elim
    rotate_left
    · obtain rfl := prs_fun hL hL3
      exact (run_rux hV.1.1 (by omega) hL.k10 hX3 hR).elim
    obtain rfl := prs_fun hL hL3
    obtain rfl := rux_fun hV.1.1 (by omega) hL.k10 hR hX3
    have hil : idx < L.length := by obtain ⟨gi, z, -⟩ := hR; exact z
    have c0 : (2 : Nat) ≠ 0 := by decide
    have hC3 := hC2.frX hx3 (MW.ofm hMC2)
    have hao3 := hx3.ao hao2 hD.2.1 rfl
    have had3 := hx3.ao had2 hD.2.2 rfl
    obtain ⟨V3, F3, hMC3, hMV3⟩ := id hM3
    refine V_istore (i := 7) F dL_law_2973 (Nat.le_of_ble_eq_true rfl) (Nat.le_of_ble_eq_true rfl) ?_
    refine V_aload_n (i := 2) F dL_law_2975 rfl rfl ?_
    refine V_cV0r F dL_law_2976 lk_X0_178 (ct_thrown hMC3.mm (congrArg some hMV3.v7)) ⟨0, _, _, _, rfl, .inl hMC3.mm⟩ (Nat.le_of_ble_eq_true rfl) (Nat.le_of_ble_eq_true rfl) (Nat.le_of_ble_eq_true rfl) (by omega) (by omega) ?_
    refine V_iload (i := 6) F dL_law_2979 rfl ?_
    refine V_icmp_eqN (tgt := 2986) F dL_law_2981 (by decide) (by omega) (by omega) (fun _ => ?_) (fun z => absurd rfl z)
    refine V_iload (i := 6) F dL_law_2986 rfl ?_
    refine V_if_neN (tgt := 3003) F dL_law_2988 (by decide) (by omega) (fun _ => ?_) (fun z => absurd z c0)
    refine V_goto (tgt := 3195) F dL_law_3003 (by decide) ?_
    exact VV.weak (L' := LL b xo m ao ad j) (LW.c1 (LW.c1 (LW.c1 (LW.c1 (LW.c1 (LW.c1 (LW.c0 (LW.c0 (LW.c0 LW.nil))))))))) (VV.wide (by omega) (by omega) (next _ _ _ _ _ _ _ _ ⟨hC3, ⟨_, _, _, _, hM3⟩, (hV.tl hV.2.2.2.2.2.2.1 (by omega)).up (by omega), ⟨_, hao3⟩, ⟨_, had3⟩, Nat.zero_le _⟩))
