set_option maxRecDepth 100000
/-! ===== the law's cases ===== -/
theorem b2_01 {p : Prop} [Decidable p] : b2 p = 0 ∨ b2 p = 1 := by unfold b2; split <;> first | exact Or.inr rfl | exact Or.inl rfl
theorem elim_01 {o : Option Nat} {p : Nat → Prop} [∀ k, Decidable (p k)] : o.elim (nI 0) (fun k => b2 (p k)) = 0 ∨ o.elim (nI 0) (fun k => b2 (p k)) = 1 := by cases o with | none => exact .inl rfl | some k => exact b2_01
theorem b2_id {y : Int32} (h : y = 0 ∨ y = 1) : ∃ (q : Prop) (_ : Decidable q), y = b2 q := by rcases h with h | h <;> subst h <;> first | exact ⟨True, instDecidableTrue, rfl⟩ | exact ⟨False, instDecidableFalse, rfl⟩
/-- the script's cell -/
def SCR (G : GG) (X : CX) (b L : Nat) (ys : Nat → Int32) : Prop := b < bz G ∧ va_X b L ys (xs X) G.2.2.1
section SCRS
variable {G : GG} {X : CX} {cc : ByteArray} {nL : Nat} {own : String} {ret : Option FieldType} {d MC MS : Nat} {Q : State → Prop} {h : AH} {kc n : Nat} {L : LV} {st : List Value} {pc : Nat} {b N j : Nat} {ys : Nat → Int32}
theorem V_ialdX (F : Fx G X cc nL own ret d MC MS) (hd : decode cc pc = .ok (.iaload, 1)) (hX : SCR G X b N ys) (hj : j < N) (hN : N < 2 ^ 31) (kk : VV G X nL Q h kc n L (.int (ys j) :: st) (pc + 1)) : VV G X nL Q h kc n L (.int (nI j) :: .ref b :: st) pc := by
  intro H locs ls hS hL hl
  obtain ⟨h0, scr, h1, h2, h3, h4, h5⟩ := hX
  have ej : (nI j).toNatClampNeg = j := nI_clamp (Nat.lt_trans hj hN)
  exact W.iald (v := .int (ys j)) F.exec F.code (by rw [hS.2.1 b h0]; exact h1) h2 h3 (by rw [ej, h4]; intro q; rcases q with q | q; exact nI_pos (Nat.lt_trans hj hN) q; omega) (by rw [ej]; exact h5 j hj) rfl rfl hd (kk H locs ls hS hL hl)
theorem V_alenX (F : Fx G X cc nL own ret d MC MS) (hd : decode cc pc = .ok (.arraylength, 1)) (hX : SCR G X b N ys) (kk : VV G X nL Q h kc n L (.int (nI N) :: st) (pc + 1)) : VV G X nL Q h kc n L (.ref b :: st) pc := by
  intro H locs ls hS hL hl
  obtain ⟨h0, scr, h1, h2, h3, h4, h5⟩ := hX
  exact W.alen (n := nI N) F.exec F.code (by rw [hS.2.1 b h0]; exact h1) h2 (by rw [h4] <;> rfl) rfl rfl hd (kk H locs ls hS hL hl)
end SCRS
abbrev LL (b xo m ao ad j : Nat) : LV := [some (.ref b), some (.ref xo), some (.ref m), some (.ref ao), some (.ref ad), some (.int (nI (5 * j))), none, none, none]
theorem SVI.up {n n2 : Nat} {g : Nat → Nat} {sn : Option (Nat → Nat)} {hs : List (Nat → Nat)} {l : List Nat} {ep fc : Nat} {ot : List Nat} (h : SVI n g sn hs l ep fc ot) (hn : n ≤ n2) : SVI n2 g sn hs l ep fc ot := h.row hn (h.1.1.up hn) h.1.2
theorem lg_self {x y : Int64} (h : x = y) : lg_cmp x y = 0 := (lg_cmp_eq x y).mpr h
theorem SVI.push {n n2 : Nat} {g g2 : Nat → Nat} {sn : Option (Nat → Nat)} {hs : List (Nat → Nat)} {l : List Nat} {ep fc : Nat} {ot : List Nat} (h : SVI n g sn hs l ep fc ot) (hn : n ≤ n2) (h1 : INV n2 g2) (h2 : Z3 g2) : SVI n2 g2 sn (pushH hs g) l ep fc ot := by
  obtain ⟨a1, a2, a3, a4, a5⟩ := h.row hn h1 h2
  have hk8 : (pushH hs g).length ≤ 8 := by rw [pushH_len a4]; unfold kpC; split <;> omega
  refine ⟨a1, a2, fun i hi => ?_, hk8, a5⟩
  generalize hpe : (pushH hs g).getD i Z0 = gx
  have hm : gx ∈ pushH hs g := by rw [← hpe]; rw [List.getD_eq_getElem?_getD, List.getElem?_eq_getElem hi]; exact List.getElem_mem _
  have hq : ∀ x, x ∈ hs → INV n2 x ∧ Z3 x := fun x hx => by
    obtain ⟨k, hk, e⟩ := List.mem_iff_getElem.mp hx
    have := a3 k hk
    rw [List.getD_eq_getElem?_getD, List.getElem?_eq_getElem hk] at this
    rw [← e]; exact this
  unfold pushH at hm
  clear hpe
  rcases List.mem_append.mp hm with z | z
  · split at z
    · exact hq _ (List.mem_of_mem_tail z)
    · exact hq _ z
  · have z := List.mem_singleton.mp z
    rw [z]
    exact ⟨h.1.1.up hn, h.1.2⟩
def HNX (G : GG) (P : Nat → Prop) (xo : Nat) (g : Nat → Nat) (sn : Option (Nat → Nat)) (hs : List (Nat → Nat)) (l : List Nat) (ep fc : Nat) (ot : List Nat) (k : Nat) (f : Nat → Int32) : Int32 → AH → Prop := fun y h2 => ∃ g2, CHG k g f y g2 ∧ CW G P h2 xo g2 sn (pushH hs g) l (rP ep) (rP fc) ot

theorem law_0 {G : GG} {X : CX} {Q : State → Prop} {h : AH} {b L xo m ao ad n j kc nn : Nat} {xs : Nat → Int32} {A : Nat → Nat} {g : Nat → Nat} {sn : Option (Nat → Nat)} {hs : List (Nat → Nat)} {tx : List Nat} {ep fc : Nat} {ot : List Nat} {rt : Option FieldType} (F : Fx G X cL_law 9 RX0 rt 1000 1200144 5494714) (hl0 : (xl X).stackTraces = false) (hscr : SCR G X b L xs) (hL : L ≤ 120) (hj : 5 * j + 5 ≤ L) (hn : n ≤ 600) (hD : DIS m A ao ad) (hW : LWD G h xo m A ao ad n j g sn hs tx ep fc ot) (hk : kc + 50000 ≤ 1200144) (hs0 : nn + 228000 ≤ 5494714)
    (next : ∀ h2 g2 sn2 hs2 tx2 ep2 fc2 ot2, LWD G h2 xo m A ao ad (n + 21) (j + 1) g2 sn2 hs2 tx2 ep2 fc2 ot2 → VV G X 9 Q h2 (kc + 50000) (nn + 228000) (LL b xo m ao ad j) [] 3195) : VV G X 9 Q h kc nn (LL b xo m ao ad j) [] 276 := by
  obtain ⟨hC, ⟨tm, cd, gb, τ, hM⟩, hV, ⟨f0, hao⟩, ⟨f1, had⟩, htx⟩ := id hW
  have hpo : ¬ PL m A ao ad ao := fun z => z.2.1 rfl
  have hpd : ¬ PL m A ao ad ad := fun z => z.2.2 rfl
  refine V_aload_n (i := 1) F dL_law_276 rfl rfl ?_
  refine V_aload_n (i := 0) F dL_law_277 rfl rfl ?_
  refine V_iload (i := 5) F dL_law_278 rfl ?_
  refine V_iconst (v := nI 1) F dL_law_280 rfl ?_
  refine V_iaddN F dL_law_281 ?_
  refine V_ialdX F dL_law_282 hscr (by omega) (by omega) ?_
  refine V_aload_n (i := 3) F dL_law_283 rfl rfl ?_
  have hw := (x0_addStation (ao := ao) (p0 := (xs (5 * j + 1))) (ck_addStation hl0 hC hW.P0 hV) hC.isC (fun y h3 z => by obtain ⟨z1, g2, z2, z3, z4⟩ := z; exact ⟨f0, z4.ao hao hpo rfl⟩)).mono (fun r h2 hq => XN.of (Nx := HNX G (PL m A ao ad) xo g sn hs tx ep fc ot 0 (upd (fun _ => nI 0) 0 (xs (5 * j + 1)))) (c := cdK 0 g (upd (fun _ => nI 0) 0 (xs (5 * j + 1)))) hao hpo (fun y h3 h4 f z hz hx => by obtain ⟨g2, z1, z2⟩ := z; exact ⟨g2, z1, z2.frX hx (OFM.l hz hpo)⟩) (hq.imp (fun ⟨y, h3, f, ⟨z1, g2, z2, z3, z4⟩, r1⟩ => ⟨y, h3, f, ⟨z1, ⟨g2, z2, z3⟩, z4⟩, r1⟩) id)) (fun E q h2 hq => hq)
  refine V_xcSW (st := []) (nn := 3) F dL_law_284 ⟨lw_SW q2254 q2255 q100 q2256, by decide +kernel⟩ hw rfl rfl (Nat.le_of_ble_eq_true rfl) (Nat.le_of_ble_eq_true rfl) (Nat.le_of_ble_eq_true rfl) (by omega) (by omega) ?_ (fun E q h2 hp => hp.elim)
  rintro _ h2 ⟨f, hc5, rfl, hao2, hCn, hCy, hx⟩
  have hM2 := hM.off hx (fun b hb z => z.elim (fun z => z.1 hb) (fun z => hD.2.1 (z ▸ hb)))
  have had2 := hx.ao had (fun z => z.elim (fun z => z.2.2 rfl) (fun z => hD.1 z.symm)) rfl
  obtain ⟨V2, F2, hMC2, -⟩ := id hM2
  refine V_istore (i := 6) F dL_law_287 (Nat.le_of_ble_eq_true rfl) (Nat.le_of_ble_eq_true rfl) ?_
  refine V_aload_n (i := 2) F dL_law_289 rfl rfl ?_
  refine V_aload_n (i := 0) F dL_law_290 rfl rfl ?_
  refine V_iload (i := 5) F dL_law_291 rfl ?_
  refine V_iconst (v := nI 1) F dL_law_293 rfl ?_
  refine V_iaddN F dL_law_294 ?_
  refine V_ialdX F dL_law_295 hscr (by omega) (by omega) ?_
  have hm := cm_chg0 (l := xl X) (f := (upd (fun _ => nI 0) 0 (xs (5 * j + 1)))) hM2 hV (by decide)
  refine V_callV (st := []) (nn := 1) F dL_law_296 lk_X0_177 hm ⟨0, _, _, _, rfl, .inl hMC2.mm⟩ rfl rfl (Nat.le_of_ble_eq_true rfl) (Nat.le_of_ble_eq_true rfl) (Nat.le_of_ble_eq_true rfl) (by omega) (by omega) ?_
  rintro _ h3 ⟨hx3, ⟨c0, rfl, hM3⟩ | ⟨c0, v, g2, rfl, hG, hM3⟩⟩
  · have hC2 := hCn c0
    have hC3 := hC2.frX hx3 (MW.ofm hMC2)
    have hao3 := hx3.ao hao2 hD.2.1 rfl
    have had3 := hx3.ao had2 hD.2.2 rfl
    obtain ⟨V3, F3, hMC3, hMV3⟩ := id hM3
    generalize hcd : cdK 0 g (upd (fun _ => nI 0) 0 (xs (5 * j + 1))) = c at c0 hc5 hM3 hMV3 ⊢
    refine V_istore (i := 7) F dL_law_299 (Nat.le_of_ble_eq_true rfl) (Nat.le_of_ble_eq_true rfl) ?_
    refine V_aload_n (i := 2) F dL_law_301 rfl rfl ?_
    refine V_cV0r F dL_law_302 lk_X0_178 (ct_thrown hMC3.mm (congrArg some hMV3.v7)) ⟨0, _, _, _, rfl, .inl hMC3.mm⟩ (Nat.le_of_ble_eq_true rfl) (Nat.le_of_ble_eq_true rfl) (Nat.le_of_ble_eq_true rfl) (by omega) (by omega) ?_
    refine V_iload (i := 6) F dL_law_305 rfl ?_
    refine V_icmp_eqN (tgt := 312) F dL_law_307 (by decide) (by omega) (by omega) (fun _ => ?_) (fun z => absurd rfl z)
    refine V_iload (i := 6) F dL_law_312 rfl ?_
    refine V_if_neN (tgt := 329) F dL_law_314 (by decide) (by omega) (fun _ => ?_) (fun z => absurd z c0)
    refine V_goto (tgt := 3195) F dL_law_329 (by decide) ?_
    exact VV.weak (L' := LL b xo m ao ad j) (LW.c1 (LW.c1 (LW.c1 (LW.c1 (LW.c1 (LW.c1 (LW.c0 (LW.c0 (LW.c0 LW.nil))))))))) (VV.wide (by omega) (by omega) (next _ _ _ _ _ _ _ _ ⟨hC3, ⟨_, _, _, _, hM3⟩, hV.up (by omega), ⟨_, hao3⟩, ⟨_, had3⟩, by omega⟩))
  · obtain ⟨y, hy, g3, hG3, hC2⟩ := hCy c0
    have hC3 := hC2.frX hx3 (MW.ofm hMC2)
    have hao3 := hx3.ao hao2 hD.2.1 rfl
    have had3 := hx3.ao had2 hD.2.2 rfl
    obtain ⟨V3, F3, hMC3, hMV3⟩ := id hM3
    obtain ⟨e1, e2⟩ := chg_fun hV.1.1 (by decide) hG hG3
    subst e1 e2
    have hI2 := invp n 0 g g2 (upd (fun _ => nI 0) 0 (xs (5 * j + 1))) v (by omega) hV.1.1 (by decide) c0 hG
    have hz2 := chg_Z3 hV.1.1 hV.1.2 (by decide) c0 hG
    rw [c0]
    refine V_istore (i := 7) F dL_law_299 (Nat.le_of_ble_eq_true rfl) (Nat.le_of_ble_eq_true rfl) ?_
    refine V_aload_n (i := 2) F dL_law_301 rfl rfl ?_
    refine V_cV0r F dL_law_302 lk_X0_178 (ct_thrown hMC3.mm (congrArg some hMV3.v7)) ⟨0, _, _, _, rfl, .inl hMC3.mm⟩ (Nat.le_of_ble_eq_true rfl) (Nat.le_of_ble_eq_true rfl) (Nat.le_of_ble_eq_true rfl) (by omega) (by omega) ?_
    refine V_iload (i := 6) F dL_law_305 rfl ?_
    refine V_icmp_eqN (tgt := 312) F dL_law_307 (by decide) (by decide) (by decide) (fun _ => ?_) (fun z => absurd rfl z)
    refine V_iload (i := 6) F dL_law_312 rfl ?_
    refine V_if_neN (tgt := 329) F dL_law_314 (by decide) (by decide) (fun z => absurd z (Nat.lt_irrefl 0)) (fun _ => ?_)
    refine V_aload_n (i := 3) F dL_law_317 rfl rfl ?_
    refine V_iconst (v := nI 0) F dL_law_318 rfl ?_
    refine V_laldN F 1 dL_law_319 rfl (.inl hao3) (by decide) (by decide) ?_
    refine V_iload (i := 7) F dL_law_320 rfl ?_
    refine V_i2l F dL_law_322 ?_
    refine V_lcmp F dL_law_323 ?_
    refine V_if_eq (tgt := 329) F dL_law_324 (by decide) (fun _ => ?_) (fun z => absurd (lg_self (hy)) z)
    refine V_goto (tgt := 3195) F dL_law_329 (by decide) ?_
    exact VV.weak (L' := LL b xo m ao ad j) (LW.c1 (LW.c1 (LW.c1 (LW.c1 (LW.c1 (LW.c1 (LW.c0 (LW.c0 (LW.c0 LW.nil))))))))) (VV.wide (by omega) (by omega) (next _ _ _ _ _ _ _ _ ⟨hC3, ⟨_, _, _, _, hM3⟩, hV.push (by omega) (hI2.up (by omega)) hz2, ⟨_, hao3⟩, ⟨_, had3⟩, by omega⟩))
theorem law_10 {G : GG} {X : CX} {Q : State → Prop} {h : AH} {b L xo m ao ad n j kc nn : Nat} {xs : Nat → Int32} {A : Nat → Nat} {g : Nat → Nat} {sn : Option (Nat → Nat)} {hs : List (Nat → Nat)} {tx : List Nat} {ep fc : Nat} {ot : List Nat} {rt : Option FieldType} (F : Fx G X cL_law 9 RX0 rt 1000 1200144 5494714) (hl0 : (xl X).stackTraces = false) (hscr : SCR G X b L xs) (hL : L ≤ 120) (hj : 5 * j + 5 ≤ L) (hn : n ≤ 600) (hD : DIS m A ao ad) (hW : LWD G h xo m A ao ad n j g sn hs tx ep fc ot) (hk : kc + 50000 ≤ 1200144) (hs0 : nn + 228000 ≤ 5494714)
    (next : ∀ h2 g2 sn2 hs2 tx2 ep2 fc2 ot2, LWD G h2 xo m A ao ad (n + 21) (j + 1) g2 sn2 hs2 tx2 ep2 fc2 ot2 → VV G X 9 Q h2 (kc + 50000) (nn + 228000) (LL b xo m ao ad j) [] 3195) : VV G X 9 Q h kc nn (LL b xo m ao ad j) [] 968 := by
  obtain ⟨hC, ⟨tm, cd, gb, τ, hM⟩, hV, ⟨f0, hao⟩, ⟨f1, had⟩, htx⟩ := id hW
  have hpo : ¬ PL m A ao ad ao := fun z => z.2.1 rfl
  have hpd : ¬ PL m A ao ad ad := fun z => z.2.2 rfl
  refine V_aload_n (i := 1) F dL_law_968 rfl rfl ?_
  obtain ⟨r, so, hl, sb, o, mc, Al, Vl, b9, N, q1, ⟨⟨⟨ti, tia, tf⟩, ⟨tt, tl, ta, x, A9⟩, ⟨sm, smc, sA, sK, sV⟩, ⟨bm, bmc, bA, bK, bV⟩⟩, hRW, hPA⟩, hrest⟩ := id hC
  refine V_callV (st := []) (nn := 0) F dL_law_969 lk_X0_211 (ct_X1_stationCount q1 hRW hV.1.1) hC.isC rfl rfl (Nat.le_of_ble_eq_true rfl) (Nat.le_of_ble_eq_true rfl) (Nat.le_of_ble_eq_true rfl) (by omega) (by omega) ?_
  rintro _ h2 ⟨rfl, rfl⟩
  have hx : Fr nM h h := Fr.rf
  have hC2 := hC.fr0 hx
  have hM2 := hM.off hx (fun b hb z => z)
  have hao2 := hx.ao hao id rfl
  have had2 := hx.ao had id rfl
  obtain ⟨V2, F2, hMC2, -⟩ := id hM2
  refine V_aload_n (i := 2) F dL_law_972 rfl rfl ?_
  refine V_callV (st := [.int (nI (g 0))]) (nn := 0) F dL_law_973 lk_X0_214 (cm_stationCount hM2 hV) ⟨0, _, _, _, rfl, .inl hMC2.mm⟩ rfl rfl (Nat.le_of_ble_eq_true rfl) (Nat.le_of_ble_eq_true rfl) (Nat.le_of_ble_eq_true rfl) (by omega) (by omega) ?_
  rintro _ h3 ⟨rfl, hM3, hx3⟩
  have hC3 := hC2.frX hx3 (MW.ofm hMC2)
  have hao3 := hx3.ao hao2 hD.2.1 rfl
  have had3 := hx3.ao had2 hD.2.2 rfl
  obtain ⟨V3, F3, hMC3, hMV3⟩ := id hM3
  rw [if_pos rfl]
  refine V_icmp_eq (tgt := 3195) F dL_law_976 (by decide) (fun _ => ?_) (fun z => absurd rfl z)
  exact VV.weak (L' := LL b xo m ao ad j) (LW.c1 (LW.c1 (LW.c1 (LW.c1 (LW.c1 (LW.c1 (LW.c0 (LW.c0 (LW.c0 LW.nil))))))))) (VV.wide (by omega) (by omega) (next _ _ _ _ _ _ _ _ ⟨hC3, ⟨_, _, _, _, hM3⟩, hV.up (by omega), ⟨_, hao3⟩, ⟨_, had3⟩, by omega⟩))
theorem law_11 {G : GG} {X : CX} {Q : State → Prop} {h : AH} {b L xo m ao ad n j kc nn : Nat} {xs : Nat → Int32} {A : Nat → Nat} {g : Nat → Nat} {sn : Option (Nat → Nat)} {hs : List (Nat → Nat)} {tx : List Nat} {ep fc : Nat} {ot : List Nat} {rt : Option FieldType} (F : Fx G X cL_law 9 RX0 rt 1000 1200144 5494714) (hl0 : (xl X).stackTraces = false) (hscr : SCR G X b L xs) (hL : L ≤ 120) (hj : 5 * j + 5 ≤ L) (hn : n ≤ 600) (hD : DIS m A ao ad) (hW : LWD G h xo m A ao ad n j g sn hs tx ep fc ot) (hk : kc + 50000 ≤ 1200144) (hs0 : nn + 228000 ≤ 5494714)
    (next : ∀ h2 g2 sn2 hs2 tx2 ep2 fc2 ot2, LWD G h2 xo m A ao ad (n + 21) (j + 1) g2 sn2 hs2 tx2 ep2 fc2 ot2 → VV G X 9 Q h2 (kc + 50000) (nn + 228000) (LL b xo m ao ad j) [] 3195) : VV G X 9 Q h kc nn (LL b xo m ao ad j) [] 981 := by
  obtain ⟨hC, ⟨tm, cd, gb, τ, hM⟩, hV, ⟨f0, hao⟩, ⟨f1, had⟩, htx⟩ := id hW
  have hpo : ¬ PL m A ao ad ao := fun z => z.2.1 rfl
  have hpd : ¬ PL m A ao ad ad := fun z => z.2.2 rfl
  refine V_aload_n (i := 1) F dL_law_981 rfl rfl ?_
  refine V_aload_n (i := 0) F dL_law_982 rfl rfl ?_
  refine V_iload (i := 5) F dL_law_983 rfl ?_
  refine V_iconst (v := nI 1) F dL_law_985 rfl ?_
  refine V_iaddN F dL_law_986 ?_
  refine V_ialdX F dL_law_987 hscr (by omega) (by omega) ?_
  refine V_aload_n (i := 3) F dL_law_988 rfl rfl ?_
  have hw := (x0_transferTime (ao := ao) (p0 := (xs (5 * j + 1))) (ck_transferTime hl0 hC hW.P0 hV) hC.isC (fun y h3 z => ⟨f0, z.2.2.2.ao hao hpo rfl⟩)).mono (fun r h2 hq => XQ.of hao hpo hq) (fun E q h2 hq => hq)
  -- wrapper
  refine V_xcSW (st := []) (nn := 3) F dL_law_989 ⟨lw_SW q2801 q2802 q100 q2803, by decide +kernel⟩ hw rfl rfl (Nat.le_of_ble_eq_true rfl) (Nat.le_of_ble_eq_true rfl) (Nat.le_of_ble_eq_true rfl) (by omega) (by omega) ?_ (fun E q h2 hp => hp.elim)
  rintro _ h2 ⟨f, hc5, rfl, hC2, hao2, hf, hx⟩
  have hM2 := hM.off hx (fun b hb z => z.elim (fun z => z.1 hb) (fun z => hD.2.1 (z ▸ hb)))
  have had2 := hx.ao had (fun z => z.elim (fun z => z.2.2 rfl) (fun z => hD.1 z.symm)) rfl
  obtain ⟨V2, F2, hMC2, -⟩ := id hM2
  refine V_istore (i := 6) F dL_law_992 (Nat.le_of_ble_eq_true rfl) (Nat.le_of_ble_eq_true rfl) ?_
  refine V_aload_n (i := 2) F dL_law_994 rfl rfl ?_
  refine V_aload_n (i := 0) F dL_law_995 rfl rfl ?_
  refine V_iload (i := 5) F dL_law_996 rfl ?_
  refine V_iconst (v := nI 1) F dL_law_998 rfl ?_
  refine V_iaddN F dL_law_999 ?_
  refine V_ialdX F dL_law_1000 hscr (by omega) (by omega) ?_
  have hm := cm_transferTime (l := xl X) (p := (xs (5 * j + 1))) hM2 hV
  generalize hcd : (if ¬ iR (xs (5 * j + 1)) (g 0) then 1 else 0) = c at hc5 hf hm ⊢
  generalize hvv : (nI (g (8 + tn (xs (5 * j + 1))))) = v at hf hm
  refine V_callV (st := []) (nn := 1) F dL_law_1001 lk_X0_217 hm ⟨0, _, _, _, rfl, .inl hMC2.mm⟩ rfl rfl (Nat.le_of_ble_eq_true rfl) (Nat.le_of_ble_eq_true rfl) (Nat.le_of_ble_eq_true rfl) (by omega) (by omega) ?_
  rintro _ h3 ⟨rfl, hM3, hx3⟩
  have hC3 := hC2.frX hx3 (MW.ofm hMC2)
  have hao3 := hx3.ao hao2 hD.2.1 rfl
  have had3 := hx3.ao had2 hD.2.2 rfl
  obtain ⟨V3, F3, hMC3, hMV3⟩ := id hM3
  by_cases c0 : c = 0
  · subst c0
    rw [if_pos rfl]
    refine V_istore (i := 7) F dL_law_1004 (Nat.le_of_ble_eq_true rfl) (Nat.le_of_ble_eq_true rfl) ?_
    refine V_aload_n (i := 2) F dL_law_1006 rfl rfl ?_
    refine V_cV0r F dL_law_1007 lk_X0_178 (ct_thrown hMC3.mm (congrArg some hMV3.v7)) ⟨0, _, _, _, rfl, .inl hMC3.mm⟩ (Nat.le_of_ble_eq_true rfl) (Nat.le_of_ble_eq_true rfl) (Nat.le_of_ble_eq_true rfl) (by omega) (by omega) ?_
    refine V_iload (i := 6) F dL_law_1010 rfl ?_
    refine V_icmp_eqN (tgt := 1017) F dL_law_1012 (by decide) (by decide) (by decide) (fun _ => ?_) (fun z => absurd rfl z)
    refine V_iload (i := 6) F dL_law_1017 rfl ?_
    refine V_if_neN (tgt := 1034) F dL_law_1019 (by decide) (by decide) (fun z => absurd z (Nat.lt_irrefl 0)) (fun _ => ?_)
    refine V_aload_n (i := 3) F dL_law_1022 rfl rfl ?_
    refine V_iconst (v := nI 0) F dL_law_1023 rfl ?_
    refine V_laldN F 1 dL_law_1024 rfl (.inl hao3) (by decide) (by decide) ?_
    refine V_iload (i := 7) F dL_law_1025 rfl ?_
    refine V_i2l F dL_law_1027 ?_
    refine V_lcmp F dL_law_1028 ?_
    refine V_if_eq (tgt := 1034) F dL_law_1029 (by decide) (fun _ => ?_) (fun z => absurd (lg_self (hf rfl)) z)
    refine V_goto (tgt := 3195) F dL_law_1034 (by decide) ?_
    exact VV.weak (L' := LL b xo m ao ad j) (LW.c1 (LW.c1 (LW.c1 (LW.c1 (LW.c1 (LW.c1 (LW.c0 (LW.c0 (LW.c0 LW.nil))))))))) (VV.wide (by omega) (by omega) (next _ _ _ _ _ _ _ _ ⟨hC3, ⟨_, _, _, _, hM3⟩, hV.up (by omega), ⟨_, hao3⟩, ⟨_, had3⟩, by omega⟩))
  · rw [if_neg c0]
    refine V_istore (i := 7) F dL_law_1004 (Nat.le_of_ble_eq_true rfl) (Nat.le_of_ble_eq_true rfl) ?_
    refine V_aload_n (i := 2) F dL_law_1006 rfl rfl ?_
    refine V_cV0r F dL_law_1007 lk_X0_178 (ct_thrown hMC3.mm (congrArg some hMV3.v7)) ⟨0, _, _, _, rfl, .inl hMC3.mm⟩ (Nat.le_of_ble_eq_true rfl) (Nat.le_of_ble_eq_true rfl) (Nat.le_of_ble_eq_true rfl) (by omega) (by omega) ?_
    refine V_iload (i := 6) F dL_law_1010 rfl ?_
    refine V_icmp_eqN (tgt := 1017) F dL_law_1012 (by decide) (by omega) (by omega) (fun _ => ?_) (fun z => absurd rfl z)
    refine V_iload (i := 6) F dL_law_1017 rfl ?_
    refine V_if_neN (tgt := 1034) F dL_law_1019 (by decide) (by omega) (fun _ => ?_) (fun z => absurd z c0)
    refine V_goto (tgt := 3195) F dL_law_1034 (by decide) ?_
    exact VV.weak (L' := LL b xo m ao ad j) (LW.c1 (LW.c1 (LW.c1 (LW.c1 (LW.c1 (LW.c1 (LW.c0 (LW.c0 (LW.c0 LW.nil))))))))) (VV.wide (by omega) (by omega) (next _ _ _ _ _ _ _ _ ⟨hC3, ⟨_, _, _, _, hM3⟩, hV.up (by omega), ⟨_, hao3⟩, ⟨_, had3⟩, by omega⟩))
theorem law_13 {G : GG} {X : CX} {Q : State → Prop} {h : AH} {b L xo m ao ad n j kc nn : Nat} {xs : Nat → Int32} {A : Nat → Nat} {g : Nat → Nat} {sn : Option (Nat → Nat)} {hs : List (Nat → Nat)} {tx : List Nat} {ep fc : Nat} {ot : List Nat} {rt : Option FieldType} (F : Fx G X cL_law 9 RX0 rt 1000 1200144 5494714) (hl0 : (xl X).stackTraces = false) (hscr : SCR G X b L xs) (hL : L ≤ 120) (hj : 5 * j + 5 ≤ L) (hn : n ≤ 600) (hD : DIS m A ao ad) (hW : LWD G h xo m A ao ad n j g sn hs tx ep fc ot) (hk : kc + 50000 ≤ 1200144) (hs0 : nn + 228000 ≤ 5494714)
    (next : ∀ h2 g2 sn2 hs2 tx2 ep2 fc2 ot2, LWD G h2 xo m A ao ad (n + 21) (j + 1) g2 sn2 hs2 tx2 ep2 fc2 ot2 → VV G X 9 Q h2 (kc + 50000) (nn + 228000) (LL b xo m ao ad j) [] 3195) : VV G X 9 Q h kc nn (LL b xo m ao ad j) [] 1105 := by
  obtain ⟨hC, ⟨tm, cd, gb, τ, hM⟩, hV, ⟨f0, hao⟩, ⟨f1, had⟩, htx⟩ := id hW
  have hpo : ¬ PL m A ao ad ao := fun z => z.2.1 rfl
  have hpd : ¬ PL m A ao ad ad := fun z => z.2.2 rfl
  refine V_aload_n (i := 1) F dL_law_1105 rfl rfl ?_
  obtain ⟨r, so, hl, sb, o, mc, Al, Vl, b9, N, q1, ⟨⟨⟨ti, tia, tf⟩, ⟨tt, tl, ta, x, A9⟩, ⟨sm, smc, sA, sK, sV⟩, ⟨bm, bmc, bA, bK, bV⟩⟩, hRW, hPA⟩, hrest⟩ := id hC
  refine V_callV (st := []) (nn := 0) F dL_law_1106 lk_X0_221 (ct_X1_trainCount q1 hRW hV.1.1) hC.isC rfl rfl (Nat.le_of_ble_eq_true rfl) (Nat.le_of_ble_eq_true rfl) (Nat.le_of_ble_eq_true rfl) (by omega) (by omega) ?_
  rintro _ h2 ⟨rfl, rfl⟩
  have hx : Fr nM h h := Fr.rf
  have hC2 := hC.fr0 hx
  have hM2 := hM.off hx (fun b hb z => z)
  have hao2 := hx.ao hao id rfl
  have had2 := hx.ao had id rfl
  obtain ⟨V2, F2, hMC2, -⟩ := id hM2
  refine V_aload_n (i := 2) F dL_law_1109 rfl rfl ?_
  refine V_callV (st := [.int (nI (g 1))]) (nn := 0) F dL_law_1110 lk_X0_224 (cm_trainCount hM2 hV) ⟨0, _, _, _, rfl, .inl hMC2.mm⟩ rfl rfl (Nat.le_of_ble_eq_true rfl) (Nat.le_of_ble_eq_true rfl) (Nat.le_of_ble_eq_true rfl) (by omega) (by omega) ?_
  rintro _ h3 ⟨rfl, hM3, hx3⟩
  have hC3 := hC2.frX hx3 (MW.ofm hMC2)
  have hao3 := hx3.ao hao2 hD.2.1 rfl
  have had3 := hx3.ao had2 hD.2.2 rfl
  obtain ⟨V3, F3, hMC3, hMV3⟩ := id hM3
  rw [if_pos rfl]
  refine V_icmp_eq (tgt := 3195) F dL_law_1113 (by decide) (fun _ => ?_) (fun z => absurd rfl z)
  exact VV.weak (L' := LL b xo m ao ad j) (LW.c1 (LW.c1 (LW.c1 (LW.c1 (LW.c1 (LW.c1 (LW.c0 (LW.c0 (LW.c0 LW.nil))))))))) (VV.wide (by omega) (by omega) (next _ _ _ _ _ _ _ _ ⟨hC3, ⟨_, _, _, _, hM3⟩, hV.up (by omega), ⟨_, hao3⟩, ⟨_, had3⟩, by omega⟩))
theorem law_21 {G : GG} {X : CX} {Q : State → Prop} {h : AH} {b L xo m ao ad n j kc nn : Nat} {xs : Nat → Int32} {A : Nat → Nat} {g : Nat → Nat} {sn : Option (Nat → Nat)} {hs : List (Nat → Nat)} {tx : List Nat} {ep fc : Nat} {ot : List Nat} {rt : Option FieldType} (F : Fx G X cL_law 9 RX0 rt 1000 1200144 5494714) (hl0 : (xl X).stackTraces = false) (hscr : SCR G X b L xs) (hL : L ≤ 120) (hj : 5 * j + 5 ≤ L) (hn : n ≤ 600) (hD : DIS m A ao ad) (hW : LWD G h xo m A ao ad n j g sn hs tx ep fc ot) (hk : kc + 50000 ≤ 1200144) (hs0 : nn + 228000 ≤ 5494714)
    (next : ∀ h2 g2 sn2 hs2 tx2 ep2 fc2 ot2, LWD G h2 xo m A ao ad (n + 21) (j + 1) g2 sn2 hs2 tx2 ep2 fc2 ot2 → VV G X 9 Q h2 (kc + 50000) (nn + 228000) (LL b xo m ao ad j) [] 3195) : VV G X 9 Q h kc nn (LL b xo m ao ad j) [] 1558 := by
  obtain ⟨hC, ⟨tm, cd, gb, τ, hM⟩, hV, ⟨f0, hao⟩, ⟨f1, had⟩, htx⟩ := id hW
  have hpo : ¬ PL m A ao ad ao := fun z => z.2.1 rfl
  have hpd : ¬ PL m A ao ad ad := fun z => z.2.2 rfl
  refine V_aload_n (i := 1) F dL_law_1558 rfl rfl ?_
  refine V_aload_n (i := 0) F dL_law_1559 rfl rfl ?_
  refine V_iload (i := 5) F dL_law_1560 rfl ?_
  refine V_iconst (v := nI 1) F dL_law_1562 rfl ?_
  refine V_iaddN F dL_law_1563 ?_
  refine V_ialdX F dL_law_1564 hscr (by omega) (by omega) ?_
  refine V_aload_n (i := 0) F dL_law_1565 rfl rfl ?_
  refine V_iload (i := 5) F dL_law_1566 rfl ?_
  refine V_iconst (v := nI 2) F dL_law_1568 rfl ?_
  refine V_iaddN F dL_law_1569 ?_
  refine V_ialdX F dL_law_1570 hscr (by omega) (by omega) ?_
  refine V_aload_n (i := 3) F dL_law_1571 rfl rfl ?_
  have hw := (x0_isFull (ao := ao) (p0 := (xs (5 * j + 1))) (p1 := (xs (5 * j + 2))) (ck_isFull hl0 hC hW.P0 hV) hC.isC (fun y h3 z => ⟨f0, z.2.2.2.ao hao hpo rfl⟩) (fun y h3 z => by rw [z.2.1]; exact b2_01)).mono (fun r h2 hq => XQ.of hao hpo hq) (fun E q h2 hq => hq)
  -- wrapper
  refine V_xcSW (st := []) (nn := 4) F dL_law_1572 ⟨lw_SW q2921 q2922 q100 q2923, by decide +kernel⟩ hw rfl rfl (Nat.le_of_ble_eq_true rfl) (Nat.le_of_ble_eq_true rfl) (Nat.le_of_ble_eq_true rfl) (by omega) (by omega) ?_ (fun E q h2 hp => hp.elim)
  rintro _ h2 ⟨f, hc5, rfl, hC2, hao2, hf, hx⟩
  have hM2 := hM.off hx (fun b hb z => z.elim (fun z => z.1 hb) (fun z => hD.2.1 (z ▸ hb)))
  have had2 := hx.ao had (fun z => z.elim (fun z => z.2.2 rfl) (fun z => hD.1 z.symm)) rfl
  obtain ⟨V2, F2, hMC2, -⟩ := id hM2
  refine V_istore (i := 6) F dL_law_1575 (Nat.le_of_ble_eq_true rfl) (Nat.le_of_ble_eq_true rfl) ?_
  refine V_aload_n (i := 2) F dL_law_1577 rfl rfl ?_
  refine V_aload_n (i := 0) F dL_law_1578 rfl rfl ?_
  refine V_iload (i := 5) F dL_law_1579 rfl ?_
  refine V_iconst (v := nI 1) F dL_law_1581 rfl ?_
  refine V_iaddN F dL_law_1582 ?_
  refine V_ialdX F dL_law_1583 hscr (by omega) (by omega) ?_
  refine V_aload_n (i := 0) F dL_law_1584 rfl rfl ?_
  refine V_iload (i := 5) F dL_law_1585 rfl ?_
  refine V_iconst (v := nI 2) F dL_law_1587 rfl ?_
  refine V_iaddN F dL_law_1588 ?_
  refine V_ialdX F dL_law_1589 hscr (by omega) (by omega) ?_
  have hm := cm_isFull (l := xl X) (p := (xs (5 * j + 1))) (q := (xs (5 * j + 2))) hM2 hV
  generalize hcd : (if ¬ (iR (xs (5 * j + 1)) (g 1) ∧ iR (xs (5 * j + 2)) (g (16 + 36 * tn (xs (5 * j + 1)) + 3) - 1)) then 1 else 0) = c at hc5 hf hm ⊢
  refine V_callV (st := []) (nn := 2) F dL_law_1590 lk_X0_248 hm ⟨0, _, _, _, rfl, .inl hMC2.mm⟩ rfl rfl (Nat.le_of_ble_eq_true rfl) (Nat.le_of_ble_eq_true rfl) (Nat.le_of_ble_eq_true rfl) (by omega) (by omega) ?_
  rintro _ h3 ⟨rfl, hM3, hx3⟩
  have hC3 := hC2.frX hx3 (MW.ofm hMC2)
  have hao3 := hx3.ao hao2 hD.2.1 rfl
  have had3 := hx3.ao had2 hD.2.2 rfl
  obtain ⟨V3, F3, hMC3, hMV3⟩ := id hM3
  by_cases c0 : c = 0
  · subst c0
    rw [if_pos rfl]
    refine V_istore (i := 7) F dL_law_1593 (Nat.le_of_ble_eq_true rfl) (Nat.le_of_ble_eq_true rfl) ?_
    refine V_aload_n (i := 2) F dL_law_1595 rfl rfl ?_
    refine V_cV0r F dL_law_1596 lk_X0_178 (ct_thrown hMC3.mm (congrArg some hMV3.v7)) ⟨0, _, _, _, rfl, .inl hMC3.mm⟩ (Nat.le_of_ble_eq_true rfl) (Nat.le_of_ble_eq_true rfl) (Nat.le_of_ble_eq_true rfl) (by omega) (by omega) ?_
    refine V_iload (i := 6) F dL_law_1599 rfl ?_
    refine V_icmp_eqN (tgt := 1606) F dL_law_1601 (by decide) (by decide) (by decide) (fun _ => ?_) (fun z => absurd rfl z)
    refine V_iload (i := 6) F dL_law_1606 rfl ?_
    refine V_if_neN (tgt := 1630) F dL_law_1608 (by decide) (by decide) (fun z => absurd z (Nat.lt_irrefl 0)) (fun _ => ?_)
    refine V_aload_n (i := 3) F dL_law_1611 rfl rfl ?_
    refine V_iconst (v := nI 0) F dL_law_1612 rfl ?_
    refine V_laldN F 1 dL_law_1613 rfl (.inl hao3) (by decide) (by decide) ?_
    refine V_iload (i := 7) F dL_law_1614 rfl ?_
    refine V_if_eqB (tgt := 1623) F dL_law_1616 (by decide) (fun zb => ?_) (fun zb => ?_)
    · refine V_lconst (v := 0) F dL_law_1623 rfl ?_
      refine V_lcmp F dL_law_1624 ?_
      refine V_if_eq (tgt := 1630) F dL_law_1625 (by decide) (fun _ => ?_) (fun z => absurd (lg_self (by rw [hf rfl]; unfold b2; rw [if_neg zb]; rfl)) z)
      refine V_goto (tgt := 3195) F dL_law_1630 (by decide) ?_
      exact VV.weak (L' := LL b xo m ao ad j) (LW.c1 (LW.c1 (LW.c1 (LW.c1 (LW.c1 (LW.c1 (LW.c0 (LW.c0 (LW.c0 LW.nil))))))))) (VV.wide (by omega) (by omega) (next _ _ _ _ _ _ _ _ ⟨hC3, ⟨_, _, _, _, hM3⟩, hV.up (by omega), ⟨_, hao3⟩, ⟨_, had3⟩, by omega⟩))
    · refine V_lconst (v := 1) F dL_law_1619 rfl ?_
      refine V_goto (tgt := 1624) F dL_law_1620 (by decide) ?_
      refine V_lcmp F dL_law_1624 ?_
      refine V_if_eq (tgt := 1630) F dL_law_1625 (by decide) (fun _ => ?_) (fun z => absurd (lg_self (by rw [hf rfl]; unfold b2; rw [if_pos zb]; rfl)) z)
      refine V_goto (tgt := 3195) F dL_law_1630 (by decide) ?_
      exact VV.weak (L' := LL b xo m ao ad j) (LW.c1 (LW.c1 (LW.c1 (LW.c1 (LW.c1 (LW.c1 (LW.c0 (LW.c0 (LW.c0 LW.nil))))))))) (VV.wide (by omega) (by omega) (next _ _ _ _ _ _ _ _ ⟨hC3, ⟨_, _, _, _, hM3⟩, hV.up (by omega), ⟨_, hao3⟩, ⟨_, had3⟩, by omega⟩))
  · rw [if_neg c0]
    refine V_istore (i := 7) F dL_law_1593 (Nat.le_of_ble_eq_true rfl) (Nat.le_of_ble_eq_true rfl) ?_
    refine V_aload_n (i := 2) F dL_law_1595 rfl rfl ?_
    refine V_cV0r F dL_law_1596 lk_X0_178 (ct_thrown hMC3.mm (congrArg some hMV3.v7)) ⟨0, _, _, _, rfl, .inl hMC3.mm⟩ (Nat.le_of_ble_eq_true rfl) (Nat.le_of_ble_eq_true rfl) (Nat.le_of_ble_eq_true rfl) (by omega) (by omega) ?_
    refine V_iload (i := 6) F dL_law_1599 rfl ?_
    refine V_icmp_eqN (tgt := 1606) F dL_law_1601 (by decide) (by omega) (by omega) (fun _ => ?_) (fun z => absurd rfl z)
    refine V_iload (i := 6) F dL_law_1606 rfl ?_
    refine V_if_neN (tgt := 1630) F dL_law_1608 (by decide) (by omega) (fun _ => ?_) (fun z => absurd z c0)
    refine V_goto (tgt := 3195) F dL_law_1630 (by decide) ?_
    exact VV.weak (L' := LL b xo m ao ad j) (LW.c1 (LW.c1 (LW.c1 (LW.c1 (LW.c1 (LW.c1 (LW.c0 (LW.c0 (LW.c0 LW.nil))))))))) (VV.wide (by omega) (by omega) (next _ _ _ _ _ _ _ _ ⟨hC3, ⟨_, _, _, _, hM3⟩, hV.up (by omega), ⟨_, hao3⟩, ⟨_, had3⟩, by omega⟩))
theorem law_26 {G : GG} {X : CX} {Q : State → Prop} {h : AH} {b L xo m ao ad n j kc nn : Nat} {xs : Nat → Int32} {A : Nat → Nat} {g : Nat → Nat} {sn : Option (Nat → Nat)} {hs : List (Nat → Nat)} {tx : List Nat} {ep fc : Nat} {ot : List Nat} {rt : Option FieldType} (F : Fx G X cL_law 9 RX0 rt 1000 1200144 5494714) (hl0 : (xl X).stackTraces = false) (hscr : SCR G X b L xs) (hL : L ≤ 120) (hj : 5 * j + 5 ≤ L) (hn : n ≤ 600) (hD : DIS m A ao ad) (hW : LWD G h xo m A ao ad n j g sn hs tx ep fc ot) (hk : kc + 50000 ≤ 1200144) (hs0 : nn + 228000 ≤ 5494714)
    (next : ∀ h2 g2 sn2 hs2 tx2 ep2 fc2 ot2, LWD G h2 xo m A ao ad (n + 21) (j + 1) g2 sn2 hs2 tx2 ep2 fc2 ot2 → VV G X 9 Q h2 (kc + 50000) (nn + 228000) (LL b xo m ao ad j) [] 3195) : VV G X 9 Q h kc nn (LL b xo m ao ad j) [] 1960 := by
  obtain ⟨hC, ⟨tm, cd, gb, τ, hM⟩, hV, ⟨f0, hao⟩, ⟨f1, had⟩, htx⟩ := id hW
  have hpo : ¬ PL m A ao ad ao := fun z => z.2.1 rfl
  have hpd : ¬ PL m A ao ad ad := fun z => z.2.2 rfl
  refine V_aload_n (i := 1) F dL_law_1960 rfl rfl ?_
  obtain ⟨r, so, hl, sb, o, mc, Al, Vl, b9, N, q1, ⟨⟨⟨ti, tia, tf⟩, ⟨tt, tl, ta, x, A9⟩, ⟨sm, smc, sA, sK, sV⟩, ⟨bm, bmc, bA, bK, bV⟩⟩, hRW, hPA⟩, hrest⟩ := id hC
  refine V_callV (st := []) (nn := 0) F dL_law_1961 lk_X0_261 (ct_X1_suitcaseCount q1 hRW hV.1.1) hC.isC rfl rfl (Nat.le_of_ble_eq_true rfl) (Nat.le_of_ble_eq_true rfl) (Nat.le_of_ble_eq_true rfl) (by omega) (by omega) ?_
  rintro _ h2 ⟨rfl, rfl⟩
  have hx : Fr nM h h := Fr.rf
  have hC2 := hC.fr0 hx
  have hM2 := hM.off hx (fun b hb z => z)
  have hao2 := hx.ao hao id rfl
  have had2 := hx.ao had id rfl
  obtain ⟨V2, F2, hMC2, -⟩ := id hM2
  refine V_aload_n (i := 2) F dL_law_1964 rfl rfl ?_
  refine V_callV (st := [.int (nI (g 2))]) (nn := 0) F dL_law_1965 lk_X0_264 (cm_suitcaseCount hM2 hV) ⟨0, _, _, _, rfl, .inl hMC2.mm⟩ rfl rfl (Nat.le_of_ble_eq_true rfl) (Nat.le_of_ble_eq_true rfl) (Nat.le_of_ble_eq_true rfl) (by omega) (by omega) ?_
  rintro _ h3 ⟨rfl, hM3, hx3⟩
  have hC3 := hC2.frX hx3 (MW.ofm hMC2)
  have hao3 := hx3.ao hao2 hD.2.1 rfl
  have had3 := hx3.ao had2 hD.2.2 rfl
  obtain ⟨V3, F3, hMC3, hMV3⟩ := id hM3
  rw [if_pos rfl]
  refine V_icmp_eq (tgt := 3195) F dL_law_1968 (by decide) (fun _ => ?_) (fun z => absurd rfl z)
  exact VV.weak (L' := LL b xo m ao ad j) (LW.c1 (LW.c1 (LW.c1 (LW.c1 (LW.c1 (LW.c1 (LW.c0 (LW.c0 (LW.c0 LW.nil))))))))) (VV.wide (by omega) (by omega) (next _ _ _ _ _ _ _ _ ⟨hC3, ⟨_, _, _, _, hM3⟩, hV.up (by omega), ⟨_, hao3⟩, ⟨_, had3⟩, by omega⟩))
theorem law_33 {G : GG} {X : CX} {Q : State → Prop} {h : AH} {b L xo m ao ad n j kc nn : Nat} {xs : Nat → Int32} {A : Nat → Nat} {g : Nat → Nat} {sn : Option (Nat → Nat)} {hs : List (Nat → Nat)} {tx : List Nat} {ep fc : Nat} {ot : List Nat} {rt : Option FieldType} (F : Fx G X cL_law 9 RX0 rt 1000 1200144 5494714) (hl0 : (xl X).stackTraces = false) (hscr : SCR G X b L xs) (hL : L ≤ 120) (hj : 5 * j + 5 ≤ L) (hn : n ≤ 600) (hD : DIS m A ao ad) (hW : LWD G h xo m A ao ad n j g sn hs tx ep fc ot) (hk : kc + 50000 ≤ 1200144) (hs0 : nn + 228000 ≤ 5494714)
    (next : ∀ h2 g2 sn2 hs2 tx2 ep2 fc2 ot2, LWD G h2 xo m A ao ad (n + 21) (j + 1) g2 sn2 hs2 tx2 ep2 fc2 ot2 → VV G X 9 Q h2 (kc + 50000) (nn + 228000) (LL b xo m ao ad j) [] 3195) : VV G X 9 Q h kc nn (LL b xo m ao ad j) [] 2316 := by
  obtain ⟨hC, ⟨tm, cd, gb, τ, hM⟩, hV, ⟨f0, hao⟩, ⟨f1, had⟩, htx⟩ := id hW
  have hpo : ¬ PL m A ao ad ao := fun z => z.2.1 rfl
  have hpd : ¬ PL m A ao ad ad := fun z => z.2.2 rfl
  refine V_aload_n (i := 1) F dL_law_2316 rfl rfl ?_
  obtain ⟨r, so, hl, sb, o, mc, Al, Vl, b9, N, q1, ⟨⟨⟨ti, tia, tf⟩, ⟨tt, tl, ta, x, A9⟩, ⟨sm, smc, sA, sK, sV⟩, ⟨bm, bmc, bA, bK, bV⟩⟩, hRW, hPA⟩, hrest⟩ := id hC
  refine V_callV (st := []) (nn := 0) F dL_law_2317 lk_X0_283 (ct_X1_bookingCount q1 hRW hV.1.1) hC.isC rfl rfl (Nat.le_of_ble_eq_true rfl) (Nat.le_of_ble_eq_true rfl) (Nat.le_of_ble_eq_true rfl) (by omega) (by omega) ?_
  rintro _ h2 ⟨rfl, rfl⟩
  have hx : Fr nM h h := Fr.rf
  have hC2 := hC.fr0 hx
  have hM2 := hM.off hx (fun b hb z => z)
  have hao2 := hx.ao hao id rfl
  have had2 := hx.ao had id rfl
  obtain ⟨V2, F2, hMC2, -⟩ := id hM2
  refine V_aload_n (i := 2) F dL_law_2320 rfl rfl ?_
  refine V_callV (st := [.int (nI (g 3))]) (nn := 0) F dL_law_2321 lk_X0_286 (cm_bookingCount hM2 hV) ⟨0, _, _, _, rfl, .inl hMC2.mm⟩ rfl rfl (Nat.le_of_ble_eq_true rfl) (Nat.le_of_ble_eq_true rfl) (Nat.le_of_ble_eq_true rfl) (by omega) (by omega) ?_
  rintro _ h3 ⟨rfl, hM3, hx3⟩
  have hC3 := hC2.frX hx3 (MW.ofm hMC2)
  have hao3 := hx3.ao hao2 hD.2.1 rfl
  have had3 := hx3.ao had2 hD.2.2 rfl
  obtain ⟨V3, F3, hMC3, hMV3⟩ := id hM3
  rw [if_pos rfl]
  refine V_icmp_eq (tgt := 3195) F dL_law_2324 (by decide) (fun _ => ?_) (fun z => absurd rfl z)
  exact VV.weak (L' := LL b xo m ao ad j) (LW.c1 (LW.c1 (LW.c1 (LW.c1 (LW.c1 (LW.c1 (LW.c0 (LW.c0 (LW.c0 LW.nil))))))))) (VV.wide (by omega) (by omega) (next _ _ _ _ _ _ _ _ ⟨hC3, ⟨_, _, _, _, hM3⟩, hV.up (by omega), ⟨_, hao3⟩, ⟨_, had3⟩, by omega⟩))
theorem law_38 {G : GG} {X : CX} {Q : State → Prop} {h : AH} {b L xo m ao ad n j kc nn : Nat} {xs : Nat → Int32} {A : Nat → Nat} {g : Nat → Nat} {sn : Option (Nat → Nat)} {hs : List (Nat → Nat)} {tx : List Nat} {ep fc : Nat} {ot : List Nat} {rt : Option FieldType} (F : Fx G X cL_law 9 RX0 rt 1000 1200144 5494714) (hl0 : (xl X).stackTraces = false) (hscr : SCR G X b L xs) (hL : L ≤ 120) (hj : 5 * j + 5 ≤ L) (hn : n ≤ 600) (hD : DIS m A ao ad) (hW : LWD G h xo m A ao ad n j g sn hs tx ep fc ot) (hk : kc + 50000 ≤ 1200144) (hs0 : nn + 228000 ≤ 5494714)
    (next : ∀ h2 g2 sn2 hs2 tx2 ep2 fc2 ot2, LWD G h2 xo m A ao ad (n + 21) (j + 1) g2 sn2 hs2 tx2 ep2 fc2 ot2 → VV G X 9 Q h2 (kc + 50000) (nn + 228000) (LL b xo m ao ad j) [] 3195) : VV G X 9 Q h kc nn (LL b xo m ao ad j) [] 2553 := by
  obtain ⟨hC, ⟨tm, cd, gb, τ, hM⟩, hV, ⟨f0, hao⟩, ⟨f1, had⟩, htx⟩ := id hW
  have hpo : ¬ PL m A ao ad ao := fun z => z.2.1 rfl
  have hpd : ¬ PL m A ao ad ad := fun z => z.2.2 rfl
  refine V_aload_n (i := 1) F dL_law_2553 rfl rfl ?_
  obtain ⟨r, so, hl, sb, o, mc, Al, Vl, b9, N, q1, ⟨⟨⟨ti, tia, tf⟩, ⟨tt, tl, ta, x, A9⟩, ⟨sm, smc, sA, sK, sV⟩, ⟨bm, bmc, bA, bK, bV⟩⟩, hRW, hPA⟩, hrest⟩ := id hC
  refine V_callV (st := []) (nn := 0) F dL_law_2554 lk_X0_299 (ct_X1_coins q1 hRW hV.1.1) hC.isC rfl rfl (Nat.le_of_ble_eq_true rfl) (Nat.le_of_ble_eq_true rfl) (Nat.le_of_ble_eq_true rfl) (by omega) (by omega) ?_
  rintro _ h2 ⟨rfl, rfl⟩
  have hx : Fr nM h h := Fr.rf
  have hC2 := hC.fr0 hx
  have hM2 := hM.off hx (fun b hb z => z)
  have hao2 := hx.ao hao id rfl
  have had2 := hx.ao had id rfl
  obtain ⟨V2, F2, hMC2, -⟩ := id hM2
  refine V_aload_n (i := 2) F dL_law_2557 rfl rfl ?_
  refine V_callV (st := [.int (nI (g 6))]) (nn := 0) F dL_law_2558 lk_X0_302 (cm_coins hM2 hV) ⟨0, _, _, _, rfl, .inl hMC2.mm⟩ rfl rfl (Nat.le_of_ble_eq_true rfl) (Nat.le_of_ble_eq_true rfl) (Nat.le_of_ble_eq_true rfl) (by omega) (by omega) ?_
  rintro _ h3 ⟨rfl, hM3, hx3⟩
  have hC3 := hC2.frX hx3 (MW.ofm hMC2)
  have hao3 := hx3.ao hao2 hD.2.1 rfl
  have had3 := hx3.ao had2 hD.2.2 rfl
  obtain ⟨V3, F3, hMC3, hMV3⟩ := id hM3
  rw [if_pos rfl]
  refine V_icmp_eq (tgt := 3195) F dL_law_2561 (by decide) (fun _ => ?_) (fun z => absurd rfl z)
  exact VV.weak (L' := LL b xo m ao ad j) (LW.c1 (LW.c1 (LW.c1 (LW.c1 (LW.c1 (LW.c1 (LW.c0 (LW.c0 (LW.c0 LW.nil))))))))) (VV.wide (by omega) (by omega) (next _ _ _ _ _ _ _ _ ⟨hC3, ⟨_, _, _, _, hM3⟩, hV.up (by omega), ⟨_, hao3⟩, ⟨_, had3⟩, by omega⟩))
theorem law_39 {G : GG} {X : CX} {Q : State → Prop} {h : AH} {b L xo m ao ad n j kc nn : Nat} {xs : Nat → Int32} {A : Nat → Nat} {g : Nat → Nat} {sn : Option (Nat → Nat)} {hs : List (Nat → Nat)} {tx : List Nat} {ep fc : Nat} {ot : List Nat} {rt : Option FieldType} (F : Fx G X cL_law 9 RX0 rt 1000 1200144 5494714) (hl0 : (xl X).stackTraces = false) (hscr : SCR G X b L xs) (hL : L ≤ 120) (hj : 5 * j + 5 ≤ L) (hn : n ≤ 600) (hD : DIS m A ao ad) (hW : LWD G h xo m A ao ad n j g sn hs tx ep fc ot) (hk : kc + 50000 ≤ 1200144) (hs0 : nn + 228000 ≤ 5494714)
    (next : ∀ h2 g2 sn2 hs2 tx2 ep2 fc2 ot2, LWD G h2 xo m A ao ad (n + 21) (j + 1) g2 sn2 hs2 tx2 ep2 fc2 ot2 → VV G X 9 Q h2 (kc + 50000) (nn + 228000) (LL b xo m ao ad j) [] 3195) : VV G X 9 Q h kc nn (LL b xo m ao ad j) [] 2566 := by
  obtain ⟨hC, ⟨tm, cd, gb, τ, hM⟩, hV, ⟨f0, hao⟩, ⟨f1, had⟩, htx⟩ := id hW
  have hpo : ¬ PL m A ao ad ao := fun z => z.2.1 rfl
  have hpd : ¬ PL m A ao ad ad := fun z => z.2.2 rfl
  refine V_aload_n (i := 1) F dL_law_2566 rfl rfl ?_
  obtain ⟨r, so, hl, sb, o, mc, Al, Vl, b9, N, q1, ⟨⟨⟨ti, tia, tf⟩, ⟨tt, tl, ta, x, A9⟩, ⟨sm, smc, sA, sK, sV⟩, ⟨bm, bmc, bA, bK, bV⟩⟩, hRW, hPA⟩, hrest⟩ := id hC
  refine V_callV (st := []) (nn := 0) F dL_law_2567 lk_X0_303 (ct_X1_coinsByLoads q1 hRW hV.1.1) hC.isC rfl rfl (Nat.le_of_ble_eq_true rfl) (Nat.le_of_ble_eq_true rfl) (Nat.le_of_ble_eq_true rfl) (by omega) (by omega) ?_
  rintro _ h2 ⟨rfl, hx⟩
  have hC2 := hC.fr0 hx
  have hM2 := hM.off hx (fun b hb z => z)
  have hao2 := hx.ao hao id rfl
  have had2 := hx.ao had id rfl
  obtain ⟨V2, F2, hMC2, -⟩ := id hM2
  refine V_aload_n (i := 2) F dL_law_2570 rfl rfl ?_
  refine V_callV (st := [.int (nI (2 * ((lgL g).foldl (fun (a : Nat) (x : Nat × Nat) => a + (g (16 + 36 * x.1 + (28 + x.2)))) 0)))]) (nn := 0) F dL_law_2571 lk_X0_306 (cm_coinsByLoads hM2 hV) ⟨0, _, _, _, rfl, .inl hMC2.mm⟩ rfl rfl (Nat.le_of_ble_eq_true rfl) (Nat.le_of_ble_eq_true rfl) (Nat.le_of_ble_eq_true rfl) (by omega) (by omega) ?_
  rintro _ h3 ⟨rfl, hM3, hx3⟩
  have hC3 := hC2.frX hx3 (MW.ofm hMC2)
  have hao3 := hx3.ao hao2 hD.2.1 rfl
  have had3 := hx3.ao had2 hD.2.2 rfl
  obtain ⟨V3, F3, hMC3, hMV3⟩ := id hM3
  rw [if_pos rfl, clG_lg]
  refine V_icmp_eq (tgt := 3195) F dL_law_2574 (by decide) (fun _ => ?_) (fun z => absurd rfl z)
  exact VV.weak (L' := LL b xo m ao ad j) (LW.c1 (LW.c1 (LW.c1 (LW.c1 (LW.c1 (LW.c1 (LW.c0 (LW.c0 (LW.c0 LW.nil))))))))) (VV.wide (by omega) (by omega) (next _ _ _ _ _ _ _ _ ⟨hC3, ⟨_, _, _, _, hM3⟩, hV.up (by omega), ⟨_, hao3⟩, ⟨_, had3⟩, by omega⟩))
theorem law_40 {G : GG} {X : CX} {Q : State → Prop} {h : AH} {b L xo m ao ad n j kc nn : Nat} {xs : Nat → Int32} {A : Nat → Nat} {g : Nat → Nat} {sn : Option (Nat → Nat)} {hs : List (Nat → Nat)} {tx : List Nat} {ep fc : Nat} {ot : List Nat} {rt : Option FieldType} (F : Fx G X cL_law 9 RX0 rt 1000 1200144 5494714) (hl0 : (xl X).stackTraces = false) (hscr : SCR G X b L xs) (hL : L ≤ 120) (hj : 5 * j + 5 ≤ L) (hn : n ≤ 600) (hD : DIS m A ao ad) (hW : LWD G h xo m A ao ad n j g sn hs tx ep fc ot) (hk : kc + 50000 ≤ 1200144) (hs0 : nn + 228000 ≤ 5494714)
    (next : ∀ h2 g2 sn2 hs2 tx2 ep2 fc2 ot2, LWD G h2 xo m A ao ad (n + 21) (j + 1) g2 sn2 hs2 tx2 ep2 fc2 ot2 → VV G X 9 Q h2 (kc + 50000) (nn + 228000) (LL b xo m ao ad j) [] 3195) : VV G X 9 Q h kc nn (LL b xo m ao ad j) [] 2579 := by
  obtain ⟨hC, ⟨tm, cd, gb, τ, hM⟩, hV, ⟨f0, hao⟩, ⟨f1, had⟩, htx⟩ := id hW
  have hpo : ¬ PL m A ao ad ao := fun z => z.2.1 rfl
  have hpd : ¬ PL m A ao ad ad := fun z => z.2.2 rfl
  refine V_aload_n (i := 1) F dL_law_2579 rfl rfl ?_
  obtain ⟨r, so, hl, sb, o, mc, Al, Vl, b9, N, q1, ⟨⟨⟨ti, tia, tf⟩, ⟨tt, tl, ta, x, A9⟩, ⟨sm, smc, sA, sK, sV⟩, ⟨bm, bmc, bA, bK, bV⟩⟩, hRW, hPA⟩, hrest⟩ := id hC
  refine V_callV (st := []) (nn := 0) F dL_law_2580 lk_X0_307 (ct_X1_collectedTotal q1 hRW hV.1.1) hC.isC rfl rfl (Nat.le_of_ble_eq_true rfl) (Nat.le_of_ble_eq_true rfl) (Nat.le_of_ble_eq_true rfl) (by omega) (by omega) ?_
  rintro _ h2 ⟨rfl, rfl⟩
  have hx : Fr nM h h := Fr.rf
  have hC2 := hC.fr0 hx
  have hM2 := hM.off hx (fun b hb z => z)
  have hao2 := hx.ao hao id rfl
  have had2 := hx.ao had id rfl
  obtain ⟨V2, F2, hMC2, -⟩ := id hM2
  refine V_aload_n (i := 2) F dL_law_2583 rfl rfl ?_
  refine V_callV (st := [.int (nI (g 7))]) (nn := 0) F dL_law_2584 lk_X0_310 (cm_collectedTotal hM2 hV) ⟨0, _, _, _, rfl, .inl hMC2.mm⟩ rfl rfl (Nat.le_of_ble_eq_true rfl) (Nat.le_of_ble_eq_true rfl) (Nat.le_of_ble_eq_true rfl) (by omega) (by omega) ?_
  rintro _ h3 ⟨rfl, hM3, hx3⟩
  have hC3 := hC2.frX hx3 (MW.ofm hMC2)
  have hao3 := hx3.ao hao2 hD.2.1 rfl
  have had3 := hx3.ao had2 hD.2.2 rfl
  obtain ⟨V3, F3, hMC3, hMV3⟩ := id hM3
  rw [if_pos rfl]
  refine V_icmp_eq (tgt := 3195) F dL_law_2587 (by decide) (fun _ => ?_) (fun z => absurd rfl z)
  exact VV.weak (L' := LL b xo m ao ad j) (LW.c1 (LW.c1 (LW.c1 (LW.c1 (LW.c1 (LW.c1 (LW.c0 (LW.c0 (LW.c0 LW.nil))))))))) (VV.wide (by omega) (by omega) (next _ _ _ _ _ _ _ _ ⟨hC3, ⟨_, _, _, _, hM3⟩, hV.up (by omega), ⟨_, hao3⟩, ⟨_, had3⟩, by omega⟩))
theorem law_43 {G : GG} {X : CX} {Q : State → Prop} {h : AH} {b L xo m ao ad n j kc nn : Nat} {xs : Nat → Int32} {A : Nat → Nat} {g : Nat → Nat} {sn : Option (Nat → Nat)} {hs : List (Nat → Nat)} {tx : List Nat} {ep fc : Nat} {ot : List Nat} {rt : Option FieldType} (F : Fx G X cL_law 9 RX0 rt 1000 1200144 5494714) (hl0 : (xl X).stackTraces = false) (hscr : SCR G X b L xs) (hL : L ≤ 120) (hj : 5 * j + 5 ≤ L) (hn : n ≤ 600) (hD : DIS m A ao ad) (hW : LWD G h xo m A ao ad n j g sn hs tx ep fc ot) (hk : kc + 50000 ≤ 1200144) (hs0 : nn + 228000 ≤ 5494714)
    (next : ∀ h2 g2 sn2 hs2 tx2 ep2 fc2 ot2, LWD G h2 xo m A ao ad (n + 21) (j + 1) g2 sn2 hs2 tx2 ep2 fc2 ot2 → VV G X 9 Q h2 (kc + 50000) (nn + 228000) (LL b xo m ao ad j) [] 3195) : VV G X 9 Q h kc nn (LL b xo m ao ad j) [] 2723 := by
  obtain ⟨hC, ⟨tm, cd, gb, τ, hM⟩, hV, ⟨f0, hao⟩, ⟨f1, had⟩, htx⟩ := id hW
  have hpo : ¬ PL m A ao ad ao := fun z => z.2.1 rfl
  have hpd : ¬ PL m A ao ad ad := fun z => z.2.2 rfl
  refine V_aload_n (i := 1) F dL_law_2723 rfl rfl ?_
  obtain ⟨r, so, hl, sb, o, mc, Al, Vl, b9, N, q1, ⟨⟨⟨ti, tia, tf⟩, ⟨tt, tl, ta, x, A9⟩, ⟨sm, smc, sA, sK, sV⟩, ⟨bm, bmc, bA, bK, bV⟩⟩, hRW, hPA⟩, hrest⟩ := id hC
  refine V_callV (st := []) (nn := 0) F dL_law_2724 lk_X0_318 (ct_X1_isConsistent q1 hRW hV.1.1 (fun t ht S N nd z => nd_most hV.1.1 ht z)) hC.isC rfl rfl (Nat.le_of_ble_eq_true rfl) (Nat.le_of_ble_eq_true rfl) (Nat.le_of_ble_eq_true rfl) (by omega) (by omega) ?_
  rintro _ h2 ⟨rfl, hx⟩
  have hC2 := hC.fr0 hx
  have hM2 := hM.off hx (fun b hb z => z)
  have hao2 := hx.ao hao id rfl
  have had2 := hx.ao had id rfl
  obtain ⟨V2, F2, hMC2, -⟩ := id hM2
  refine V_aload_n (i := 2) F dL_law_2727 rfl rfl ?_
  refine V_callV (st := [.int (nI 1)]) (nn := 0) F dL_law_2728 lk_X0_322 (cm_isConsistent hM2 hV) ⟨0, _, _, _, rfl, .inl hMC2.mm⟩ rfl rfl (Nat.le_of_ble_eq_true rfl) (Nat.le_of_ble_eq_true rfl) (Nat.le_of_ble_eq_true rfl) (by omega) (by omega) ?_
  rintro _ h3 ⟨rfl, hM3, hx3⟩
  have hC3 := hC2.frX hx3 (MW.ofm hMC2)
  have hao3 := hx3.ao hao2 hD.2.1 rfl
  have had3 := hx3.ao had2 hD.2.2 rfl
  obtain ⟨V3, F3, hMC3, hMV3⟩ := id hM3
  rw [if_pos rfl]
  refine V_icmp_eq (tgt := 3195) F dL_law_2731 (by decide) (fun _ => ?_) (fun z => absurd rfl z)
  exact VV.weak (L' := LL b xo m ao ad j) (LW.c1 (LW.c1 (LW.c1 (LW.c1 (LW.c1 (LW.c1 (LW.c0 (LW.c0 (LW.c0 LW.nil))))))))) (VV.wide (by omega) (by omega) (next _ _ _ _ _ _ _ _ ⟨hC3, ⟨_, _, _, _, hM3⟩, hV.up (by omega), ⟨_, hao3⟩, ⟨_, had3⟩, by omega⟩))
theorem law_46 {G : GG} {X : CX} {Q : State → Prop} {h : AH} {b L xo m ao ad n j kc nn : Nat} {xs : Nat → Int32} {A : Nat → Nat} {g : Nat → Nat} {sn : Option (Nat → Nat)} {hs : List (Nat → Nat)} {tx : List Nat} {ep fc : Nat} {ot : List Nat} {rt : Option FieldType} (F : Fx G X cL_law 9 RX0 rt 1000 1200144 5494714) (hl0 : (xl X).stackTraces = false) (hscr : SCR G X b L xs) (hL : L ≤ 120) (hj : 5 * j + 5 ≤ L) (hn : n ≤ 600) (hD : DIS m A ao ad) (hW : LWD G h xo m A ao ad n j g sn hs tx ep fc ot) (hk : kc + 50000 ≤ 1200144) (hs0 : nn + 228000 ≤ 5494714)
    (next : ∀ h2 g2 sn2 hs2 tx2 ep2 fc2 ot2, LWD G h2 xo m A ao ad (n + 21) (j + 1) g2 sn2 hs2 tx2 ep2 fc2 ot2 → VV G X 9 Q h2 (kc + 50000) (nn + 228000) (LL b xo m ao ad j) [] 3195) : VV G X 9 Q h kc nn (LL b xo m ao ad j) [] 2848 := by
  obtain ⟨hC, ⟨tm, cd, gb, τ, hM⟩, hV, ⟨f0, hao⟩, ⟨f1, had⟩, htx⟩ := id hW
  have hpo : ¬ PL m A ao ad ao := fun z => z.2.1 rfl
  have hpd : ¬ PL m A ao ad ad := fun z => z.2.2 rfl
  refine V_aload_n (i := 1) F dL_law_2848 rfl rfl ?_
  refine V_aload_n (i := 0) F dL_law_2849 rfl rfl ?_
  refine V_iload (i := 5) F dL_law_2850 rfl ?_
  refine V_iconst (v := nI 1) F dL_law_2852 rfl ?_
  refine V_iaddN F dL_law_2853 ?_
  refine V_ialdX F dL_law_2854 hscr (by omega) (by omega) ?_
  refine V_aload_n (i := 3) F dL_law_2855 rfl rfl ?_
  have hw := (x0_outputAt (ao := ao) (p0 := (xs (5 * j + 1))) (ck_outputAt hl0 hC hW.P0 hV) hC.isC (fun y h3 z => ⟨f0, z.2.2.2.ao hao hpo rfl⟩)).mono (fun r h2 hq => XQ.of hao hpo hq) (fun E q h2 hq => hq)
  -- wrapper
  refine V_xcSW (st := []) (nn := 3) F dL_law_2856 ⟨lw_SW q3308 q3309 q100 q3310, by decide +kernel⟩ hw rfl rfl (Nat.le_of_ble_eq_true rfl) (Nat.le_of_ble_eq_true rfl) (Nat.le_of_ble_eq_true rfl) (by omega) (by omega) ?_ (fun E q h2 hp => hp.elim)
  rintro _ h2 ⟨f, hc5, rfl, hC2, hao2, hf, hx⟩
  have hM2 := hM.off hx (fun b hb z => z.elim (fun z => z.1 hb) (fun z => hD.2.1 (z ▸ hb)))
  have had2 := hx.ao had (fun z => z.elim (fun z => z.2.2 rfl) (fun z => hD.1 z.symm)) rfl
  obtain ⟨V2, F2, hMC2, -⟩ := id hM2
  refine V_istore (i := 6) F dL_law_2859 (Nat.le_of_ble_eq_true rfl) (Nat.le_of_ble_eq_true rfl) ?_
  refine V_aload_n (i := 2) F dL_law_2861 rfl rfl ?_
  refine V_aload_n (i := 0) F dL_law_2862 rfl rfl ?_
  refine V_iload (i := 5) F dL_law_2863 rfl ?_
  refine V_iconst (v := nI 1) F dL_law_2865 rfl ?_
  refine V_iaddN F dL_law_2866 ?_
  refine V_ialdX F dL_law_2867 hscr (by omega) (by omega) ?_
  have hm := cm_outputAt (l := xl X) (p := (xs (5 * j + 1))) hM2 hV
  generalize hcd : (if ¬ iR (xs (5 * j + 1)) ot.length then 1 else 0) = c at hc5 hf hm ⊢
  generalize hvv : (nI (ot.getD (tn (xs (5 * j + 1))) 0)) = v at hf hm
  refine V_callV (st := []) (nn := 1) F dL_law_2868 lk_X0_331 hm ⟨0, _, _, _, rfl, .inl hMC2.mm⟩ rfl rfl (Nat.le_of_ble_eq_true rfl) (Nat.le_of_ble_eq_true rfl) (Nat.le_of_ble_eq_true rfl) (by omega) (by omega) ?_
  rintro _ h3 ⟨rfl, hM3, hx3⟩
  have hC3 := hC2.frX hx3 (MW.ofm hMC2)
  have hao3 := hx3.ao hao2 hD.2.1 rfl
  have had3 := hx3.ao had2 hD.2.2 rfl
  obtain ⟨V3, F3, hMC3, hMV3⟩ := id hM3
  by_cases c0 : c = 0
  · subst c0
    rw [if_pos rfl]
    refine V_istore (i := 7) F dL_law_2871 (Nat.le_of_ble_eq_true rfl) (Nat.le_of_ble_eq_true rfl) ?_
    refine V_aload_n (i := 2) F dL_law_2873 rfl rfl ?_
    refine V_cV0r F dL_law_2874 lk_X0_178 (ct_thrown hMC3.mm (congrArg some hMV3.v7)) ⟨0, _, _, _, rfl, .inl hMC3.mm⟩ (Nat.le_of_ble_eq_true rfl) (Nat.le_of_ble_eq_true rfl) (Nat.le_of_ble_eq_true rfl) (by omega) (by omega) ?_
    refine V_iload (i := 6) F dL_law_2877 rfl ?_
    refine V_icmp_eqN (tgt := 2884) F dL_law_2879 (by decide) (by decide) (by decide) (fun _ => ?_) (fun z => absurd rfl z)
    refine V_iload (i := 6) F dL_law_2884 rfl ?_
    refine V_if_neN (tgt := 2901) F dL_law_2886 (by decide) (by decide) (fun z => absurd z (Nat.lt_irrefl 0)) (fun _ => ?_)
    refine V_aload_n (i := 3) F dL_law_2889 rfl rfl ?_
    refine V_iconst (v := nI 0) F dL_law_2890 rfl ?_
    refine V_laldN F 1 dL_law_2891 rfl (.inl hao3) (by decide) (by decide) ?_
    refine V_iload (i := 7) F dL_law_2892 rfl ?_
    refine V_i2l F dL_law_2894 ?_
    refine V_lcmp F dL_law_2895 ?_
    refine V_if_eq (tgt := 2901) F dL_law_2896 (by decide) (fun _ => ?_) (fun z => absurd (lg_self (hf rfl)) z)
    refine V_goto (tgt := 3195) F dL_law_2901 (by decide) ?_
    exact VV.weak (L' := LL b xo m ao ad j) (LW.c1 (LW.c1 (LW.c1 (LW.c1 (LW.c1 (LW.c1 (LW.c0 (LW.c0 (LW.c0 LW.nil))))))))) (VV.wide (by omega) (by omega) (next _ _ _ _ _ _ _ _ ⟨hC3, ⟨_, _, _, _, hM3⟩, hV.up (by omega), ⟨_, hao3⟩, ⟨_, had3⟩, by omega⟩))
  · rw [if_neg c0]
    refine V_istore (i := 7) F dL_law_2871 (Nat.le_of_ble_eq_true rfl) (Nat.le_of_ble_eq_true rfl) ?_
    refine V_aload_n (i := 2) F dL_law_2873 rfl rfl ?_
    refine V_cV0r F dL_law_2874 lk_X0_178 (ct_thrown hMC3.mm (congrArg some hMV3.v7)) ⟨0, _, _, _, rfl, .inl hMC3.mm⟩ (Nat.le_of_ble_eq_true rfl) (Nat.le_of_ble_eq_true rfl) (Nat.le_of_ble_eq_true rfl) (by omega) (by omega) ?_
    refine V_iload (i := 6) F dL_law_2877 rfl ?_
    refine V_icmp_eqN (tgt := 2884) F dL_law_2879 (by decide) (by omega) (by omega) (fun _ => ?_) (fun z => absurd rfl z)
    refine V_iload (i := 6) F dL_law_2884 rfl ?_
    refine V_if_neN (tgt := 2901) F dL_law_2886 (by decide) (by omega) (fun _ => ?_) (fun z => absurd z c0)
    refine V_goto (tgt := 3195) F dL_law_2901 (by decide) ?_
    exact VV.weak (L' := LL b xo m ao ad j) (LW.c1 (LW.c1 (LW.c1 (LW.c1 (LW.c1 (LW.c1 (LW.c0 (LW.c0 (LW.c0 LW.nil))))))))) (VV.wide (by omega) (by omega) (next _ _ _ _ _ _ _ _ ⟨hC3, ⟨_, _, _, _, hM3⟩, hV.up (by omega), ⟨_, hao3⟩, ⟨_, had3⟩, by omega⟩))
theorem law_49 {G : GG} {X : CX} {Q : State → Prop} {h : AH} {b L xo m ao ad n j kc nn : Nat} {xs : Nat → Int32} {A : Nat → Nat} {g : Nat → Nat} {sn : Option (Nat → Nat)} {hs : List (Nat → Nat)} {tx : List Nat} {ep fc : Nat} {ot : List Nat} {rt : Option FieldType} (F : Fx G X cL_law 9 RX0 rt 1000 1200144 5494714) (hl0 : (xl X).stackTraces = false) (hscr : SCR G X b L xs) (hL : L ≤ 120) (hj : 5 * j + 5 ≤ L) (hn : n ≤ 600) (hD : DIS m A ao ad) (hW : LWD G h xo m A ao ad n j g sn hs tx ep fc ot) (hk : kc + 50000 ≤ 1200144) (hs0 : nn + 228000 ≤ 5494714)
    (next : ∀ h2 g2 sn2 hs2 tx2 ep2 fc2 ot2, LWD G h2 xo m A ao ad (n + 21) (j + 1) g2 sn2 hs2 tx2 ep2 fc2 ot2 → VV G X 9 Q h2 (kc + 50000) (nn + 228000) (LL b xo m ao ad j) [] 3195) : VV G X 9 Q h kc nn (LL b xo m ao ad j) [] 3006 := by
  obtain ⟨hC, ⟨tm, cd, gb, τ, hM⟩, hV, ⟨f0, hao⟩, ⟨f1, had⟩, htx⟩ := id hW
  have hpo : ¬ PL m A ao ad ao := fun z => z.2.1 rfl
  have hpd : ¬ PL m A ao ad ad := fun z => z.2.2 rfl
  refine V_aload_n (i := 1) F dL_law_3006 rfl rfl ?_
  refine V_aload_n (i := 3) F dL_law_3007 rfl rfl ?_
  have hw := (x0_errorPosition (ao := ao) (ck_errorPosition hl0 hC hW.P0 hV) hC.isC (fun y h3 z => ⟨f0, z.2.2.2.ao hao hpo rfl⟩)).mono (fun r h2 hq => XQ.of hao hpo hq) (fun E q h2 hq => hq)
  -- wrapper
  refine V_xcSW (st := []) (nn := 2) F dL_law_3008 ⟨lw_SW q3650 q3651 q100 q3652, by decide +kernel⟩ hw rfl rfl (Nat.le_of_ble_eq_true rfl) (Nat.le_of_ble_eq_true rfl) (Nat.le_of_ble_eq_true rfl) (by omega) (by omega) ?_ (fun E q h2 hp => hp.elim)
  rintro _ h2 ⟨f, hc5, rfl, hC2, hao2, hf, hx⟩
  have hM2 := hM.off hx (fun b hb z => z.elim (fun z => z.1 hb) (fun z => hD.2.1 (z ▸ hb)))
  have had2 := hx.ao had (fun z => z.elim (fun z => z.2.2 rfl) (fun z => hD.1 z.symm)) rfl
  obtain ⟨V2, F2, hMC2, -⟩ := id hM2
  refine V_istore (i := 6) F dL_law_3011 (Nat.le_of_ble_eq_true rfl) (Nat.le_of_ble_eq_true rfl) ?_
  refine V_aload_n (i := 2) F dL_law_3013 rfl rfl ?_
  have hm := cm_errorPosition (l := xl X)  hM2 hV
  generalize hcd : (if ep = 0 then 1 else 0) = c at hc5 hf hm ⊢
  generalize hvv : (rP ep) = v at hf hm
  refine V_callV (st := []) (nn := 0) F dL_law_3014 lk_X0_342 hm ⟨0, _, _, _, rfl, .inl hMC2.mm⟩ rfl rfl (Nat.le_of_ble_eq_true rfl) (Nat.le_of_ble_eq_true rfl) (Nat.le_of_ble_eq_true rfl) (by omega) (by omega) ?_
  rintro _ h3 ⟨rfl, hM3, hx3⟩
  have hC3 := hC2.frX hx3 (MW.ofm hMC2)
  have hao3 := hx3.ao hao2 hD.2.1 rfl
  have had3 := hx3.ao had2 hD.2.2 rfl
  obtain ⟨V3, F3, hMC3, hMV3⟩ := id hM3
  by_cases c0 : c = 0
  · subst c0
    rw [if_pos rfl]
    refine V_istore (i := 7) F dL_law_3017 (Nat.le_of_ble_eq_true rfl) (Nat.le_of_ble_eq_true rfl) ?_
    refine V_aload_n (i := 2) F dL_law_3019 rfl rfl ?_
    refine V_cV0r F dL_law_3020 lk_X0_178 (ct_thrown hMC3.mm (congrArg some hMV3.v7)) ⟨0, _, _, _, rfl, .inl hMC3.mm⟩ (Nat.le_of_ble_eq_true rfl) (Nat.le_of_ble_eq_true rfl) (Nat.le_of_ble_eq_true rfl) (by omega) (by omega) ?_
    refine V_iload (i := 6) F dL_law_3023 rfl ?_
    refine V_icmp_eqN (tgt := 3030) F dL_law_3025 (by decide) (by decide) (by decide) (fun _ => ?_) (fun z => absurd rfl z)
    refine V_iload (i := 6) F dL_law_3030 rfl ?_
    refine V_if_neN (tgt := 3047) F dL_law_3032 (by decide) (by decide) (fun z => absurd z (Nat.lt_irrefl 0)) (fun _ => ?_)
    refine V_aload_n (i := 3) F dL_law_3035 rfl rfl ?_
    refine V_iconst (v := nI 0) F dL_law_3036 rfl ?_
    refine V_laldN F 1 dL_law_3037 rfl (.inl hao3) (by decide) (by decide) ?_
    refine V_iload (i := 7) F dL_law_3038 rfl ?_
    refine V_i2l F dL_law_3040 ?_
    refine V_lcmp F dL_law_3041 ?_
    refine V_if_eq (tgt := 3047) F dL_law_3042 (by decide) (fun _ => ?_) (fun z => absurd (lg_self (hf rfl)) z)
    refine V_goto (tgt := 3195) F dL_law_3047 (by decide) ?_
    exact VV.weak (L' := LL b xo m ao ad j) (LW.c1 (LW.c1 (LW.c1 (LW.c1 (LW.c1 (LW.c1 (LW.c0 (LW.c0 (LW.c0 LW.nil))))))))) (VV.wide (by omega) (by omega) (next _ _ _ _ _ _ _ _ ⟨hC3, ⟨_, _, _, _, hM3⟩, hV.up (by omega), ⟨_, hao3⟩, ⟨_, had3⟩, by omega⟩))
  · rw [if_neg c0]
    refine V_istore (i := 7) F dL_law_3017 (Nat.le_of_ble_eq_true rfl) (Nat.le_of_ble_eq_true rfl) ?_
    refine V_aload_n (i := 2) F dL_law_3019 rfl rfl ?_
    refine V_cV0r F dL_law_3020 lk_X0_178 (ct_thrown hMC3.mm (congrArg some hMV3.v7)) ⟨0, _, _, _, rfl, .inl hMC3.mm⟩ (Nat.le_of_ble_eq_true rfl) (Nat.le_of_ble_eq_true rfl) (Nat.le_of_ble_eq_true rfl) (by omega) (by omega) ?_
    refine V_iload (i := 6) F dL_law_3023 rfl ?_
    refine V_icmp_eqN (tgt := 3030) F dL_law_3025 (by decide) (by omega) (by omega) (fun _ => ?_) (fun z => absurd rfl z)
    refine V_iload (i := 6) F dL_law_3030 rfl ?_
    refine V_if_neN (tgt := 3047) F dL_law_3032 (by decide) (by omega) (fun _ => ?_) (fun z => absurd z c0)
    refine V_goto (tgt := 3195) F dL_law_3047 (by decide) ?_
    exact VV.weak (L' := LL b xo m ao ad j) (LW.c1 (LW.c1 (LW.c1 (LW.c1 (LW.c1 (LW.c1 (LW.c0 (LW.c0 (LW.c0 LW.nil))))))))) (VV.wide (by omega) (by omega) (next _ _ _ _ _ _ _ _ ⟨hC3, ⟨_, _, _, _, hM3⟩, hV.up (by omega), ⟨_, hao3⟩, ⟨_, had3⟩, by omega⟩))
theorem law_50 {G : GG} {X : CX} {Q : State → Prop} {h : AH} {b L xo m ao ad n j kc nn : Nat} {xs : Nat → Int32} {A : Nat → Nat} {g : Nat → Nat} {sn : Option (Nat → Nat)} {hs : List (Nat → Nat)} {tx : List Nat} {ep fc : Nat} {ot : List Nat} {rt : Option FieldType} (F : Fx G X cL_law 9 RX0 rt 1000 1200144 5494714) (hl0 : (xl X).stackTraces = false) (hscr : SCR G X b L xs) (hL : L ≤ 120) (hj : 5 * j + 5 ≤ L) (hn : n ≤ 600) (hD : DIS m A ao ad) (hW : LWD G h xo m A ao ad n j g sn hs tx ep fc ot) (hk : kc + 50000 ≤ 1200144) (hs0 : nn + 228000 ≤ 5494714)
    (next : ∀ h2 g2 sn2 hs2 tx2 ep2 fc2 ot2, LWD G h2 xo m A ao ad (n + 21) (j + 1) g2 sn2 hs2 tx2 ep2 fc2 ot2 → VV G X 9 Q h2 (kc + 50000) (nn + 228000) (LL b xo m ao ad j) [] 3195) : VV G X 9 Q h kc nn (LL b xo m ao ad j) [] 3050 := by
  obtain ⟨hC, ⟨tm, cd, gb, τ, hM⟩, hV, ⟨f0, hao⟩, ⟨f1, had⟩, htx⟩ := id hW
  have hpo : ¬ PL m A ao ad ao := fun z => z.2.1 rfl
  have hpd : ¬ PL m A ao ad ad := fun z => z.2.2 rfl
  refine V_aload_n (i := 1) F dL_law_3050 rfl rfl ?_
  refine V_aload_n (i := 3) F dL_law_3051 rfl rfl ?_
  have hw := (x0_failedCommand (ao := ao) (ck_failedCommand hl0 hC hW.P0 hV) hC.isC (fun y h3 z => ⟨f0, z.2.2.2.ao hao hpo rfl⟩)).mono (fun r h2 hq => XQ.of hao hpo hq) (fun E q h2 hq => hq)
  -- wrapper
  refine V_xcSW (st := []) (nn := 2) F dL_law_3052 ⟨lw_SW q3657 q3658 q100 q3659, by decide +kernel⟩ hw rfl rfl (Nat.le_of_ble_eq_true rfl) (Nat.le_of_ble_eq_true rfl) (Nat.le_of_ble_eq_true rfl) (by omega) (by omega) ?_ (fun E q h2 hp => hp.elim)
  rintro _ h2 ⟨f, hc5, rfl, hC2, hao2, hf, hx⟩
  have hM2 := hM.off hx (fun b hb z => z.elim (fun z => z.1 hb) (fun z => hD.2.1 (z ▸ hb)))
  have had2 := hx.ao had (fun z => z.elim (fun z => z.2.2 rfl) (fun z => hD.1 z.symm)) rfl
  obtain ⟨V2, F2, hMC2, -⟩ := id hM2
  refine V_istore (i := 6) F dL_law_3055 (Nat.le_of_ble_eq_true rfl) (Nat.le_of_ble_eq_true rfl) ?_
  refine V_aload_n (i := 2) F dL_law_3057 rfl rfl ?_
  have hm := cm_failedCommand (l := xl X)  hM2 hV
  generalize hcd : (if fc = 0 then 1 else 0) = c at hc5 hf hm ⊢
  generalize hvv : (rP fc) = v at hf hm
  refine V_callV (st := []) (nn := 0) F dL_law_3058 lk_X0_345 hm ⟨0, _, _, _, rfl, .inl hMC2.mm⟩ rfl rfl (Nat.le_of_ble_eq_true rfl) (Nat.le_of_ble_eq_true rfl) (Nat.le_of_ble_eq_true rfl) (by omega) (by omega) ?_
  rintro _ h3 ⟨rfl, hM3, hx3⟩
  have hC3 := hC2.frX hx3 (MW.ofm hMC2)
  have hao3 := hx3.ao hao2 hD.2.1 rfl
  have had3 := hx3.ao had2 hD.2.2 rfl
  obtain ⟨V3, F3, hMC3, hMV3⟩ := id hM3
  by_cases c0 : c = 0
  · subst c0
    rw [if_pos rfl]
    refine V_istore (i := 7) F dL_law_3061 (Nat.le_of_ble_eq_true rfl) (Nat.le_of_ble_eq_true rfl) ?_
    refine V_aload_n (i := 2) F dL_law_3063 rfl rfl ?_
    refine V_cV0r F dL_law_3064 lk_X0_178 (ct_thrown hMC3.mm (congrArg some hMV3.v7)) ⟨0, _, _, _, rfl, .inl hMC3.mm⟩ (Nat.le_of_ble_eq_true rfl) (Nat.le_of_ble_eq_true rfl) (Nat.le_of_ble_eq_true rfl) (by omega) (by omega) ?_
    refine V_iload (i := 6) F dL_law_3067 rfl ?_
    refine V_icmp_eqN (tgt := 3074) F dL_law_3069 (by decide) (by decide) (by decide) (fun _ => ?_) (fun z => absurd rfl z)
    refine V_iload (i := 6) F dL_law_3074 rfl ?_
    refine V_if_neN (tgt := 3091) F dL_law_3076 (by decide) (by decide) (fun z => absurd z (Nat.lt_irrefl 0)) (fun _ => ?_)
    refine V_aload_n (i := 3) F dL_law_3079 rfl rfl ?_
    refine V_iconst (v := nI 0) F dL_law_3080 rfl ?_
    refine V_laldN F 1 dL_law_3081 rfl (.inl hao3) (by decide) (by decide) ?_
    refine V_iload (i := 7) F dL_law_3082 rfl ?_
    refine V_i2l F dL_law_3084 ?_
    refine V_lcmp F dL_law_3085 ?_
    refine V_if_eq (tgt := 3091) F dL_law_3086 (by decide) (fun _ => ?_) (fun z => absurd (lg_self (hf rfl)) z)
    refine V_goto (tgt := 3195) F dL_law_3091 (by decide) ?_
    exact VV.weak (L' := LL b xo m ao ad j) (LW.c1 (LW.c1 (LW.c1 (LW.c1 (LW.c1 (LW.c1 (LW.c0 (LW.c0 (LW.c0 LW.nil))))))))) (VV.wide (by omega) (by omega) (next _ _ _ _ _ _ _ _ ⟨hC3, ⟨_, _, _, _, hM3⟩, hV.up (by omega), ⟨_, hao3⟩, ⟨_, had3⟩, by omega⟩))
  · rw [if_neg c0]
    refine V_istore (i := 7) F dL_law_3061 (Nat.le_of_ble_eq_true rfl) (Nat.le_of_ble_eq_true rfl) ?_
    refine V_aload_n (i := 2) F dL_law_3063 rfl rfl ?_
    refine V_cV0r F dL_law_3064 lk_X0_178 (ct_thrown hMC3.mm (congrArg some hMV3.v7)) ⟨0, _, _, _, rfl, .inl hMC3.mm⟩ (Nat.le_of_ble_eq_true rfl) (Nat.le_of_ble_eq_true rfl) (Nat.le_of_ble_eq_true rfl) (by omega) (by omega) ?_
    refine V_iload (i := 6) F dL_law_3067 rfl ?_
    refine V_icmp_eqN (tgt := 3074) F dL_law_3069 (by decide) (by omega) (by omega) (fun _ => ?_) (fun z => absurd rfl z)
    refine V_iload (i := 6) F dL_law_3074 rfl ?_
    refine V_if_neN (tgt := 3091) F dL_law_3076 (by decide) (by omega) (fun _ => ?_) (fun z => absurd z c0)
    refine V_goto (tgt := 3195) F dL_law_3091 (by decide) ?_
    exact VV.weak (L' := LL b xo m ao ad j) (LW.c1 (LW.c1 (LW.c1 (LW.c1 (LW.c1 (LW.c1 (LW.c0 (LW.c0 (LW.c0 LW.nil))))))))) (VV.wide (by omega) (by omega) (next _ _ _ _ _ _ _ _ ⟨hC3, ⟨_, _, _, _, hM3⟩, hV.up (by omega), ⟨_, hao3⟩, ⟨_, had3⟩, by omega⟩))
