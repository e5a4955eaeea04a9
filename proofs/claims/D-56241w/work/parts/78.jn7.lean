theorem dnL_cons {g e : Nat → Nat} {a v t k : Nat} : dnL g e a v t k = (t, k) :: (dnL g e a v t k).tail := by
  cases k with
  | zero => rfl
  | succ k =>
    unfold dnL
    split <;> rfl
theorem dnL_stop {g e : Nat → Nat} {a v t k : Nat} (h : cbG g e a v t k) : (dnL g e a v t k).tail = [] ∧ dnK g e a v t k = k := by
  cases k with
  | zero => exact ⟨rfl, rfl⟩
  | succ k =>
    unfold dnL dnK
    rw [if_pos h, if_pos h]
    exact ⟨rfl, rfl⟩
theorem dnL_go {g e : Nat → Nat} {a v t k : Nat} (h : ¬ cbG g e a v t k) (hk : 0 < k) : (dnL g e a v t k).tail = dnL g e a v t (k - 1) ∧ dnK g e a v t k = dnK g e a v t (k - 1) := by
  cases k with
  | zero => exact absurd hk (Nat.lt_irrefl 0)
  | succ k =>
    rw [Nat.add_sub_cancel]
    constructor
    · show (if cbG g e a v t (k + 1) then [(t, k + 1)] else (t, k + 1) :: dnL g e a v t k).tail = _
      rw [if_neg h]; rfl
    · show (if cbG g e a v t (k + 1) then k + 1 else dnK g e a v t k) = _
      rw [if_neg h]
theorem ltG_a {g e R : Nat → Nat} {a v K : Nat} : ltG g e R a v K a = [] := by
  cases K with
  | zero => rfl
  | succ K => exact if_pos rfl
theorem ltG_s {g e R : Nat → Nat} {a v K s t k : Nat} (hs : s ≠ a) (h : llG g e R s = some (t, k)) : ltG g e R a v (K + 1) s = dnL g e a v t k ++ ltG g e R a v K (plG g t (dnK g e a v t k)) := by
  show (if s = a then [] else _) = _
  rw [if_neg hs, h]
theorem llG_at {g e R : Nat → Nat} {s t k : Nat} (h : llG g e R s = some (t, k)) : LEG g t k ∧ plG g t (k + 1) = s ∧ CmG g t (k + 1) = e s ∧ R (8 * t + k) = 1 := by
  have h1 := List.mem_of_find?_eq_some h
  have h2 := List.find?_some h
  exact ⟨LEG.mem.mpr h1, of_decide_eq_true h2⟩
theorem ct_J_legsTo {G : GG} {l : Launch} {h : AH} {h0 : AH} {tt tl ta : Nat} {x : Nat → Nat} {A : Nat → Nat → Nat} {lg lar tr : Nat} {fl : Nat → Nat} {j eA rA a v : Nat} {s0 K0 : Nat} {g e R : Nat → Nat}  (hR0 : RWr G h0 (tt, tl, ta, x, A) g) (hF0 : Fr nM h0 h) (hj : h j = some (jnE G tt lg tr a v eA rA)) (hLg : LGS G h lg lar g (lgL g) fl) (htr : h tr = some (iA G (g 0) (fun i => nI (g (8 + i))))) (hI : GW g) (ha31 : a < 2 ^ 31) (heA : h eA = some (iA G (g 0) (fun i => nI (e i)))) (hrA : h rA = some (zA G 48 (fun i => nI (R i)))) (heM : ∀ i, e i ≤ 1000000) (hRM : ∀ i, R i < 2) (hv : v ≤ 9999) (hs0 : s0 < g 0) (hok0 : ltOK g e R a v K0 s0) (hlen : (ltG g e R a v K0 s0).length ≤ 56) : Ct G l yX12_legsTo cX12_legsTo 5 (some (.object "java/util/List")) 8 (175) (7700) [.ref j, .int (nI s0)] h (fun r h2 => ∃ o ar f, r = some (.ref o) ∧ h o = none ∧ h ar = none ∧ LGS G h2 o ar g (ltG g e R a v K0 s0) f ∧ Fr nM h h2) := by
  refine Ct.of (by decide) (Nat.le_of_ble_eq_true rfl) (cat1 rfl) (fun X hXl F HN => ?_)
  subst hXl
  refine VV.bs (fun hB0 => ?_)
  have hg8 := hI.2.1
  refine V_new F dX12_legsTo_0 nw_X12_148 (by first | exact Nat.le_of_ble_eq_true rfl | omega) (by first | exact Nat.le_of_ble_eq_true rfl | omega) ?_
  intro o hfo hbo
  refine V_dup F dX12_legsTo_3 rfl ?_
  refine V_callI (st := [.ref (o)]) (nn := 0) F dX12_legsTo_4 lk_X12_150 (ct_AL_init (fun _ => 0) (hset_self (e := .inr (18, [.int 0, .null, .int 0])))) rfl rfl (Nat.le_of_ble_eq_true rfl) (Nat.le_of_ble_eq_true rfl) (Nat.le_of_ble_eq_true rfl) (by first | exact Nat.le_of_ble_eq_true rfl | omega) (by first | exact Nat.le_of_ble_eq_true rfl | omega) ?_
  rintro _ hY1 ⟨rfl, hAo, hx2⟩
  have p3 := hx2.get ((hset_ne (ne_nw hj hfo)).trans hj) (ne_nw hj hfo) rfl
  have f4 : Fr nM h hY1 := ((Fr.rf (M := nM) (h := h)).nw (x := .inr (18, [.int 0, .null, .int 0])) hfo).cal hx2 (Yo.m1 ((Fr.rf (M := nM) (h := h)).yo hfo))
  have ho0 := hfo
  refine V_astore_n (i := 2) F dX12_legsTo_7 rfl (Nat.le_of_ble_eq_true rfl) (Nat.le_of_ble_eq_true rfl) ?_
  refine V_iload_n (i := 1) F dX12_legsTo_8 rfl rfl ?_
  refine V_istore_n (i := 3) F dX12_legsTo_9 rfl (Nat.le_of_ble_eq_true rfl) (Nat.le_of_ble_eq_true rfl) ?_
  have loop_10 : ∀ (nn : Nat) (K s ar : Nat) (L : List (Nat × Nat)) (f : Nat → Nat) (hh : AH), K < nn → ltOK g e R a v K s → LGS G hh o ar g L f → h ar = none → Fr nM h hh → L ++ ltG g e R a v K s = (ltG g e R a v K0 s0) → s < g 0 → VV G X 5 ((EQ G X (175) (7700) (fun r h2 => ∃ o ar f, r = some (.ref o) ∧ h o = none ∧ h ar = none ∧ LGS G h2 o ar g (ltG g e R a v K0 s0) f ∧ Fr nM h h2))) hh (1 + 3 * L.length) (3 + 135 * L.length) [some (.ref (j)), none, some (.ref (o)), some (.int (nI (s))), none] [] 10 := by
    intro nn
    induction nn with
    | zero => intro K s ar L f hh hm hok hL har hF hfin hs; exact absurd hm (by omega)
    | succ nn ih_10 =>
      intro K s ar L f hh hm hok hL har hF hfin hs
      refine V_iload_n (i := 3) F dX12_legsTo_10 rfl rfl ?_
      refine V_aload_n (i := 0) F dX12_legsTo_11 rfl rfl ?_
      refine V_getf F dX12_legsTo_12 fc_X12_23_X12 (.inl (hF.get hj id rfl)) rfl ?_
      refine V_icmp_eqN (tgt := 85) F dX12_legsTo_15 (by decide) (by omega) ha31 (fun c_15 => ?_) (fun c_15 => ?_)
      · have hsa : s = a := by omega
        refine V_aload_n (i := 2) F dX12_legsTo_85 rfl rfl ?_
        have hLl : L.length ≤ 56 := by rw [hsa, ltG_a, List.append_nil] at hfin; rw [hfin]; exact hlen
        rw [hsa, ltG_a, List.append_nil] at hfin
        exact V_aret F dX12_legsTo_86 (Or.inl ⟨_, rfl⟩) (Or.inr ⟨_, rfl⟩) (by first | exact Nat.le_of_ble_eq_true rfl | omega) (by first | exact Nat.le_of_ble_eq_true rfl | omega) ⟨o, ar, f, rfl, ho0, har, by rw [← hfin]; exact hL, hF⟩
      · have hsa : s ≠ a := fun z => c_15 z
        obtain ⟨K2, hK2⟩ : ∃ K2, K = K2 + 1 := by
          cases K with
          | zero => exact absurd hok hsa
          | succ K => exact ⟨K, rfl⟩
        subst hK2
        obtain ⟨t, k, hll, hbj, hok2⟩ := hok.resolve_left hsa
        obtain ⟨hl, hpl, hcm, hRq⟩ := llG_at hll
        refine V_aload_n (i := 0) F dX12_legsTo_18 rfl rfl ?_
        refine V_iload_n (i := 3) F dX12_legsTo_19 rfl rfl ?_
        have hll1 : (L ++ ltG g e R a v (K2 + 1) s).length ≤ 56 := by rw [hfin]; exact hlen
        have hdc := dnL_cons (g := g) (e := e) (a := a) (v := v) (t := t) (k := k)
        rw [ltG_s hsa hll, hdc] at hfin
        have hll2 : L.length + 1 ≤ 56 := by
          have z := hlen
          rw [← hfin] at z
          simp only [List.length_append, List.length_cons] at z
          omega
        refine V_callV (st := []) (nn := 1) F dX12_legsTo_20 lk_X12_151 (ct_J_lastLeg hR0 (hF0.cal0 hF) (hF.get hj id rfl) (hLg.fr0 hF) (hF.get htr id rfl) hI ha31 (hF.get heA id rfl) (hF.get hrA id rfl) heM hRM hs hll) ⟨10, _, _, _, rfl, (.inl (hF.get hj id rfl))⟩ rfl rfl (Nat.le_of_ble_eq_true rfl) (Nat.le_of_ble_eq_true rfl) (Nat.le_of_ble_eq_true rfl) (by first | exact Nat.le_of_ble_eq_true rfl | omega) (by first | exact Nat.le_of_ble_eq_true rfl | omega) ?_
        rintro _ h3 ⟨q, rfl, hq, hx3⟩
        have hF3 := hF.cal0 hx3
        have hL3 := hL.fr0 hx3
        refine V_astore (i := 4) F dX12_legsTo_23 (Nat.le_of_ble_eq_true rfl) (Nat.le_of_ble_eq_true rfl) ?_
        refine V_aload_n (i := 2) F dX12_legsTo_25 rfl rfl ?_
        refine V_aload (i := 4) F dX12_legsTo_26 rfl ?_
        refine VV.bs (fun hB9 => ?_)
        refine V_callF (st := []) (nn := 1) F dX12_legsTo_28 ⟨lw_F q2577 q1176 q1178 q111 q1180, ⟨q1175, List.mem_append_left _ q1174, q1179, q1177, q387⟩, (by decide +kernel), (by decide +kernel)⟩ (ct_AL_add hL3.1 (isO_leg hq) (by omega)) hL3.1.isC rfl rfl (Nat.le_of_ble_eq_true rfl) (Nat.le_of_ble_eq_true rfl) (Nat.le_of_ble_eq_true rfl) (by first | exact Nat.le_of_ble_eq_true rfl | omega) (by first | exact Nat.le_of_ble_eq_true rfl | omega) ?_
        rintro _ h4 ⟨rfl, arh4, hAh4, hxh4, hq2h4⟩
        have hLh4 := hL3.snoc hB9 hq hAh4 hxh4
        have harh4 : h arh4 = none := hF3.ar2 har hq2h4
        have hFh4 : Fr nM h h4 := hF3.cal hxh4 (Yo.m2 (Or.inr ho0) (Or.inr har))
        have hqh4 := hxh4.get hq ((offK.al hL3.1 hB9 (S := kO 5) (fun _ => rfl) (fun _ _ _ => rfl)).o hq) rfl
        refine V_pop F dX12_legsTo_33 rfl ?_
        have loop_34 : ∀ (nn : Nat) (k2 q2 ar5 : Nat) (L5 : List (Nat × Nat)) (f5 : Nat → Nat) (h5 : AH), k2 < nn → k2 ≤ k → LGS G h5 o ar5 g L5 f5 → h ar5 = none → Fr nM h h5 → h5 q2 = some (LgE g t k2) → (∃ j, j ≤ k2 ∧ cbG g e a v t j) → L5 ++ (dnL g e a v t k2).tail ++ ltG g e R a v K2 (plG g t (dnK g e a v t k2)) = (ltG g e R a v K0 s0) → L5.length ≤ 56 → dnK g e a v t k2 = dnK g e a v t k → VV G X 5 ((EQ G X (175) (7700) (fun r h2 => ∃ o ar f, r = some (.ref o) ∧ h o = none ∧ h ar = none ∧ LGS G h2 o ar g (ltG g e R a v K0 s0) f ∧ Fr nM h h2))) h5 (3 * L5.length) (135 * L5.length) [some (.ref (j)), none, some (.ref (o)), none, some (.ref (q2))] [] 34 := by
          intro nn
          induction nn with
          | zero => intro k2 q2 ar5 L5 f5 h5 hm2 hk2 hL5 har5 hF5 hq5 hbj2 hfin2 hL56 hKK; exact absurd hm2 (by omega)
          | succ nn ih_34 =>
            intro k2 q2 ar5 L5 f5 h5 hm2 hk2 hL5 har5 hF5 hq5 hbj2 hfin2 hL56 hKK
            have hs8 := (hI.st hl.1).2
            have hk9 := hl.2
            refine V_aload_n (i := 0) F dX12_legsTo_34 rfl rfl ?_
            refine V_aload (i := 4) F dX12_legsTo_35 rfl ?_
            refine V_callV (st := []) (nn := 1) F dX12_legsTo_37 lk_X12_79 (ct_J_canBoard (hF5.get hj id rfl) (hF5.get heA id rfl) (hF5.get htr id rfl) hq5 (hI.pl hl.1 (by omega)) hI.b.lt (Nat.lt_trans (LvG_31 hI.b (by omega)) (by decide)) ha31 (by omega) heM hI.b) ⟨10, _, _, _, rfl, (.inl (hF5.get hj id rfl))⟩ rfl rfl (Nat.le_of_ble_eq_true rfl) (Nat.le_of_ble_eq_true rfl) (Nat.le_of_ble_eq_true rfl) (by first | exact Nat.le_of_ble_eq_true rfl | omega) (by first | exact Nat.le_of_ble_eq_true rfl | omega) ?_
            refine PRk ?_
            refine V_if_neB (tgt := 76) F dX12_legsTo_40 (by decide) (fun c_40 => ?_) (fun c_40 => ?_)
            · obtain ⟨hst1, hst2⟩ := dnL_stop (g := g) (e := e) (a := a) (v := v) (t := t) (k := k2) c_40
              refine V_aload (i := 4) F dX12_legsTo_76 rfl ?_
              refine V_callV (st := []) (nn := 0) F dX12_legsTo_78 lk_X12_50 (ct_Leg_from hq5) ⟨5, _, _, _, rfl, (.inl hq5)⟩ rfl rfl (Nat.le_of_ble_eq_true rfl) (Nat.le_of_ble_eq_true rfl) (Nat.le_of_ble_eq_true rfl) (by first | exact Nat.le_of_ble_eq_true rfl | omega) (by first | exact Nat.le_of_ble_eq_true rfl | omega) ?_
              refine PRk ?_
              refine V_istore_n (i := 3) F dX12_legsTo_81 rfl (Nat.le_of_ble_eq_true rfl) (Nat.le_of_ble_eq_true rfl) ?_
              refine V_goto (tgt := 10) F dX12_legsTo_82 (by decide) ?_
              refine VV.weak (L' := [some (.ref (j)), none, some (.ref (o)), some (.int (nI (plG g t k2))), none]) (LW.c1 (LW.c0 (LW.c1 (LW.c1 (LW.c0 LW.nil))))) ?_
              rw [hst1, hst2, List.append_nil] at hfin2
              refine VV.wide (by omega) (by omega) (ih_10 K2 (plG g t k2) ar5 L5 _ _ (by omega) (by rw [hst2] at hKK; rw [hKK]; exact hok2) hL5 har5 hF5 hfin2 (hI.pl hl.1 (by have := hl.2; omega)))
            · have hk0 : 0 < k2 := by
                obtain ⟨jz, hj1, hj2⟩ := hbj2
                rcases Nat.eq_zero_or_pos k2 with z | z
                · exact absurd (by rw [z] at hj1 ⊢; rw [show jz = 0 by omega] at hj2; exact hj2) c_40
                · exact z
              obtain ⟨hgo1, hgo2⟩ := dnL_go (g := g) (e := e) (a := a) (v := v) (t := t) (k := k2) c_40 hk0
              refine V_aload_n (i := 0) F dX12_legsTo_43 rfl rfl ?_
              refine V_getf F dX12_legsTo_44 fc_X12_9_X12 (.inl (hF5.get hj id rfl)) rfl ?_
              refine V_aload (i := 4) F dX12_legsTo_47 rfl ?_
              refine V_callV (st := [.ref (tt)]) (nn := 0) F dX12_legsTo_49 lk_X12_83 (ct_Leg_train hq5) ⟨5, _, _, _, rfl, (.inl hq5)⟩ rfl rfl (Nat.le_of_ble_eq_true rfl) (Nat.le_of_ble_eq_true rfl) (Nat.le_of_ble_eq_true rfl) (by first | exact Nat.le_of_ble_eq_true rfl | omega) (by first | exact Nat.le_of_ble_eq_true rfl | omega) ?_
              refine PRk ?_
              refine V_aload (i := 4) F dX12_legsTo_52 rfl ?_
              refine V_callV (st := [.int (nI (t)), .ref (tt)]) (nn := 0) F dX12_legsTo_54 lk_X12_86 (ct_Leg_number hq5) ⟨5, _, _, _, rfl, (.inl hq5)⟩ rfl rfl (Nat.le_of_ble_eq_true rfl) (Nat.le_of_ble_eq_true rfl) (Nat.le_of_ble_eq_true rfl) (by first | exact Nat.le_of_ble_eq_true rfl | omega) (by first | exact Nat.le_of_ble_eq_true rfl | omega) ?_
              refine PRk ?_
              refine V_iconst (v := nI 1) F dX12_legsTo_57 rfl ?_
              refine V_isubN F dX12_legsTo_58 (by omega) ?_
              refine V_callV (st := []) (nn := 2) F dX12_legsTo_59 lk_X12_131 (ct_TT_leg (hR0.fr0 (hF0.cal0 hF5)) hI hl.1 (by have := hl.2; omega)) ⟨3, _, _, _, rfl, .inl (hR0.fr0 (hF0.cal0 hF5)).1⟩ rfl rfl (Nat.le_of_ble_eq_true rfl) (Nat.le_of_ble_eq_true rfl) (Nat.le_of_ble_eq_true rfl) (by first | exact Nat.le_of_ble_eq_true rfl | omega) (by first | exact Nat.le_of_ble_eq_true rfl | omega) ?_
              rintro _ h6 ⟨q3, rfl, hq30, hq3, hx6⟩
              have hF6 := hF5.cal0 hx6
              have hL6 := hL5.fr0 hx6
              refine V_astore (i := 4) F dX12_legsTo_62 (Nat.le_of_ble_eq_true rfl) (Nat.le_of_ble_eq_true rfl) ?_
              refine V_aload_n (i := 2) F dX12_legsTo_64 rfl rfl ?_
              refine V_aload (i := 4) F dX12_legsTo_65 rfl ?_
              have hdc := dnL_cons (g := g) (e := e) (a := a) (v := v) (t := t) (k := k2 - 1)
              rw [hgo1, hgo2, hdc] at hfin2
              have hll2 : L5.length + 1 ≤ 56 := by
                have z := hlen
                rw [← hfin2] at z
                simp only [List.length_append, List.length_cons] at z
                omega
              refine VV.bs (fun hB9 => ?_)
              refine V_callF (st := []) (nn := 1) F dX12_legsTo_67 ⟨lw_F q2577 q1176 q1178 q111 q1180, ⟨q1175, List.mem_append_left _ q1174, q1179, q1177, q387⟩, (by decide +kernel), (by decide +kernel)⟩ (ct_AL_add hL6.1 (isO_leg hq3) (by omega)) hL6.1.isC rfl rfl (Nat.le_of_ble_eq_true rfl) (Nat.le_of_ble_eq_true rfl) (Nat.le_of_ble_eq_true rfl) (by first | exact Nat.le_of_ble_eq_true rfl | omega) (by first | exact Nat.le_of_ble_eq_true rfl | omega) ?_
              rintro _ h7 ⟨rfl, arh7, hAh7, hxh7, hq2h7⟩
              have hLh7 := hL6.snoc hB9 hq3 hAh7 hxh7
              have harh7 : h arh7 = none := hF6.ar2 har5 hq2h7
              have hFh7 : Fr nM h h7 := hF6.cal hxh7 (Yo.m2 (Or.inr ho0) (Or.inr har5))
              have hqh7 := hxh7.get hq3 ((offK.al hL6.1 hB9 (S := kO 5) (fun _ => rfl) (fun _ _ _ => rfl)).o hq3) rfl
              refine V_pop F dX12_legsTo_72 rfl ?_
              refine V_goto (tgt := 34) F dX12_legsTo_73 (by decide) ?_
              refine VV.weak (L' := [some (.ref (j)), none, some (.ref (o)), none, some (.ref (q3))]) (LW.c1 (LW.c0 (LW.c1 (LW.c0 (LW.c1 LW.nil))))) ?_
              refine VV.wide ?_ ?_ (ih_34 (k2 - 1) q3 arh7 (L5 ++ [(t, k2 - 1)]) _ _ (by omega) (by omega) hLh7 harh7 hFh7 hqh7 ?_ ?_ (by rw [List.length_append, List.length_singleton]; omega) (hgo2.symm.trans hKK))
              · simp only [List.length_append, List.length_singleton]; omega
              · simp only [List.length_append, List.length_singleton]; omega
              · obtain ⟨jz, hj1, hj2⟩ := hbj2
                refine ⟨jz, ?_, hj2⟩
                by_cases e : jz = k2
                · subst e; exact absurd hj2 c_40
                · omega
              · rw [← hfin2]; simp only [List.append_assoc, List.cons_append, List.nil_append, List.singleton_append]
        refine VV.weak (L' := [some (.ref (j)), none, some (.ref (o)), none, some (.ref (q))]) (LW.c1 (LW.c0 (LW.c1 (LW.c0 (LW.c1 LW.nil))))) ?_
        refine VV.wide ?_ ?_ (loop_34 (k + 1) k q arh4 (L ++ [(t, k)]) _ _ (Nat.lt_succ_self _) (Nat.le_refl _) hLh4 harh4 hFh4 hqh4 hbj ?_ (by rw [List.length_append, List.length_singleton]; omega) rfl)
        · simp only [List.length_append, List.length_singleton]; omega
        · simp only [List.length_append, List.length_singleton]; omega
        · rw [← hfin, List.append_assoc, List.append_assoc]; rfl
  refine VV.weak (L' := [some (.ref (j)), none, some (.ref (o)), some (.int (nI (s0))), none]) (LW.c1 (LW.c0 (LW.c1 (LW.c1 (LW.c0 LW.nil))))) ?_
  have hfr := f4
  refine VV.wide ?_ ?_ (loop_10 (K0 + 1) K0 s0 (ad G 1) [] (fun _ => 0) _ (Nat.lt_succ_self _) hok0 (LGS.nil hAo) (F.hb1 hB0) hfr rfl hs0)
  · show _ ≤ 1 + 3 * 0; omega
  · show _ ≤ 3 + 135 * 0; omega
