set_option maxRecDepth 100000
theorem getD_256 {l : List Nat} (h : ∀ x ∈ l, x < 256) (j : Nat) : l.getD j 0 < 256 := by
  rw [List.getD_eq_getElem?_getD]
  rcases hj : l[j]? with _ | x
  · decide
  · exact h x (List.mem_of_getElem? hj)
theorem eq1 {v : Nat} (h : 0 < v) (h2 : v < 2) : v = 1 := by omega
/-- readers: told to 0 or 1, and what they leave -/
abbrev PS : Type := Nat × (Nat → Nat)
def skP (gi : Nat → Nat) (n c : Nat) (s : PS) : Nat × PS := (skA gi n c s.1, (s.1 + skA gi n c s.1, s.2))
def dgQ (gi : Nat → Nat) (n p k : Nat) (s : PS) : Nat × PS := (dgO gi n s.1, (dgA gi n s.1 k, dgT gi n s.1 p k s.2))
def fgQ (gi : Nat → Nat) (n p k : Nat) (s : PS) : Nat × PS := (fgO gi n s.1, (fgA gi n s.1 k, fgT gi n s.1 p k s.2))
def wdQ (gi : Nat → Nat) (n M w : Nat) (tx : String) (s : PS) : Nat × PS := ((wdI gi n (fun j => (txl tx).getD j 0) s.1 (txl tx).length).1, ((wdI gi n (fun j => (txl tx).getD j 0) s.1 (txl tx).length).2, up s.2 (5 * M) w))
def anP (x y : PS → Nat × PS) (s : PS) : Nat × PS := if (x s).1 = 0 then (0, (x s).2) else y (x s).2
def cnP (t x y : PS → Nat × PS) (s : PS) : Nat × PS := if (t s).1 = 0 then y (t s).2 else x (t s).2
theorem anP_0 {x y : PS → Nat × PS} {s : PS} (h : (x s).1 = 0) : anP x y s = (0, (x s).2) := if_pos h
theorem anP_1 {x y : PS → Nat × PS} {s : PS} (h : 0 < (x s).1) : anP x y s = y (x s).2 := if_neg (Nat.pos_iff_ne_zero.mp h)
theorem cnP_0 {t x y : PS → Nat × PS} {s : PS} (h : (t s).1 = 0) : cnP t x y s = y (t s).2 := if_pos h
theorem cnP_1 {t x y : PS → Nat × PS} {s : PS} (h : 0 < (t s).1) : cnP t x y s = x (t s).2 := if_neg (Nat.pos_iff_ne_zero.mp h)
def noP (s : PS) : Nat × PS := (0, s)
def wsP (gi : Nat → Nat) (n M p : Nat) : PS → Nat × PS :=
  cnP (skP gi n 101) (anP (wdQ gi n M 6 "nd") (fgQ gi n p 4))
   (cnP (skP gi n 116) (cnP (skP gi n 97) (anP (wdQ gi n M 0 "tion") (fgQ gi n p 4))
     (anP (wdQ gi n M 2 "op") (anP (fgQ gi n p 1) (anP (dgQ gi n (p + 1) 1) (anP (fgQ gi n (p + 2) 4) (fgQ gi n (p + 3) 4)))))) noP)

theorem ct_withS {G : GG} {l : Launch} {h : AH} {m : Nat} {fs : List Value} {aI : Nat} {gi : Nat → Nat} {n : Nat} {a aL : Nat} {τ : Nat → Nat} {p M : Nat} (hm : h m = some (.inr (0, fs))) (h_input : fs[8]? = some (.ref aI)) (hin : h aI = some (iA G 60 (fun i => nI (gi i)))) (h_length : fs[9]? = some (.int (nI n))) (hlen : fs.length = 25) (hn60 : n ≤ 60) (h_at : fs[22]? = some (.int (nI a))) (ha : a ≤ 60) (hgi : ∀ i, gi i < 65536) (h_told : fs[23]? = some (.ref aL)) (hto : h aL = some (iA G 155 (fun i => nI (τ i)))) (hIL : aI ≠ aL) (h_tm : fs[24]? = some (.int (nI M))) (hM : M < 31) (hp : p + 3 < 155) : Ct G l yX4_withS cX4_withS 2 (some .boolean) 5 0 0 [.ref m, .int (nI p)] h (PR (.int (nI (wsP gi n M p (a, τ)).1)) (pkH G h m fs aL (wsP gi n M p (a, τ)).2.2 (wsP gi n M p (a, τ)).2.1)) := by
  refine Ct.of (by decide) (Nat.le_of_ble_eq_true rfl) (cat1 rfl) (fun X hXl F HN => ?_)
  subst hXl
  refine VV.heap (pkH_id hm h_at hto (ne_oa hm hto)).symm ?_
  refine V_aload_n (i := 0) F dX4_withS_0 rfl rfl ?_
  refine V_bipush (v := nI 101) F dX4_withS_1 rfl ?_
  refine V_cV1r F dX4_withS_3 lk_X4_222 (ct_skips pkH_m (gset h_input (by decide)) ((pkH_o (ne_ao hin hm) hIL).trans hin) (gset h_length (by decide)) (lens hlen) hn60 (gself (lenk hlen (by decide))) (Nat.lt_of_le_of_lt ha (by decide)) (by decide) hgi) ⟨0, _, _, _, rfl, (.inl pkH_m)⟩ (Nat.le_of_ble_eq_true rfl) (Nat.le_of_ble_eq_true rfl) (Nat.le_of_ble_eq_true rfl) (Nat.le_of_ble_eq_true rfl) (Nat.le_of_ble_eq_true rfl) ?_
  refine VV.heap (h' := pkH G h m fs aL τ (a + skA gi n 101 a)) pkH_at ?_
  refine V_if_eqN (tgt := 35) F dX4_withS_6 (by decide) (Nat.lt_trans (skA_lt (gi := gi) (n := n)) (by decide)) (fun c_6 => ?_) (fun c_6 => ?_)
  · refine V_aload_n (i := 0) F dX4_withS_35 rfl rfl ?_
    refine V_bipush (v := nI 116) F dX4_withS_36 rfl ?_
    refine V_cV1r F dX4_withS_38 lk_X4_222 (ct_skips pkH_m (gset h_input (by decide)) ((pkH_o (ne_ao hin hm) hIL).trans hin) (gset h_length (by decide)) (lens hlen) hn60 (gself (lenk hlen (by decide))) (Nat.lt_of_le_of_lt (skA_60 hn60 ha) (by decide)) (by decide) hgi) ⟨0, _, _, _, rfl, (.inl pkH_m)⟩ (Nat.le_of_ble_eq_true rfl) (Nat.le_of_ble_eq_true rfl) (Nat.le_of_ble_eq_true rfl) (Nat.le_of_ble_eq_true rfl) (Nat.le_of_ble_eq_true rfl) ?_
    refine VV.heap (h' := pkH G h m fs aL τ ((a + skA gi n 101 a) + skA gi n 116 (a + skA gi n 101 a))) pkH_at ?_
    refine V_if_neN (tgt := 46) F dX4_withS_41 (by decide) (Nat.lt_trans (skA_lt (gi := gi) (n := n)) (by decide)) (fun c_41 => ?_) (fun c_41 => ?_)
    · refine V_aload_n (i := 0) F dX4_withS_46 rfl rfl ?_
      refine V_bipush (v := nI 97) F dX4_withS_47 rfl ?_
      refine V_cV1r F dX4_withS_49 lk_X4_222 (ct_skips pkH_m (gset h_input (by decide)) ((pkH_o (ne_ao hin hm) hIL).trans hin) (gset h_length (by decide)) (lens hlen) hn60 (gself (lenk hlen (by decide))) (Nat.lt_of_le_of_lt (skA_60 hn60 (skA_60 hn60 ha)) (by decide)) (by decide) hgi) ⟨0, _, _, _, rfl, (.inl pkH_m)⟩ (Nat.le_of_ble_eq_true rfl) (Nat.le_of_ble_eq_true rfl) (Nat.le_of_ble_eq_true rfl) (Nat.le_of_ble_eq_true rfl) (Nat.le_of_ble_eq_true rfl) ?_
      refine VV.heap (h' := pkH G h m fs aL τ (((a + skA gi n 101 a) + skA gi n 116 (a + skA gi n 101 a)) + skA gi n 97 ((a + skA gi n 101 a) + skA gi n 116 (a + skA gi n 101 a)))) pkH_at ?_
      refine V_if_eqN (tgt := 80) F dX4_withS_52 (by decide) (Nat.lt_trans (skA_lt (gi := gi) (n := n)) (by decide)) (fun c_52 => ?_) (fun c_52 => ?_)
      · refine V_aload_n (i := 0) F dX4_withS_80 rfl rfl ?_
        refine V_iconst (v := nI 2) F dX4_withS_81 rfl ?_
        refine V_ldcS F dX4_withS_82 q4159 ?_
        intro w82_1 hGw82_1
        obtain ⟨vw82_1, zw82_1, hsw82_1, hvw82_1, -⟩ := hGw82_1
        refine V_cV2r F dX4_withS_84 lk_X4_230 (ct_isWord (c := (fun j => (txl "op").getD j 0)) pkH_m (gset h_input (by decide)) ((pkH_o (ne_ao hin hm) hIL).trans hin) (gset h_length (by decide)) (lens hlen) hn60 (gself (lenk hlen (by decide))) (skA_60 hn60 (skA_60 hn60 (skA_60 hn60 ha))) hgi (gset h_told (by decide)) (pkH_l (ne_ao hto hm)) hIL (gset h_tm (by decide)) hM hsw82_1 hvw82_1 (getD_256 (by decide)) (by decide)) ⟨0, _, _, _, rfl, (.inl pkH_m)⟩ (Nat.le_of_ble_eq_true rfl) (Nat.le_of_ble_eq_true rfl) (Nat.le_of_ble_eq_true rfl) (Nat.le_of_ble_eq_true rfl) (Nat.le_of_ble_eq_true rfl) ?_
        refine VV.heap (h' := pkH G h m fs aL (up τ (5 * M) 2) (wdI gi n (fun j => (txl "op").getD j 0) (((a + skA gi n 101 a) + skA gi n 116 (a + skA gi n 101 a)) + skA gi n 97 ((a + skA gi n 101 a) + skA gi n 116 (a + skA gi n 101 a))) (txl "op").length).2) (pkH_pk (ne_ao hto hm)) ?_
        refine V_if_eqN (tgt := 136) F dX4_withS_87 (by decide) (Nat.lt_trans ((wdI_ok (gi := gi) (n := n) (c := (fun j => (txl "op").getD j 0)) hn60 (skA_60 hn60 (skA_60 hn60 (skA_60 hn60 ha))) (txl "op").length).1) (by decide)) (fun c_87 => ?_) (fun c_87 => ?_)
        · refine V_iconst (v := nI 0) F dX4_withS_136 rfl ?_
          have hfin : wsP gi n M p (a, τ) = (0, ((wdI gi n (fun j => (txl "op").getD j 0) (((a + skA gi n 101 a) + skA gi n 116 (a + skA gi n 101 a)) + skA gi n 97 ((a + skA gi n 101 a) + skA gi n 116 (a + skA gi n 101 a))) (txl "op").length).2, (up τ (5 * M) 2))) := by
            first | refine Eq.trans (anP_1 c_6) ?_ | refine Eq.trans (anP_0 c_6) ?_ | refine Eq.trans (cnP_1 c_6) ?_ | refine Eq.trans (cnP_0 c_6) ?_ | skip
            first | refine Eq.trans (anP_1 c_41) ?_ | refine Eq.trans (anP_0 c_41) ?_ | refine Eq.trans (cnP_1 c_41) ?_ | refine Eq.trans (cnP_0 c_41) ?_ | skip
            first | refine Eq.trans (anP_1 c_52) ?_ | refine Eq.trans (anP_0 c_52) ?_ | refine Eq.trans (cnP_1 c_52) ?_ | refine Eq.trans (cnP_0 c_52) ?_ | skip
            first | refine Eq.trans (anP_1 c_87) ?_ | refine Eq.trans (anP_0 c_87) ?_ | refine Eq.trans (cnP_1 c_87) ?_ | refine Eq.trans (cnP_0 c_87) ?_ | skip
            first | rfl | exact Prod.ext c_87 rfl | exact Prod.ext (eq1 c_87 skA_lt) rfl
          exact V_iret F dX4_withS_137 rfl (Nat.le_of_ble_eq_true rfl) (Nat.le_of_ble_eq_true rfl) ⟨by rw [hfin], by rw [hfin]⟩
        · refine V_aload_n (i := 0) F dX4_withS_90 rfl rfl ?_
          refine V_iload_n (i := 1) F dX4_withS_91 rfl rfl ?_
          refine V_iconst (v := nI 1) F dX4_withS_92 rfl ?_
          refine V_cV2r F dX4_withS_93 lk_X4_234 (ct_figures pkH_m (gset h_input (by decide)) ((pkH_o (ne_ao hin hm) hIL).trans hin) (gset h_length (by decide)) (lens hlen) hn60 (gself (lenk hlen (by decide))) (wdI_ok hn60 (skA_60 hn60 (skA_60 hn60 (skA_60 hn60 ha))) _).2 hgi (gset h_told (by decide)) (pkH_l (ne_ao hto hm)) hIL (by omega) (by decide)) ⟨0, _, _, _, rfl, (.inl pkH_m)⟩ (Nat.le_of_ble_eq_true rfl) (Nat.le_of_ble_eq_true rfl) (Nat.le_of_ble_eq_true rfl) (Nat.le_of_ble_eq_true rfl) (Nat.le_of_ble_eq_true rfl) ?_
          refine VV.heap (h' := pkH G h m fs aL (fgT gi n (wdI gi n (fun j => (txl "op").getD j 0) (((a + skA gi n 101 a) + skA gi n 116 (a + skA gi n 101 a)) + skA gi n 97 ((a + skA gi n 101 a) + skA gi n 116 (a + skA gi n 101 a))) (txl "op").length).2 p 1 (up τ (5 * M) 2)) (fgA gi n (wdI gi n (fun j => (txl "op").getD j 0) (((a + skA gi n 101 a) + skA gi n 116 (a + skA gi n 101 a)) + skA gi n 97 ((a + skA gi n 101 a) + skA gi n 116 (a + skA gi n 101 a))) (txl "op").length).2 1)) (pkH_pk (ne_ao hto hm)) ?_
          refine V_if_eqN (tgt := 136) F dX4_withS_96 (by decide) (Nat.lt_trans (fgO_lt (gi := gi) (n := n)) (by decide)) (fun c_96 => ?_) (fun c_96 => ?_)
          · refine V_iconst (v := nI 0) F dX4_withS_136 rfl ?_
            have hfin : wsP gi n M p (a, τ) = (0, ((fgA gi n (wdI gi n (fun j => (txl "op").getD j 0) (((a + skA gi n 101 a) + skA gi n 116 (a + skA gi n 101 a)) + skA gi n 97 ((a + skA gi n 101 a) + skA gi n 116 (a + skA gi n 101 a))) (txl "op").length).2 1), (fgT gi n (wdI gi n (fun j => (txl "op").getD j 0) (((a + skA gi n 101 a) + skA gi n 116 (a + skA gi n 101 a)) + skA gi n 97 ((a + skA gi n 101 a) + skA gi n 116 (a + skA gi n 101 a))) (txl "op").length).2 p 1 (up τ (5 * M) 2)))) := by
              first | refine Eq.trans (anP_1 c_6) ?_ | refine Eq.trans (anP_0 c_6) ?_ | refine Eq.trans (cnP_1 c_6) ?_ | refine Eq.trans (cnP_0 c_6) ?_ | skip
              first | refine Eq.trans (anP_1 c_41) ?_ | refine Eq.trans (anP_0 c_41) ?_ | refine Eq.trans (cnP_1 c_41) ?_ | refine Eq.trans (cnP_0 c_41) ?_ | skip
              first | refine Eq.trans (anP_1 c_52) ?_ | refine Eq.trans (anP_0 c_52) ?_ | refine Eq.trans (cnP_1 c_52) ?_ | refine Eq.trans (cnP_0 c_52) ?_ | skip
              first | refine Eq.trans (anP_1 c_87) ?_ | refine Eq.trans (anP_0 c_87) ?_ | refine Eq.trans (cnP_1 c_87) ?_ | refine Eq.trans (cnP_0 c_87) ?_ | skip
              first | refine Eq.trans (anP_1 c_96) ?_ | refine Eq.trans (anP_0 c_96) ?_ | refine Eq.trans (cnP_1 c_96) ?_ | refine Eq.trans (cnP_0 c_96) ?_ | skip
              first | rfl | exact Prod.ext c_96 rfl | exact Prod.ext (eq1 c_96 fgO_lt) rfl
            exact V_iret F dX4_withS_137 rfl (Nat.le_of_ble_eq_true rfl) (Nat.le_of_ble_eq_true rfl) ⟨by rw [hfin], by rw [hfin]⟩
          · refine V_aload_n (i := 0) F dX4_withS_99 rfl rfl ?_
            refine V_iload_n (i := 1) F dX4_withS_100 rfl rfl ?_
            refine V_iconst (v := nI 1) F dX4_withS_101 rfl ?_
            refine V_iaddN F dX4_withS_102 ?_
            refine V_iconst (v := nI 1) F dX4_withS_103 rfl ?_
            refine V_cV2r F dX4_withS_104 lk_X4_225 (ct_digits pkH_m (gset h_input (by decide)) ((pkH_o (ne_ao hin hm) hIL).trans hin) (gset h_length (by decide)) (lens hlen) hn60 (gself (lenk hlen (by decide))) (fgA_60 hn60 (wdI_ok hn60 (skA_60 hn60 (skA_60 hn60 (skA_60 hn60 ha))) _).2) hgi (gset h_told (by decide)) (pkH_l (ne_ao hto hm)) hIL (by omega) (by decide)) ⟨0, _, _, _, rfl, (.inl pkH_m)⟩ (Nat.le_of_ble_eq_true rfl) (Nat.le_of_ble_eq_true rfl) (Nat.le_of_ble_eq_true rfl) (Nat.le_of_ble_eq_true rfl) (Nat.le_of_ble_eq_true rfl) ?_
            refine VV.heap (h' := pkH G h m fs aL (dgT gi n (fgA gi n (wdI gi n (fun j => (txl "op").getD j 0) (((a + skA gi n 101 a) + skA gi n 116 (a + skA gi n 101 a)) + skA gi n 97 ((a + skA gi n 101 a) + skA gi n 116 (a + skA gi n 101 a))) (txl "op").length).2 1) (p + 1) 1 (fgT gi n (wdI gi n (fun j => (txl "op").getD j 0) (((a + skA gi n 101 a) + skA gi n 116 (a + skA gi n 101 a)) + skA gi n 97 ((a + skA gi n 101 a) + skA gi n 116 (a + skA gi n 101 a))) (txl "op").length).2 p 1 (up τ (5 * M) 2))) (dgA gi n (fgA gi n (wdI gi n (fun j => (txl "op").getD j 0) (((a + skA gi n 101 a) + skA gi n 116 (a + skA gi n 101 a)) + skA gi n 97 ((a + skA gi n 101 a) + skA gi n 116 (a + skA gi n 101 a))) (txl "op").length).2 1) 1)) (pkH_pk (ne_ao hto hm)) ?_
            refine V_if_eqN (tgt := 136) F dX4_withS_107 (by decide) (Nat.lt_trans (dgO_lt (gi := gi) (n := n)) (by decide)) (fun c_107 => ?_) (fun c_107 => ?_)
            · refine V_iconst (v := nI 0) F dX4_withS_136 rfl ?_
              have hfin : wsP gi n M p (a, τ) = (0, ((dgA gi n (fgA gi n (wdI gi n (fun j => (txl "op").getD j 0) (((a + skA gi n 101 a) + skA gi n 116 (a + skA gi n 101 a)) + skA gi n 97 ((a + skA gi n 101 a) + skA gi n 116 (a + skA gi n 101 a))) (txl "op").length).2 1) 1), (dgT gi n (fgA gi n (wdI gi n (fun j => (txl "op").getD j 0) (((a + skA gi n 101 a) + skA gi n 116 (a + skA gi n 101 a)) + skA gi n 97 ((a + skA gi n 101 a) + skA gi n 116 (a + skA gi n 101 a))) (txl "op").length).2 1) (p + 1) 1 (fgT gi n (wdI gi n (fun j => (txl "op").getD j 0) (((a + skA gi n 101 a) + skA gi n 116 (a + skA gi n 101 a)) + skA gi n 97 ((a + skA gi n 101 a) + skA gi n 116 (a + skA gi n 101 a))) (txl "op").length).2 p 1 (up τ (5 * M) 2))))) := by
                first | refine Eq.trans (anP_1 c_6) ?_ | refine Eq.trans (anP_0 c_6) ?_ | refine Eq.trans (cnP_1 c_6) ?_ | refine Eq.trans (cnP_0 c_6) ?_ | skip
                first | refine Eq.trans (anP_1 c_41) ?_ | refine Eq.trans (anP_0 c_41) ?_ | refine Eq.trans (cnP_1 c_41) ?_ | refine Eq.trans (cnP_0 c_41) ?_ | skip
                first | refine Eq.trans (anP_1 c_52) ?_ | refine Eq.trans (anP_0 c_52) ?_ | refine Eq.trans (cnP_1 c_52) ?_ | refine Eq.trans (cnP_0 c_52) ?_ | skip
                first | refine Eq.trans (anP_1 c_87) ?_ | refine Eq.trans (anP_0 c_87) ?_ | refine Eq.trans (cnP_1 c_87) ?_ | refine Eq.trans (cnP_0 c_87) ?_ | skip
                first | refine Eq.trans (anP_1 c_96) ?_ | refine Eq.trans (anP_0 c_96) ?_ | refine Eq.trans (cnP_1 c_96) ?_ | refine Eq.trans (cnP_0 c_96) ?_ | skip
                first | refine Eq.trans (anP_1 c_107) ?_ | refine Eq.trans (anP_0 c_107) ?_ | refine Eq.trans (cnP_1 c_107) ?_ | refine Eq.trans (cnP_0 c_107) ?_ | skip
                first | rfl | exact Prod.ext c_107 rfl | exact Prod.ext (eq1 c_107 dgO_lt) rfl
              exact V_iret F dX4_withS_137 rfl (Nat.le_of_ble_eq_true rfl) (Nat.le_of_ble_eq_true rfl) ⟨by rw [hfin], by rw [hfin]⟩
            · refine V_aload_n (i := 0) F dX4_withS_110 rfl rfl ?_
              refine V_iload_n (i := 1) F dX4_withS_111 rfl rfl ?_
              refine V_iconst (v := nI 2) F dX4_withS_112 rfl ?_
              refine V_iaddN F dX4_withS_113 ?_
              refine V_iconst (v := nI 4) F dX4_withS_114 rfl ?_
              refine V_cV2r F dX4_withS_115 lk_X4_234 (ct_figures pkH_m (gset h_input (by decide)) ((pkH_o (ne_ao hin hm) hIL).trans hin) (gset h_length (by decide)) (lens hlen) hn60 (gself (lenk hlen (by decide))) (dgA_60 hn60 (fgA_60 hn60 (wdI_ok hn60 (skA_60 hn60 (skA_60 hn60 (skA_60 hn60 ha))) _).2)) hgi (gset h_told (by decide)) (pkH_l (ne_ao hto hm)) hIL (by omega) (by decide)) ⟨0, _, _, _, rfl, (.inl pkH_m)⟩ (Nat.le_of_ble_eq_true rfl) (Nat.le_of_ble_eq_true rfl) (Nat.le_of_ble_eq_true rfl) (Nat.le_of_ble_eq_true rfl) (Nat.le_of_ble_eq_true rfl) ?_
              refine VV.heap (h' := pkH G h m fs aL (fgT gi n (dgA gi n (fgA gi n (wdI gi n (fun j => (txl "op").getD j 0) (((a + skA gi n 101 a) + skA gi n 116 (a + skA gi n 101 a)) + skA gi n 97 ((a + skA gi n 101 a) + skA gi n 116 (a + skA gi n 101 a))) (txl "op").length).2 1) 1) (p + 2) 4 (dgT gi n (fgA gi n (wdI gi n (fun j => (txl "op").getD j 0) (((a + skA gi n 101 a) + skA gi n 116 (a + skA gi n 101 a)) + skA gi n 97 ((a + skA gi n 101 a) + skA gi n 116 (a + skA gi n 101 a))) (txl "op").length).2 1) (p + 1) 1 (fgT gi n (wdI gi n (fun j => (txl "op").getD j 0) (((a + skA gi n 101 a) + skA gi n 116 (a + skA gi n 101 a)) + skA gi n 97 ((a + skA gi n 101 a) + skA gi n 116 (a + skA gi n 101 a))) (txl "op").length).2 p 1 (up τ (5 * M) 2)))) (fgA gi n (dgA gi n (fgA gi n (wdI gi n (fun j => (txl "op").getD j 0) (((a + skA gi n 101 a) + skA gi n 116 (a + skA gi n 101 a)) + skA gi n 97 ((a + skA gi n 101 a) + skA gi n 116 (a + skA gi n 101 a))) (txl "op").length).2 1) 1) 4)) (pkH_pk (ne_ao hto hm)) ?_
              refine V_if_eqN (tgt := 136) F dX4_withS_118 (by decide) (Nat.lt_trans (fgO_lt (gi := gi) (n := n)) (by decide)) (fun c_118 => ?_) (fun c_118 => ?_)
              · refine V_iconst (v := nI 0) F dX4_withS_136 rfl ?_
                have hfin : wsP gi n M p (a, τ) = (0, ((fgA gi n (dgA gi n (fgA gi n (wdI gi n (fun j => (txl "op").getD j 0) (((a + skA gi n 101 a) + skA gi n 116 (a + skA gi n 101 a)) + skA gi n 97 ((a + skA gi n 101 a) + skA gi n 116 (a + skA gi n 101 a))) (txl "op").length).2 1) 1) 4), (fgT gi n (dgA gi n (fgA gi n (wdI gi n (fun j => (txl "op").getD j 0) (((a + skA gi n 101 a) + skA gi n 116 (a + skA gi n 101 a)) + skA gi n 97 ((a + skA gi n 101 a) + skA gi n 116 (a + skA gi n 101 a))) (txl "op").length).2 1) 1) (p + 2) 4 (dgT gi n (fgA gi n (wdI gi n (fun j => (txl "op").getD j 0) (((a + skA gi n 101 a) + skA gi n 116 (a + skA gi n 101 a)) + skA gi n 97 ((a + skA gi n 101 a) + skA gi n 116 (a + skA gi n 101 a))) (txl "op").length).2 1) (p + 1) 1 (fgT gi n (wdI gi n (fun j => (txl "op").getD j 0) (((a + skA gi n 101 a) + skA gi n 116 (a + skA gi n 101 a)) + skA gi n 97 ((a + skA gi n 101 a) + skA gi n 116 (a + skA gi n 101 a))) (txl "op").length).2 p 1 (up τ (5 * M) 2)))))) := by
                  first | refine Eq.trans (anP_1 c_6) ?_ | refine Eq.trans (anP_0 c_6) ?_ | refine Eq.trans (cnP_1 c_6) ?_ | refine Eq.trans (cnP_0 c_6) ?_ | skip
                  first | refine Eq.trans (anP_1 c_41) ?_ | refine Eq.trans (anP_0 c_41) ?_ | refine Eq.trans (cnP_1 c_41) ?_ | refine Eq.trans (cnP_0 c_41) ?_ | skip
                  first | refine Eq.trans (anP_1 c_52) ?_ | refine Eq.trans (anP_0 c_52) ?_ | refine Eq.trans (cnP_1 c_52) ?_ | refine Eq.trans (cnP_0 c_52) ?_ | skip
                  first | refine Eq.trans (anP_1 c_87) ?_ | refine Eq.trans (anP_0 c_87) ?_ | refine Eq.trans (cnP_1 c_87) ?_ | refine Eq.trans (cnP_0 c_87) ?_ | skip
                  first | refine Eq.trans (anP_1 c_96) ?_ | refine Eq.trans (anP_0 c_96) ?_ | refine Eq.trans (cnP_1 c_96) ?_ | refine Eq.trans (cnP_0 c_96) ?_ | skip
                  first | refine Eq.trans (anP_1 c_107) ?_ | refine Eq.trans (anP_0 c_107) ?_ | refine Eq.trans (cnP_1 c_107) ?_ | refine Eq.trans (cnP_0 c_107) ?_ | skip
                  first | refine Eq.trans (anP_1 c_118) ?_ | refine Eq.trans (anP_0 c_118) ?_ | refine Eq.trans (cnP_1 c_118) ?_ | refine Eq.trans (cnP_0 c_118) ?_ | skip
                  first | rfl | exact Prod.ext c_118 rfl | exact Prod.ext (eq1 c_118 fgO_lt) rfl
                exact V_iret F dX4_withS_137 rfl (Nat.le_of_ble_eq_true rfl) (Nat.le_of_ble_eq_true rfl) ⟨by rw [hfin], by rw [hfin]⟩
              · refine V_aload_n (i := 0) F dX4_withS_121 rfl rfl ?_
                refine V_iload_n (i := 1) F dX4_withS_122 rfl rfl ?_
                refine V_iconst (v := nI 3) F dX4_withS_123 rfl ?_
                refine V_iaddN F dX4_withS_124 ?_
                refine V_iconst (v := nI 4) F dX4_withS_125 rfl ?_
                refine V_cV2r F dX4_withS_126 lk_X4_234 (ct_figures pkH_m (gset h_input (by decide)) ((pkH_o (ne_ao hin hm) hIL).trans hin) (gset h_length (by decide)) (lens hlen) hn60 (gself (lenk hlen (by decide))) (fgA_60 hn60 (dgA_60 hn60 (fgA_60 hn60 (wdI_ok hn60 (skA_60 hn60 (skA_60 hn60 (skA_60 hn60 ha))) _).2))) hgi (gset h_told (by decide)) (pkH_l (ne_ao hto hm)) hIL (by omega) (by decide)) ⟨0, _, _, _, rfl, (.inl pkH_m)⟩ (Nat.le_of_ble_eq_true rfl) (Nat.le_of_ble_eq_true rfl) (Nat.le_of_ble_eq_true rfl) (Nat.le_of_ble_eq_true rfl) (Nat.le_of_ble_eq_true rfl) ?_
                refine VV.heap (h' := pkH G h m fs aL (fgT gi n (fgA gi n (dgA gi n (fgA gi n (wdI gi n (fun j => (txl "op").getD j 0) (((a + skA gi n 101 a) + skA gi n 116 (a + skA gi n 101 a)) + skA gi n 97 ((a + skA gi n 101 a) + skA gi n 116 (a + skA gi n 101 a))) (txl "op").length).2 1) 1) 4) (p + 3) 4 (fgT gi n (dgA gi n (fgA gi n (wdI gi n (fun j => (txl "op").getD j 0) (((a + skA gi n 101 a) + skA gi n 116 (a + skA gi n 101 a)) + skA gi n 97 ((a + skA gi n 101 a) + skA gi n 116 (a + skA gi n 101 a))) (txl "op").length).2 1) 1) (p + 2) 4 (dgT gi n (fgA gi n (wdI gi n (fun j => (txl "op").getD j 0) (((a + skA gi n 101 a) + skA gi n 116 (a + skA gi n 101 a)) + skA gi n 97 ((a + skA gi n 101 a) + skA gi n 116 (a + skA gi n 101 a))) (txl "op").length).2 1) (p + 1) 1 (fgT gi n (wdI gi n (fun j => (txl "op").getD j 0) (((a + skA gi n 101 a) + skA gi n 116 (a + skA gi n 101 a)) + skA gi n 97 ((a + skA gi n 101 a) + skA gi n 116 (a + skA gi n 101 a))) (txl "op").length).2 p 1 (up τ (5 * M) 2))))) (fgA gi n (fgA gi n (dgA gi n (fgA gi n (wdI gi n (fun j => (txl "op").getD j 0) (((a + skA gi n 101 a) + skA gi n 116 (a + skA gi n 101 a)) + skA gi n 97 ((a + skA gi n 101 a) + skA gi n 116 (a + skA gi n 101 a))) (txl "op").length).2 1) 1) 4) 4)) (pkH_pk (ne_ao hto hm)) ?_
                refine V_if_eqN (tgt := 136) F dX4_withS_129 (by decide) (Nat.lt_trans (fgO_lt (gi := gi) (n := n)) (by decide)) (fun c_129 => ?_) (fun c_129 => ?_)
                · refine V_iconst (v := nI 0) F dX4_withS_136 rfl ?_
                  have hfin : wsP gi n M p (a, τ) = (0, ((fgA gi n (fgA gi n (dgA gi n (fgA gi n (wdI gi n (fun j => (txl "op").getD j 0) (((a + skA gi n 101 a) + skA gi n 116 (a + skA gi n 101 a)) + skA gi n 97 ((a + skA gi n 101 a) + skA gi n 116 (a + skA gi n 101 a))) (txl "op").length).2 1) 1) 4) 4), (fgT gi n (fgA gi n (dgA gi n (fgA gi n (wdI gi n (fun j => (txl "op").getD j 0) (((a + skA gi n 101 a) + skA gi n 116 (a + skA gi n 101 a)) + skA gi n 97 ((a + skA gi n 101 a) + skA gi n 116 (a + skA gi n 101 a))) (txl "op").length).2 1) 1) 4) (p + 3) 4 (fgT gi n (dgA gi n (fgA gi n (wdI gi n (fun j => (txl "op").getD j 0) (((a + skA gi n 101 a) + skA gi n 116 (a + skA gi n 101 a)) + skA gi n 97 ((a + skA gi n 101 a) + skA gi n 116 (a + skA gi n 101 a))) (txl "op").length).2 1) 1) (p + 2) 4 (dgT gi n (fgA gi n (wdI gi n (fun j => (txl "op").getD j 0) (((a + skA gi n 101 a) + skA gi n 116 (a + skA gi n 101 a)) + skA gi n 97 ((a + skA gi n 101 a) + skA gi n 116 (a + skA gi n 101 a))) (txl "op").length).2 1) (p + 1) 1 (fgT gi n (wdI gi n (fun j => (txl "op").getD j 0) (((a + skA gi n 101 a) + skA gi n 116 (a + skA gi n 101 a)) + skA gi n 97 ((a + skA gi n 101 a) + skA gi n 116 (a + skA gi n 101 a))) (txl "op").length).2 p 1 (up τ (5 * M) 2))))))) := by
                    first | refine Eq.trans (anP_1 c_6) ?_ | refine Eq.trans (anP_0 c_6) ?_ | refine Eq.trans (cnP_1 c_6) ?_ | refine Eq.trans (cnP_0 c_6) ?_ | skip
                    first | refine Eq.trans (anP_1 c_41) ?_ | refine Eq.trans (anP_0 c_41) ?_ | refine Eq.trans (cnP_1 c_41) ?_ | refine Eq.trans (cnP_0 c_41) ?_ | skip
                    first | refine Eq.trans (anP_1 c_52) ?_ | refine Eq.trans (anP_0 c_52) ?_ | refine Eq.trans (cnP_1 c_52) ?_ | refine Eq.trans (cnP_0 c_52) ?_ | skip
                    first | refine Eq.trans (anP_1 c_87) ?_ | refine Eq.trans (anP_0 c_87) ?_ | refine Eq.trans (cnP_1 c_87) ?_ | refine Eq.trans (cnP_0 c_87) ?_ | skip
                    first | refine Eq.trans (anP_1 c_96) ?_ | refine Eq.trans (anP_0 c_96) ?_ | refine Eq.trans (cnP_1 c_96) ?_ | refine Eq.trans (cnP_0 c_96) ?_ | skip
                    first | refine Eq.trans (anP_1 c_107) ?_ | refine Eq.trans (anP_0 c_107) ?_ | refine Eq.trans (cnP_1 c_107) ?_ | refine Eq.trans (cnP_0 c_107) ?_ | skip
                    first | refine Eq.trans (anP_1 c_118) ?_ | refine Eq.trans (anP_0 c_118) ?_ | refine Eq.trans (cnP_1 c_118) ?_ | refine Eq.trans (cnP_0 c_118) ?_ | skip
                    first | refine Eq.trans (anP_1 c_129) ?_ | refine Eq.trans (anP_0 c_129) ?_ | refine Eq.trans (cnP_1 c_129) ?_ | refine Eq.trans (cnP_0 c_129) ?_ | skip
                    first | rfl | exact Prod.ext c_129 rfl | exact Prod.ext (eq1 c_129 fgO_lt) rfl
                  exact V_iret F dX4_withS_137 rfl (Nat.le_of_ble_eq_true rfl) (Nat.le_of_ble_eq_true rfl) ⟨by rw [hfin], by rw [hfin]⟩
                · refine V_iconst (v := nI 1) F dX4_withS_132 rfl ?_
                  refine V_goto (tgt := 137) F dX4_withS_133 (by decide) ?_
                  have hfin : wsP gi n M p (a, τ) = (1, ((fgA gi n (fgA gi n (dgA gi n (fgA gi n (wdI gi n (fun j => (txl "op").getD j 0) (((a + skA gi n 101 a) + skA gi n 116 (a + skA gi n 101 a)) + skA gi n 97 ((a + skA gi n 101 a) + skA gi n 116 (a + skA gi n 101 a))) (txl "op").length).2 1) 1) 4) 4), (fgT gi n (fgA gi n (dgA gi n (fgA gi n (wdI gi n (fun j => (txl "op").getD j 0) (((a + skA gi n 101 a) + skA gi n 116 (a + skA gi n 101 a)) + skA gi n 97 ((a + skA gi n 101 a) + skA gi n 116 (a + skA gi n 101 a))) (txl "op").length).2 1) 1) 4) (p + 3) 4 (fgT gi n (dgA gi n (fgA gi n (wdI gi n (fun j => (txl "op").getD j 0) (((a + skA gi n 101 a) + skA gi n 116 (a + skA gi n 101 a)) + skA gi n 97 ((a + skA gi n 101 a) + skA gi n 116 (a + skA gi n 101 a))) (txl "op").length).2 1) 1) (p + 2) 4 (dgT gi n (fgA gi n (wdI gi n (fun j => (txl "op").getD j 0) (((a + skA gi n 101 a) + skA gi n 116 (a + skA gi n 101 a)) + skA gi n 97 ((a + skA gi n 101 a) + skA gi n 116 (a + skA gi n 101 a))) (txl "op").length).2 1) (p + 1) 1 (fgT gi n (wdI gi n (fun j => (txl "op").getD j 0) (((a + skA gi n 101 a) + skA gi n 116 (a + skA gi n 101 a)) + skA gi n 97 ((a + skA gi n 101 a) + skA gi n 116 (a + skA gi n 101 a))) (txl "op").length).2 p 1 (up τ (5 * M) 2))))))) := by
                    first | refine Eq.trans (anP_1 c_6) ?_ | refine Eq.trans (anP_0 c_6) ?_ | refine Eq.trans (cnP_1 c_6) ?_ | refine Eq.trans (cnP_0 c_6) ?_ | skip
                    first | refine Eq.trans (anP_1 c_41) ?_ | refine Eq.trans (anP_0 c_41) ?_ | refine Eq.trans (cnP_1 c_41) ?_ | refine Eq.trans (cnP_0 c_41) ?_ | skip
                    first | refine Eq.trans (anP_1 c_52) ?_ | refine Eq.trans (anP_0 c_52) ?_ | refine Eq.trans (cnP_1 c_52) ?_ | refine Eq.trans (cnP_0 c_52) ?_ | skip
                    first | refine Eq.trans (anP_1 c_87) ?_ | refine Eq.trans (anP_0 c_87) ?_ | refine Eq.trans (cnP_1 c_87) ?_ | refine Eq.trans (cnP_0 c_87) ?_ | skip
                    first | refine Eq.trans (anP_1 c_96) ?_ | refine Eq.trans (anP_0 c_96) ?_ | refine Eq.trans (cnP_1 c_96) ?_ | refine Eq.trans (cnP_0 c_96) ?_ | skip
                    first | refine Eq.trans (anP_1 c_107) ?_ | refine Eq.trans (anP_0 c_107) ?_ | refine Eq.trans (cnP_1 c_107) ?_ | refine Eq.trans (cnP_0 c_107) ?_ | skip
                    first | refine Eq.trans (anP_1 c_118) ?_ | refine Eq.trans (anP_0 c_118) ?_ | refine Eq.trans (cnP_1 c_118) ?_ | refine Eq.trans (cnP_0 c_118) ?_ | skip
                    first | refine Eq.trans (anP_1 c_129) ?_ | refine Eq.trans (anP_0 c_129) ?_ | refine Eq.trans (cnP_1 c_129) ?_ | refine Eq.trans (cnP_0 c_129) ?_ | skip
                    first | rfl | exact Prod.ext c_129 rfl | exact Prod.ext (eq1 c_129 fgO_lt) rfl
                  exact V_iret F dX4_withS_137 rfl (Nat.le_of_ble_eq_true rfl) (Nat.le_of_ble_eq_true rfl) ⟨by rw [hfin], by rw [hfin]⟩
      · refine V_aload_n (i := 0) F dX4_withS_55 rfl rfl ?_
        refine V_iconst (v := nI 0) F dX4_withS_56 rfl ?_
        refine V_ldcS F dX4_withS_57 q4158 ?_
        intro w57_2 hGw57_2
        obtain ⟨vw57_2, zw57_2, hsw57_2, hvw57_2, -⟩ := hGw57_2
        refine V_cV2r F dX4_withS_59 lk_X4_230 (ct_isWord (c := (fun j => (txl "tion").getD j 0)) pkH_m (gset h_input (by decide)) ((pkH_o (ne_ao hin hm) hIL).trans hin) (gset h_length (by decide)) (lens hlen) hn60 (gself (lenk hlen (by decide))) (skA_60 hn60 (skA_60 hn60 (skA_60 hn60 ha))) hgi (gset h_told (by decide)) (pkH_l (ne_ao hto hm)) hIL (gset h_tm (by decide)) hM hsw57_2 hvw57_2 (getD_256 (by decide)) (by decide)) ⟨0, _, _, _, rfl, (.inl pkH_m)⟩ (Nat.le_of_ble_eq_true rfl) (Nat.le_of_ble_eq_true rfl) (Nat.le_of_ble_eq_true rfl) (Nat.le_of_ble_eq_true rfl) (Nat.le_of_ble_eq_true rfl) ?_
        refine VV.heap (h' := pkH G h m fs aL (up τ (5 * M) 0) (wdI gi n (fun j => (txl "tion").getD j 0) (((a + skA gi n 101 a) + skA gi n 116 (a + skA gi n 101 a)) + skA gi n 97 ((a + skA gi n 101 a) + skA gi n 116 (a + skA gi n 101 a))) (txl "tion").length).2) (pkH_pk (ne_ao hto hm)) ?_
        refine V_if_eqN (tgt := 78) F dX4_withS_62 (by decide) (Nat.lt_trans ((wdI_ok (gi := gi) (n := n) (c := (fun j => (txl "tion").getD j 0)) hn60 (skA_60 hn60 (skA_60 hn60 (skA_60 hn60 ha))) (txl "tion").length).1) (by decide)) (fun c_62 => ?_) (fun c_62 => ?_)
        · refine V_iconst (v := nI 0) F dX4_withS_78 rfl ?_
          have hfin : wsP gi n M p (a, τ) = (0, ((wdI gi n (fun j => (txl "tion").getD j 0) (((a + skA gi n 101 a) + skA gi n 116 (a + skA gi n 101 a)) + skA gi n 97 ((a + skA gi n 101 a) + skA gi n 116 (a + skA gi n 101 a))) (txl "tion").length).2, (up τ (5 * M) 0))) := by
            first | refine Eq.trans (anP_1 c_6) ?_ | refine Eq.trans (anP_0 c_6) ?_ | refine Eq.trans (cnP_1 c_6) ?_ | refine Eq.trans (cnP_0 c_6) ?_ | skip
            first | refine Eq.trans (anP_1 c_41) ?_ | refine Eq.trans (anP_0 c_41) ?_ | refine Eq.trans (cnP_1 c_41) ?_ | refine Eq.trans (cnP_0 c_41) ?_ | skip
            first | refine Eq.trans (anP_1 c_52) ?_ | refine Eq.trans (anP_0 c_52) ?_ | refine Eq.trans (cnP_1 c_52) ?_ | refine Eq.trans (cnP_0 c_52) ?_ | skip
            first | refine Eq.trans (anP_1 c_62) ?_ | refine Eq.trans (anP_0 c_62) ?_ | refine Eq.trans (cnP_1 c_62) ?_ | refine Eq.trans (cnP_0 c_62) ?_ | skip
            first | rfl | exact Prod.ext c_62 rfl | exact Prod.ext (eq1 c_62 skA_lt) rfl
          exact V_iret F dX4_withS_79 rfl (Nat.le_of_ble_eq_true rfl) (Nat.le_of_ble_eq_true rfl) ⟨by rw [hfin], by rw [hfin]⟩
        · refine V_aload_n (i := 0) F dX4_withS_65 rfl rfl ?_
          refine V_iload_n (i := 1) F dX4_withS_66 rfl rfl ?_
          refine V_iconst (v := nI 4) F dX4_withS_67 rfl ?_
          refine V_cV2r F dX4_withS_68 lk_X4_234 (ct_figures pkH_m (gset h_input (by decide)) ((pkH_o (ne_ao hin hm) hIL).trans hin) (gset h_length (by decide)) (lens hlen) hn60 (gself (lenk hlen (by decide))) (wdI_ok hn60 (skA_60 hn60 (skA_60 hn60 (skA_60 hn60 ha))) _).2 hgi (gset h_told (by decide)) (pkH_l (ne_ao hto hm)) hIL (by omega) (by decide)) ⟨0, _, _, _, rfl, (.inl pkH_m)⟩ (Nat.le_of_ble_eq_true rfl) (Nat.le_of_ble_eq_true rfl) (Nat.le_of_ble_eq_true rfl) (Nat.le_of_ble_eq_true rfl) (Nat.le_of_ble_eq_true rfl) ?_
          refine VV.heap (h' := pkH G h m fs aL (fgT gi n (wdI gi n (fun j => (txl "tion").getD j 0) (((a + skA gi n 101 a) + skA gi n 116 (a + skA gi n 101 a)) + skA gi n 97 ((a + skA gi n 101 a) + skA gi n 116 (a + skA gi n 101 a))) (txl "tion").length).2 p 4 (up τ (5 * M) 0)) (fgA gi n (wdI gi n (fun j => (txl "tion").getD j 0) (((a + skA gi n 101 a) + skA gi n 116 (a + skA gi n 101 a)) + skA gi n 97 ((a + skA gi n 101 a) + skA gi n 116 (a + skA gi n 101 a))) (txl "tion").length).2 4)) (pkH_pk (ne_ao hto hm)) ?_
          refine V_if_eqN (tgt := 78) F dX4_withS_71 (by decide) (Nat.lt_trans (fgO_lt (gi := gi) (n := n)) (by decide)) (fun c_71 => ?_) (fun c_71 => ?_)
          · refine V_iconst (v := nI 0) F dX4_withS_78 rfl ?_
            have hfin : wsP gi n M p (a, τ) = (0, ((fgA gi n (wdI gi n (fun j => (txl "tion").getD j 0) (((a + skA gi n 101 a) + skA gi n 116 (a + skA gi n 101 a)) + skA gi n 97 ((a + skA gi n 101 a) + skA gi n 116 (a + skA gi n 101 a))) (txl "tion").length).2 4), (fgT gi n (wdI gi n (fun j => (txl "tion").getD j 0) (((a + skA gi n 101 a) + skA gi n 116 (a + skA gi n 101 a)) + skA gi n 97 ((a + skA gi n 101 a) + skA gi n 116 (a + skA gi n 101 a))) (txl "tion").length).2 p 4 (up τ (5 * M) 0)))) := by
              first | refine Eq.trans (anP_1 c_6) ?_ | refine Eq.trans (anP_0 c_6) ?_ | refine Eq.trans (cnP_1 c_6) ?_ | refine Eq.trans (cnP_0 c_6) ?_ | skip
              first | refine Eq.trans (anP_1 c_41) ?_ | refine Eq.trans (anP_0 c_41) ?_ | refine Eq.trans (cnP_1 c_41) ?_ | refine Eq.trans (cnP_0 c_41) ?_ | skip
              first | refine Eq.trans (anP_1 c_52) ?_ | refine Eq.trans (anP_0 c_52) ?_ | refine Eq.trans (cnP_1 c_52) ?_ | refine Eq.trans (cnP_0 c_52) ?_ | skip
              first | refine Eq.trans (anP_1 c_62) ?_ | refine Eq.trans (anP_0 c_62) ?_ | refine Eq.trans (cnP_1 c_62) ?_ | refine Eq.trans (cnP_0 c_62) ?_ | skip
              first | refine Eq.trans (anP_1 c_71) ?_ | refine Eq.trans (anP_0 c_71) ?_ | refine Eq.trans (cnP_1 c_71) ?_ | refine Eq.trans (cnP_0 c_71) ?_ | skip
              first | rfl | exact Prod.ext c_71 rfl | exact Prod.ext (eq1 c_71 fgO_lt) rfl
            exact V_iret F dX4_withS_79 rfl (Nat.le_of_ble_eq_true rfl) (Nat.le_of_ble_eq_true rfl) ⟨by rw [hfin], by rw [hfin]⟩
          · refine V_iconst (v := nI 1) F dX4_withS_74 rfl ?_
            refine V_goto (tgt := 79) F dX4_withS_75 (by decide) ?_
            have hfin : wsP gi n M p (a, τ) = (1, ((fgA gi n (wdI gi n (fun j => (txl "tion").getD j 0) (((a + skA gi n 101 a) + skA gi n 116 (a + skA gi n 101 a)) + skA gi n 97 ((a + skA gi n 101 a) + skA gi n 116 (a + skA gi n 101 a))) (txl "tion").length).2 4), (fgT gi n (wdI gi n (fun j => (txl "tion").getD j 0) (((a + skA gi n 101 a) + skA gi n 116 (a + skA gi n 101 a)) + skA gi n 97 ((a + skA gi n 101 a) + skA gi n 116 (a + skA gi n 101 a))) (txl "tion").length).2 p 4 (up τ (5 * M) 0)))) := by
              first | refine Eq.trans (anP_1 c_6) ?_ | refine Eq.trans (anP_0 c_6) ?_ | refine Eq.trans (cnP_1 c_6) ?_ | refine Eq.trans (cnP_0 c_6) ?_ | skip
              first | refine Eq.trans (anP_1 c_41) ?_ | refine Eq.trans (anP_0 c_41) ?_ | refine Eq.trans (cnP_1 c_41) ?_ | refine Eq.trans (cnP_0 c_41) ?_ | skip
              first | refine Eq.trans (anP_1 c_52) ?_ | refine Eq.trans (anP_0 c_52) ?_ | refine Eq.trans (cnP_1 c_52) ?_ | refine Eq.trans (cnP_0 c_52) ?_ | skip
              first | refine Eq.trans (anP_1 c_62) ?_ | refine Eq.trans (anP_0 c_62) ?_ | refine Eq.trans (cnP_1 c_62) ?_ | refine Eq.trans (cnP_0 c_62) ?_ | skip
              first | refine Eq.trans (anP_1 c_71) ?_ | refine Eq.trans (anP_0 c_71) ?_ | refine Eq.trans (cnP_1 c_71) ?_ | refine Eq.trans (cnP_0 c_71) ?_ | skip
              first | rfl | exact Prod.ext c_71 rfl | exact Prod.ext (eq1 c_71 fgO_lt) rfl
            exact V_iret F dX4_withS_79 rfl (Nat.le_of_ble_eq_true rfl) (Nat.le_of_ble_eq_true rfl) ⟨by rw [hfin], by rw [hfin]⟩
    · refine V_iconst (v := nI 0) F dX4_withS_44 rfl ?_
      have hfin : wsP gi n M p (a, τ) = (0, (((a + skA gi n 101 a) + skA gi n 116 (a + skA gi n 101 a)), τ)) := by
        first | refine Eq.trans (anP_1 c_6) ?_ | refine Eq.trans (anP_0 c_6) ?_ | refine Eq.trans (cnP_1 c_6) ?_ | refine Eq.trans (cnP_0 c_6) ?_ | skip
        first | refine Eq.trans (anP_1 c_41) ?_ | refine Eq.trans (anP_0 c_41) ?_ | refine Eq.trans (cnP_1 c_41) ?_ | refine Eq.trans (cnP_0 c_41) ?_ | skip
        first | rfl | exact Prod.ext c_41 rfl | exact Prod.ext (eq1 c_41 skA_lt) rfl
      exact V_iret F dX4_withS_45 rfl (Nat.le_of_ble_eq_true rfl) (Nat.le_of_ble_eq_true rfl) ⟨by rw [hfin], by rw [hfin]⟩
  · refine V_aload_n (i := 0) F dX4_withS_9 rfl rfl ?_
    refine V_bipush (v := nI 6) F dX4_withS_10 rfl ?_
    refine V_ldcS F dX4_withS_12 q4143 ?_
    intro w12_3 hGw12_3
    obtain ⟨vw12_3, zw12_3, hsw12_3, hvw12_3, -⟩ := hGw12_3
    refine V_cV2r F dX4_withS_14 lk_X4_230 (ct_isWord (c := (fun j => (txl "nd").getD j 0)) pkH_m (gset h_input (by decide)) ((pkH_o (ne_ao hin hm) hIL).trans hin) (gset h_length (by decide)) (lens hlen) hn60 (gself (lenk hlen (by decide))) (skA_60 hn60 ha) hgi (gset h_told (by decide)) (pkH_l (ne_ao hto hm)) hIL (gset h_tm (by decide)) hM hsw12_3 hvw12_3 (getD_256 (by decide)) (by decide)) ⟨0, _, _, _, rfl, (.inl pkH_m)⟩ (Nat.le_of_ble_eq_true rfl) (Nat.le_of_ble_eq_true rfl) (Nat.le_of_ble_eq_true rfl) (Nat.le_of_ble_eq_true rfl) (Nat.le_of_ble_eq_true rfl) ?_
    refine VV.heap (h' := pkH G h m fs aL (up τ (5 * M) 6) (wdI gi n (fun j => (txl "nd").getD j 0) (a + skA gi n 101 a) (txl "nd").length).2) (pkH_pk (ne_ao hto hm)) ?_
    refine V_if_eqN (tgt := 33) F dX4_withS_17 (by decide) (Nat.lt_trans ((wdI_ok (gi := gi) (n := n) (c := (fun j => (txl "nd").getD j 0)) hn60 (skA_60 hn60 ha) (txl "nd").length).1) (by decide)) (fun c_17 => ?_) (fun c_17 => ?_)
    · refine V_iconst (v := nI 0) F dX4_withS_33 rfl ?_
      have hfin : wsP gi n M p (a, τ) = (0, ((wdI gi n (fun j => (txl "nd").getD j 0) (a + skA gi n 101 a) (txl "nd").length).2, (up τ (5 * M) 6))) := by
        first | refine Eq.trans (anP_1 c_6) ?_ | refine Eq.trans (anP_0 c_6) ?_ | refine Eq.trans (cnP_1 c_6) ?_ | refine Eq.trans (cnP_0 c_6) ?_ | skip
        first | refine Eq.trans (anP_1 c_17) ?_ | refine Eq.trans (anP_0 c_17) ?_ | refine Eq.trans (cnP_1 c_17) ?_ | refine Eq.trans (cnP_0 c_17) ?_ | skip
        first | rfl | exact Prod.ext c_17 rfl | exact Prod.ext (eq1 c_17 skA_lt) rfl
      exact V_iret F dX4_withS_34 rfl (Nat.le_of_ble_eq_true rfl) (Nat.le_of_ble_eq_true rfl) ⟨by rw [hfin], by rw [hfin]⟩
    · refine V_aload_n (i := 0) F dX4_withS_20 rfl rfl ?_
      refine V_iload_n (i := 1) F dX4_withS_21 rfl rfl ?_
      refine V_iconst (v := nI 4) F dX4_withS_22 rfl ?_
      refine V_cV2r F dX4_withS_23 lk_X4_234 (ct_figures pkH_m (gset h_input (by decide)) ((pkH_o (ne_ao hin hm) hIL).trans hin) (gset h_length (by decide)) (lens hlen) hn60 (gself (lenk hlen (by decide))) (wdI_ok hn60 (skA_60 hn60 ha) _).2 hgi (gset h_told (by decide)) (pkH_l (ne_ao hto hm)) hIL (by omega) (by decide)) ⟨0, _, _, _, rfl, (.inl pkH_m)⟩ (Nat.le_of_ble_eq_true rfl) (Nat.le_of_ble_eq_true rfl) (Nat.le_of_ble_eq_true rfl) (Nat.le_of_ble_eq_true rfl) (Nat.le_of_ble_eq_true rfl) ?_
      refine VV.heap (h' := pkH G h m fs aL (fgT gi n (wdI gi n (fun j => (txl "nd").getD j 0) (a + skA gi n 101 a) (txl "nd").length).2 p 4 (up τ (5 * M) 6)) (fgA gi n (wdI gi n (fun j => (txl "nd").getD j 0) (a + skA gi n 101 a) (txl "nd").length).2 4)) (pkH_pk (ne_ao hto hm)) ?_
      refine V_if_eqN (tgt := 33) F dX4_withS_26 (by decide) (Nat.lt_trans (fgO_lt (gi := gi) (n := n)) (by decide)) (fun c_26 => ?_) (fun c_26 => ?_)
      · refine V_iconst (v := nI 0) F dX4_withS_33 rfl ?_
        have hfin : wsP gi n M p (a, τ) = (0, ((fgA gi n (wdI gi n (fun j => (txl "nd").getD j 0) (a + skA gi n 101 a) (txl "nd").length).2 4), (fgT gi n (wdI gi n (fun j => (txl "nd").getD j 0) (a + skA gi n 101 a) (txl "nd").length).2 p 4 (up τ (5 * M) 6)))) := by
          first | refine Eq.trans (anP_1 c_6) ?_ | refine Eq.trans (anP_0 c_6) ?_ | refine Eq.trans (cnP_1 c_6) ?_ | refine Eq.trans (cnP_0 c_6) ?_ | skip
          first | refine Eq.trans (anP_1 c_17) ?_ | refine Eq.trans (anP_0 c_17) ?_ | refine Eq.trans (cnP_1 c_17) ?_ | refine Eq.trans (cnP_0 c_17) ?_ | skip
          first | refine Eq.trans (anP_1 c_26) ?_ | refine Eq.trans (anP_0 c_26) ?_ | refine Eq.trans (cnP_1 c_26) ?_ | refine Eq.trans (cnP_0 c_26) ?_ | skip
          first | rfl | exact Prod.ext c_26 rfl | exact Prod.ext (eq1 c_26 fgO_lt) rfl
        exact V_iret F dX4_withS_34 rfl (Nat.le_of_ble_eq_true rfl) (Nat.le_of_ble_eq_true rfl) ⟨by rw [hfin], by rw [hfin]⟩
      · refine V_iconst (v := nI 1) F dX4_withS_29 rfl ?_
        refine V_goto (tgt := 34) F dX4_withS_30 (by decide) ?_
        have hfin : wsP gi n M p (a, τ) = (1, ((fgA gi n (wdI gi n (fun j => (txl "nd").getD j 0) (a + skA gi n 101 a) (txl "nd").length).2 4), (fgT gi n (wdI gi n (fun j => (txl "nd").getD j 0) (a + skA gi n 101 a) (txl "nd").length).2 p 4 (up τ (5 * M) 6)))) := by
          first | refine Eq.trans (anP_1 c_6) ?_ | refine Eq.trans (anP_0 c_6) ?_ | refine Eq.trans (cnP_1 c_6) ?_ | refine Eq.trans (cnP_0 c_6) ?_ | skip
          first | refine Eq.trans (anP_1 c_17) ?_ | refine Eq.trans (anP_0 c_17) ?_ | refine Eq.trans (cnP_1 c_17) ?_ | refine Eq.trans (cnP_0 c_17) ?_ | skip
          first | refine Eq.trans (anP_1 c_26) ?_ | refine Eq.trans (anP_0 c_26) ?_ | refine Eq.trans (cnP_1 c_26) ?_ | refine Eq.trans (cnP_0 c_26) ?_ | skip
          first | rfl | exact Prod.ext c_26 rfl | exact Prod.ext (eq1 c_26 fgO_lt) rfl
        exact V_iret F dX4_withS_34 rfl (Nat.le_of_ble_eq_true rfl) (Nat.le_of_ble_eq_true rfl) ⟨by rw [hfin], by rw [hfin]⟩
