set_option maxRecDepth 100000
theorem pkH_at {G : GG} {h : AH} {m : Nat} {fs : List Value} {aL b b2 : Nat} {τ : Nat → Nat} : hset (pkH G h m fs aL τ b) m (.inr (0, (fs.set 22 (.int (nI b))).set 22 (.int (nI b2)))) = pkH G h m fs aL τ b2 := by
  unfold pkH; rw [List.set_set, hset_hset]
theorem pkH_tl {G : GG} {h : AH} {m : Nat} {fs : List Value} {aL b : Nat} {τ τ2 : Nat → Nat} (h1 : aL ≠ m) : hset (pkH G h m fs aL τ b) aL (iA G 155 (fun i => nI (τ2 i))) = pkH G h m fs aL τ2 b := by
  unfold pkH; rw [hset_comm (Ne.symm h1), hset_hset]
/-- a word read, sign by sign -/
def wdI (gi : Nat → Nat) (n : Nat) (c : Nat → Nat) (a : Nat) : Nat → Nat × Nat
  | 0 => (1, a)
  | k + 1 => if (wdI gi n c a k).1 = 0 then wdI gi n c a k else (skA gi n (c k) (wdI gi n c a k).2, (wdI gi n c a k).2 + skA gi n (c k) (wdI gi n c a k).2)
theorem wdI_stop {gi c : Nat → Nat} {n a j : Nat} (h : (wdI gi n c a j).1 = 0) : ∀ i, j ≤ i → wdI gi n c a i = wdI gi n c a j := by
  intro i hi
  induction i with
  | zero => rw [show j = 0 by omega]
  | succ i ih =>
    by_cases q : j = i + 1
    · rw [q]
    · have h2 := ih (by omega)
      show (if (wdI gi n c a i).1 = 0 then _ else _) = _
      rw [h2, if_pos h]
theorem wdI_ok {gi c : Nat → Nat} {n a : Nat} (hn : n ≤ 60) (ha : a ≤ 60) : ∀ k, (wdI gi n c a k).1 < 2 ∧ (wdI gi n c a k).2 ≤ 60
  | 0 => ⟨Nat.lt_succ_self 1, ha⟩
  | k + 1 => by
    obtain ⟨h1, h2⟩ := wdI_ok (gi := gi) (c := c) hn ha k
    unfold wdI; split
    · exact ⟨h1, h2⟩
    · exact ⟨skA_lt, skA_60 hn h2⟩

theorem ct_figures {G : GG} {l : Launch} {h : AH} {m : Nat} {fs : List Value} {aI : Nat} {gi : Nat → Nat} {n : Nat} {a aL : Nat} {τ : Nat → Nat} {p K : Nat} (hm : h m = some (.inr (0, fs))) (h_input : fs[8]? = some (.ref aI)) (hin : h aI = some (iA G 60 (fun i => nI (gi i)))) (h_length : fs[9]? = some (.int (nI n))) (hlen : fs.length = 25) (hn60 : n ≤ 60) (h_at : fs[22]? = some (.int (nI a))) (ha : a ≤ 60) (hgi : ∀ i, gi i < 65536) (h_told : fs[23]? = some (.ref aL)) (hto : h aL = some (iA G 155 (fun i => nI (τ i)))) (hIL : aI ≠ aL) (hp : p < 155) (hK : K < 2 ^ 31) : Ct G l yX4_figures cX4_figures 3 (some .boolean) 2 0 0 [.ref m, .int (nI p), .int (nI K)] h (PR (.int (nI (fgO gi n a))) (pkH G h m fs aL (fgT gi n a p K τ) (fgA gi n a K))) := by
  refine Ct.of (by decide) (Nat.le_of_ble_eq_true rfl) (cat1 rfl) (fun X hXl F HN => ?_)
  subst hXl
  refine VV.heap (pkH_id hm h_at hto (ne_oa hm hto)).symm ?_
  refine V_aload_n (i := 0) F dX4_figures_0 rfl rfl ?_
  refine V_bipush (v := nI 32) F dX4_figures_1 rfl ?_
  refine V_cV1r F dX4_figures_3 lk_X4_222 (ct_skips pkH_m (gset h_input (by decide)) ((pkH_o (ne_ao hin hm) hIL).trans hin) (gset h_length (by decide)) (lens hlen) hn60 (gself (lenk hlen (by decide))) (Nat.lt_of_le_of_lt ha (by decide)) (by decide) hgi) ⟨0, _, _, _, rfl, (.inl pkH_m)⟩ (Nat.le_of_ble_eq_true rfl) (Nat.le_of_ble_eq_true rfl) (Nat.le_of_ble_eq_true rfl) (Nat.le_of_ble_eq_true rfl) (Nat.le_of_ble_eq_true rfl) ?_
  refine VV.heap (h' := pkH G h m fs aL τ (a + skA gi n 32 a)) pkH_at ?_
  refine V_if_eqN (tgt := 22) F dX4_figures_6 (by decide) (Nat.lt_trans skA_lt (by decide)) (fun c_6 => ?_) (fun c_6 => ?_)
  · refine V_iconst (v := nI 0) F dX4_figures_22 rfl ?_
    have hf0 : skA gi n 32 a = 0 := c_6
    exact V_iret F dX4_figures_23 rfl (Nat.le_of_ble_eq_true rfl) (Nat.le_of_ble_eq_true rfl) ⟨by unfold fgO; rw [if_pos hf0], by unfold fgT fgA; rw [if_pos hf0, if_pos hf0, hf0]; rfl⟩
  · refine V_aload_n (i := 0) F dX4_figures_9 rfl rfl ?_
    refine V_iload_n (i := 1) F dX4_figures_10 rfl rfl ?_
    refine V_iload_n (i := 2) F dX4_figures_11 rfl rfl ?_
    refine V_cV2r F dX4_figures_12 lk_X4_225 (ct_digits pkH_m (gset h_input (by decide)) ((pkH_o (ne_ao hin hm) hIL).trans hin) (gset h_length (by decide)) (lens hlen) hn60 (gself (lenk hlen (by decide))) (skA_60 hn60 ha) hgi (gset h_told (by decide)) (pkH_l (ne_ao hto hm)) hIL hp hK) ⟨0, _, _, _, rfl, (.inl pkH_m)⟩ (Nat.le_of_ble_eq_true rfl) (Nat.le_of_ble_eq_true rfl) (Nat.le_of_ble_eq_true rfl) (Nat.le_of_ble_eq_true rfl) (Nat.le_of_ble_eq_true rfl) ?_
    refine VV.heap (h' := pkH G h m fs aL (dgT gi n (a + skA gi n 32 a) p K τ) (dgA gi n (a + skA gi n 32 a) K)) (pkH_pk (ne_ao hto hm)) ?_
    refine V_if_eqN (tgt := 22) F dX4_figures_15 (by decide) (Nat.lt_trans dgO_lt (by decide)) (fun c_15 => ?_) (fun c_15 => ?_)
    · refine V_iconst (v := nI 0) F dX4_figures_22 rfl ?_
      have hf1 : skA gi n 32 a = 1 := by have := skA_lt (gi := gi) (n := n) (c := 32) (a := a); omega
      have hd9 : dgO gi n (a + 1) = 0 := by have := dgO_lt (gi := gi) (n := n) (a := a + 1); rw [hf1] at c_15; omega
      exact V_iret F dX4_figures_23 rfl (Nat.le_of_ble_eq_true rfl) (Nat.le_of_ble_eq_true rfl) ⟨by unfold fgO; rw [if_neg (by omega), hd9], by unfold fgT fgA; rw [if_neg (by omega), if_neg (by omega), hf1]⟩
    · refine V_iconst (v := nI 1) F dX4_figures_18 rfl ?_
      refine V_goto (tgt := 23) F dX4_figures_19 (by decide) ?_
      have hf1 : skA gi n 32 a = 1 := by have := skA_lt (gi := gi) (n := n) (c := 32) (a := a); omega
      have hd9 : dgO gi n (a + 1) = 1 := by have := dgO_lt (gi := gi) (n := n) (a := a + 1); rw [hf1] at c_15; omega
      exact V_iret F dX4_figures_23 rfl (Nat.le_of_ble_eq_true rfl) (Nat.le_of_ble_eq_true rfl) ⟨by unfold fgO; rw [if_neg (by omega), hd9], by unfold fgT fgA; rw [if_neg (by omega), if_neg (by omega), hf1]⟩
theorem ct_isWord {G : GG} {l : Launch} {h : AH} {m : Nat} {fs : List Value} {aI : Nat} {gi : Nat → Nat} {n : Nat} {a aL : Nat} {τ : Nat → Nat} {w9 M : Nat} {wa wv len : Nat} {c : Nat → Nat} {hc hz : Int32} (hm : h m = some (.inr (0, fs))) (h_input : fs[8]? = some (.ref aI)) (hin : h aI = some (iA G 60 (fun i => nI (gi i)))) (h_length : fs[9]? = some (.int (nI n))) (hlen : fs.length = 25) (hn60 : n ≤ 60) (h_at : fs[22]? = some (.int (nI a))) (ha : a ≤ 60) (hgi : ∀ i, gi i < 65536) (h_told : fs[23]? = some (.ref aL)) (hto : h aL = some (iA G 155 (fun i => nI (τ i)))) (hIL : aI ≠ aL) (h_tm : fs[24]? = some (.int (nI M))) (hM : M < 31) (hws : BC G wa (.inr (22, [.ref wv, .int (nI 0), .int hc, .int hz]))) (hwv : BC G wv (.inl (G.2.1 5, len, .inl (fun j => sb_b (c j))))) (hc9 : ∀ j, c j < 256) (hln : len < 2 ^ 31) : Ct G l yX4_isWord cX4_isWord 4 (some .boolean) 4 0 0 [.ref m, .int (nI w9), .ref wa] h (PR (.int (nI (wdI gi n c a len).1)) (pkH G h m fs aL (up τ (5 * M) w9) (wdI gi n c a len).2)) := by
  refine Ct.of (by decide) (Nat.le_of_ble_eq_true rfl) (cat1 rfl) (fun X hXl F HN => ?_)
  subst hXl
  refine VV.heap (pkH_id hm h_at hto (ne_oa hm hto)).symm ?_
  refine V_aload_n (i := 0) F dX4_isWord_0 rfl rfl ?_
  refine V_getf F dX4_isWord_1 fc_X4_51_X4 (.inl pkH_m) (gset h_told (by decide)) ?_
  refine V_iconst (v := nI 5) F dX4_isWord_4 rfl ?_
  refine V_aload_n (i := 0) F dX4_isWord_5 rfl rfl ?_
  refine V_getf F dX4_isWord_6 fc_X4_211_X4 (.inl pkH_m) (gset h_tm (by decide)) ?_
  refine V_imulN F dX4_isWord_9 ?_
  refine V_iload_n (i := 1) F dX4_isWord_10 rfl rfl ?_
  refine V_iastG F dX4_isWord_11 (pkH_l (ne_ao hto hm)) (by omega) (by decide) ?_
  refine V_iconst (v := nI 0) F dX4_isWord_12 rfl ?_
  refine V_istore_n (i := 3) F dX4_isWord_13 rfl (Nat.le_of_ble_eq_true rfl) (Nat.le_of_ble_eq_true rfl) ?_
  have loop_14 : ∀ (nn : Nat) (j b : Nat), len < j + nn → j ≤ len → b ≤ 60 → wdI gi n c a j = (1, b) → VV G X 4 (EQ G X 0 0 (PR (.int (nI (wdI gi n c a len).1)) (pkH G h m fs aL (up τ (5 * M) w9) (wdI gi n c a len).2))) (pkH G h m fs aL (up τ (5 * M) w9) b) 0 0 [some (.ref (m)), some (.int (nI (w9))), some (.ref (wa)), some (.int (nI (j)))] [] 14 := by
    intro nn
    induction nn with
    | zero => intro j b hn9 hj hb hx; exact absurd hn9 (by omega)
    | succ nn ih_14 =>
      intro j b hn9 hj hb hx
      refine V_iload_n (i := 3) F dX4_isWord_14 rfl rfl ?_
      refine V_aload_n (i := 2) F dX4_isWord_15 rfl rfl ?_
      refine V_cV0r F dX4_isWord_16 lk_X4_214 (ct_J6_length (.inr hws) (.inr hwv) hc9 hln) ⟨22, _, _, _, rfl, (.inr hws)⟩ (Nat.le_of_ble_eq_true rfl) (Nat.le_of_ble_eq_true rfl) (Nat.le_of_ble_eq_true rfl) (Nat.le_of_ble_eq_true rfl) (Nat.le_of_ble_eq_true rfl) ?_
      refine V_icmp_geN (tgt := 42) F dX4_isWord_19 (by decide) (by omega) hln (fun c_19 => ?_) (fun c_19 => ?_)
      · refine V_iconst (v := nI 1) F dX4_isWord_42 rfl ?_
        exact V_iret F dX4_isWord_43 rfl (Nat.le_of_ble_eq_true rfl) (Nat.le_of_ble_eq_true rfl) ⟨by rw [show len = j by omega, hx], by rw [show len = j by omega, hx]⟩
      · refine V_aload_n (i := 0) F dX4_isWord_22 rfl rfl ?_
        refine V_aload_n (i := 2) F dX4_isWord_23 rfl rfl ?_
        refine V_iload_n (i := 3) F dX4_isWord_24 rfl rfl ?_
        refine V_cV1r F dX4_isWord_25 lk_X4_218 (ct_J6_charAt (.inr hws) (.inr hwv) hc9 hln (by omega)) ⟨22, _, _, _, rfl, (.inr hws)⟩ (Nat.le_of_ble_eq_true rfl) (Nat.le_of_ble_eq_true rfl) (Nat.le_of_ble_eq_true rfl) (Nat.le_of_ble_eq_true rfl) (Nat.le_of_ble_eq_true rfl) ?_
        refine V_cV1r F dX4_isWord_28 lk_X4_222 (ct_skips pkH_m (gset h_input (by decide)) ((pkH_o (ne_ao hin hm) hIL).trans hin) (gset h_length (by decide)) (lens hlen) hn60 (gself (lenk hlen (by decide))) (Nat.lt_of_le_of_lt hb (by decide)) (Nat.lt_trans (hc9 j) (by decide)) hgi) ⟨0, _, _, _, rfl, (.inl pkH_m)⟩ (Nat.le_of_ble_eq_true rfl) (Nat.le_of_ble_eq_true rfl) (Nat.le_of_ble_eq_true rfl) (Nat.le_of_ble_eq_true rfl) (Nat.le_of_ble_eq_true rfl) ?_
        refine VV.heap (h' := pkH G h m fs aL (up τ (5 * M) w9) (b + skA gi n (c j) b)) pkH_at ?_
        refine V_if_neN (tgt := 36) F dX4_isWord_31 (by decide) (Nat.lt_trans skA_lt (by decide)) (fun c_31 => ?_) (fun c_31 => ?_)
        · refine V_iinc (i := 3) (v := nI (j + 1)) F dX4_isWord_36 rfl (nI_add (j) 1) (Nat.le_of_ble_eq_true rfl) ?_
          refine V_goto (tgt := 14) F dX4_isWord_39 (by decide) ?_
          refine VV.weak (L' := [some (.ref (m)), some (.int (nI (w9))), some (.ref (wa)), some (.int (nI (j + 1)))]) (LW.c1 (LW.c1 (LW.c1 (LW.c1 LW.nil)))) ?_
          have h9 : wdI gi n c a (j + 1) = (skA gi n (c j) b, b + skA gi n (c j) b) := by
            show (if (wdI gi n c a j).1 = 0 then _ else _) = _
            rw [hx]; exact if_neg Nat.one_ne_zero
          have hs1 : skA gi n (c j) b = 1 := by have := skA_lt (gi := gi) (n := n) (c := c j) (a := b); omega
          exact ih_14 (j + 1) (b + skA gi n (c j) b) (by omega) (by omega) (skA_60 hn60 hb) (by rw [h9, hs1])
        · refine V_iconst (v := nI 0) F dX4_isWord_34 rfl ?_
          have h9 : wdI gi n c a (j + 1) = (skA gi n (c j) b, b + skA gi n (c j) b) := by
            show (if (wdI gi n c a j).1 = 0 then _ else _) = _
            rw [hx]; exact if_neg Nat.one_ne_zero
          have hz9 : wdI gi n c a len = (0, b + skA gi n (c j) b) := by rw [wdI_stop (j := j + 1) (by rw [h9]; exact c_31) len (by omega), h9, c_31]
          exact V_iret F dX4_isWord_35 rfl (Nat.le_of_ble_eq_true rfl) (Nat.le_of_ble_eq_true rfl) ⟨by rw [hz9], by rw [hz9]⟩
  refine VV.weak (L' := [some (.ref (m)), some (.int (nI (w9))), some (.ref (wa)), some (.int (nI (0)))]) (LW.c1 (LW.c1 (LW.c1 (LW.c1 LW.nil)))) ?_
  refine VV.heap (h' := pkH G h m fs aL (up τ (5 * M) w9) a) (pkH_tl (ne_ao hto hm)) ?_
  exact loop_14 (len + 1) 0 a (by omega) (by omega) ha rfl
