set_option maxRecDepth 100000
def mnP (P : PS → Nat × PS) : Prop := ∀ s, s.1 ≤ (P s).2.1
def avP (P : PS → Nat × PS) : Prop := ∀ s, 0 < (P s).1 → s.1 < (P s).2.1
theorem dgI_mn {gi : Nat → Nat} {n a : Nat} : ∀ k, a ≤ (dgI gi n a k).1
  | 0 => Nat.le_refl _
  | k + 1 => by
    have := dgI_mn (gi := gi) (n := n) (a := a) k
    unfold dgI; split
    · show a ≤ (dgI gi n a k).1 + 1; omega
    · exact this
theorem dgA_mn {gi : Nat → Nat} {n a k : Nat} : a ≤ dgA gi n a k := by
  unfold dgA; split
  · exact dgI_mn k
  · exact Nat.le_refl _
theorem wdI_mn {gi c : Nat → Nat} {n a : Nat} : ∀ k, a ≤ (wdI gi n c a k).2
  | 0 => Nat.le_refl _
  | k + 1 => by
    have := wdI_mn (gi := gi) (n := n) (c := c) (a := a) k
    unfold wdI; split
    · exact this
    · show a ≤ (wdI gi n c a k).2 + _; omega
theorem mn_sk {gi : Nat → Nat} {n c : Nat} : mnP (skP gi n c) := fun _ => Nat.le_add_right _ _
theorem mn_dg {gi : Nat → Nat} {n p k : Nat} : mnP (dgQ gi n p k) := fun _ => dgA_mn
theorem mn_fg {gi : Nat → Nat} {n p k : Nat} : mnP (fgQ gi n p k) := by
  intro s
  show s.1 ≤ fgA gi n s.1 k
  unfold fgA; split
  · exact Nat.le_refl _
  · exact Nat.le_trans (Nat.le_add_right _ 1) dgA_mn
theorem mn_wd {gi : Nat → Nat} {n M w : Nat} {tx : String} : mnP (wdQ gi n M w tx) := fun _ => wdI_mn _
theorem mn_no : mnP noP := fun _ => Nat.le_refl _
theorem mn_an {x y : PS → Nat × PS} (hx : mnP x) (hy : mnP y) : mnP (anP x y) := by
  intro s
  have h1 := hx s
  have h2 := hy (x s).2
  unfold anP; split
  · exact h1
  · exact Nat.le_trans h1 h2
theorem mn_cn {t x y : PS → Nat × PS} (ht : mnP t) (hx : mnP x) (hy : mnP y) : mnP (cnP t x y) := by
  intro s
  have h1 := ht s
  have h2 := hy (t s).2
  have h3 := hx (t s).2
  unfold cnP; split
  · exact Nat.le_trans h1 h2
  · exact Nat.le_trans h1 h3
theorem av_no : avP noP := fun _ h => absurd h (Nat.lt_irrefl 0)
theorem av_cn {gi : Nat → Nat} {n c : Nat} {x y : PS → Nat × PS} (hx : mnP x) (hy : avP y) : avP (cnP (skP gi n c) x y) := by
  intro s h
  by_cases q : (skP gi n c s).1 = 0
  · rw [cnP_0 q] at h ⊢
    have h1 := hy _ h
    exact Nat.lt_of_le_of_lt (mn_sk s) h1
  · have q2 : 0 < (skP gi n c s).1 := Nat.pos_of_ne_zero q
    rw [cnP_1 q2]
    have h1 := hx (skP gi n c s).2
    have h2 : s.1 < (skP gi n c s).2.1 := by show s.1 < s.1 + skA gi n c s.1; have q3 : 0 < skA gi n c s.1 := q2; omega
    exact Nat.lt_of_lt_of_le h2 h1
theorem mn_ws {gi : Nat → Nat} {n M p : Nat} : mnP (wsP gi n M p) :=
  mn_cn mn_sk (mn_an mn_wd mn_fg) (mn_cn mn_sk (mn_cn mn_sk (mn_an mn_wd mn_fg) (mn_an mn_wd (mn_an mn_fg (mn_an mn_dg (mn_an mn_fg mn_fg))))) mn_no)
theorem av_cm {gi : Nat → Nat} {n M p : Nat} : avP (cmP gi n M p) :=
  av_cn mn_ws
   (av_cn (mn_cn mn_sk (mn_an mn_wd mn_fg) (mn_an mn_wd (mn_an mn_fg (mn_an mn_fg mn_fg))))
   (av_cn (mn_an mn_wd (mn_an mn_fg (mn_an mn_dg mn_fg)))
   (av_cn (mn_an mn_wd (mn_an mn_fg (mn_an mn_fg mn_dg)))
   (av_cn (mn_an mn_wd mn_fg)
   (av_cn (mn_cn mn_sk (mn_cn mn_sk (mn_an mn_wd (mn_an mn_fg mn_fg)) (mn_an mn_wd (mn_an mn_fg mn_fg))) mn_no) av_no)))))
/-- a script read: told to 0 or 1, how many commands, what is left -/
def scF (gi : Nat → Nat) (n : Nat) : Nat → Nat → PS → Nat × Nat × PS
  | 0, M, s => (0, M, s)
  | K + 1, M, s => if (cmP gi n M (5 * M + 1) s).1 = 0 then (0, M, (cmP gi n M (5 * M + 1) s).2) else
      if skA gi n 59 (cmP gi n M (5 * M + 1) s).2.1 = 0 then ((if (cmP gi n M (5 * M + 1) s).2.1 = n then 1 else 0), M + 1, (cmP gi n M (5 * M + 1) s).2)
      else scF gi n K (M + 1) ((cmP gi n M (5 * M + 1) s).2.1 + 1, (cmP gi n M (5 * M + 1) s).2.2)
abbrev scL (fs : List Value) (M a : Nat) : List Value := (fs.set 24 (.int (nI M))).set 22 (.int (nI a))
def scH (G : GG) (h : AH) (m : Nat) (fs : List Value) (aL : Nat) (τ : Nat → Nat) (M a : Nat) : AH := hset (hset h aL (iA G 155 (fun i => nI (τ i)))) m (.inr (0, scL fs M a))
theorem scH_m {G : GG} {h : AH} {m : Nat} {fs : List Value} {aL M a : Nat} {τ : Nat → Nat} : scH G h m fs aL τ M a m = some (.inr (0, scL fs M a)) := hset_self
theorem scH_l {G : GG} {h : AH} {m : Nat} {fs : List Value} {aL M a : Nat} {τ : Nat → Nat} (h1 : aL ≠ m) : scH G h m fs aL τ M a aL = some (iA G 155 (fun i => nI (τ i))) := (hset_ne h1).trans hset_self
theorem scH_o {G : GG} {h : AH} {m : Nat} {fs : List Value} {aL M a c : Nat} {τ : Nat → Nat} (h1 : c ≠ m) (h2 : c ≠ aL) : scH G h m fs aL τ M a c = h c := (hset_ne h1).trans (hset_ne h2)
theorem scH_pk {G : GG} {h : AH} {m : Nat} {fs : List Value} {aL M a b : Nat} {τ τ2 : Nat → Nat} (h1 : aL ≠ m) : pkH G (scH G h m fs aL τ M a) m (scL fs M a) aL τ2 b = scH G h m fs aL τ2 M b := by
  unfold pkH scH scL
  rw [List.set_set, hset_comm (Ne.symm h1), hset_hset, hset_hset]
theorem scH_24 {G : GG} {h : AH} {m : Nat} {fs : List Value} {aL M N a : Nat} {τ : Nat → Nat} : hset (scH G h m fs aL τ M a) m (.inr (0, (scL fs M a).set 24 (.int (nI N)))) = scH G h m fs aL τ N a := by
  unfold scH scL
  rw [List.set_comm _ _ (by decide : 22 ≠ 24), List.set_set, hset_hset]
theorem scH_22 {G : GG} {h : AH} {m : Nat} {fs : List Value} {aL M a b : Nat} {τ : Nat → Nat} : hset (scH G h m fs aL τ M a) m (.inr (0, (scL fs M a).set 22 (.int (nI b)))) = scH G h m fs aL τ M b := by
  unfold scH scL
  rw [List.set_set, hset_hset]
theorem scH_0 {G : GG} {h : AH} {m : Nat} {fs : List Value} {aL : Nat} {τ : Nat → Nat} (hl : h aL = some (iA G 155 (fun i => nI (τ i)))) : hset (hset h m (.inr (0, fs.set 22 (.int (nI 0))))) m (.inr (0, (fs.set 22 (.int (nI 0))).set 24 (.int (nI 0)))) = scH G h m fs aL τ 0 0 := by
  unfold scH scL
  rw [hset_hset, hset_id hl, List.set_comm _ _ (by decide : 22 ≠ 24)]
theorem scF_0 {gi : Nat → Nat} {n K M : Nat} {s : PS} (h : (cmP gi n M (5 * M + 1) s).1 = 0) : scF gi n (K + 1) M s = (0, M, (cmP gi n M (5 * M + 1) s).2) := if_pos h
theorem scF_1 {gi : Nat → Nat} {n K M : Nat} {s : PS} (h : 0 < (cmP gi n M (5 * M + 1) s).1) (h2 : skA gi n 59 (cmP gi n M (5 * M + 1) s).2.1 = 0) : scF gi n (K + 1) M s = ((if (cmP gi n M (5 * M + 1) s).2.1 = n then 1 else 0), M + 1, (cmP gi n M (5 * M + 1) s).2) := (if_neg (Nat.pos_iff_ne_zero.mp h)).trans (if_pos h2)
theorem scF_2 {gi : Nat → Nat} {n K M : Nat} {s : PS} (h : 0 < (cmP gi n M (5 * M + 1) s).1) (h2 : 0 < skA gi n 59 (cmP gi n M (5 * M + 1) s).2.1) : scF gi n (K + 1) M s = scF gi n K (M + 1) ((cmP gi n M (5 * M + 1) s).2.1 + 1, (cmP gi n M (5 * M + 1) s).2.2) := (if_neg (Nat.pos_iff_ne_zero.mp h)).trans (if_neg (Nat.pos_iff_ne_zero.mp h2))

theorem ct_isScript {G : GG} {l : Launch} {h : AH} {m : Nat} {fs : List Value} {aI : Nat} {gi : Nat → Nat} {n : Nat} {aL : Nat} {τ : Nat → Nat} (hm : h m = some (.inr (0, fs))) (h_input : fs[8]? = some (.ref aI)) (hin : h aI = some (iA G 60 (fun i => nI (gi i)))) (h_length : fs[9]? = some (.int (nI n))) (hlen : fs.length = 25) (hn60 : n ≤ 60) (hgi : ∀ i, gi i < 65536) (h_told : fs[23]? = some (.ref aL)) (hto : h aL = some (iA G 155 (fun i => nI (τ i)))) (hIL : aI ≠ aL) : Ct G l yX4_isScript cX4_isScript 1 (some .boolean) 7 0 0 [.ref m] h (PR (.int (nI (scF gi n 61 0 (0, τ)).1)) (scH G h m fs aL (scF gi n 61 0 (0, τ)).2.2.2 (scF gi n 61 0 (0, τ)).2.1 (scF gi n 61 0 (0, τ)).2.2.1)) := by
  refine Ct.of (by decide) (Nat.le_of_ble_eq_true rfl) (cat1 rfl) (fun X hXl F HN => ?_)
  subst hXl
  refine V_aload_n (i := 0) F dX4_isScript_0 rfl rfl ?_
  refine V_iconst (v := nI 0) F dX4_isScript_1 rfl ?_
  refine V_putf F dX4_isScript_2 fp_X4_205_X4 hm rfl rfl (lenk hlen (by decide)) ?_
  refine V_aload_n (i := 0) F dX4_isScript_5 rfl rfl ?_
  refine V_iconst (v := nI 0) F dX4_isScript_6 rfl ?_
  refine V_putf F dX4_isScript_7 fp_X4_211_X4 hset_self rfl rfl (glen (lenk hlen (by decide))) ?_
  have loop_10 : ∀ (nn : Nat) (M b K : Nat) (t9 : Nat → Nat), 60 < b + nn → 61 ≤ K + b → b ≤ 60 → 2 * M ≤ b → scF gi n K M (b, t9) = (scF gi n 61 0 (0, τ)) → VV G X 1 (EQ G X 0 0 (PR (.int (nI (scF gi n 61 0 (0, τ)).1)) (scH G h m fs aL (scF gi n 61 0 (0, τ)).2.2.2 (scF gi n 61 0 (0, τ)).2.1 (scF gi n 61 0 (0, τ)).2.2.1))) (scH G h m fs aL t9 M b) 0 0 [some (.ref (m))] [] 10 := by
    intro nn
    induction nn with
    | zero => intro M b K t9 hn9 hK hb hMb hR; exact absurd hn9 (by omega)
    | succ nn ih_10 =>
      intro M b K t9 hn9 hK hb hMb hR
      refine V_aload_n (i := 0) F dX4_isScript_10 rfl rfl ?_
      refine V_cV0r F dX4_isScript_11 lk_X4_258 (ct_commandHere scH_m (gset (gset h_input (by decide)) (by decide)) ((scH_o (ne_ao hin hm) hIL).trans hin) (gset (gset h_length (by decide)) (by decide)) (lens (lens hlen)) hn60 (gself (lenk (lens hlen) (by decide))) hb hgi (gset (gset h_told (by decide)) (by decide)) (scH_l (ne_ao hto hm)) hIL (gset (gself (lenk hlen (by decide))) (by decide)) (by omega)) ⟨0, _, _, _, rfl, (.inl scH_m)⟩ (Nat.le_of_ble_eq_true rfl) (Nat.le_of_ble_eq_true rfl) (Nat.le_of_ble_eq_true rfl) (Nat.le_of_ble_eq_true rfl) (Nat.le_of_ble_eq_true rfl) ?_
      refine VV.heap (h' := scH G h m fs aL (cmP gi n M (5 * M + 1) (b, t9)).2.2 M (cmP gi n M (5 * M + 1) (b, t9)).2.1) (scH_pk (ne_ao hto hm)) ?_
      have hok := ok_cm (gi := gi) (M := M) (p := 5 * M + 1) hn60 (b, t9) hb
      refine V_if_neN (tgt := 19) F dX4_isScript_14 (by decide) (Nat.lt_trans hok.1 (by decide)) (fun c_14 => ?_) (fun c_14 => ?_)
      · refine V_aload_n (i := 0) F dX4_isScript_19 rfl rfl ?_
        refine V_dup F dX4_isScript_20 rfl ?_
        refine V_getf F dX4_isScript_21 fc_X4_211_X4 (.inl scH_m) (gset (gself (lenk hlen (by decide))) (by decide)) ?_
        refine V_iconst (v := nI 1) F dX4_isScript_24 rfl ?_
        refine V_iaddN F dX4_isScript_25 ?_
        refine V_putf F dX4_isScript_26 fp_X4_211_X4 scH_m rfl rfl (lenk (lens (lens hlen)) (by decide)) ?_
        refine VV.heap (h' := scH G h m fs aL (cmP gi n M (5 * M + 1) (b, t9)).2.2 (M + 1) (cmP gi n M (5 * M + 1) (b, t9)).2.1) scH_24 ?_
        refine V_aload_n (i := 0) F dX4_isScript_29 rfl rfl ?_
        refine V_bipush (v := nI 59) F dX4_isScript_30 rfl ?_
        refine V_cV1r F dX4_isScript_32 lk_X4_222 (ct_skips scH_m (gset (gset h_input (by decide)) (by decide)) ((scH_o (ne_ao hin hm) hIL).trans hin) (gset (gset h_length (by decide)) (by decide)) (lens (lens hlen)) hn60 (gself (lenk (lens hlen) (by decide))) (Nat.lt_of_le_of_lt hok.2 (by decide)) (by decide) hgi) ⟨0, _, _, _, rfl, (.inl scH_m)⟩ (Nat.le_of_ble_eq_true rfl) (Nat.le_of_ble_eq_true rfl) (Nat.le_of_ble_eq_true rfl) (Nat.le_of_ble_eq_true rfl) (Nat.le_of_ble_eq_true rfl) ?_
        refine VV.heap (h' := scH G h m fs aL (cmP gi n M (5 * M + 1) (b, t9)).2.2 (M + 1) ((cmP gi n M (5 * M + 1) (b, t9)).2.1 + skA gi n 59 (cmP gi n M (5 * M + 1) (b, t9)).2.1)) scH_22 ?_
        refine V_if_neN (tgt := 10) F dX4_isScript_35 (by decide) (Nat.lt_trans skA_lt (by decide)) (fun c_35 => ?_) (fun c_35 => ?_)
        · refine VV.weak (L' := [some (.ref (m))]) (LW.c1 LW.nil) ?_
          obtain ⟨K2, rfl⟩ : ∃ K2, K = K2 + 1 := ⟨K - 1, by omega⟩
          have hs1 : skA gi n 59 (cmP gi n M (5 * M + 1) (b, t9)).2.1 = 1 := by have := skA_lt (gi := gi) (n := n) (c := 59) (a := (cmP gi n M (5 * M + 1) (b, t9)).2.1); omega
          have hav : b < (cmP gi n M (5 * M + 1) (b, t9)).2.1 := av_cm (b, t9) c_14
          have h60 := skA_60 (gi := gi) (c := 59) hn60 hok.2
          refine VV.heap (h' := scH G h m fs aL (cmP gi n M (5 * M + 1) (b, t9)).2.2 (M + 1) ((cmP gi n M (5 * M + 1) (b, t9)).2.1 + 1)) (by rw [hs1]) ?_
          exact ih_10 (M + 1) ((cmP gi n M (5 * M + 1) (b, t9)).2.1 + 1) K2 (cmP gi n M (5 * M + 1) (b, t9)).2.2 (by omega) (by omega) (by omega) (by omega) ((scF_2 c_14 c_35).symm.trans hR)
        · refine V_aload_n (i := 0) F dX4_isScript_38 rfl rfl ?_
          refine V_getf F dX4_isScript_39 fc_X4_205_X4 (.inl scH_m) (gself (lenk (lens hlen) (by decide))) ?_
          refine V_aload_n (i := 0) F dX4_isScript_42 rfl rfl ?_
          refine V_getf F dX4_isScript_43 fc_X4_202_X4 (.inl scH_m) (gset (gset h_length (by decide)) (by decide)) ?_
          refine V_icmp_neN (tgt := 53) F dX4_isScript_46 (by decide) (Nat.lt_of_le_of_lt (skA_60 hn60 hok.2) (by decide)) (by omega) (fun c_46 => ?_) (fun c_46 => ?_)
          · refine V_iconst (v := nI 0) F dX4_isScript_53 rfl ?_
            obtain ⟨K2, rfl⟩ : ∃ K2, K = K2 + 1 := ⟨K - 1, by omega⟩
            have hfin := hR.symm.trans (scF_1 (K := K2) c_14 c_35)
            exact V_iret F dX4_isScript_54 rfl (Nat.le_of_ble_eq_true rfl) (Nat.le_of_ble_eq_true rfl) ⟨by rw [hfin]; exact congrArg (fun z => some (Value.int (nI z))) (if_neg (by rw [c_35, Nat.add_zero] at c_46; exact c_46)).symm, by rw [hfin, c_35]; rfl⟩
          · refine V_iconst (v := nI 1) F dX4_isScript_49 rfl ?_
            refine V_goto (tgt := 54) F dX4_isScript_50 (by decide) ?_
            obtain ⟨K2, rfl⟩ : ∃ K2, K = K2 + 1 := ⟨K - 1, by omega⟩
            have hfin := hR.symm.trans (scF_1 (K := K2) c_14 c_35)
            exact V_iret F dX4_isScript_54 rfl (Nat.le_of_ble_eq_true rfl) (Nat.le_of_ble_eq_true rfl) ⟨by rw [hfin]; exact congrArg (fun z => some (Value.int (nI z))) (if_pos (by rw [c_35, Nat.add_zero] at c_46; exact c_46)).symm, by rw [hfin, c_35]; rfl⟩
      · refine V_iconst (v := nI 0) F dX4_isScript_17 rfl ?_
        obtain ⟨K2, rfl⟩ : ∃ K2, K = K2 + 1 := ⟨K - 1, by omega⟩
        have hfin := hR.symm.trans (scF_0 (K := K2) c_14)
        exact V_iret F dX4_isScript_18 rfl (Nat.le_of_ble_eq_true rfl) (Nat.le_of_ble_eq_true rfl) ⟨by rw [hfin], by rw [hfin]⟩
  refine VV.weak (L' := [some (.ref (m))]) (LW.c1 LW.nil) ?_
  refine VV.heap (h' := scH G h m fs aL τ 0 0) (scH_0 hto) ?_
  exact loop_10 62 0 0 61 τ (by omega) (by omega) (by omega) (by omega) rfl
