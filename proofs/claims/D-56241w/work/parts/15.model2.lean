set_option maxRecDepth 100000
def cpN (f : Nat → Nat) (p : Nat) (r : Nat → Nat) (q n : Nat) : Nat → Nat := fun i => if q ≤ i ∧ i < q + n then f (p + (i - q)) else r i
theorem cpN_0 {f r : Nat → Nat} {p q : Nat} : cpN f p r q 0 = r := by
  funext i; unfold cpN; rw [if_neg (by omega)]
theorem cpN_s {f r : Nat → Nat} {p q n : Nat} : up (cpN f p r q n) (q + n) (f (p + n)) = cpN f p r q (n + 1) := by
  funext i; unfold up cpN
  by_cases h1 : i = q + n
  · rw [if_pos h1, if_pos (by omega), h1]; congr 1; omega
  · rw [if_neg h1]
    by_cases h2 : q ≤ i ∧ i < q + n
    · rw [if_pos h2, if_pos (by omega)]
    · rw [if_neg h2, if_neg (by omega)]
/-- the row of kept states, moved by one -/
def shN (f : Nat → Nat) (n : Nat) : Nat → Nat := fun i => if i < n then f (i + 304) else f i
theorem shN_0 {f : Nat → Nat} : shN f 0 = f := by funext i; unfold shN; rw [if_neg (by omega)]
theorem shN_at {f : Nat → Nat} {n : Nat} : shN f n (n + 304) = f (n + 304) := by unfold shN; rw [if_neg (by omega)]
theorem shN_s {f : Nat → Nat} {n : Nat} : up (shN f n) n (f (n + 304)) = shN f (n + 1) := by
  funext i; unfold up shN
  by_cases h1 : i = n
  · rw [if_pos h1, if_pos (by omega), h1]
  · rw [if_neg h1]
    by_cases h2 : i < n
    · rw [if_pos h2, if_pos (by omega)]
    · rw [if_neg h2, if_neg (by omega)]
/-- how many changes are kept behind one more; the kept states -/
def kpC (ch : Nat) : Nat := if ch = 8 then 8 else ch + 1
def kpK (gk g : Nat → Nat) (ch : Nat) : Nat → Nat := if ch = 8 then cpN g 0 (shN gk 2128) 2128 304 else cpN g 0 gk (304 * ch) 304
/-- the reference's fields behind 'keeps': code 0; not within a script: one more change -/
def kpF (fs : List Value) (w ch : Nat) : List Value := if w = 0 then (fs.set 7 (.int (nI 0))).set 5 (.int (nI (kpC ch))) else fs.set 7 (.int (nI 0))
def kpH (G : GG) (h : AH) (m : Nat) (fs : List Value) (aK : Nat) (gk : Nat → Nat) (w ch : Nat) (g : Nat → Nat) : AH :=
  if w = 0 then hset (hset h m (.inr (0, kpF fs w ch))) aK (iA G 2432 (fun i => nI (kpK gk g ch i))) else hset h m (.inr (0, kpF fs w ch))
theorem kpH_m {G : GG} {h : AH} {m aK w ch : Nat} {fs : List Value} {gk g : Nat → Nat} (hne : m ≠ aK) : kpH G h m fs aK gk w ch g m = some (.inr (0, kpF fs w ch)) := by
  unfold kpH
  by_cases hw : w = 0
  · rw [if_pos hw, hset_ne hne, hset_self]
  · rw [if_neg hw, hset_self]
theorem kpH_o {G : GG} {h : AH} {m aK w ch b : Nat} {fs : List Value} {gk g : Nat → Nat} (h1 : b ≠ m) (h2 : b ≠ aK) : kpH G h m fs aK gk w ch g b = h b := by
  unfold kpH
  by_cases hw : w = 0
  · rw [if_pos hw, hset_ne h2, hset_ne h1]
  · rw [if_neg hw, hset_ne h1]
theorem kpF_len {fs : List Value} {w ch : Nat} (hl : fs.length = 25) : (kpF fs w ch).length = 25 := by
  unfold kpF; split <;> simp [hl]
theorem kpF_at {fs : List Value} {w ch k : Nat} {v : Value} (h : fs[k]? = some v) (h7 : k ≠ 7) (h5 : k ≠ 5) : (kpF fs w ch)[k]? = some v := by
  unfold kpF; split
  · exact gset (gset h (Ne.symm h7)) (Ne.symm h5)
  · exact gset h (Ne.symm h7)
theorem kpF_7 {fs : List Value} {w ch : Nat} {c : Value} : kpF (fs.set 7 c) w ch = kpF fs w ch := by
  unfold kpF; simp [List.set_set]
theorem kpH_7 {G : GG} {h : AH} {m aK w ch : Nat} {fs : List Value} {gk g : Nat → Nat} {c : Value} : kpH G (hset h m (.inr (0, fs.set 7 c))) m (fs.set 7 c) aK gk w ch g = kpH G h m fs aK gk w ch g := by
  unfold kpH; rw [kpF_7]; split <;> rw [hset_hset]

theorem ct_copies {G : GG} {l : Launch} {h : AH} {a b p q N1 N2 : Nat} {f r : Nat → Nat} (ha : h a = some (iA G N1 (fun i => nI (f i)))) (hb : h b = some (iA G N2 (fun i => nI (r i)))) (hab : a ≠ b) (h1 : p + 304 ≤ N1) (h2 : q + 304 ≤ N2) (hN1 : N1 < 2 ^ 31) (hN2 : N2 < 2 ^ 31) : Ct G l yX4_copies cX4_copies 5 none 0 0 0 [.ref a, .int (nI p), .ref b, .int (nI q)] h (PV (hset h b (iA G N2 (fun i => nI (cpN f p r q 304 i))))) := by
  refine Ct.of (by decide) (Nat.le_of_ble_eq_true rfl) (cat1 rfl) (fun X hXl F HN => ?_)
  subst hXl
  refine V_iconst (v := nI 0) F dX4_copies_0 rfl ?_
  refine V_istore (i := 4) F dX4_copies_1 (Nat.le_of_ble_eq_true rfl) (Nat.le_of_ble_eq_true rfl) ?_
  have loop_3 : ∀ (nn : Nat) (j : Nat), 304 < j + nn → j ≤ 304 → VV G X 5 (EQ G X 0 0 (PV (hset h b (iA G N2 (fun i => nI (cpN f p r q 304 i)))))) (hset h b (iA G N2 (fun i => nI ((cpN f p r q j) i)))) 0 0 [some (.ref (a)), some (.int (nI (p))), some (.ref (b)), some (.int (nI (q))), some (.int (nI (j)))] [] 3 := by
    intro nn
    induction nn with
    | zero => intro j hn hj; exact absurd hn (by omega)
    | succ nn ih_3 =>
      intro j hn hj
      refine V_iload (i := 4) F dX4_copies_3 rfl ?_
      refine V_sipush (v := nI 304) F dX4_copies_5 rfl ?_
      refine V_icmp_geN (tgt := 29) F dX4_copies_8 (by decide) (by omega) (by omega) (fun c_8 => ?_) (fun c_8 => ?_)
      · exact V_vret F dX4_copies_29 (Nat.le_of_ble_eq_true rfl) (Nat.le_of_ble_eq_true rfl) ⟨rfl, by rw [show j = 304 by omega]⟩
      · refine V_aload_n (i := 2) F dX4_copies_11 rfl rfl ?_
        refine V_iload_n (i := 3) F dX4_copies_12 rfl rfl ?_
        refine V_iload (i := 4) F dX4_copies_13 rfl ?_
        refine V_iaddN F dX4_copies_15 ?_
        refine V_aload_n (i := 0) F dX4_copies_16 rfl rfl ?_
        refine V_iload_n (i := 1) F dX4_copies_17 rfl rfl ?_
        refine V_iload (i := 4) F dX4_copies_18 rfl ?_
        refine V_iaddN F dX4_copies_20 ?_
        refine V_ialdG F dX4_copies_21 (.inl ((hset_ne hab).trans ha)) (by omega) hN1 rfl ?_
        refine V_iastG F dX4_copies_22 hset_self (by omega) hN2 ?_
        refine V_iinc (i := 4) (v := nI (j + 1)) F dX4_copies_23 rfl (nI_add (j) 1) (Nat.le_of_ble_eq_true rfl) ?_
        refine V_goto (tgt := 3) F dX4_copies_26 (by decide) ?_
        refine VV.weak (L' := [some (.ref (a)), some (.int (nI (p))), some (.ref (b)), some (.int (nI (q))), some (.int (nI ((j + 1))))]) (LW.c1 (LW.c1 (LW.c1 (LW.c1 (LW.c1 LW.nil))))) ?_
        refine VV.heap (by rw [hset_hset, cpN_s]) ?_
        exact ih_3 (j + 1) (by omega) (by omega)
  refine VV.weak (L' := [some (.ref (a)), some (.int (nI (p))), some (.ref (b)), some (.int (nI (q))), some (.int (nI (0)))]) (LW.c1 (LW.c1 (LW.c1 (LW.c1 (LW.c1 LW.nil))))) ?_
  refine VV.heap (h' := hset h b (iA G N2 (fun i => nI (cpN f p r q 0 i)))) (by rw [cpN_0]; exact (hset_id hb).symm) ?_
  exact loop_3 305 0 (by omega) (by omega)
theorem ct_fails {G : GG} {l : Launch} {h : AH} {m : Nat} {fs : List Value} {c : Nat} (hm : h m = some (.inr (0, fs))) (hlen : fs.length = 25) (hc : c < 2 ^ 31) : Ct G l yX4_fails cX4_fails 2 (some .boolean) 0 0 0 [.ref m, .int (nI (c))] h (PR (.int (b2 (0 < c))) (hset h m (.inr (0, fs.set 7 (.int (nI c)))))) := by
  refine Ct.of (by decide) (Nat.le_of_ble_eq_true rfl) (cat1 rfl) (fun X hXl F HN => ?_)
  subst hXl
  refine V_aload_n (i := 0) F dX4_fails_0 rfl rfl ?_
  refine V_iload_n (i := 1) F dX4_fails_1 rfl rfl ?_
  refine V_putf F dX4_fails_2 fp_X4_54_X4 hm rfl rfl (lenk hlen (by decide)) ?_
  refine V_iload_n (i := 1) F dX4_fails_5 rfl rfl ?_
  refine V_if_leN (tgt := 13) F dX4_fails_6 (by decide) (by omega) (fun c_6 => ?_) (fun c_6 => ?_)
  · refine V_iconst (v := nI 0) F dX4_fails_13 rfl ?_
    exact V_iret F dX4_fails_14 rfl (Nat.le_of_ble_eq_true rfl) (Nat.le_of_ble_eq_true rfl) ⟨by rw [b2_f (by omega)]; rfl, rfl⟩
  · refine V_iconst (v := nI 1) F dX4_fails_9 rfl ?_
    refine V_goto (tgt := 14) F dX4_fails_10 (by decide) ?_
    exact V_iret F dX4_fails_14 rfl (Nat.le_of_ble_eq_true rfl) (Nat.le_of_ble_eq_true rfl) ⟨by rw [b2_t (by omega)]; rfl, rfl⟩
theorem ct_failsP {G : GG} {l : Launch} {h : AH} {m : Nat} {fs : List Value} (c : Nat) (hm : h m = some (.inr (0, fs))) (hlen : fs.length = 25) (hc : 0 < c ∧ c < 2 ^ 31) : Ct G l yX4_fails cX4_fails 2 (some .boolean) 0 0 0 [.ref m, .int (nI c)] h (PR (.int (nI 1)) (hset h m (.inr (0, fs.set 7 (.int (nI c)))))) := by
  have q := ct_fails (G := G) (l := l) hm hlen hc.2
  rw [b2_t hc.1] at q
  exact q
theorem ct_fails0 {G : GG} {l : Launch} {h : AH} {m : Nat} {fs : List Value} (hm : h m = some (.inr (0, fs))) (hlen : fs.length = 25) : Ct G l yX4_fails cX4_fails 2 (some .boolean) 0 0 0 [.ref m, .int (nI 0)] h (PR (.int (nI 0)) (hset h m (.inr (0, fs.set 7 (.int (nI 0)))))) := by
  have q := ct_fails (G := G) (l := l) hm hlen (c := 0) (by decide)
  rw [b2_f (by decide)] at q
  exact q
theorem kp_end1 {G : GG} {h : AH} {m aK ch : Nat} {fs : List Value} {gk g : Nat → Nat} (hne : m ≠ aK) (hc : ch ≠ 8) (hl : fs.length = 25) : hset (hset (hset h m (.inr (0, fs.set 7 (.int (nI 0))))) aK (iA G 2432 (fun i => nI (cpN g 0 gk (304 * ch) 304 i)))) m (.inr (0, (fs.set 7 (.int (nI 0))).set 5 (.int (nI (ch + 1))))) = kpH G h m fs aK gk 0 ch g := by
  unfold kpH kpF kpK kpC
  rw [if_pos rfl, if_pos rfl, if_neg hc, if_neg hc, hset_comm (Ne.symm hne), hset_hset]
theorem kp_end2 {G : GG} {h : AH} {m aK ch : Nat} {fs : List Value} {gk g : Nat → Nat} {e : va_E} (hne : m ≠ aK) (hc : ch = 8) (hl : fs.length = 25) : hset (hset (hset (hset (hset h m (.inr (0, fs.set 7 (.int (nI 0))))) aK e) m (.inr (0, (fs.set 7 (.int (nI 0))).set 5 (.int (nI (ch - 1)))))) aK (iA G 2432 (fun i => nI (cpN g 0 (shN gk 2128) (304 * (ch - 1)) 304 i)))) m (.inr (0, ((fs.set 7 (.int (nI 0))).set 5 (.int (nI (ch - 1)))).set 5 (.int (nI (ch - 1 + 1))))) = kpH G h m fs aK gk 0 ch g := by
  subst hc
  unfold kpH kpF kpK kpC
  rw [if_pos rfl, if_pos rfl, if_pos rfl, if_pos rfl, List.set_set]
  funext b
  unfold hset
  by_cases h1 : b = aK
  · simp [h1, Ne.symm hne]
  · by_cases h2 : b = m <;> simp [h1, h2, hne]
/-- a call's outcome: thrown by number, or done -/
def PX (cd : Nat) (hF : Nat → AH) (vS : Value) (hS : AH) : Option Value → AH → Prop := fun v h' => (cd ≠ 0 → v = some (.int (nI 0)) ∧ h' = hF cd) ∧ (cd = 0 → v = some vS ∧ h' = hS)
theorem PX.fail {cd : Nat} {hF : Nat → AH} {vS : Value} {hS h' : AH} (k : Nat) (hc : cd = k) (hk : k ≠ 0) (hh : h' = hF k) : PX cd hF vS hS (some (.int (nI 0))) h' := ⟨fun _ => ⟨rfl, by rw [hc]; exact hh⟩, fun q => absurd (hc.symm.trans q) hk⟩
theorem PX.ok {cd : Nat} {hF : Nat → AH} {v vS : Value} {hS h' : AH} (hc : cd = 0) (hv : v = vS) (hh : h' = hS) : PX cd hF vS hS (some v) h' := ⟨fun q => absurd hc q, fun _ => ⟨by rw [hv], hh⟩⟩
theorem nI_btw {p : Int32} {lo hi : Nat} (h : nI lo ≤ p ∧ p ≤ nI hi) (hl : lo < 2 ^ 30) (hh : hi < 2 ^ 30) : ∃ a : Nat, lo ≤ a ∧ a ≤ hi ∧ p = nI a := by
  obtain ⟨h1, h2⟩ := h
  rw [le_toInt, nI_toInt (by omega)] at h1
  rw [le_toInt, nI_toInt (by omega)] at h2
  obtain ⟨j, hj, rfl⟩ := iR_of (p := p) (n := hi + 1) ⟨by omega, by omega⟩ (by omega)
  rw [nI_toInt (by omega)] at h1
  exact ⟨j, by omega, by omega, rfl⟩
theorem btw_nI {a lo hi : Nat} (ha : a < 2 ^ 31) (hl : lo < 2 ^ 31) (hh : hi < 2 ^ 31) : (nI lo ≤ nI a ∧ nI a ≤ nI hi) ↔ (lo ≤ a ∧ a ≤ hi) := by rw [nI_leI hl ha, nI_leI ha hh]
/-- what the walks ask of the row -/
def GW (g : Nat → Nat) : Prop := GB g ∧ g 0 ≤ 8 ∧ g 1 ≤ 6 ∧ g 2 ≤ 8 ∧ g 3 ≤ 10 ∧ (∀ t, t < g 1 → 1 ≤ g (16 + 36 * t + 3) ∧ g (16 + 36 * t + 3) ≤ 8) ∧ (∀ t k, t < g 1 → k < g (16 + 36 * t + 3) → plG g t k < g 0)

theorem ct_keeps {G : GG} {l : Launch} {h : AH} {m aK r w ch : Nat} {fs : List Value} {gk gr : Nat → Nat} (hm : h m = some (.inr (0, fs))) (hlen : fs.length = 25) (h_kept : fs[1]? = some (.ref aK)) (hkept : h aK = some (iA G 2432 (fun i => nI (gk i)))) (h_isWithin : fs[6]? = some (.int (nI w))) (hw : w < 2) (h_changes : fs[5]? = some (.int (nI ch))) (hch : ch ≤ 8) (hr : h r = some (iA G 304 (fun i => nI (gr i)))) (hrK : r ≠ aK) : Ct G l yX4_keeps cX4_keeps 3 none 1 0 0 [.ref m, .ref r] h (PV (kpH G h m fs aK gk w ch gr)) := by
  refine Ct.of (by decide) (Nat.le_of_ble_eq_true rfl) (cat1 rfl) (fun X hXl F HN => ?_)
  subst hXl
  have hmK : m ≠ aK := ne_oa hm hkept
  refine V_aload_n (i := 0) F dX4_keeps_0 rfl rfl ?_
  refine V_iconst (v := nI 0) F dX4_keeps_1 rfl ?_
  refine V_putf F dX4_keeps_2 fp_X4_54_X4 hm rfl rfl (lenk hlen (by decide)) ?_
  refine V_aload_n (i := 0) F dX4_keeps_5 rfl rfl ?_
  refine V_getf F dX4_keeps_6 fc_X4_57_X4 (.inl hset_self) (gset h_isWithin (by decide)) ?_
  refine V_if_eqN (tgt := 13) F dX4_keeps_9 (by decide) (by omega) (fun c_9 => ?_) (fun c_9 => ?_)
  · subst c_9
    refine V_aload_n (i := 0) F dX4_keeps_13 rfl rfl ?_
    refine V_getf F dX4_keeps_14 fc_X4_61_X4 (.inl hset_self) (gset h_changes (by decide)) ?_
    refine V_bipush (v := nI 8) F dX4_keeps_17 rfl ?_
    refine V_icmp_neN (tgt := 63) F dX4_keeps_19 (by decide) (by omega) (by omega) (fun c_19 => ?_) (fun c_19 => ?_)
    · refine V_aload_n (i := 1) F dX4_keeps_63 rfl rfl ?_
      refine V_iconst (v := nI 0) F dX4_keeps_64 rfl ?_
      refine V_aload_n (i := 0) F dX4_keeps_65 rfl rfl ?_
      refine V_getf F dX4_keeps_66 fc_X4_13_X4 (.inl hset_self) (gset h_kept (by decide)) ?_
      refine V_sipush (v := nI 304) F dX4_keeps_69 rfl ?_
      refine V_aload_n (i := 0) F dX4_keeps_72 rfl rfl ?_
      refine V_getf F dX4_keeps_73 fc_X4_61_X4 (.inl hset_self) (gset h_changes (by decide)) ?_
      refine V_imulN F dX4_keeps_76 ?_
      refine V_cS4v F dX4_keeps_77 lk_X4_64 (ct_copies ((hset_ne (ne_ao hr hm)).trans hr) ((hset_ne (Ne.symm hmK)).trans hkept) hrK (by omega) (by omega) (by decide) (by decide)) (Nat.le_of_ble_eq_true rfl) (Nat.le_of_ble_eq_true rfl) (Nat.le_of_ble_eq_true rfl) (Nat.le_of_ble_eq_true rfl) (Nat.le_of_ble_eq_true rfl) ?_
      refine V_aload_n (i := 0) F dX4_keeps_80 rfl rfl ?_
      refine V_dup F dX4_keeps_81 rfl ?_
      refine V_getf F dX4_keeps_82 fc_X4_61_X4 (.inl ((hset_ne hmK).trans hset_self)) (gset h_changes (by decide)) ?_
      refine V_iconst (v := nI 1) F dX4_keeps_85 rfl ?_
      refine V_iaddN F dX4_keeps_86 ?_
      refine V_putf F dX4_keeps_87 fp_X4_61_X4 ((hset_ne hmK).trans hset_self) rfl rfl (glen (lenk hlen (by decide))) ?_
      exact V_vret F dX4_keeps_90 (Nat.le_of_ble_eq_true rfl) (Nat.le_of_ble_eq_true rfl) ⟨rfl, kp_end1 hmK c_19 hlen⟩
    · refine V_iconst (v := nI 0) F dX4_keeps_22 rfl ?_
      refine V_istore_n (i := 2) F dX4_keeps_23 rfl (Nat.le_of_ble_eq_true rfl) (Nat.le_of_ble_eq_true rfl) ?_
      have loop_24 : ∀ (nn : Nat) (j : Nat), 2128 < j + nn → j ≤ 2128 → VV G X 3 (EQ G X 0 0 (PV (kpH G h m fs aK gk 0 ch gr))) (hset (hset h m (.inr (0, fs.set 7 (.int (nI (0)))))) aK (iA G 2432 (fun i => nI ((shN gk j) i)))) 0 0 [some (.ref (m)), some (.ref (r)), some (.int (nI (j)))] [] 24 := by
        intro nn
        induction nn with
        | zero => intro j hn hj; exact absurd hn (by omega)
        | succ nn ih_24 =>
          intro j hn hj
          refine V_iload_n (i := 2) F dX4_keeps_24 rfl rfl ?_
          refine V_sipush (v := nI 2128) F dX4_keeps_25 rfl ?_
          refine V_icmp_geN (tgt := 53) F dX4_keeps_28 (by decide) (by omega) (by omega) (fun c_28 => ?_) (fun c_28 => ?_)
          · obtain rfl : j = 2128 := by omega
            refine V_aload_n (i := 0) F dX4_keeps_53 rfl rfl ?_
            refine V_dup F dX4_keeps_54 rfl ?_
            refine V_getf F dX4_keeps_55 fc_X4_61_X4 (.inl ((hset_ne hmK).trans hset_self)) (gset h_changes (by decide)) ?_
            refine V_iconst (v := nI 1) F dX4_keeps_58 rfl ?_
            refine V_isubN F dX4_keeps_59 (by omega) ?_
            refine V_putf F dX4_keeps_60 fp_X4_61_X4 ((hset_ne hmK).trans hset_self) rfl rfl (lenk (lens hlen) (by decide)) ?_
            refine V_aload_n (i := 1) F dX4_keeps_63 rfl rfl ?_
            refine V_iconst (v := nI 0) F dX4_keeps_64 rfl ?_
            refine V_aload_n (i := 0) F dX4_keeps_65 rfl rfl ?_
            refine V_getf F dX4_keeps_66 fc_X4_13_X4 (.inl hset_self) (gset (gset h_kept (by decide)) (by decide)) ?_
            refine V_sipush (v := nI 304) F dX4_keeps_69 rfl ?_
            refine V_aload_n (i := 0) F dX4_keeps_72 rfl rfl ?_
            refine V_getf F dX4_keeps_73 fc_X4_61_X4 (.inl hset_self) (gself (lenk (lens hlen) (by decide))) ?_
            refine V_imulN F dX4_keeps_76 ?_
            refine V_cS4v F dX4_keeps_77 lk_X4_64 (ct_copies ((hset_ne (ne_ao hr hm)).trans ((hset_ne hrK).trans ((hset_ne (ne_ao hr hm)).trans hr))) ((hset_ne (Ne.symm hmK)).trans hset_self) hrK (by omega) (by omega) (by decide) (by decide)) (Nat.le_of_ble_eq_true rfl) (Nat.le_of_ble_eq_true rfl) (Nat.le_of_ble_eq_true rfl) (Nat.le_of_ble_eq_true rfl) (Nat.le_of_ble_eq_true rfl) ?_
            refine V_aload_n (i := 0) F dX4_keeps_80 rfl rfl ?_
            refine V_dup F dX4_keeps_81 rfl ?_
            refine V_getf F dX4_keeps_82 fc_X4_61_X4 (.inl ((hset_ne hmK).trans hset_self)) (gself (lenk (lens hlen) (by decide))) ?_
            refine V_iconst (v := nI 1) F dX4_keeps_85 rfl ?_
            refine V_iaddN F dX4_keeps_86 ?_
            refine V_putf F dX4_keeps_87 fp_X4_61_X4 ((hset_ne hmK).trans hset_self) rfl rfl (glen (lenk (lens hlen) (by decide))) ?_
            exact V_vret F dX4_keeps_90 (Nat.le_of_ble_eq_true rfl) (Nat.le_of_ble_eq_true rfl) ⟨rfl, kp_end2 hmK c_19 hlen⟩
          · refine V_aload_n (i := 0) F dX4_keeps_31 rfl rfl ?_
            refine V_getf F dX4_keeps_32 fc_X4_13_X4 (.inl ((hset_ne hmK).trans hset_self)) (gset h_kept (by decide)) ?_
            refine V_iload_n (i := 2) F dX4_keeps_35 rfl rfl ?_
            refine V_aload_n (i := 0) F dX4_keeps_36 rfl rfl ?_
            refine V_getf F dX4_keeps_37 fc_X4_13_X4 (.inl ((hset_ne hmK).trans hset_self)) (gset h_kept (by decide)) ?_
            refine V_iload_n (i := 2) F dX4_keeps_40 rfl rfl ?_
            refine V_sipush (v := nI 304) F dX4_keeps_41 rfl ?_
            refine V_iaddN F dX4_keeps_44 ?_
            refine V_ialdG F dX4_keeps_45 (.inl hset_self) (by omega) (by decide) rfl ?_
            refine V_iastG F dX4_keeps_46 hset_self (by omega) (by decide) ?_
            refine V_iinc (i := 2) (v := nI (j + 1)) F dX4_keeps_47 rfl (nI_add (j) 1) (Nat.le_of_ble_eq_true rfl) ?_
            refine V_goto (tgt := 24) F dX4_keeps_50 (by decide) ?_
            refine VV.weak (L' := [some (.ref (m)), some (.ref (r)), some (.int (nI ((j + 1))))]) (LW.c1 (LW.c1 (LW.c1 LW.nil))) ?_
            refine VV.heap (by rw [hset_hset, shN_at, shN_s]) ?_
            exact ih_24 (j + 1) (by omega) (by omega)
      refine VV.weak (L' := [some (.ref (m)), some (.ref (r)), some (.int (nI (0)))]) (LW.c1 (LW.c1 (LW.c1 LW.nil))) ?_
      refine VV.heap (h' := hset (hset h m (.inr (0, fs.set 7 (.int (nI (0)))))) aK (iA G 2432 (fun i => nI (shN gk 0 i)))) (by rw [shN_0]; exact (hset_id ((hset_ne (Ne.symm hmK)).trans hkept)).symm) ?_
      exact loop_24 2129 0 (by omega) (by omega)
  · exact V_vret F dX4_keeps_12 (Nat.le_of_ble_eq_true rfl) (Nat.le_of_ble_eq_true rfl) ⟨rfl, by unfold kpH kpF; rw [if_neg (Nat.pos_iff_ne_zero.mp c_9), if_neg (Nat.pos_iff_ne_zero.mp c_9)]⟩
