set_option maxRecDepth 100000
theorem set_same {fs : List Value} {k : Nat} {v : Value} (h : fs[k]? = some v) : fs.set k v = fs := by
  apply List.ext_getElem?
  intro i
  rw [List.getElem?_set]
  split
  · next q => subst q; split
              · exact h.symm
              · next q2 => rw [List.getElem?_eq_none (by omega)]
  · rfl
theorem rP_inj {u c : Nat} (hu : u < 2 ^ 31) (hc : c < 2 ^ 31) : rP u = nI c ↔ u = c + 1 := by
  cases u with
  | zero =>
    constructor
    · intro q
      have := congrArg Int32.toInt q
      rw [nI_toInt hc] at this
      have h2 : (rP 0).toInt = -1 := by decide
      omega
    · intro q; omega
  | succ j =>
    constructor
    · intro q
      have := congrArg Int32.toInt (show nI j = nI c from q)
      rw [nI_toInt hc, nI_toInt (by omega)] at this
      omega
    · intro q; rw [show j = c by omega]; rfl
/-- what stands at a place of the text, and one more; behind it: 0 -/
def hrN (gi : Nat → Nat) (n a : Nat) : Nat := if a < n then gi a + 1 else 0
def skA (gi : Nat → Nat) (n c a : Nat) : Nat := if hrN gi n a = c + 1 then 1 else 0
theorem skA_lt {gi : Nat → Nat} {n c a : Nat} : skA gi n c a < 2 := by unfold skA; split <;> omega

theorem ct_errorPosition {G : GG} {l : Launch} {h : AH} {m : Nat} {fs : List Value} {f : Nat} (hm : h m = some (.inr (0, fs))) (h_f : fs[10]? = some (.int (rP f))) (hf : f < 2 ^ 31) (hlen : fs.length = 25) : Ct G l yX4_errorPosition cX4_errorPosition 1 (some .int) 1 0 0 [.ref m] h (PX (if f = 0 then 1 else 0) (fun k => hset h m (.inr (0, fs.set 7 (.int (nI k))))) (.int (rP f)) (hset h m (.inr (0, fs.set 7 (.int (nI 0)))))) := by
  refine Ct.of (by decide) (Nat.le_of_ble_eq_true rfl) (cat1 rfl) (fun X hXl F HN => ?_)
  subst hXl
  refine V_aload_n (i := 0) F dX4_errorPosition_0 rfl rfl ?_
  refine V_aload_n (i := 0) F dX4_errorPosition_1 rfl rfl ?_
  refine V_getf F dX4_errorPosition_2 fc_X4_25_X4 (.inl hm) h_f ?_
  rcases f with _ | j
  · refine V_if_ge (tgt := 12) F dX4_errorPosition_5 (by decide) (fun c_5 => absurd c_5 (show ¬ (0 : Int32) ≤ -1 by decide)) (fun c_5 => ?_)
    refine V_iconst (v := nI 1) F dX4_errorPosition_8 rfl ?_
    refine V_goto (tgt := 13) F dX4_errorPosition_9 (by decide) ?_
    refine V_cV1r F dX4_errorPosition_13 lk_X4_92 (ct_failsP 1 hm hlen (by decide)) ⟨0, _, _, _, rfl, (.inl hm)⟩ (Nat.le_of_ble_eq_true rfl) (Nat.le_of_ble_eq_true rfl) (Nat.le_of_ble_eq_true rfl) (Nat.le_of_ble_eq_true rfl) (Nat.le_of_ble_eq_true rfl) ?_
    refine V_if_eqN (tgt := 23) F dX4_errorPosition_16 (by decide) (by omega) (fun c_16 => absurd c_16 (by decide)) (fun c_16 => ?_)
    refine V_iconst (v := nI 0) F dX4_errorPosition_19 rfl ?_
    refine V_goto (tgt := 27) F dX4_errorPosition_20 (by decide) ?_
    exact V_iret F dX4_errorPosition_27 rfl (Nat.le_of_ble_eq_true rfl) (Nat.le_of_ble_eq_true rfl) (PX.fail 1 rfl (by decide) rfl)
  · refine V_if_geN (tgt := 12) F dX4_errorPosition_5 (by decide) (by omega) ?_
    refine V_iconst (v := nI 0) F dX4_errorPosition_12 rfl ?_
    refine V_cV1r F dX4_errorPosition_13 lk_X4_92 (ct_fails0 hm hlen) ⟨0, _, _, _, rfl, (.inl hm)⟩ (Nat.le_of_ble_eq_true rfl) (Nat.le_of_ble_eq_true rfl) (Nat.le_of_ble_eq_true rfl) (Nat.le_of_ble_eq_true rfl) (Nat.le_of_ble_eq_true rfl) ?_
    refine V_if_eqN (tgt := 23) F dX4_errorPosition_16 (by decide) (by omega) (fun c_16 => ?_) (fun c_16 => absurd c_16 (by decide))
    refine V_aload_n (i := 0) F dX4_errorPosition_23 rfl rfl ?_
    refine V_getf F dX4_errorPosition_24 fc_X4_25_X4 (.inl hset_self) (gset h_f (by decide)) ?_
    exact V_iret F dX4_errorPosition_27 rfl (Nat.le_of_ble_eq_true rfl) (Nat.le_of_ble_eq_true rfl) (PX.ok (if_neg (by omega)) rfl rfl)
theorem ct_failedCommand {G : GG} {l : Launch} {h : AH} {m : Nat} {fs : List Value} {f : Nat} (hm : h m = some (.inr (0, fs))) (h_f : fs[11]? = some (.int (rP f))) (hf : f < 2 ^ 31) (hlen : fs.length = 25) : Ct G l yX4_failedCommand cX4_failedCommand 1 (some .int) 1 0 0 [.ref m] h (PX (if f = 0 then 1 else 0) (fun k => hset h m (.inr (0, fs.set 7 (.int (nI k))))) (.int (rP f)) (hset h m (.inr (0, fs.set 7 (.int (nI 0)))))) := by
  refine Ct.of (by decide) (Nat.le_of_ble_eq_true rfl) (cat1 rfl) (fun X hXl F HN => ?_)
  subst hXl
  refine V_aload_n (i := 0) F dX4_failedCommand_0 rfl rfl ?_
  refine V_aload_n (i := 0) F dX4_failedCommand_1 rfl rfl ?_
  refine V_getf F dX4_failedCommand_2 fc_X4_29_X4 (.inl hm) h_f ?_
  rcases f with _ | j
  · refine V_if_ge (tgt := 12) F dX4_failedCommand_5 (by decide) (fun c_5 => absurd c_5 (show ¬ (0 : Int32) ≤ -1 by decide)) (fun c_5 => ?_)
    refine V_iconst (v := nI 1) F dX4_failedCommand_8 rfl ?_
    refine V_goto (tgt := 13) F dX4_failedCommand_9 (by decide) ?_
    refine V_cV1r F dX4_failedCommand_13 lk_X4_92 (ct_failsP 1 hm hlen (by decide)) ⟨0, _, _, _, rfl, (.inl hm)⟩ (Nat.le_of_ble_eq_true rfl) (Nat.le_of_ble_eq_true rfl) (Nat.le_of_ble_eq_true rfl) (Nat.le_of_ble_eq_true rfl) (Nat.le_of_ble_eq_true rfl) ?_
    refine V_if_eqN (tgt := 23) F dX4_failedCommand_16 (by decide) (by omega) (fun c_16 => absurd c_16 (by decide)) (fun c_16 => ?_)
    refine V_iconst (v := nI 0) F dX4_failedCommand_19 rfl ?_
    refine V_goto (tgt := 27) F dX4_failedCommand_20 (by decide) ?_
    exact V_iret F dX4_failedCommand_27 rfl (Nat.le_of_ble_eq_true rfl) (Nat.le_of_ble_eq_true rfl) (PX.fail 1 rfl (by decide) rfl)
  · refine V_if_geN (tgt := 12) F dX4_failedCommand_5 (by decide) (by omega) ?_
    refine V_iconst (v := nI 0) F dX4_failedCommand_12 rfl ?_
    refine V_cV1r F dX4_failedCommand_13 lk_X4_92 (ct_fails0 hm hlen) ⟨0, _, _, _, rfl, (.inl hm)⟩ (Nat.le_of_ble_eq_true rfl) (Nat.le_of_ble_eq_true rfl) (Nat.le_of_ble_eq_true rfl) (Nat.le_of_ble_eq_true rfl) (Nat.le_of_ble_eq_true rfl) ?_
    refine V_if_eqN (tgt := 23) F dX4_failedCommand_16 (by decide) (by omega) (fun c_16 => ?_) (fun c_16 => absurd c_16 (by decide))
    refine V_aload_n (i := 0) F dX4_failedCommand_23 rfl rfl ?_
    refine V_getf F dX4_failedCommand_24 fc_X4_29_X4 (.inl hset_self) (gset h_f (by decide)) ?_
    exact V_iret F dX4_failedCommand_27 rfl (Nat.le_of_ble_eq_true rfl) (Nat.le_of_ble_eq_true rfl) (PX.ok (if_neg (by omega)) rfl rfl)
theorem ct_undo {G : GG} {l : Launch} {h : AH} {m : Nat} {fs : List Value} {aG : Nat} {g : Nat → Nat} {aK : Nat} {gk : Nat → Nat} {ch : Nat}  (hm : h m = some (.inr (0, fs))) (h_g : fs[0]? = some (.ref aG)) (hg : h aG = some (iA G 304 (fun i => nI (g i)))) (h_kept : fs[1]? = some (.ref aK)) (hk : h aK = some (iA G 2432 (fun i => nI (gk i)))) (h_changes : fs[5]? = some (.int (nI (ch)))) (hlen : fs.length = 25) (hch : ch ≤ 8) (hGK : aG ≠ aK) : Ct G l yX4_undo cX4_undo 1 (some .int) 1 0 0 [.ref m] h (PX (if ch = 0 then 1 else 0) (fun k => hset h m (.inr (0, fs.set 7 (.int (nI k))))) (.int (nI (ch - 1))) (hset (hset h m (.inr (0, (fs.set 7 (.int (nI 0))).set 5 (.int (nI (ch - 1)))))) aG (iA G 304 (fun i => nI (cpN gk (304 * (ch - 1)) g 0 304 i))))) := by
  refine Ct.of (by decide) (Nat.le_of_ble_eq_true rfl) (cat1 rfl) (fun X hXl F HN => ?_)
  subst hXl
  refine V_aload_n (i := 0) F dX4_undo_0 rfl rfl ?_
  refine V_aload_n (i := 0) F dX4_undo_1 rfl rfl ?_
  refine V_getf F dX4_undo_2 fc_X4_61_X4 (.inl hm) h_changes ?_
  refine V_if_neN (tgt := 12) F dX4_undo_5 (by decide) (by omega) (fun c_5 => ?_) (fun c_5 => ?_)
  · refine V_iconst (v := nI 0) F dX4_undo_12 rfl ?_
    refine V_cV1r F dX4_undo_13 lk_X4_92 (ct_fails0 hm hlen) ⟨0, _, _, _, rfl, (.inl hm)⟩ (Nat.le_of_ble_eq_true rfl) (Nat.le_of_ble_eq_true rfl) (Nat.le_of_ble_eq_true rfl) (Nat.le_of_ble_eq_true rfl) (Nat.le_of_ble_eq_true rfl) ?_
    refine V_if_eqN (tgt := 21) F dX4_undo_16 (by decide) (by omega) (fun c_16 => ?_) (fun c_16 => absurd c_16 (by decide))
    refine V_aload_n (i := 0) F dX4_undo_21 rfl rfl ?_
    refine V_dup F dX4_undo_22 rfl ?_
    refine V_getf F dX4_undo_23 fc_X4_61_X4 (.inl hset_self) (gset h_changes (by decide)) ?_
    refine V_iconst (v := nI 1) F dX4_undo_26 rfl ?_
    refine V_isubN F dX4_undo_27 (by omega) ?_
    refine V_putf F dX4_undo_28 fp_X4_61_X4 hset_self rfl rfl (lenk (lens hlen) (by decide)) ?_
    refine V_aload_n (i := 0) F dX4_undo_31 rfl rfl ?_
    refine V_getf F dX4_undo_32 fc_X4_13_X4 (.inl hset_self) (gset (gset h_kept (by decide)) (by decide)) ?_
    refine V_sipush (v := nI 304) F dX4_undo_35 rfl ?_
    refine V_aload_n (i := 0) F dX4_undo_38 rfl rfl ?_
    refine V_getf F dX4_undo_39 fc_X4_61_X4 (.inl hset_self) (gself (lenk (lens hlen) (by decide))) ?_
    refine V_imulN F dX4_undo_42 ?_
    refine V_aload_n (i := 0) F dX4_undo_43 rfl rfl ?_
    refine V_getf F dX4_undo_44 fc_X4_7_X4 (.inl hset_self) (gset (gset h_g (by decide)) (by decide)) ?_
    refine V_iconst (v := nI 0) F dX4_undo_47 rfl ?_
    refine V_cS4v F dX4_undo_48 lk_X4_64 (ct_copies ((hset_ne (ne_ao hk hm)).trans ((hset_ne (ne_ao hk hm)).trans hk)) ((hset_ne (ne_ao hg hm)).trans ((hset_ne (ne_ao hg hm)).trans hg)) (Ne.symm hGK) (by omega) (by omega) (by decide) (by decide)) (Nat.le_of_ble_eq_true rfl) (Nat.le_of_ble_eq_true rfl) (Nat.le_of_ble_eq_true rfl) (Nat.le_of_ble_eq_true rfl) (Nat.le_of_ble_eq_true rfl) ?_
    refine V_aload_n (i := 0) F dX4_undo_51 rfl rfl ?_
    refine V_getf F dX4_undo_52 fc_X4_61_X4 (.inl ((hset_ne (ne_oa hm hg)).trans hset_self)) (gself (lenk (lens hlen) (by decide))) ?_
    exact V_iret F dX4_undo_55 rfl (Nat.le_of_ble_eq_true rfl) (Nat.le_of_ble_eq_true rfl) (PX.ok (if_neg (by omega)) rfl (by simp only [hset_hset]))
  · refine V_iconst (v := nI 1) F dX4_undo_8 rfl ?_
    refine V_goto (tgt := 13) F dX4_undo_9 (by decide) ?_
    refine V_cV1r F dX4_undo_13 lk_X4_92 (ct_failsP 1 hm hlen (by decide)) ⟨0, _, _, _, rfl, (.inl hm)⟩ (Nat.le_of_ble_eq_true rfl) (Nat.le_of_ble_eq_true rfl) (Nat.le_of_ble_eq_true rfl) (Nat.le_of_ble_eq_true rfl) (Nat.le_of_ble_eq_true rfl) ?_
    refine V_if_eqN (tgt := 21) F dX4_undo_16 (by decide) (by omega) (fun c_16 => absurd c_16 (by decide)) (fun c_16 => ?_)
    refine V_iconst (v := nI 0) F dX4_undo_19 rfl ?_
    exact V_iret F dX4_undo_20 rfl (Nat.le_of_ble_eq_true rfl) (Nat.le_of_ble_eq_true rfl) (PX.fail 1 (if_pos c_5) (by decide) rfl)
theorem ct_save {G : GG} {l : Launch} {h : AH} {m : Nat} {fs : List Value} {aG : Nat} {g : Nat → Nat} {aS : Nat} {gs : Nat → Nat}  (hm : h m = some (.inr (0, fs))) (h_g : fs[0]? = some (.ref aG)) (hg : h aG = some (iA G 304 (fun i => nI (g i)))) (h_saved : fs[2]? = some (.ref aS)) (hs : h aS = some (iA G 304 (fun i => nI (gs i)))) (hlen : fs.length = 25) (hGS : aG ≠ aS) : Ct G l yX4_save cX4_save 1 (some .int) 1 0 0 [.ref m] h (PR (.int (nI (g 2))) (hset (hset h m (.inr (0, (fs.set 7 (.int (nI 0))).set 4 (.int (nI 1))))) aS (iA G 304 (fun i => nI (cpN g 0 gs 0 304 i))))) := by
  refine Ct.of (by decide) (Nat.le_of_ble_eq_true rfl) (cat1 rfl) (fun X hXl F HN => ?_)
  subst hXl
  refine V_aload_n (i := 0) F dX4_save_0 rfl rfl ?_
  refine V_iconst (v := nI 0) F dX4_save_1 rfl ?_
  refine V_putf F dX4_save_2 fp_X4_54_X4 hm rfl rfl (lenk hlen (by decide)) ?_
  refine V_aload_n (i := 0) F dX4_save_5 rfl rfl ?_
  refine V_iconst (v := nI 1) F dX4_save_6 rfl ?_
  refine V_putf F dX4_save_7 fp_X4_299_X4 hset_self rfl rfl (glen (lenk hlen (by decide))) ?_
  refine V_aload_n (i := 0) F dX4_save_10 rfl rfl ?_
  refine V_getf F dX4_save_11 fc_X4_7_X4 (.inl hset_self) (gset (gset h_g (by decide)) (by decide)) ?_
  refine V_iconst (v := nI 0) F dX4_save_14 rfl ?_
  refine V_aload_n (i := 0) F dX4_save_15 rfl rfl ?_
  refine V_getf F dX4_save_16 fc_X4_16_X4 (.inl hset_self) (gset (gset h_saved (by decide)) (by decide)) ?_
  refine V_iconst (v := nI 0) F dX4_save_19 rfl ?_
  refine V_cS4v F dX4_save_20 lk_X4_64 (ct_copies ((hset_ne (ne_ao hg hm)).trans ((hset_ne (ne_ao hg hm)).trans hg)) ((hset_ne (ne_ao hs hm)).trans ((hset_ne (ne_ao hs hm)).trans hs)) hGS (by omega) (by omega) (by decide) (by decide)) (Nat.le_of_ble_eq_true rfl) (Nat.le_of_ble_eq_true rfl) (Nat.le_of_ble_eq_true rfl) (Nat.le_of_ble_eq_true rfl) (Nat.le_of_ble_eq_true rfl) ?_
  refine V_aload_n (i := 0) F dX4_save_23 rfl rfl ?_
  refine V_getf F dX4_save_24 fc_X4_7_X4 (.inl ((hset_ne (ne_oa hm hs)).trans hset_self)) (gset (gset h_g (by decide)) (by decide)) ?_
  refine V_iconst (v := nI 2) F dX4_save_27 rfl ?_
  refine V_ialdG F dX4_save_28 (.inl ((hset_ne hGS).trans ((hset_ne (ne_ao hg hm)).trans ((hset_ne (ne_ao hg hm)).trans hg)))) (by omega) (by decide) rfl ?_
  exact V_iret F dX4_save_29 rfl (Nat.le_of_ble_eq_true rfl) (Nat.le_of_ble_eq_true rfl) ⟨rfl, by simp only [hset_hset]⟩
theorem ct_restore {G : GG} {l : Launch} {h : AH} {m : Nat} {fs : List Value} {aG : Nat} {g : Nat → Nat} {aS : Nat} {gs : Nat → Nat} {sv : Nat}  (hm : h m = some (.inr (0, fs))) (h_g : fs[0]? = some (.ref aG)) (hg : h aG = some (iA G 304 (fun i => nI (g i)))) (h_saved : fs[2]? = some (.ref aS)) (hs : h aS = some (iA G 304 (fun i => nI (gs i)))) (h_isSaved : fs[4]? = some (.int (nI (sv)))) (hlen : fs.length = 25) (hGS : aG ≠ aS) (hsv : sv < 2) : Ct G l yX4_restore cX4_restore 1 (some .int) 1 0 0 [.ref m] h (PX (if sv = 0 then 1 else 0) (fun k => hset h m (.inr (0, fs.set 7 (.int (nI k))))) (.int (nI (cpN gs 0 g 0 304 2))) (hset (hset (hset h m (.inr (0, fs.set 7 (.int (nI 0))))) aG (iA G 304 (fun i => nI (cpN gs 0 g 0 304 i)))) m (.inr (0, (fs.set 7 (.int (nI 0))).set 5 (.int (nI 0)))))) := by
  refine Ct.of (by decide) (Nat.le_of_ble_eq_true rfl) (cat1 rfl) (fun X hXl F HN => ?_)
  subst hXl
  refine V_aload_n (i := 0) F dX4_restore_0 rfl rfl ?_
  refine V_aload_n (i := 0) F dX4_restore_1 rfl rfl ?_
  refine V_getf F dX4_restore_2 fc_X4_299_X4 (.inl hm) h_isSaved ?_
  refine V_if_eqN (tgt := 12) F dX4_restore_5 (by decide) (by omega) (fun c_5 => ?_) (fun c_5 => ?_)
  · refine V_iconst (v := nI 1) F dX4_restore_12 rfl ?_
    refine V_cV1r F dX4_restore_13 lk_X4_92 (ct_failsP 1 hm hlen (by decide)) ⟨0, _, _, _, rfl, (.inl hm)⟩ (Nat.le_of_ble_eq_true rfl) (Nat.le_of_ble_eq_true rfl) (Nat.le_of_ble_eq_true rfl) (Nat.le_of_ble_eq_true rfl) (Nat.le_of_ble_eq_true rfl) ?_
    refine V_if_eqN (tgt := 21) F dX4_restore_16 (by decide) (by omega) (fun c_16 => absurd c_16 (by decide)) (fun c_16 => ?_)
    refine V_iconst (v := nI 0) F dX4_restore_19 rfl ?_
    exact V_iret F dX4_restore_20 rfl (Nat.le_of_ble_eq_true rfl) (Nat.le_of_ble_eq_true rfl) (PX.fail 1 (if_pos c_5) (by decide) rfl)
  · refine V_iconst (v := nI 0) F dX4_restore_8 rfl ?_
    refine V_goto (tgt := 13) F dX4_restore_9 (by decide) ?_
    refine V_cV1r F dX4_restore_13 lk_X4_92 (ct_fails0 hm hlen) ⟨0, _, _, _, rfl, (.inl hm)⟩ (Nat.le_of_ble_eq_true rfl) (Nat.le_of_ble_eq_true rfl) (Nat.le_of_ble_eq_true rfl) (Nat.le_of_ble_eq_true rfl) (Nat.le_of_ble_eq_true rfl) ?_
    refine V_if_eqN (tgt := 21) F dX4_restore_16 (by decide) (by omega) (fun c_16 => ?_) (fun c_16 => absurd c_16 (by decide))
    refine V_aload_n (i := 0) F dX4_restore_21 rfl rfl ?_
    refine V_getf F dX4_restore_22 fc_X4_16_X4 (.inl hset_self) (gset h_saved (by decide)) ?_
    refine V_iconst (v := nI 0) F dX4_restore_25 rfl ?_
    refine V_aload_n (i := 0) F dX4_restore_26 rfl rfl ?_
    refine V_getf F dX4_restore_27 fc_X4_7_X4 (.inl hset_self) (gset h_g (by decide)) ?_
    refine V_iconst (v := nI 0) F dX4_restore_30 rfl ?_
    refine V_cS4v F dX4_restore_31 lk_X4_64 (ct_copies ((hset_ne (ne_ao hs hm)).trans hs) ((hset_ne (ne_ao hg hm)).trans hg) (Ne.symm hGS) (by omega) (by omega) (by decide) (by decide)) (Nat.le_of_ble_eq_true rfl) (Nat.le_of_ble_eq_true rfl) (Nat.le_of_ble_eq_true rfl) (Nat.le_of_ble_eq_true rfl) (Nat.le_of_ble_eq_true rfl) ?_
    refine V_aload_n (i := 0) F dX4_restore_34 rfl rfl ?_
    refine V_iconst (v := nI 0) F dX4_restore_35 rfl ?_
    refine V_putf F dX4_restore_36 fp_X4_61_X4 ((hset_ne (ne_oa hm hg)).trans hset_self) rfl rfl (lenk (lens hlen) (by decide)) ?_
    refine V_aload_n (i := 0) F dX4_restore_39 rfl rfl ?_
    refine V_getf F dX4_restore_40 fc_X4_7_X4 (.inl hset_self) (gset (gset h_g (by decide)) (by decide)) ?_
    refine V_iconst (v := nI 2) F dX4_restore_43 rfl ?_
    refine V_ialdG F dX4_restore_44 (.inl ((hset_ne (ne_ao hg hm)).trans hset_self)) (by omega) (by decide) rfl ?_
    exact V_iret F dX4_restore_45 rfl (Nat.le_of_ble_eq_true rfl) (Nat.le_of_ble_eq_true rfl) (PX.ok (if_neg (by omega)) rfl rfl)
theorem ct_type {G : GG} {l : Launch} {h : AH} {m : Nat} {fs : List Value} {aI : Nat} {gi : Nat → Nat} {n : Nat} {c : Nat} (hm : h m = some (.inr (0, fs))) (h_input : fs[8]? = some (.ref aI)) (hin : h aI = some (iA G 60 (fun i => nI (gi i)))) (h_length : fs[9]? = some (.int (nI n))) (hlen : fs.length = 25) (hn60 : n ≤ 60) (hc : c < 65536) : Ct G l yX4_type cX4_type 2 (some .int) 1 0 0 [.ref m, .int (nI c)] h (PX (if ¬ (nI 32 ≤ nI c ∧ nI c ≤ nI 126) then 1 else if n = 60 then 2 else 0) (fun k => hset h m (.inr (0, fs.set 7 (.int (nI k))))) (.int (nI (n + 1))) (hset (hset (hset h m (.inr (0, fs.set 7 (.int (nI 0))))) aI (iA G 60 (fun i => nI (up gi n c i)))) m (.inr (0, (fs.set 7 (.int (nI 0))).set 9 (.int (nI (n + 1))))))) := by
  refine Ct.of (by decide) (Nat.le_of_ble_eq_true rfl) (cat1 rfl) (fun X hXl F HN => ?_)
  subst hXl
  refine V_aload_n (i := 0) F dX4_type_0 rfl rfl ?_
  refine V_iload_n (i := 1) F dX4_type_1 rfl rfl ?_
  refine V_bipush (v := nI 32) F dX4_type_2 rfl ?_
  refine V_bipush (v := nI 126) F dX4_type_4 rfl ?_
  refine V_cS3r F dX4_type_6 lk_X4_68 (ct_in ) (Nat.le_of_ble_eq_true rfl) (Nat.le_of_ble_eq_true rfl) (Nat.le_of_ble_eq_true rfl) (Nat.le_of_ble_eq_true rfl) (Nat.le_of_ble_eq_true rfl) ?_
  refine V_if_neB (tgt := 16) F dX4_type_9 (by decide) (fun c_9 => ?_) (fun c_9 => ?_)
  · refine V_aload_n (i := 0) F dX4_type_16 rfl rfl ?_
    refine V_getf F dX4_type_17 fc_X4_202_X4 (.inl hm) h_length ?_
    refine V_bipush (v := nI 60) F dX4_type_20 rfl ?_
    refine V_icmp_neN (tgt := 29) F dX4_type_22 (by decide) (by omega) (by decide) (fun c_22 => ?_) (fun c_22 => ?_)
    · refine V_iconst (v := nI 0) F dX4_type_29 rfl ?_
      refine V_cV1r F dX4_type_30 lk_X4_92 (ct_fails0 hm hlen) ⟨0, _, _, _, rfl, (.inl hm)⟩ (Nat.le_of_ble_eq_true rfl) (Nat.le_of_ble_eq_true rfl) (Nat.le_of_ble_eq_true rfl) (Nat.le_of_ble_eq_true rfl) (Nat.le_of_ble_eq_true rfl) ?_
      refine V_if_eqN (tgt := 38) F dX4_type_33 (by decide) (by omega) (fun c_33 => ?_) (fun c_33 => absurd c_33 (by decide))
      refine V_aload_n (i := 0) F dX4_type_38 rfl rfl ?_
      refine V_getf F dX4_type_39 fc_X4_22_X4 (.inl hset_self) (gset h_input (by decide)) ?_
      refine V_aload_n (i := 0) F dX4_type_42 rfl rfl ?_
      refine V_getf F dX4_type_43 fc_X4_202_X4 (.inl hset_self) (gset h_length (by decide)) ?_
      refine V_iload_n (i := 1) F dX4_type_46 rfl rfl ?_
      refine V_iastG F dX4_type_47 ((hset_ne (ne_ao hin hm)).trans hin) (by omega) (by decide) ?_
      refine V_aload_n (i := 0) F dX4_type_48 rfl rfl ?_
      refine V_dup F dX4_type_49 rfl ?_
      refine V_getf F dX4_type_50 fc_X4_202_X4 (.inl ((hset_ne (ne_oa hm hin)).trans hset_self)) (gset h_length (by decide)) ?_
      refine V_iconst (v := nI 1) F dX4_type_53 rfl ?_
      refine V_iaddN F dX4_type_54 ?_
      refine V_putf F dX4_type_55 fp_X4_202_X4 ((hset_ne (ne_oa hm hin)).trans hset_self) rfl rfl (lenk (lens hlen) (by decide)) ?_
      refine V_aload_n (i := 0) F dX4_type_58 rfl rfl ?_
      refine V_getf F dX4_type_59 fc_X4_202_X4 (.inl hset_self) (gself (lenk (lens hlen) (by decide))) ?_
      exact V_iret F dX4_type_62 rfl (Nat.le_of_ble_eq_true rfl) (Nat.le_of_ble_eq_true rfl) (PX.ok ((if_neg (not_not_intro c_9)).trans (if_neg c_22)) rfl rfl)
    · refine V_iconst (v := nI 2) F dX4_type_25 rfl ?_
      refine V_goto (tgt := 30) F dX4_type_26 (by decide) ?_
      refine V_cV1r F dX4_type_30 lk_X4_92 (ct_failsP 2 hm hlen (by decide)) ⟨0, _, _, _, rfl, (.inl hm)⟩ (Nat.le_of_ble_eq_true rfl) (Nat.le_of_ble_eq_true rfl) (Nat.le_of_ble_eq_true rfl) (Nat.le_of_ble_eq_true rfl) (Nat.le_of_ble_eq_true rfl) ?_
      refine V_if_eqN (tgt := 38) F dX4_type_33 (by decide) (by omega) (fun c_33 => absurd c_33 (by decide)) (fun c_33 => ?_)
      refine V_iconst (v := nI 0) F dX4_type_36 rfl ?_
      exact V_iret F dX4_type_37 rfl (Nat.le_of_ble_eq_true rfl) (Nat.le_of_ble_eq_true rfl) (PX.fail 2 ((if_neg (not_not_intro c_9)).trans (if_pos c_22)) (by decide) rfl)
  · refine V_iconst (v := nI 1) F dX4_type_12 rfl ?_
    refine V_goto (tgt := 30) F dX4_type_13 (by decide) ?_
    refine V_cV1r F dX4_type_30 lk_X4_92 (ct_failsP 1 hm hlen (by decide)) ⟨0, _, _, _, rfl, (.inl hm)⟩ (Nat.le_of_ble_eq_true rfl) (Nat.le_of_ble_eq_true rfl) (Nat.le_of_ble_eq_true rfl) (Nat.le_of_ble_eq_true rfl) (Nat.le_of_ble_eq_true rfl) ?_
    refine V_if_eqN (tgt := 38) F dX4_type_33 (by decide) (by omega) (fun c_33 => absurd c_33 (by decide)) (fun c_33 => ?_)
    refine V_iconst (v := nI 0) F dX4_type_36 rfl ?_
    exact V_iret F dX4_type_37 rfl (Nat.le_of_ble_eq_true rfl) (Nat.le_of_ble_eq_true rfl) (PX.fail 1 (if_pos c_9) (by decide) rfl)
theorem ct_here {G : GG} {l : Launch} {h : AH} {m : Nat} {fs : List Value} {aI : Nat} {gi : Nat → Nat} {n : Nat} {a : Nat} (hm : h m = some (.inr (0, fs))) (h_input : fs[8]? = some (.ref aI)) (hin : h aI = some (iA G 60 (fun i => nI (gi i)))) (h_length : fs[9]? = some (.int (nI n))) (hlen : fs.length = 25) (hn60 : n ≤ 60) (h_at : fs[22]? = some (.int (nI a))) (ha : a < 2 ^ 31) : Ct G l yX4_here cX4_here 1 (some .int) 0 0 0 [.ref m] h (PR (.int (rP (hrN gi n a))) h) := by
  refine Ct.of (by decide) (Nat.le_of_ble_eq_true rfl) (cat1 rfl) (fun X hXl F HN => ?_)
  subst hXl
  refine V_aload_n (i := 0) F dX4_here_0 rfl rfl ?_
  refine V_getf F dX4_here_1 fc_X4_205_X4 (.inl hm) h_at ?_
  refine V_aload_n (i := 0) F dX4_here_4 rfl rfl ?_
  refine V_getf F dX4_here_5 fc_X4_202_X4 (.inl hm) h_length ?_
  refine V_icmp_geN (tgt := 23) F dX4_here_8 (by decide) (by omega) (by omega) (fun c_8 => ?_) (fun c_8 => ?_)
  · refine V_iconst (v := -1) F dX4_here_23 rfl ?_
    have hr9 : hrN gi n a = 0 := if_neg (by omega)
    exact V_iret F dX4_here_24 rfl (Nat.le_of_ble_eq_true rfl) (Nat.le_of_ble_eq_true rfl) ⟨by rw [hr9]; rfl, rfl⟩
  · refine V_aload_n (i := 0) F dX4_here_11 rfl rfl ?_
    refine V_getf F dX4_here_12 fc_X4_22_X4 (.inl hm) h_input ?_
    refine V_aload_n (i := 0) F dX4_here_15 rfl rfl ?_
    refine V_getf F dX4_here_16 fc_X4_205_X4 (.inl hm) h_at ?_
    refine V_ialdG F dX4_here_19 (.inl hin) (by omega) (by decide) rfl ?_
    refine V_goto (tgt := 24) F dX4_here_20 (by decide) ?_
    have hr9 : hrN gi n a = gi a + 1 := if_pos (by omega)
    exact V_iret F dX4_here_24 rfl (Nat.le_of_ble_eq_true rfl) (Nat.le_of_ble_eq_true rfl) ⟨by rw [hr9]; rfl, rfl⟩
theorem ct_skips {G : GG} {l : Launch} {h : AH} {m : Nat} {fs : List Value} {aI : Nat} {gi : Nat → Nat} {n : Nat} {a : Nat} {c : Nat} (hm : h m = some (.inr (0, fs))) (h_input : fs[8]? = some (.ref aI)) (hin : h aI = some (iA G 60 (fun i => nI (gi i)))) (h_length : fs[9]? = some (.int (nI n))) (hlen : fs.length = 25) (hn60 : n ≤ 60) (h_at : fs[22]? = some (.int (nI a))) (ha : a < 2 ^ 31) (hc : c < 2 ^ 31) (hgi : ∀ i, gi i < 65536) : Ct G l yX4_skips cX4_skips 2 (some .boolean) 1 0 0 [.ref m, .int (nI c)] h (PR (.int (nI (skA gi n c a))) (hset h m (.inr (0, fs.set 22 (.int (nI (a + skA gi n c a))))))) := by
  refine Ct.of (by decide) (Nat.le_of_ble_eq_true rfl) (cat1 rfl) (fun X hXl F HN => ?_)
  subst hXl
  have hgr : hrN gi n a < 2 ^ 31 := by unfold hrN; split; have := hgi a; omega; omega
  refine V_aload_n (i := 0) F dX4_skips_0 rfl rfl ?_
  refine V_cV0r F dX4_skips_1 lk_X4_208 (ct_here hm h_input hin h_length hlen hn60 h_at ha) ⟨0, _, _, _, rfl, (.inl hm)⟩ (Nat.le_of_ble_eq_true rfl) (Nat.le_of_ble_eq_true rfl) (Nat.le_of_ble_eq_true rfl) (Nat.le_of_ble_eq_true rfl) (Nat.le_of_ble_eq_true rfl) ?_
  refine V_iload_n (i := 1) F dX4_skips_4 rfl rfl ?_
  refine V_icmp_eq (tgt := 10) F dX4_skips_5 (by decide) (fun c_5 => ?_) (fun c_5 => ?_)
  · refine V_aload_n (i := 0) F dX4_skips_10 rfl rfl ?_
    refine V_dup F dX4_skips_11 rfl ?_
    refine V_getf F dX4_skips_12 fc_X4_205_X4 (.inl hm) h_at ?_
    refine V_iconst (v := nI 1) F dX4_skips_15 rfl ?_
    refine V_iaddN F dX4_skips_16 ?_
    refine V_putf F dX4_skips_17 fp_X4_205_X4 hm rfl rfl (lenk hlen (by decide)) ?_
    refine V_iconst (v := nI 1) F dX4_skips_20 rfl ?_
    have hk9 : skA gi n c a = 1 := if_pos ((rP_inj hgr hc).mp c_5)
    exact V_iret F dX4_skips_21 rfl (Nat.le_of_ble_eq_true rfl) (Nat.le_of_ble_eq_true rfl) ⟨by rw [hk9], by rw [hk9]⟩
  · refine V_iconst (v := nI 0) F dX4_skips_8 rfl ?_
    have hk9 : skA gi n c a = 0 := if_neg (fun z => c_5 ((rP_inj hgr hc).mpr z))
    exact V_iret F dX4_skips_9 rfl (Nat.le_of_ble_eq_true rfl) (Nat.le_of_ble_eq_true rfl) ⟨by rw [hk9], by rw [hk9]; exact (by rw [Nat.add_zero, set_same h_at, hset_id hm])⟩
