set_option maxRecDepth 100000
def tn (p : Int32) : Nat := p.toInt.toNat
theorem tn_nI {a : Nat} (h : a < 2 ^ 31) : tn (nI a) = a := toNat_nI h
def cdAS (g : Nat → Nat) (p : Int32) : Nat := if ¬ (nI 1 ≤ p ∧ p ≤ nI 30) then 1 else if g 0 = 8 then 2 else 0
def nxAS (g : Nat → Nat) (p : Nat) : Nat → Nat := up (up g (8 + g 0) p) 0 (g 0 + 1)
def cdAT (g : Nat → Nat) (s d c : Int32) : Nat := if ¬ iR s (g 0) then 1 else if ¬ (nI 0 ≤ d ∧ d ≤ nI 1439) ∨ ¬ (nI 1 ≤ c ∧ c ≤ nI 5) then 2 else if g 1 = 6 then 3 else 0
def nxAT (g : Nat → Nat) (s d c : Nat) : Nat → Nat := up (up (up (up (up g (16 + 36 * g 1 + 0) c) (16 + 36 * g 1 + 1) d) (16 + 36 * g 1 + 3) 1) (16 + 36 * g 1 + 4) s) 1 (g 1 + 1)
def cdDT (g : Nat → Nat) (t v : Int32) : Nat := if ¬ iR t (g 1) then 1 else if ¬ (nI 0 ≤ v ∧ v ≤ nI 120) then 2 else 0
def nxDT (g : Nat → Nat) (t v : Nat) : Nat → Nat := up g (16 + 36 * t + 2) v
def cdET (g : Nat → Nat) (t s r w : Int32) : Nat := if ¬ iR t (g 1) ∨ ¬ iR s (g 0) then 1 else if ¬ (nI 1 ≤ r ∧ r ≤ nI 300) ∨ ¬ (nI 0 ≤ w ∧ w ≤ nI 60) then 2 else if g (16 + 36 * tn t + 3) = 8 ∨ plG g (tn t) (g (16 + 36 * tn t + 3) - 1) = tn s then 3 else 0
def nxET (g : Nat → Nat) (t s r w : Nat) : Nat → Nat := up (up (up (up g (16 + 36 * t + 4 + 3 * g (16 + 36 * t + 3)) s) (16 + 36 * t + 4 + 3 * g (16 + 36 * t + 3) + 1) r) (16 + 36 * t + 4 + 3 * g (16 + 36 * t + 3) + 2) w) (16 + 36 * t + 3) (g (16 + 36 * t + 3) + 1)
def cdAC (g : Nat → Nat) (s d v : Int32) : Nat := if ¬ iR s (g 0) ∨ ¬ iR d (g 0) then 1 else if ¬ (nI 0 ≤ v ∧ v ≤ nI 9999) then 2 else if g 2 = 8 then 3 else 0
def nxAC (g : Nat → Nat) (s d v : Nat) : Nat → Nat := up (up (up (up (up (up g (232 + 4 * g 2 + 0) (g 4)) (232 + 4 * g 2 + 1) s) (232 + 4 * g 2 + 2) d) (232 + 4 * g 2 + 3) v) 2 (g 2 + 1)) 4 (g 4 + 1)

theorem ct_addStation {G : GG} {l : Launch} {h : AH} {m : Nat} {fs : List Value} {aG : Nat} {g : Nat → Nat} {aK : Nat} {gk : Nat → Nat} {w : Nat} {ch : Nat} {p : Int32} (hm : h m = some (.inr (0, fs))) (h_g : fs[0]? = some (.ref aG)) (hg : h aG = some (iA G 304 (fun i => nI (g i)))) (h_kept : fs[1]? = some (.ref aK)) (hk : h aK = some (iA G 2432 (fun i => nI (gk i)))) (h_isWithin : fs[6]? = some (.int (nI (w)))) (h_changes : fs[5]? = some (.int (nI (ch)))) (hlen : fs.length = 25) (hw : w < 2) (hch : ch ≤ 8) (hGK : aG ≠ aK) (hI : GW g)  : Ct G l yX4_addStation cX4_addStation 2 (some .int) 2 0 0 [.ref m, .int (p)] h (PX (cdAS g p) (fun k => hset h m (.inr (0, fs.set 7 (.int (nI k))))) (.int (nI (g 0))) (hset (kpH G h m fs aK gk w ch g) aG (iA G 304 (fun i => nI ((nxAS g (tn p)) i))))) := by
  refine Ct.of (by decide) (Nat.le_of_ble_eq_true rfl) (cat1 rfl) (fun X hXl F HN => ?_)
  subst hXl
  obtain ⟨hB, hn0, hn1, hn2, hn3, hst, hpl⟩ := hI
  have hmK : m ≠ aK := ne_oa hm hk
  refine V_aload_n (i := 0) F dX4_addStation_0 rfl rfl ?_
  refine V_iload_n (i := 1) F dX4_addStation_1 rfl rfl ?_
  refine V_iconst (v := nI 1) F dX4_addStation_2 rfl ?_
  refine V_bipush (v := nI 30) F dX4_addStation_3 rfl ?_
  refine V_cS3r F dX4_addStation_5 lk_X4_68 (ct_in ) (Nat.le_of_ble_eq_true rfl) (Nat.le_of_ble_eq_true rfl) (Nat.le_of_ble_eq_true rfl) (Nat.le_of_ble_eq_true rfl) (Nat.le_of_ble_eq_true rfl) ?_
  refine V_if_neB (tgt := 15) F dX4_addStation_8 (by decide) (fun c_8 => ?_) (fun c_8 => ?_)
  · obtain ⟨a, ha1, ha2, rfl⟩ := nI_btw c_8 (by decide) (by decide)
    refine V_aload_n (i := 0) F dX4_addStation_15 rfl rfl ?_
    refine V_getf F dX4_addStation_16 fc_X4_7_X4 (.inl hm) h_g ?_
    refine V_iconst (v := nI 0) F dX4_addStation_19 rfl ?_
    refine V_ialdG F dX4_addStation_20 (.inl hg) (by omega) (by decide) rfl ?_
    refine V_bipush (v := nI 8) F dX4_addStation_21 rfl ?_
    refine V_icmp_neN (tgt := 30) F dX4_addStation_23 (by decide) hB.lt (by decide) (fun c_23 => ?_) (fun c_23 => ?_)
    · refine V_iconst (v := nI 0) F dX4_addStation_30 rfl ?_
      refine V_cV1r F dX4_addStation_31 lk_X4_92 (ct_fails0 hm hlen) ⟨0, _, _, _, rfl, (.inl hm)⟩ (Nat.le_of_ble_eq_true rfl) (Nat.le_of_ble_eq_true rfl) (Nat.le_of_ble_eq_true rfl) (Nat.le_of_ble_eq_true rfl) (Nat.le_of_ble_eq_true rfl) ?_
      refine V_if_eqN (tgt := 39) F dX4_addStation_34 (by decide) (by omega) (fun c_34 => ?_) (fun c_34 => absurd c_34 (by decide))
      refine V_aload_n (i := 0) F dX4_addStation_39 rfl rfl ?_
      refine V_aload_n (i := 0) F dX4_addStation_40 rfl rfl ?_
      refine V_getf F dX4_addStation_41 fc_X4_7_X4 (.inl hset_self) (gset h_g (by decide)) ?_
      refine V_cV1v F dX4_addStation_44 lk_X4_95 (ct_keeps hset_self (lens hlen) (gset h_kept (by decide)) ((hset_ne (Ne.symm hmK)).trans hk) (gset h_isWithin (by decide)) hw (gset h_changes (by decide)) hch ((hset_ne (ne_ao hg hm)).trans hg) hGK) ⟨0, _, _, _, rfl, (.inl hset_self)⟩ (Nat.le_of_ble_eq_true rfl) (Nat.le_of_ble_eq_true rfl) (Nat.le_of_ble_eq_true rfl) (Nat.le_of_ble_eq_true rfl) (Nat.le_of_ble_eq_true rfl) ?_
      refine VV.heap kpH_7 ?_
      refine V_aload_n (i := 0) F dX4_addStation_47 rfl rfl ?_
      refine V_getf F dX4_addStation_48 fc_X4_7_X4 (.inl (kpH_m hmK)) (kpF_at h_g (by decide) (by decide)) ?_
      refine V_bipush (v := nI 8) F dX4_addStation_51 rfl ?_
      refine V_aload_n (i := 0) F dX4_addStation_53 rfl rfl ?_
      refine V_getf F dX4_addStation_54 fc_X4_7_X4 (.inl (kpH_m hmK)) (kpF_at h_g (by decide) (by decide)) ?_
      refine V_iconst (v := nI 0) F dX4_addStation_57 rfl ?_
      refine V_ialdG F dX4_addStation_58 (.inl ((kpH_o (ne_ao hg hm) hGK).trans hg)) (by omega) (by decide) rfl ?_
      refine V_iaddN F dX4_addStation_59 ?_
      refine V_iload_n (i := 1) F dX4_addStation_60 rfl rfl ?_
      refine V_iastG F dX4_addStation_61 ((kpH_o (ne_ao hg hm) hGK).trans hg) (by omega) (by decide) ?_
      refine V_aload_n (i := 0) F dX4_addStation_62 rfl rfl ?_
      refine V_getf F dX4_addStation_63 fc_X4_7_X4 (.inl ((hset_ne (ne_oa hm hg)).trans (kpH_m hmK))) (kpF_at h_g (by decide) (by decide)) ?_
      refine V_iconst (v := nI 0) F dX4_addStation_66 rfl ?_
      refine V_dup2 F dX4_addStation_67 rfl rfl ?_
      refine V_ialdG F dX4_addStation_68 (.inl hset_self) (by omega) (by decide) (up_n (by omega)) ?_
      refine V_iconst (v := nI 1) F dX4_addStation_69 rfl ?_
      refine V_iaddN F dX4_addStation_70 ?_
      refine V_iastG F dX4_addStation_71 hset_self (by omega) (by decide) ?_
      refine V_aload_n (i := 0) F dX4_addStation_72 rfl rfl ?_
      refine V_getf F dX4_addStation_73 fc_X4_7_X4 (.inl ((hset_ne (ne_oa hm hg)).trans ((hset_ne (ne_oa hm hg)).trans (kpH_m hmK)))) (kpF_at h_g (by decide) (by decide)) ?_
      refine V_iconst (v := nI 0) F dX4_addStation_76 rfl ?_
      refine V_ialdG F dX4_addStation_77 (.inl hset_self) (by omega) (by decide) up_s ?_
      refine V_iconst (v := nI 1) F dX4_addStation_78 rfl ?_
      refine V_isubN F dX4_addStation_79 (by omega) ?_
      exact V_iret F dX4_addStation_80 rfl (Nat.le_of_ble_eq_true rfl) (Nat.le_of_ble_eq_true rfl) (PX.ok ((if_neg (not_not_intro c_8)).trans (if_neg c_23)) (by first | rfl | (simp (disch := omega) only [tn_nI])) (by unfold nxAS; simp (disch := omega) only [tn_nI, hset_hset]))
    · refine V_iconst (v := nI 2) F dX4_addStation_26 rfl ?_
      refine V_goto (tgt := 31) F dX4_addStation_27 (by decide) ?_
      refine V_cV1r F dX4_addStation_31 lk_X4_92 (ct_failsP 2 hm hlen (by decide)) ⟨0, _, _, _, rfl, (.inl hm)⟩ (Nat.le_of_ble_eq_true rfl) (Nat.le_of_ble_eq_true rfl) (Nat.le_of_ble_eq_true rfl) (Nat.le_of_ble_eq_true rfl) (Nat.le_of_ble_eq_true rfl) ?_
      refine V_if_eqN (tgt := 39) F dX4_addStation_34 (by decide) (by omega) (fun c_34 => absurd c_34 (by decide)) (fun c_34 => ?_)
      refine V_iconst (v := nI 0) F dX4_addStation_37 rfl ?_
      exact V_iret F dX4_addStation_38 rfl (Nat.le_of_ble_eq_true rfl) (Nat.le_of_ble_eq_true rfl) (PX.fail 2 ((if_neg (not_not_intro c_8)).trans (if_pos c_23)) (by decide) rfl)
  · refine V_iconst (v := nI 1) F dX4_addStation_11 rfl ?_
    refine V_goto (tgt := 31) F dX4_addStation_12 (by decide) ?_
    refine V_cV1r F dX4_addStation_31 lk_X4_92 (ct_failsP 1 hm hlen (by decide)) ⟨0, _, _, _, rfl, (.inl hm)⟩ (Nat.le_of_ble_eq_true rfl) (Nat.le_of_ble_eq_true rfl) (Nat.le_of_ble_eq_true rfl) (Nat.le_of_ble_eq_true rfl) (Nat.le_of_ble_eq_true rfl) ?_
    refine V_if_eqN (tgt := 39) F dX4_addStation_34 (by decide) (by omega) (fun c_34 => absurd c_34 (by decide)) (fun c_34 => ?_)
    refine V_iconst (v := nI 0) F dX4_addStation_37 rfl ?_
    exact V_iret F dX4_addStation_38 rfl (Nat.le_of_ble_eq_true rfl) (Nat.le_of_ble_eq_true rfl) (PX.fail 1 (if_pos c_8) (by decide) rfl)
theorem ct_addTrain {G : GG} {l : Launch} {h : AH} {m : Nat} {fs : List Value} {aG : Nat} {g : Nat → Nat} {aK : Nat} {gk : Nat → Nat} {w : Nat} {ch : Nat} {s p q : Int32} (hm : h m = some (.inr (0, fs))) (h_g : fs[0]? = some (.ref aG)) (hg : h aG = some (iA G 304 (fun i => nI (g i)))) (h_kept : fs[1]? = some (.ref aK)) (hk : h aK = some (iA G 2432 (fun i => nI (gk i)))) (h_isWithin : fs[6]? = some (.int (nI (w)))) (h_changes : fs[5]? = some (.int (nI (ch)))) (hlen : fs.length = 25) (hw : w < 2) (hch : ch ≤ 8) (hGK : aG ≠ aK) (hI : GW g)  : Ct G l yX4_addTrain cX4_addTrain 5 (some .int) 2 0 0 [.ref m, .int (s), .int (p), .int (q)] h (PX (cdAT g s p q) (fun k => hset h m (.inr (0, fs.set 7 (.int (nI k))))) (.int (nI (g 1))) (hset (kpH G h m fs aK gk w ch g) aG (iA G 304 (fun i => nI ((nxAT g (tn s) (tn p) (tn q)) i))))) := by
  refine Ct.of (by decide) (Nat.le_of_ble_eq_true rfl) (cat1 rfl) (fun X hXl F HN => ?_)
  subst hXl
  obtain ⟨hB, hn0, hn1, hn2, hn3, hst, hpl⟩ := hI
  have hmK : m ≠ aK := ne_oa hm hk
  refine V_aload_n (i := 0) F dX4_addTrain_0 rfl rfl ?_
  refine V_aload_n (i := 0) F dX4_addTrain_1 rfl rfl ?_
  refine V_iload_n (i := 1) F dX4_addTrain_2 rfl rfl ?_
  refine V_cV1r F dX4_addTrain_3 lk_X4_99 (ct_isStation hm h_g hg hB.lt) ⟨0, _, _, _, rfl, (.inl hm)⟩ (Nat.le_of_ble_eq_true rfl) (Nat.le_of_ble_eq_true rfl) (Nat.le_of_ble_eq_true rfl) (Nat.le_of_ble_eq_true rfl) (Nat.le_of_ble_eq_true rfl) ?_
  refine V_if_neB (tgt := 13) F dX4_addTrain_6 (by decide) (fun c_6 => ?_) (fun c_6 => ?_)
  · obtain ⟨b, hb, rfl⟩ := iR_of c_6 hB.lt
    refine V_iload_n (i := 2) F dX4_addTrain_13 rfl rfl ?_
    refine V_iconst (v := nI 0) F dX4_addTrain_14 rfl ?_
    refine V_sipush (v := nI 1439) F dX4_addTrain_15 rfl ?_
    refine V_cS3r F dX4_addTrain_18 lk_X4_68 (ct_in ) (Nat.le_of_ble_eq_true rfl) (Nat.le_of_ble_eq_true rfl) (Nat.le_of_ble_eq_true rfl) (Nat.le_of_ble_eq_true rfl) (Nat.le_of_ble_eq_true rfl) ?_
    refine V_if_eqB (tgt := 33) F dX4_addTrain_21 (by decide) (fun c_21 => ?_) (fun c_21 => ?_)
    · refine V_iconst (v := nI 2) F dX4_addTrain_33 rfl ?_
      refine V_goto (tgt := 53) F dX4_addTrain_34 (by decide) ?_
      refine V_cV1r F dX4_addTrain_53 lk_X4_92 (ct_failsP 2 hm hlen (by decide)) ⟨0, _, _, _, rfl, (.inl hm)⟩ (Nat.le_of_ble_eq_true rfl) (Nat.le_of_ble_eq_true rfl) (Nat.le_of_ble_eq_true rfl) (Nat.le_of_ble_eq_true rfl) (Nat.le_of_ble_eq_true rfl) ?_
      refine V_if_eqN (tgt := 61) F dX4_addTrain_56 (by decide) (by omega) (fun c_56 => absurd c_56 (by decide)) (fun c_56 => ?_)
      refine V_iconst (v := nI 0) F dX4_addTrain_59 rfl ?_
      exact V_iret F dX4_addTrain_60 rfl (Nat.le_of_ble_eq_true rfl) (Nat.le_of_ble_eq_true rfl) (PX.fail 2 ((if_neg (not_not_intro c_6)).trans (if_pos (by first | exact Or.inl c_21 | exact Or.inr c_30))) (by decide) rfl)
    · obtain ⟨c, hc1, hc2, rfl⟩ := nI_btw c_21 (by decide) (by decide)
      refine V_iload_n (i := 3) F dX4_addTrain_24 rfl rfl ?_
      refine V_iconst (v := nI 1) F dX4_addTrain_25 rfl ?_
      refine V_iconst (v := nI 5) F dX4_addTrain_26 rfl ?_
      refine V_cS3r F dX4_addTrain_27 lk_X4_68 (ct_in ) (Nat.le_of_ble_eq_true rfl) (Nat.le_of_ble_eq_true rfl) (Nat.le_of_ble_eq_true rfl) (Nat.le_of_ble_eq_true rfl) (Nat.le_of_ble_eq_true rfl) ?_
      refine V_if_neB (tgt := 37) F dX4_addTrain_30 (by decide) (fun c_30 => ?_) (fun c_30 => ?_)
      · obtain ⟨e, he1, he2, rfl⟩ := nI_btw c_30 (by decide) (by decide)
        refine V_aload_n (i := 0) F dX4_addTrain_37 rfl rfl ?_
        refine V_getf F dX4_addTrain_38 fc_X4_7_X4 (.inl hm) h_g ?_
        refine V_iconst (v := nI 1) F dX4_addTrain_41 rfl ?_
        refine V_ialdG F dX4_addTrain_42 (.inl hg) (by omega) (by decide) rfl ?_
        refine V_bipush (v := nI 6) F dX4_addTrain_43 rfl ?_
        refine V_icmp_neN (tgt := 52) F dX4_addTrain_45 (by decide) hB.lt (by decide) (fun c_45 => ?_) (fun c_45 => ?_)
        · refine V_iconst (v := nI 0) F dX4_addTrain_52 rfl ?_
          refine V_cV1r F dX4_addTrain_53 lk_X4_92 (ct_fails0 hm hlen) ⟨0, _, _, _, rfl, (.inl hm)⟩ (Nat.le_of_ble_eq_true rfl) (Nat.le_of_ble_eq_true rfl) (Nat.le_of_ble_eq_true rfl) (Nat.le_of_ble_eq_true rfl) (Nat.le_of_ble_eq_true rfl) ?_
          refine V_if_eqN (tgt := 61) F dX4_addTrain_56 (by decide) (by omega) (fun c_56 => ?_) (fun c_56 => absurd c_56 (by decide))
          refine V_aload_n (i := 0) F dX4_addTrain_61 rfl rfl ?_
          refine V_aload_n (i := 0) F dX4_addTrain_62 rfl rfl ?_
          refine V_getf F dX4_addTrain_63 fc_X4_7_X4 (.inl hset_self) (gset h_g (by decide)) ?_
          refine V_cV1v F dX4_addTrain_66 lk_X4_95 (ct_keeps hset_self (lens hlen) (gset h_kept (by decide)) ((hset_ne (Ne.symm hmK)).trans hk) (gset h_isWithin (by decide)) hw (gset h_changes (by decide)) hch ((hset_ne (ne_ao hg hm)).trans hg) hGK) ⟨0, _, _, _, rfl, (.inl hset_self)⟩ (Nat.le_of_ble_eq_true rfl) (Nat.le_of_ble_eq_true rfl) (Nat.le_of_ble_eq_true rfl) (Nat.le_of_ble_eq_true rfl) (Nat.le_of_ble_eq_true rfl) ?_
          refine VV.heap kpH_7 ?_
          refine V_bipush (v := nI 16) F dX4_addTrain_69 rfl ?_
          refine V_bipush (v := nI 36) F dX4_addTrain_71 rfl ?_
          refine V_aload_n (i := 0) F dX4_addTrain_73 rfl rfl ?_
          refine V_getf F dX4_addTrain_74 fc_X4_7_X4 (.inl (kpH_m hmK)) (kpF_at h_g (by decide) (by decide)) ?_
          refine V_iconst (v := nI 1) F dX4_addTrain_77 rfl ?_
          refine V_ialdG F dX4_addTrain_78 (.inl ((kpH_o (ne_ao hg hm) hGK).trans hg)) (by omega) (by decide) rfl ?_
          refine V_imulN F dX4_addTrain_79 ?_
          refine V_iaddN F dX4_addTrain_80 ?_
          refine V_istore (i := 4) F dX4_addTrain_81 (Nat.le_of_ble_eq_true rfl) (Nat.le_of_ble_eq_true rfl) ?_
          refine V_aload_n (i := 0) F dX4_addTrain_83 rfl rfl ?_
          refine V_getf F dX4_addTrain_84 fc_X4_7_X4 (.inl (kpH_m hmK)) (kpF_at h_g (by decide) (by decide)) ?_
          refine V_iload (i := 4) F dX4_addTrain_87 rfl ?_
          refine V_iconst (v := nI 0) F dX4_addTrain_89 rfl ?_
          refine V_iaddN F dX4_addTrain_90 ?_
          refine V_iload_n (i := 3) F dX4_addTrain_91 rfl rfl ?_
          refine V_iastG F dX4_addTrain_92 ((kpH_o (ne_ao hg hm) hGK).trans hg) (by omega) (by decide) ?_
          refine V_aload_n (i := 0) F dX4_addTrain_93 rfl rfl ?_
          refine V_getf F dX4_addTrain_94 fc_X4_7_X4 (.inl ((hset_ne (ne_oa hm hg)).trans (kpH_m hmK))) (kpF_at h_g (by decide) (by decide)) ?_
          refine V_iload (i := 4) F dX4_addTrain_97 rfl ?_
          refine V_iconst (v := nI 1) F dX4_addTrain_99 rfl ?_
          refine V_iaddN F dX4_addTrain_100 ?_
          refine V_iload_n (i := 2) F dX4_addTrain_101 rfl rfl ?_
          refine V_iastG F dX4_addTrain_102 hset_self (by omega) (by decide) ?_
          refine V_aload_n (i := 0) F dX4_addTrain_103 rfl rfl ?_
          refine V_getf F dX4_addTrain_104 fc_X4_7_X4 (.inl ((hset_ne (ne_oa hm hg)).trans ((hset_ne (ne_oa hm hg)).trans (kpH_m hmK)))) (kpF_at h_g (by decide) (by decide)) ?_
          refine V_iload (i := 4) F dX4_addTrain_107 rfl ?_
          refine V_iconst (v := nI 3) F dX4_addTrain_109 rfl ?_
          refine V_iaddN F dX4_addTrain_110 ?_
          refine V_iconst (v := nI 1) F dX4_addTrain_111 rfl ?_
          refine V_iastG F dX4_addTrain_112 hset_self (by omega) (by decide) ?_
          refine V_aload_n (i := 0) F dX4_addTrain_113 rfl rfl ?_
          refine V_getf F dX4_addTrain_114 fc_X4_7_X4 (.inl ((hset_ne (ne_oa hm hg)).trans ((hset_ne (ne_oa hm hg)).trans ((hset_ne (ne_oa hm hg)).trans (kpH_m hmK))))) (kpF_at h_g (by decide) (by decide)) ?_
          refine V_iload (i := 4) F dX4_addTrain_117 rfl ?_
          refine V_iconst (v := nI 4) F dX4_addTrain_119 rfl ?_
          refine V_iaddN F dX4_addTrain_120 ?_
          refine V_iload_n (i := 1) F dX4_addTrain_121 rfl rfl ?_
          refine V_iastG F dX4_addTrain_122 hset_self (by omega) (by decide) ?_
          refine V_aload_n (i := 0) F dX4_addTrain_123 rfl rfl ?_
          refine V_getf F dX4_addTrain_124 fc_X4_7_X4 (.inl ((hset_ne (ne_oa hm hg)).trans ((hset_ne (ne_oa hm hg)).trans ((hset_ne (ne_oa hm hg)).trans ((hset_ne (ne_oa hm hg)).trans (kpH_m hmK)))))) (kpF_at h_g (by decide) (by decide)) ?_
          refine V_iconst (v := nI 1) F dX4_addTrain_127 rfl ?_
          refine V_dup2 F dX4_addTrain_128 rfl rfl ?_
          refine V_ialdG F dX4_addTrain_129 (.inl hset_self) (by omega) (by decide) ((up_n (by omega)).trans ((up_n (by omega)).trans ((up_n (by omega)).trans (up_n (by omega))))) ?_
          refine V_iconst (v := nI 1) F dX4_addTrain_130 rfl ?_
          refine V_iaddN F dX4_addTrain_131 ?_
          refine V_iastG F dX4_addTrain_132 hset_self (by omega) (by decide) ?_
          refine V_aload_n (i := 0) F dX4_addTrain_133 rfl rfl ?_
          refine V_getf F dX4_addTrain_134 fc_X4_7_X4 (.inl ((hset_ne (ne_oa hm hg)).trans ((hset_ne (ne_oa hm hg)).trans ((hset_ne (ne_oa hm hg)).trans ((hset_ne (ne_oa hm hg)).trans ((hset_ne (ne_oa hm hg)).trans (kpH_m hmK))))))) (kpF_at h_g (by decide) (by decide)) ?_
          refine V_iconst (v := nI 1) F dX4_addTrain_137 rfl ?_
          refine V_ialdG F dX4_addTrain_138 (.inl hset_self) (by omega) (by decide) up_s ?_
          refine V_iconst (v := nI 1) F dX4_addTrain_139 rfl ?_
          refine V_isubN F dX4_addTrain_140 (by omega) ?_
          exact V_iret F dX4_addTrain_141 rfl (Nat.le_of_ble_eq_true rfl) (Nat.le_of_ble_eq_true rfl) (PX.ok ((if_neg (not_not_intro c_6)).trans ((if_neg (not_or.mpr ⟨not_not_intro c_21, not_not_intro c_30⟩)).trans (if_neg c_45))) (by first | rfl | (simp (disch := omega) only [tn_nI])) (by unfold nxAT; simp (disch := omega) only [tn_nI, hset_hset]))
        · refine V_iconst (v := nI 3) F dX4_addTrain_48 rfl ?_
          refine V_goto (tgt := 53) F dX4_addTrain_49 (by decide) ?_
          refine V_cV1r F dX4_addTrain_53 lk_X4_92 (ct_failsP 3 hm hlen (by decide)) ⟨0, _, _, _, rfl, (.inl hm)⟩ (Nat.le_of_ble_eq_true rfl) (Nat.le_of_ble_eq_true rfl) (Nat.le_of_ble_eq_true rfl) (Nat.le_of_ble_eq_true rfl) (Nat.le_of_ble_eq_true rfl) ?_
          refine V_if_eqN (tgt := 61) F dX4_addTrain_56 (by decide) (by omega) (fun c_56 => absurd c_56 (by decide)) (fun c_56 => ?_)
          refine V_iconst (v := nI 0) F dX4_addTrain_59 rfl ?_
          exact V_iret F dX4_addTrain_60 rfl (Nat.le_of_ble_eq_true rfl) (Nat.le_of_ble_eq_true rfl) (PX.fail 3 ((if_neg (not_not_intro c_6)).trans ((if_neg (not_or.mpr ⟨not_not_intro c_21, not_not_intro c_30⟩)).trans (if_pos c_45))) (by decide) rfl)
      · refine V_iconst (v := nI 2) F dX4_addTrain_33 rfl ?_
        refine V_goto (tgt := 53) F dX4_addTrain_34 (by decide) ?_
        refine V_cV1r F dX4_addTrain_53 lk_X4_92 (ct_failsP 2 hm hlen (by decide)) ⟨0, _, _, _, rfl, (.inl hm)⟩ (Nat.le_of_ble_eq_true rfl) (Nat.le_of_ble_eq_true rfl) (Nat.le_of_ble_eq_true rfl) (Nat.le_of_ble_eq_true rfl) (Nat.le_of_ble_eq_true rfl) ?_
        refine V_if_eqN (tgt := 61) F dX4_addTrain_56 (by decide) (by omega) (fun c_56 => absurd c_56 (by decide)) (fun c_56 => ?_)
        refine V_iconst (v := nI 0) F dX4_addTrain_59 rfl ?_
        exact V_iret F dX4_addTrain_60 rfl (Nat.le_of_ble_eq_true rfl) (Nat.le_of_ble_eq_true rfl) (PX.fail 2 ((if_neg (not_not_intro c_6)).trans (if_pos (by first | exact Or.inl c_21 | exact Or.inr c_30))) (by decide) rfl)
  · refine V_iconst (v := nI 1) F dX4_addTrain_9 rfl ?_
    refine V_goto (tgt := 53) F dX4_addTrain_10 (by decide) ?_
    refine V_cV1r F dX4_addTrain_53 lk_X4_92 (ct_failsP 1 hm hlen (by decide)) ⟨0, _, _, _, rfl, (.inl hm)⟩ (Nat.le_of_ble_eq_true rfl) (Nat.le_of_ble_eq_true rfl) (Nat.le_of_ble_eq_true rfl) (Nat.le_of_ble_eq_true rfl) (Nat.le_of_ble_eq_true rfl) ?_
    refine V_if_eqN (tgt := 61) F dX4_addTrain_56 (by decide) (by omega) (fun c_56 => absurd c_56 (by decide)) (fun c_56 => ?_)
    refine V_iconst (v := nI 0) F dX4_addTrain_59 rfl ?_
    exact V_iret F dX4_addTrain_60 rfl (Nat.le_of_ble_eq_true rfl) (Nat.le_of_ble_eq_true rfl) (PX.fail 1 (if_pos c_6) (by decide) rfl)
theorem ct_delayTrain {G : GG} {l : Launch} {h : AH} {m : Nat} {fs : List Value} {aG : Nat} {g : Nat → Nat} {aK : Nat} {gk : Nat → Nat} {w : Nat} {ch : Nat} {s p : Int32} (hm : h m = some (.inr (0, fs))) (h_g : fs[0]? = some (.ref aG)) (hg : h aG = some (iA G 304 (fun i => nI (g i)))) (h_kept : fs[1]? = some (.ref aK)) (hk : h aK = some (iA G 2432 (fun i => nI (gk i)))) (h_isWithin : fs[6]? = some (.int (nI (w)))) (h_changes : fs[5]? = some (.int (nI (ch)))) (hlen : fs.length = 25) (hw : w < 2) (hch : ch ≤ 8) (hGK : aG ≠ aK) (hI : GW g)  : Ct G l yX4_delayTrain cX4_delayTrain 4 (some .int) 2 0 0 [.ref m, .int (s), .int (p)] h (PX (cdDT g s p) (fun k => hset h m (.inr (0, fs.set 7 (.int (nI k))))) (.int (nI (g (16 + 36 * tn s + 2)))) (hset (kpH G h m fs aK gk w ch g) aG (iA G 304 (fun i => nI ((nxDT g (tn s) (tn p)) i))))) := by
  refine Ct.of (by decide) (Nat.le_of_ble_eq_true rfl) (cat1 rfl) (fun X hXl F HN => ?_)
  subst hXl
  obtain ⟨hB, hn0, hn1, hn2, hn3, hst, hpl⟩ := hI
  have hmK : m ≠ aK := ne_oa hm hk
  refine V_aload_n (i := 0) F dX4_delayTrain_0 rfl rfl ?_
  refine V_aload_n (i := 0) F dX4_delayTrain_1 rfl rfl ?_
  refine V_iload_n (i := 1) F dX4_delayTrain_2 rfl rfl ?_
  refine V_cV1r F dX4_delayTrain_3 lk_X4_72 (ct_isTrain hm h_g hg hB.lt) ⟨0, _, _, _, rfl, (.inl hm)⟩ (Nat.le_of_ble_eq_true rfl) (Nat.le_of_ble_eq_true rfl) (Nat.le_of_ble_eq_true rfl) (Nat.le_of_ble_eq_true rfl) (Nat.le_of_ble_eq_true rfl) ?_
  refine V_if_neB (tgt := 13) F dX4_delayTrain_6 (by decide) (fun c_6 => ?_) (fun c_6 => ?_)
  · obtain ⟨b, hb, rfl⟩ := iR_of c_6 hB.lt
    refine V_iload_n (i := 2) F dX4_delayTrain_13 rfl rfl ?_
    refine V_iconst (v := nI 0) F dX4_delayTrain_14 rfl ?_
    refine V_bipush (v := nI 120) F dX4_delayTrain_15 rfl ?_
    refine V_cS3r F dX4_delayTrain_17 lk_X4_68 (ct_in ) (Nat.le_of_ble_eq_true rfl) (Nat.le_of_ble_eq_true rfl) (Nat.le_of_ble_eq_true rfl) (Nat.le_of_ble_eq_true rfl) (Nat.le_of_ble_eq_true rfl) ?_
    refine V_if_eqB (tgt := 27) F dX4_delayTrain_20 (by decide) (fun c_20 => ?_) (fun c_20 => ?_)
    · refine V_iconst (v := nI 2) F dX4_delayTrain_27 rfl ?_
      refine V_cV1r F dX4_delayTrain_28 lk_X4_92 (ct_failsP 2 hm hlen (by decide)) ⟨0, _, _, _, rfl, (.inl hm)⟩ (Nat.le_of_ble_eq_true rfl) (Nat.le_of_ble_eq_true rfl) (Nat.le_of_ble_eq_true rfl) (Nat.le_of_ble_eq_true rfl) (Nat.le_of_ble_eq_true rfl) ?_
      refine V_if_eqN (tgt := 36) F dX4_delayTrain_31 (by decide) (by omega) (fun c_31 => absurd c_31 (by decide)) (fun c_31 => ?_)
      refine V_iconst (v := nI 0) F dX4_delayTrain_34 rfl ?_
      exact V_iret F dX4_delayTrain_35 rfl (Nat.le_of_ble_eq_true rfl) (Nat.le_of_ble_eq_true rfl) (PX.fail 2 ((if_neg (not_not_intro c_6)).trans (if_pos c_20)) (by decide) rfl)
    · obtain ⟨c, hc1, hc2, rfl⟩ := nI_btw c_20 (by decide) (by decide)
      refine V_iconst (v := nI 0) F dX4_delayTrain_23 rfl ?_
      refine V_goto (tgt := 28) F dX4_delayTrain_24 (by decide) ?_
      refine V_cV1r F dX4_delayTrain_28 lk_X4_92 (ct_fails0 hm hlen) ⟨0, _, _, _, rfl, (.inl hm)⟩ (Nat.le_of_ble_eq_true rfl) (Nat.le_of_ble_eq_true rfl) (Nat.le_of_ble_eq_true rfl) (Nat.le_of_ble_eq_true rfl) (Nat.le_of_ble_eq_true rfl) ?_
      refine V_if_eqN (tgt := 36) F dX4_delayTrain_31 (by decide) (by omega) (fun c_31 => ?_) (fun c_31 => absurd c_31 (by decide))
      refine V_aload_n (i := 0) F dX4_delayTrain_36 rfl rfl ?_
      refine V_iload_n (i := 1) F dX4_delayTrain_37 rfl rfl ?_
      refine V_iconst (v := nI 2) F dX4_delayTrain_38 rfl ?_
      refine V_cV2r F dX4_delayTrain_39 lk_X4_76 (ct_of hset_self (gset h_g (by decide)) ((hset_ne (ne_ao hg hm)).trans hg) (by omega)) ⟨0, _, _, _, rfl, (.inl hset_self)⟩ (Nat.le_of_ble_eq_true rfl) (Nat.le_of_ble_eq_true rfl) (Nat.le_of_ble_eq_true rfl) (Nat.le_of_ble_eq_true rfl) (Nat.le_of_ble_eq_true rfl) ?_
      refine V_istore_n (i := 3) F dX4_delayTrain_42 rfl (Nat.le_of_ble_eq_true rfl) (Nat.le_of_ble_eq_true rfl) ?_
      refine V_aload_n (i := 0) F dX4_delayTrain_43 rfl rfl ?_
      refine V_aload_n (i := 0) F dX4_delayTrain_44 rfl rfl ?_
      refine V_getf F dX4_delayTrain_45 fc_X4_7_X4 (.inl hset_self) (gset h_g (by decide)) ?_
      refine V_cV1v F dX4_delayTrain_48 lk_X4_95 (ct_keeps hset_self (lens hlen) (gset h_kept (by decide)) ((hset_ne (Ne.symm hmK)).trans hk) (gset h_isWithin (by decide)) hw (gset h_changes (by decide)) hch ((hset_ne (ne_ao hg hm)).trans hg) hGK) ⟨0, _, _, _, rfl, (.inl hset_self)⟩ (Nat.le_of_ble_eq_true rfl) (Nat.le_of_ble_eq_true rfl) (Nat.le_of_ble_eq_true rfl) (Nat.le_of_ble_eq_true rfl) (Nat.le_of_ble_eq_true rfl) ?_
      refine VV.heap kpH_7 ?_
      refine V_aload_n (i := 0) F dX4_delayTrain_51 rfl rfl ?_
      refine V_getf F dX4_delayTrain_52 fc_X4_7_X4 (.inl (kpH_m hmK)) (kpF_at h_g (by decide) (by decide)) ?_
      refine V_bipush (v := nI 16) F dX4_delayTrain_55 rfl ?_
      refine V_bipush (v := nI 36) F dX4_delayTrain_57 rfl ?_
      refine V_iload_n (i := 1) F dX4_delayTrain_59 rfl rfl ?_
      refine V_imulN F dX4_delayTrain_60 ?_
      refine V_iaddN F dX4_delayTrain_61 ?_
      refine V_iconst (v := nI 2) F dX4_delayTrain_62 rfl ?_
      refine V_iaddN F dX4_delayTrain_63 ?_
      refine V_iload_n (i := 2) F dX4_delayTrain_64 rfl rfl ?_
      refine V_iastG F dX4_delayTrain_65 ((kpH_o (ne_ao hg hm) hGK).trans hg) (by omega) (by decide) ?_
      refine V_iload_n (i := 3) F dX4_delayTrain_66 rfl rfl ?_
      exact V_iret F dX4_delayTrain_67 rfl (Nat.le_of_ble_eq_true rfl) (Nat.le_of_ble_eq_true rfl) (PX.ok ((if_neg (not_not_intro c_6)).trans (if_neg (not_not_intro c_20))) (by first | rfl | (simp (disch := omega) only [tn_nI])) (by unfold nxDT; simp (disch := omega) only [tn_nI, hset_hset]))
  · refine V_iconst (v := nI 1) F dX4_delayTrain_9 rfl ?_
    refine V_goto (tgt := 28) F dX4_delayTrain_10 (by decide) ?_
    refine V_cV1r F dX4_delayTrain_28 lk_X4_92 (ct_failsP 1 hm hlen (by decide)) ⟨0, _, _, _, rfl, (.inl hm)⟩ (Nat.le_of_ble_eq_true rfl) (Nat.le_of_ble_eq_true rfl) (Nat.le_of_ble_eq_true rfl) (Nat.le_of_ble_eq_true rfl) (Nat.le_of_ble_eq_true rfl) ?_
    refine V_if_eqN (tgt := 36) F dX4_delayTrain_31 (by decide) (by omega) (fun c_31 => absurd c_31 (by decide)) (fun c_31 => ?_)
    refine V_iconst (v := nI 0) F dX4_delayTrain_34 rfl ?_
    exact V_iret F dX4_delayTrain_35 rfl (Nat.le_of_ble_eq_true rfl) (Nat.le_of_ble_eq_true rfl) (PX.fail 1 (if_pos c_6) (by decide) rfl)
theorem ct_addSuitcase {G : GG} {l : Launch} {h : AH} {m : Nat} {fs : List Value} {aG : Nat} {g : Nat → Nat} {aK : Nat} {gk : Nat → Nat} {w : Nat} {ch : Nat} {s p q : Int32} (hm : h m = some (.inr (0, fs))) (h_g : fs[0]? = some (.ref aG)) (hg : h aG = some (iA G 304 (fun i => nI (g i)))) (h_kept : fs[1]? = some (.ref aK)) (hk : h aK = some (iA G 2432 (fun i => nI (gk i)))) (h_isWithin : fs[6]? = some (.int (nI (w)))) (h_changes : fs[5]? = some (.int (nI (ch)))) (hlen : fs.length = 25) (hw : w < 2) (hch : ch ≤ 8) (hGK : aG ≠ aK) (hI : GW g)  : Ct G l yX4_addSuitcase cX4_addSuitcase 5 (some .int) 2 0 0 [.ref m, .int (s), .int (p), .int (q)] h (PX (cdAC g s p q) (fun k => hset h m (.inr (0, fs.set 7 (.int (nI k))))) (.int (nI (g 4))) (hset (kpH G h m fs aK gk w ch g) aG (iA G 304 (fun i => nI ((nxAC g (tn s) (tn p) (tn q)) i))))) := by
  refine Ct.of (by decide) (Nat.le_of_ble_eq_true rfl) (cat1 rfl) (fun X hXl F HN => ?_)
  subst hXl
  obtain ⟨hB, hn0, hn1, hn2, hn3, hst, hpl⟩ := hI
  have hmK : m ≠ aK := ne_oa hm hk
  refine V_aload_n (i := 0) F dX4_addSuitcase_0 rfl rfl ?_
  refine V_aload_n (i := 0) F dX4_addSuitcase_1 rfl rfl ?_
  refine V_iload_n (i := 1) F dX4_addSuitcase_2 rfl rfl ?_
  refine V_cV1r F dX4_addSuitcase_3 lk_X4_99 (ct_isStation hm h_g hg hB.lt) ⟨0, _, _, _, rfl, (.inl hm)⟩ (Nat.le_of_ble_eq_true rfl) (Nat.le_of_ble_eq_true rfl) (Nat.le_of_ble_eq_true rfl) (Nat.le_of_ble_eq_true rfl) (Nat.le_of_ble_eq_true rfl) ?_
  refine V_if_eqB (tgt := 17) F dX4_addSuitcase_6 (by decide) (fun c_6 => ?_) (fun c_6 => ?_)
  · refine V_iconst (v := nI 1) F dX4_addSuitcase_17 rfl ?_
    refine V_goto (tgt := 52) F dX4_addSuitcase_18 (by decide) ?_
    refine V_cV1r F dX4_addSuitcase_52 lk_X4_92 (ct_failsP 1 hm hlen (by decide)) ⟨0, _, _, _, rfl, (.inl hm)⟩ (Nat.le_of_ble_eq_true rfl) (Nat.le_of_ble_eq_true rfl) (Nat.le_of_ble_eq_true rfl) (Nat.le_of_ble_eq_true rfl) (Nat.le_of_ble_eq_true rfl) ?_
    refine V_if_eqN (tgt := 60) F dX4_addSuitcase_55 (by decide) (by omega) (fun c_55 => absurd c_55 (by decide)) (fun c_55 => ?_)
    refine V_iconst (v := nI 0) F dX4_addSuitcase_58 rfl ?_
    exact V_iret F dX4_addSuitcase_59 rfl (Nat.le_of_ble_eq_true rfl) (Nat.le_of_ble_eq_true rfl) (PX.fail 1 (if_pos (by first | exact Or.inl c_6 | exact Or.inr c_14)) (by decide) rfl)
  · obtain ⟨b, hb, rfl⟩ := iR_of c_6 hB.lt
    refine V_aload_n (i := 0) F dX4_addSuitcase_9 rfl rfl ?_
    refine V_iload_n (i := 2) F dX4_addSuitcase_10 rfl rfl ?_
    refine V_cV1r F dX4_addSuitcase_11 lk_X4_99 (ct_isStation hm h_g hg hB.lt) ⟨0, _, _, _, rfl, (.inl hm)⟩ (Nat.le_of_ble_eq_true rfl) (Nat.le_of_ble_eq_true rfl) (Nat.le_of_ble_eq_true rfl) (Nat.le_of_ble_eq_true rfl) (Nat.le_of_ble_eq_true rfl) ?_
    refine V_if_neB (tgt := 21) F dX4_addSuitcase_14 (by decide) (fun c_14 => ?_) (fun c_14 => ?_)
    · obtain ⟨c, hc, rfl⟩ := iR_of c_14 hB.lt
      refine V_iload_n (i := 3) F dX4_addSuitcase_21 rfl rfl ?_
      refine V_iconst (v := nI 0) F dX4_addSuitcase_22 rfl ?_
      refine V_sipush (v := nI 9999) F dX4_addSuitcase_23 rfl ?_
      refine V_cS3r F dX4_addSuitcase_26 lk_X4_68 (ct_in ) (Nat.le_of_ble_eq_true rfl) (Nat.le_of_ble_eq_true rfl) (Nat.le_of_ble_eq_true rfl) (Nat.le_of_ble_eq_true rfl) (Nat.le_of_ble_eq_true rfl) ?_
      refine V_if_neB (tgt := 36) F dX4_addSuitcase_29 (by decide) (fun c_29 => ?_) (fun c_29 => ?_)
      · obtain ⟨e, he1, he2, rfl⟩ := nI_btw c_29 (by decide) (by decide)
        refine V_aload_n (i := 0) F dX4_addSuitcase_36 rfl rfl ?_
        refine V_getf F dX4_addSuitcase_37 fc_X4_7_X4 (.inl hm) h_g ?_
        refine V_iconst (v := nI 2) F dX4_addSuitcase_40 rfl ?_
        refine V_ialdG F dX4_addSuitcase_41 (.inl hg) (by omega) (by decide) rfl ?_
        refine V_bipush (v := nI 8) F dX4_addSuitcase_42 rfl ?_
        refine V_icmp_neN (tgt := 51) F dX4_addSuitcase_44 (by decide) hB.lt (by decide) (fun c_44 => ?_) (fun c_44 => ?_)
        · refine V_iconst (v := nI 0) F dX4_addSuitcase_51 rfl ?_
          refine V_cV1r F dX4_addSuitcase_52 lk_X4_92 (ct_fails0 hm hlen) ⟨0, _, _, _, rfl, (.inl hm)⟩ (Nat.le_of_ble_eq_true rfl) (Nat.le_of_ble_eq_true rfl) (Nat.le_of_ble_eq_true rfl) (Nat.le_of_ble_eq_true rfl) (Nat.le_of_ble_eq_true rfl) ?_
          refine V_if_eqN (tgt := 60) F dX4_addSuitcase_55 (by decide) (by omega) (fun c_55 => ?_) (fun c_55 => absurd c_55 (by decide))
          refine V_aload_n (i := 0) F dX4_addSuitcase_60 rfl rfl ?_
          refine V_aload_n (i := 0) F dX4_addSuitcase_61 rfl rfl ?_
          refine V_getf F dX4_addSuitcase_62 fc_X4_7_X4 (.inl hset_self) (gset h_g (by decide)) ?_
          refine V_cV1v F dX4_addSuitcase_65 lk_X4_95 (ct_keeps hset_self (lens hlen) (gset h_kept (by decide)) ((hset_ne (Ne.symm hmK)).trans hk) (gset h_isWithin (by decide)) hw (gset h_changes (by decide)) hch ((hset_ne (ne_ao hg hm)).trans hg) hGK) ⟨0, _, _, _, rfl, (.inl hset_self)⟩ (Nat.le_of_ble_eq_true rfl) (Nat.le_of_ble_eq_true rfl) (Nat.le_of_ble_eq_true rfl) (Nat.le_of_ble_eq_true rfl) (Nat.le_of_ble_eq_true rfl) ?_
          refine VV.heap kpH_7 ?_
          refine V_sipush (v := nI 232) F dX4_addSuitcase_68 rfl ?_
          refine V_iconst (v := nI 4) F dX4_addSuitcase_71 rfl ?_
          refine V_aload_n (i := 0) F dX4_addSuitcase_72 rfl rfl ?_
          refine V_getf F dX4_addSuitcase_73 fc_X4_7_X4 (.inl (kpH_m hmK)) (kpF_at h_g (by decide) (by decide)) ?_
          refine V_iconst (v := nI 2) F dX4_addSuitcase_76 rfl ?_
          refine V_ialdG F dX4_addSuitcase_77 (.inl ((kpH_o (ne_ao hg hm) hGK).trans hg)) (by omega) (by decide) rfl ?_
          refine V_imulN F dX4_addSuitcase_78 ?_
          refine V_iaddN F dX4_addSuitcase_79 ?_
          refine V_istore (i := 4) F dX4_addSuitcase_80 (Nat.le_of_ble_eq_true rfl) (Nat.le_of_ble_eq_true rfl) ?_
          refine V_aload_n (i := 0) F dX4_addSuitcase_82 rfl rfl ?_
          refine V_getf F dX4_addSuitcase_83 fc_X4_7_X4 (.inl (kpH_m hmK)) (kpF_at h_g (by decide) (by decide)) ?_
          refine V_iload (i := 4) F dX4_addSuitcase_86 rfl ?_
          refine V_iconst (v := nI 0) F dX4_addSuitcase_88 rfl ?_
          refine V_iaddN F dX4_addSuitcase_89 ?_
          refine V_aload_n (i := 0) F dX4_addSuitcase_90 rfl rfl ?_
          refine V_getf F dX4_addSuitcase_91 fc_X4_7_X4 (.inl (kpH_m hmK)) (kpF_at h_g (by decide) (by decide)) ?_
          refine V_iconst (v := nI 4) F dX4_addSuitcase_94 rfl ?_
          refine V_ialdG F dX4_addSuitcase_95 (.inl ((kpH_o (ne_ao hg hm) hGK).trans hg)) (by omega) (by decide) rfl ?_
          refine V_iastG F dX4_addSuitcase_96 ((kpH_o (ne_ao hg hm) hGK).trans hg) (by omega) (by decide) ?_
          refine V_aload_n (i := 0) F dX4_addSuitcase_97 rfl rfl ?_
          refine V_getf F dX4_addSuitcase_98 fc_X4_7_X4 (.inl ((hset_ne (ne_oa hm hg)).trans (kpH_m hmK))) (kpF_at h_g (by decide) (by decide)) ?_
          refine V_iload (i := 4) F dX4_addSuitcase_101 rfl ?_
          refine V_iconst (v := nI 1) F dX4_addSuitcase_103 rfl ?_
          refine V_iaddN F dX4_addSuitcase_104 ?_
          refine V_iload_n (i := 1) F dX4_addSuitcase_105 rfl rfl ?_
          refine V_iastG F dX4_addSuitcase_106 hset_self (by omega) (by decide) ?_
          refine V_aload_n (i := 0) F dX4_addSuitcase_107 rfl rfl ?_
          refine V_getf F dX4_addSuitcase_108 fc_X4_7_X4 (.inl ((hset_ne (ne_oa hm hg)).trans ((hset_ne (ne_oa hm hg)).trans (kpH_m hmK)))) (kpF_at h_g (by decide) (by decide)) ?_
          refine V_iload (i := 4) F dX4_addSuitcase_111 rfl ?_
          refine V_iconst (v := nI 2) F dX4_addSuitcase_113 rfl ?_
          refine V_iaddN F dX4_addSuitcase_114 ?_
          refine V_iload_n (i := 2) F dX4_addSuitcase_115 rfl rfl ?_
          refine V_iastG F dX4_addSuitcase_116 hset_self (by omega) (by decide) ?_
          refine V_aload_n (i := 0) F dX4_addSuitcase_117 rfl rfl ?_
          refine V_getf F dX4_addSuitcase_118 fc_X4_7_X4 (.inl ((hset_ne (ne_oa hm hg)).trans ((hset_ne (ne_oa hm hg)).trans ((hset_ne (ne_oa hm hg)).trans (kpH_m hmK))))) (kpF_at h_g (by decide) (by decide)) ?_
          refine V_iload (i := 4) F dX4_addSuitcase_121 rfl ?_
          refine V_iconst (v := nI 3) F dX4_addSuitcase_123 rfl ?_
          refine V_iaddN F dX4_addSuitcase_124 ?_
          refine V_iload_n (i := 3) F dX4_addSuitcase_125 rfl rfl ?_
          refine V_iastG F dX4_addSuitcase_126 hset_self (by omega) (by decide) ?_
          refine V_aload_n (i := 0) F dX4_addSuitcase_127 rfl rfl ?_
          refine V_getf F dX4_addSuitcase_128 fc_X4_7_X4 (.inl ((hset_ne (ne_oa hm hg)).trans ((hset_ne (ne_oa hm hg)).trans ((hset_ne (ne_oa hm hg)).trans ((hset_ne (ne_oa hm hg)).trans (kpH_m hmK)))))) (kpF_at h_g (by decide) (by decide)) ?_
          refine V_iconst (v := nI 2) F dX4_addSuitcase_131 rfl ?_
          refine V_dup2 F dX4_addSuitcase_132 rfl rfl ?_
          refine V_ialdG F dX4_addSuitcase_133 (.inl hset_self) (by omega) (by decide) ((up_n (by omega)).trans ((up_n (by omega)).trans ((up_n (by omega)).trans (up_n (by omega))))) ?_
          refine V_iconst (v := nI 1) F dX4_addSuitcase_134 rfl ?_
          refine V_iaddN F dX4_addSuitcase_135 ?_
          refine V_iastG F dX4_addSuitcase_136 hset_self (by omega) (by decide) ?_
          refine V_aload_n (i := 0) F dX4_addSuitcase_137 rfl rfl ?_
          refine V_getf F dX4_addSuitcase_138 fc_X4_7_X4 (.inl ((hset_ne (ne_oa hm hg)).trans ((hset_ne (ne_oa hm hg)).trans ((hset_ne (ne_oa hm hg)).trans ((hset_ne (ne_oa hm hg)).trans ((hset_ne (ne_oa hm hg)).trans (kpH_m hmK))))))) (kpF_at h_g (by decide) (by decide)) ?_
          refine V_iconst (v := nI 4) F dX4_addSuitcase_141 rfl ?_
          refine V_dup2 F dX4_addSuitcase_142 rfl rfl ?_
          refine V_ialdG F dX4_addSuitcase_143 (.inl hset_self) (by omega) (by decide) ((up_n (by omega)).trans ((up_n (by omega)).trans ((up_n (by omega)).trans ((up_n (by omega)).trans (up_n (by omega)))))) ?_
          refine V_iconst (v := nI 1) F dX4_addSuitcase_144 rfl ?_
          refine V_iaddN F dX4_addSuitcase_145 ?_
          refine V_iastG F dX4_addSuitcase_146 hset_self (by omega) (by decide) ?_
          refine V_aload_n (i := 0) F dX4_addSuitcase_147 rfl rfl ?_
          refine V_getf F dX4_addSuitcase_148 fc_X4_7_X4 (.inl ((hset_ne (ne_oa hm hg)).trans ((hset_ne (ne_oa hm hg)).trans ((hset_ne (ne_oa hm hg)).trans ((hset_ne (ne_oa hm hg)).trans ((hset_ne (ne_oa hm hg)).trans ((hset_ne (ne_oa hm hg)).trans (kpH_m hmK)))))))) (kpF_at h_g (by decide) (by decide)) ?_
          refine V_iconst (v := nI 4) F dX4_addSuitcase_151 rfl ?_
          refine V_ialdG F dX4_addSuitcase_152 (.inl hset_self) (by omega) (by decide) up_s ?_
          refine V_iconst (v := nI 1) F dX4_addSuitcase_153 rfl ?_
          refine V_isubN F dX4_addSuitcase_154 (by omega) ?_
          exact V_iret F dX4_addSuitcase_155 rfl (Nat.le_of_ble_eq_true rfl) (Nat.le_of_ble_eq_true rfl) (PX.ok ((if_neg (not_or.mpr ⟨not_not_intro c_6, not_not_intro c_14⟩)).trans ((if_neg (not_not_intro c_29)).trans (if_neg c_44))) (by first | rfl | (simp (disch := omega) only [tn_nI])) (by unfold nxAC; simp (disch := omega) only [tn_nI, hset_hset]))
        · refine V_iconst (v := nI 3) F dX4_addSuitcase_47 rfl ?_
          refine V_goto (tgt := 52) F dX4_addSuitcase_48 (by decide) ?_
          refine V_cV1r F dX4_addSuitcase_52 lk_X4_92 (ct_failsP 3 hm hlen (by decide)) ⟨0, _, _, _, rfl, (.inl hm)⟩ (Nat.le_of_ble_eq_true rfl) (Nat.le_of_ble_eq_true rfl) (Nat.le_of_ble_eq_true rfl) (Nat.le_of_ble_eq_true rfl) (Nat.le_of_ble_eq_true rfl) ?_
          refine V_if_eqN (tgt := 60) F dX4_addSuitcase_55 (by decide) (by omega) (fun c_55 => absurd c_55 (by decide)) (fun c_55 => ?_)
          refine V_iconst (v := nI 0) F dX4_addSuitcase_58 rfl ?_
          exact V_iret F dX4_addSuitcase_59 rfl (Nat.le_of_ble_eq_true rfl) (Nat.le_of_ble_eq_true rfl) (PX.fail 3 ((if_neg (not_or.mpr ⟨not_not_intro c_6, not_not_intro c_14⟩)).trans ((if_neg (not_not_intro c_29)).trans (if_pos c_44))) (by decide) rfl)
      · refine V_iconst (v := nI 2) F dX4_addSuitcase_32 rfl ?_
        refine V_goto (tgt := 52) F dX4_addSuitcase_33 (by decide) ?_
        refine V_cV1r F dX4_addSuitcase_52 lk_X4_92 (ct_failsP 2 hm hlen (by decide)) ⟨0, _, _, _, rfl, (.inl hm)⟩ (Nat.le_of_ble_eq_true rfl) (Nat.le_of_ble_eq_true rfl) (Nat.le_of_ble_eq_true rfl) (Nat.le_of_ble_eq_true rfl) (Nat.le_of_ble_eq_true rfl) ?_
        refine V_if_eqN (tgt := 60) F dX4_addSuitcase_55 (by decide) (by omega) (fun c_55 => absurd c_55 (by decide)) (fun c_55 => ?_)
        refine V_iconst (v := nI 0) F dX4_addSuitcase_58 rfl ?_
        exact V_iret F dX4_addSuitcase_59 rfl (Nat.le_of_ble_eq_true rfl) (Nat.le_of_ble_eq_true rfl) (PX.fail 2 ((if_neg (not_or.mpr ⟨not_not_intro c_6, not_not_intro c_14⟩)).trans (if_pos c_29)) (by decide) rfl)
    · refine V_iconst (v := nI 1) F dX4_addSuitcase_17 rfl ?_
      refine V_goto (tgt := 52) F dX4_addSuitcase_18 (by decide) ?_
      refine V_cV1r F dX4_addSuitcase_52 lk_X4_92 (ct_failsP 1 hm hlen (by decide)) ⟨0, _, _, _, rfl, (.inl hm)⟩ (Nat.le_of_ble_eq_true rfl) (Nat.le_of_ble_eq_true rfl) (Nat.le_of_ble_eq_true rfl) (Nat.le_of_ble_eq_true rfl) (Nat.le_of_ble_eq_true rfl) ?_
      refine V_if_eqN (tgt := 60) F dX4_addSuitcase_55 (by decide) (by omega) (fun c_55 => absurd c_55 (by decide)) (fun c_55 => ?_)
      refine V_iconst (v := nI 0) F dX4_addSuitcase_58 rfl ?_
      exact V_iret F dX4_addSuitcase_59 rfl (Nat.le_of_ble_eq_true rfl) (Nat.le_of_ble_eq_true rfl) (PX.fail 1 (if_pos (by first | exact Or.inl c_6 | exact Or.inr c_14)) (by decide) rfl)
theorem ct_extendTrain {G : GG} {l : Launch} {h : AH} {m : Nat} {fs : List Value} {aG : Nat} {g : Nat → Nat} {aK : Nat} {gk : Nat → Nat} {w : Nat} {ch : Nat} {s p q r : Int32} (hm : h m = some (.inr (0, fs))) (h_g : fs[0]? = some (.ref aG)) (hg : h aG = some (iA G 304 (fun i => nI (g i)))) (h_kept : fs[1]? = some (.ref aK)) (hk : h aK = some (iA G 2432 (fun i => nI (gk i)))) (h_isWithin : fs[6]? = some (.int (nI (w)))) (h_changes : fs[5]? = some (.int (nI (ch)))) (hlen : fs.length = 25) (hw : w < 2) (hch : ch ≤ 8) (hGK : aG ≠ aK) (hI : GW g)  : Ct G l yX4_extendTrain cX4_extendTrain 7 (some .int) 2 0 0 [.ref m, .int (s), .int (p), .int (q), .int (r)] h (PX (cdET g s p q r) (fun k => hset h m (.inr (0, fs.set 7 (.int (nI k))))) (.int (nI (g (16 + 36 * tn s + 3)))) (hset (kpH G h m fs aK gk w ch g) aG (iA G 304 (fun i => nI ((nxET g (tn s) (tn p) (tn q) (tn r)) i))))) := by
  refine Ct.of (by decide) (Nat.le_of_ble_eq_true rfl) (cat1 rfl) (fun X hXl F HN => ?_)
  subst hXl
  obtain ⟨hB, hn0, hn1, hn2, hn3, hst, hpl⟩ := hI
  have hmK : m ≠ aK := ne_oa hm hk
  refine V_aload_n (i := 0) F dX4_extendTrain_0 rfl rfl ?_
  refine V_aload_n (i := 0) F dX4_extendTrain_1 rfl rfl ?_
  refine V_iload_n (i := 1) F dX4_extendTrain_2 rfl rfl ?_
  refine V_cV1r F dX4_extendTrain_3 lk_X4_72 (ct_isTrain hm h_g hg hB.lt) ⟨0, _, _, _, rfl, (.inl hm)⟩ (Nat.le_of_ble_eq_true rfl) (Nat.le_of_ble_eq_true rfl) (Nat.le_of_ble_eq_true rfl) (Nat.le_of_ble_eq_true rfl) (Nat.le_of_ble_eq_true rfl) ?_
  refine V_if_eqB (tgt := 17) F dX4_extendTrain_6 (by decide) (fun c_6 => ?_) (fun c_6 => ?_)
  · refine V_iconst (v := nI 1) F dX4_extendTrain_17 rfl ?_
    refine V_goto (tgt := 80) F dX4_extendTrain_18 (by decide) ?_
    refine V_cV1r F dX4_extendTrain_80 lk_X4_92 (ct_failsP 1 hm hlen (by decide)) ⟨0, _, _, _, rfl, (.inl hm)⟩ (Nat.le_of_ble_eq_true rfl) (Nat.le_of_ble_eq_true rfl) (Nat.le_of_ble_eq_true rfl) (Nat.le_of_ble_eq_true rfl) (Nat.le_of_ble_eq_true rfl) ?_
    refine V_if_eqN (tgt := 88) F dX4_extendTrain_83 (by decide) (by omega) (fun c_83 => absurd c_83 (by decide)) (fun c_83 => ?_)
    refine V_iconst (v := nI 0) F dX4_extendTrain_86 rfl ?_
    exact V_iret F dX4_extendTrain_87 rfl (Nat.le_of_ble_eq_true rfl) (Nat.le_of_ble_eq_true rfl) (PX.fail 1 (if_pos (by first | exact Or.inl c_6 | exact Or.inr c_14)) (by decide) rfl)
  · obtain ⟨b, hb, rfl⟩ := iR_of c_6 hB.lt
    have hsb := hst b hb
    refine V_aload_n (i := 0) F dX4_extendTrain_9 rfl rfl ?_
    refine V_iload_n (i := 2) F dX4_extendTrain_10 rfl rfl ?_
    refine V_cV1r F dX4_extendTrain_11 lk_X4_99 (ct_isStation hm h_g hg hB.lt) ⟨0, _, _, _, rfl, (.inl hm)⟩ (Nat.le_of_ble_eq_true rfl) (Nat.le_of_ble_eq_true rfl) (Nat.le_of_ble_eq_true rfl) (Nat.le_of_ble_eq_true rfl) (Nat.le_of_ble_eq_true rfl) ?_
    refine V_if_neB (tgt := 21) F dX4_extendTrain_14 (by decide) (fun c_14 => ?_) (fun c_14 => ?_)
    · obtain ⟨c, hc, rfl⟩ := iR_of c_14 hB.lt
      refine V_iload_n (i := 3) F dX4_extendTrain_21 rfl rfl ?_
      refine V_iconst (v := nI 1) F dX4_extendTrain_22 rfl ?_
      refine V_sipush (v := nI 300) F dX4_extendTrain_23 rfl ?_
      refine V_cS3r F dX4_extendTrain_26 lk_X4_68 (ct_in ) (Nat.le_of_ble_eq_true rfl) (Nat.le_of_ble_eq_true rfl) (Nat.le_of_ble_eq_true rfl) (Nat.le_of_ble_eq_true rfl) (Nat.le_of_ble_eq_true rfl) ?_
      refine V_if_eqB (tgt := 43) F dX4_extendTrain_29 (by decide) (fun c_29 => ?_) (fun c_29 => ?_)
      · refine V_iconst (v := nI 2) F dX4_extendTrain_43 rfl ?_
        refine V_goto (tgt := 80) F dX4_extendTrain_44 (by decide) ?_
        refine V_cV1r F dX4_extendTrain_80 lk_X4_92 (ct_failsP 2 hm hlen (by decide)) ⟨0, _, _, _, rfl, (.inl hm)⟩ (Nat.le_of_ble_eq_true rfl) (Nat.le_of_ble_eq_true rfl) (Nat.le_of_ble_eq_true rfl) (Nat.le_of_ble_eq_true rfl) (Nat.le_of_ble_eq_true rfl) ?_
        refine V_if_eqN (tgt := 88) F dX4_extendTrain_83 (by decide) (by omega) (fun c_83 => absurd c_83 (by decide)) (fun c_83 => ?_)
        refine V_iconst (v := nI 0) F dX4_extendTrain_86 rfl ?_
        exact V_iret F dX4_extendTrain_87 rfl (Nat.le_of_ble_eq_true rfl) (Nat.le_of_ble_eq_true rfl) (PX.fail 2 ((if_neg (not_or.mpr ⟨not_not_intro c_6, not_not_intro c_14⟩)).trans (if_pos (by first | exact Or.inl c_29 | exact Or.inr c_40))) (by decide) rfl)
      · obtain ⟨e, he1, he2, rfl⟩ := nI_btw c_29 (by decide) (by decide)
        refine V_iload (i := 4) F dX4_extendTrain_32 rfl ?_
        refine V_iconst (v := nI 0) F dX4_extendTrain_34 rfl ?_
        refine V_bipush (v := nI 60) F dX4_extendTrain_35 rfl ?_
        refine V_cS3r F dX4_extendTrain_37 lk_X4_68 (ct_in ) (Nat.le_of_ble_eq_true rfl) (Nat.le_of_ble_eq_true rfl) (Nat.le_of_ble_eq_true rfl) (Nat.le_of_ble_eq_true rfl) (Nat.le_of_ble_eq_true rfl) ?_
        refine V_if_neB (tgt := 47) F dX4_extendTrain_40 (by decide) (fun c_40 => ?_) (fun c_40 => ?_)
        · obtain ⟨f, hf1, hf2, rfl⟩ := nI_btw c_40 (by decide) (by decide)
          refine V_aload_n (i := 0) F dX4_extendTrain_47 rfl rfl ?_
          refine V_iload_n (i := 1) F dX4_extendTrain_48 rfl rfl ?_
          refine V_iconst (v := nI 3) F dX4_extendTrain_49 rfl ?_
          refine V_cV2r F dX4_extendTrain_50 lk_X4_76 (ct_of hm h_g hg (by omega)) ⟨0, _, _, _, rfl, (.inl hm)⟩ (Nat.le_of_ble_eq_true rfl) (Nat.le_of_ble_eq_true rfl) (Nat.le_of_ble_eq_true rfl) (Nat.le_of_ble_eq_true rfl) (Nat.le_of_ble_eq_true rfl) ?_
          refine V_bipush (v := nI 8) F dX4_extendTrain_53 rfl ?_
          refine V_icmp_eqN (tgt := 75) F dX4_extendTrain_55 (by decide) hB.lt (by decide) (fun c_55 => ?_) (fun c_55 => ?_)
          · refine V_iconst (v := nI 3) F dX4_extendTrain_75 rfl ?_
            refine V_goto (tgt := 80) F dX4_extendTrain_76 (by decide) ?_
            refine V_cV1r F dX4_extendTrain_80 lk_X4_92 (ct_failsP 3 hm hlen (by decide)) ⟨0, _, _, _, rfl, (.inl hm)⟩ (Nat.le_of_ble_eq_true rfl) (Nat.le_of_ble_eq_true rfl) (Nat.le_of_ble_eq_true rfl) (Nat.le_of_ble_eq_true rfl) (Nat.le_of_ble_eq_true rfl) ?_
            refine V_if_eqN (tgt := 88) F dX4_extendTrain_83 (by decide) (by omega) (fun c_83 => absurd c_83 (by decide)) (fun c_83 => ?_)
            refine V_iconst (v := nI 0) F dX4_extendTrain_86 rfl ?_
            exact V_iret F dX4_extendTrain_87 rfl (Nat.le_of_ble_eq_true rfl) (Nat.le_of_ble_eq_true rfl) (PX.fail 3 ((if_neg (not_or.mpr ⟨not_not_intro c_6, not_not_intro c_14⟩)).trans ((if_neg (not_or.mpr ⟨not_not_intro c_29, not_not_intro c_40⟩)).trans (if_pos (by rw [tn_nI (a := b) (by omega), tn_nI (a := c) (by omega)]; first | exact Or.inl c_55 | exact Or.inr c_72)))) (by decide) rfl)
          · refine V_aload_n (i := 0) F dX4_extendTrain_58 rfl rfl ?_
            refine V_iload_n (i := 1) F dX4_extendTrain_59 rfl rfl ?_
            refine V_aload_n (i := 0) F dX4_extendTrain_60 rfl rfl ?_
            refine V_iload_n (i := 1) F dX4_extendTrain_61 rfl rfl ?_
            refine V_iconst (v := nI 3) F dX4_extendTrain_62 rfl ?_
            refine V_cV2r F dX4_extendTrain_63 lk_X4_76 (ct_of hm h_g hg (by omega)) ⟨0, _, _, _, rfl, (.inl hm)⟩ (Nat.le_of_ble_eq_true rfl) (Nat.le_of_ble_eq_true rfl) (Nat.le_of_ble_eq_true rfl) (Nat.le_of_ble_eq_true rfl) (Nat.le_of_ble_eq_true rfl) ?_
            refine V_iconst (v := nI 1) F dX4_extendTrain_66 rfl ?_
            refine V_isubN F dX4_extendTrain_67 (by omega) ?_
            refine V_cV2r F dX4_extendTrain_68 lk_X4_102 (ct_place hm h_g hg (by omega) (by omega)) ⟨0, _, _, _, rfl, (.inl hm)⟩ (Nat.le_of_ble_eq_true rfl) (Nat.le_of_ble_eq_true rfl) (Nat.le_of_ble_eq_true rfl) (Nat.le_of_ble_eq_true rfl) (Nat.le_of_ble_eq_true rfl) ?_
            refine V_iload_n (i := 2) F dX4_extendTrain_71 rfl rfl ?_
            refine V_icmp_neN (tgt := 79) F dX4_extendTrain_72 (by decide) hB.lt (by omega) (fun c_72 => ?_) (fun c_72 => ?_)
            · refine V_iconst (v := nI 0) F dX4_extendTrain_79 rfl ?_
              refine V_cV1r F dX4_extendTrain_80 lk_X4_92 (ct_fails0 hm hlen) ⟨0, _, _, _, rfl, (.inl hm)⟩ (Nat.le_of_ble_eq_true rfl) (Nat.le_of_ble_eq_true rfl) (Nat.le_of_ble_eq_true rfl) (Nat.le_of_ble_eq_true rfl) (Nat.le_of_ble_eq_true rfl) ?_
              refine V_if_eqN (tgt := 88) F dX4_extendTrain_83 (by decide) (by omega) (fun c_83 => ?_) (fun c_83 => absurd c_83 (by decide))
              refine V_aload_n (i := 0) F dX4_extendTrain_88 rfl rfl ?_
              refine V_aload_n (i := 0) F dX4_extendTrain_89 rfl rfl ?_
              refine V_getf F dX4_extendTrain_90 fc_X4_7_X4 (.inl hset_self) (gset h_g (by decide)) ?_
              refine V_cV1v F dX4_extendTrain_93 lk_X4_95 (ct_keeps hset_self (lens hlen) (gset h_kept (by decide)) ((hset_ne (Ne.symm hmK)).trans hk) (gset h_isWithin (by decide)) hw (gset h_changes (by decide)) hch ((hset_ne (ne_ao hg hm)).trans hg) hGK) ⟨0, _, _, _, rfl, (.inl hset_self)⟩ (Nat.le_of_ble_eq_true rfl) (Nat.le_of_ble_eq_true rfl) (Nat.le_of_ble_eq_true rfl) (Nat.le_of_ble_eq_true rfl) (Nat.le_of_ble_eq_true rfl) ?_
              refine VV.heap kpH_7 ?_
              refine V_aload_n (i := 0) F dX4_extendTrain_96 rfl rfl ?_
              refine V_iload_n (i := 1) F dX4_extendTrain_97 rfl rfl ?_
              refine V_iconst (v := nI 3) F dX4_extendTrain_98 rfl ?_
              refine V_cV2r F dX4_extendTrain_99 lk_X4_76 (ct_of (kpH_m hmK) (kpF_at h_g (by decide) (by decide)) ((kpH_o (ne_ao hg hm) hGK).trans hg) (by omega)) ⟨0, _, _, _, rfl, (.inl (kpH_m hmK))⟩ (Nat.le_of_ble_eq_true rfl) (Nat.le_of_ble_eq_true rfl) (Nat.le_of_ble_eq_true rfl) (Nat.le_of_ble_eq_true rfl) (Nat.le_of_ble_eq_true rfl) ?_
              refine V_istore (i := 5) F dX4_extendTrain_102 (Nat.le_of_ble_eq_true rfl) (Nat.le_of_ble_eq_true rfl) ?_
              refine V_bipush (v := nI 16) F dX4_extendTrain_104 rfl ?_
              refine V_bipush (v := nI 36) F dX4_extendTrain_106 rfl ?_
              refine V_iload_n (i := 1) F dX4_extendTrain_108 rfl rfl ?_
              refine V_imulN F dX4_extendTrain_109 ?_
              refine V_iaddN F dX4_extendTrain_110 ?_
              refine V_iconst (v := nI 4) F dX4_extendTrain_111 rfl ?_
              refine V_iaddN F dX4_extendTrain_112 ?_
              refine V_iconst (v := nI 3) F dX4_extendTrain_113 rfl ?_
              refine V_iload (i := 5) F dX4_extendTrain_114 rfl ?_
              refine V_imulN F dX4_extendTrain_116 ?_
              refine V_iaddN F dX4_extendTrain_117 ?_
              refine V_istore (i := 6) F dX4_extendTrain_118 (Nat.le_of_ble_eq_true rfl) (Nat.le_of_ble_eq_true rfl) ?_
              refine V_aload_n (i := 0) F dX4_extendTrain_120 rfl rfl ?_
              refine V_getf F dX4_extendTrain_121 fc_X4_7_X4 (.inl (kpH_m hmK)) (kpF_at h_g (by decide) (by decide)) ?_
              refine V_iload (i := 6) F dX4_extendTrain_124 rfl ?_
              refine V_iload_n (i := 2) F dX4_extendTrain_126 rfl rfl ?_
              refine V_iastG F dX4_extendTrain_127 ((kpH_o (ne_ao hg hm) hGK).trans hg) (by omega) (by decide) ?_
              refine V_aload_n (i := 0) F dX4_extendTrain_128 rfl rfl ?_
              refine V_getf F dX4_extendTrain_129 fc_X4_7_X4 (.inl ((hset_ne (ne_oa hm hg)).trans (kpH_m hmK))) (kpF_at h_g (by decide) (by decide)) ?_
              refine V_iload (i := 6) F dX4_extendTrain_132 rfl ?_
              refine V_iconst (v := nI 1) F dX4_extendTrain_134 rfl ?_
              refine V_iaddN F dX4_extendTrain_135 ?_
              refine V_iload_n (i := 3) F dX4_extendTrain_136 rfl rfl ?_
              refine V_iastG F dX4_extendTrain_137 hset_self (by omega) (by decide) ?_
              refine V_aload_n (i := 0) F dX4_extendTrain_138 rfl rfl ?_
              refine V_getf F dX4_extendTrain_139 fc_X4_7_X4 (.inl ((hset_ne (ne_oa hm hg)).trans ((hset_ne (ne_oa hm hg)).trans (kpH_m hmK)))) (kpF_at h_g (by decide) (by decide)) ?_
              refine V_iload (i := 6) F dX4_extendTrain_142 rfl ?_
              refine V_iconst (v := nI 2) F dX4_extendTrain_144 rfl ?_
              refine V_iaddN F dX4_extendTrain_145 ?_
              refine V_iload (i := 4) F dX4_extendTrain_146 rfl ?_
              refine V_iastG F dX4_extendTrain_148 hset_self (by omega) (by decide) ?_
              refine V_aload_n (i := 0) F dX4_extendTrain_149 rfl rfl ?_
              refine V_getf F dX4_extendTrain_150 fc_X4_7_X4 (.inl ((hset_ne (ne_oa hm hg)).trans ((hset_ne (ne_oa hm hg)).trans ((hset_ne (ne_oa hm hg)).trans (kpH_m hmK))))) (kpF_at h_g (by decide) (by decide)) ?_
              refine V_bipush (v := nI 16) F dX4_extendTrain_153 rfl ?_
              refine V_bipush (v := nI 36) F dX4_extendTrain_155 rfl ?_
              refine V_iload_n (i := 1) F dX4_extendTrain_157 rfl rfl ?_
              refine V_imulN F dX4_extendTrain_158 ?_
              refine V_iaddN F dX4_extendTrain_159 ?_
              refine V_iconst (v := nI 3) F dX4_extendTrain_160 rfl ?_
              refine V_iaddN F dX4_extendTrain_161 ?_
              refine V_dup2 F dX4_extendTrain_162 rfl rfl ?_
              refine V_ialdG F dX4_extendTrain_163 (.inl hset_self) (by omega) (by decide) ((up_n (by omega)).trans ((up_n (by omega)).trans (up_n (by omega)))) ?_
              refine V_iconst (v := nI 1) F dX4_extendTrain_164 rfl ?_
              refine V_iaddN F dX4_extendTrain_165 ?_
              refine V_iastG F dX4_extendTrain_166 hset_self (by omega) (by decide) ?_
              refine V_iload (i := 5) F dX4_extendTrain_167 rfl ?_
              exact V_iret F dX4_extendTrain_169 rfl (Nat.le_of_ble_eq_true rfl) (Nat.le_of_ble_eq_true rfl) (PX.ok ((if_neg (not_or.mpr ⟨not_not_intro c_6, not_not_intro c_14⟩)).trans ((if_neg (not_or.mpr ⟨not_not_intro c_29, not_not_intro c_40⟩)).trans (if_neg (by rw [tn_nI (a := b) (by omega), tn_nI (a := c) (by omega)]; exact not_or.mpr ⟨c_55, c_72⟩)))) (by first | rfl | (simp (disch := omega) only [tn_nI])) (by unfold nxET; simp (disch := omega) only [tn_nI, hset_hset]))
            · refine V_iconst (v := nI 3) F dX4_extendTrain_75 rfl ?_
              refine V_goto (tgt := 80) F dX4_extendTrain_76 (by decide) ?_
              refine V_cV1r F dX4_extendTrain_80 lk_X4_92 (ct_failsP 3 hm hlen (by decide)) ⟨0, _, _, _, rfl, (.inl hm)⟩ (Nat.le_of_ble_eq_true rfl) (Nat.le_of_ble_eq_true rfl) (Nat.le_of_ble_eq_true rfl) (Nat.le_of_ble_eq_true rfl) (Nat.le_of_ble_eq_true rfl) ?_
              refine V_if_eqN (tgt := 88) F dX4_extendTrain_83 (by decide) (by omega) (fun c_83 => absurd c_83 (by decide)) (fun c_83 => ?_)
              refine V_iconst (v := nI 0) F dX4_extendTrain_86 rfl ?_
              exact V_iret F dX4_extendTrain_87 rfl (Nat.le_of_ble_eq_true rfl) (Nat.le_of_ble_eq_true rfl) (PX.fail 3 ((if_neg (not_or.mpr ⟨not_not_intro c_6, not_not_intro c_14⟩)).trans ((if_neg (not_or.mpr ⟨not_not_intro c_29, not_not_intro c_40⟩)).trans (if_pos (by rw [tn_nI (a := b) (by omega), tn_nI (a := c) (by omega)]; first | exact Or.inl c_55 | exact Or.inr c_72)))) (by decide) rfl)
        · refine V_iconst (v := nI 2) F dX4_extendTrain_43 rfl ?_
          refine V_goto (tgt := 80) F dX4_extendTrain_44 (by decide) ?_
          refine V_cV1r F dX4_extendTrain_80 lk_X4_92 (ct_failsP 2 hm hlen (by decide)) ⟨0, _, _, _, rfl, (.inl hm)⟩ (Nat.le_of_ble_eq_true rfl) (Nat.le_of_ble_eq_true rfl) (Nat.le_of_ble_eq_true rfl) (Nat.le_of_ble_eq_true rfl) (Nat.le_of_ble_eq_true rfl) ?_
          refine V_if_eqN (tgt := 88) F dX4_extendTrain_83 (by decide) (by omega) (fun c_83 => absurd c_83 (by decide)) (fun c_83 => ?_)
          refine V_iconst (v := nI 0) F dX4_extendTrain_86 rfl ?_
          exact V_iret F dX4_extendTrain_87 rfl (Nat.le_of_ble_eq_true rfl) (Nat.le_of_ble_eq_true rfl) (PX.fail 2 ((if_neg (not_or.mpr ⟨not_not_intro c_6, not_not_intro c_14⟩)).trans (if_pos (by first | exact Or.inl c_29 | exact Or.inr c_40))) (by decide) rfl)
    · refine V_iconst (v := nI 1) F dX4_extendTrain_17 rfl ?_
      refine V_goto (tgt := 80) F dX4_extendTrain_18 (by decide) ?_
      refine V_cV1r F dX4_extendTrain_80 lk_X4_92 (ct_failsP 1 hm hlen (by decide)) ⟨0, _, _, _, rfl, (.inl hm)⟩ (Nat.le_of_ble_eq_true rfl) (Nat.le_of_ble_eq_true rfl) (Nat.le_of_ble_eq_true rfl) (Nat.le_of_ble_eq_true rfl) (Nat.le_of_ble_eq_true rfl) ?_
      refine V_if_eqN (tgt := 88) F dX4_extendTrain_83 (by decide) (by omega) (fun c_83 => absurd c_83 (by decide)) (fun c_83 => ?_)
      refine V_iconst (v := nI 0) F dX4_extendTrain_86 rfl ?_
      exact V_iret F dX4_extendTrain_87 rfl (Nat.le_of_ble_eq_true rfl) (Nat.le_of_ble_eq_true rfl) (PX.fail 1 (if_pos (by first | exact Or.inl c_6 | exact Or.inr c_14)) (by decide) rfl)
