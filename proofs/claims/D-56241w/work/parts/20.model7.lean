set_option maxRecDepth 100000
/-- a journey from a at v can board train t at stop k, by the arrivals r -/
abbrev bdG (g r : Nat → Nat) (a v t k : Nat) : Prop := (plG g t k = a ∧ v ≤ LvG g t k) ∨ (plG g t k ≠ a ∧ r (plG g t k) < 1000000 ∧ r (plG g t k) + g (8 + plG g t k) ≤ LvG g t k)
def onG (g r : Nat → Nat) (a v t k on : Nat) : Nat := if (on = 1 ∨ bdG g r a v t k) ∧ ¬ (g (16 + 36 * t + 0) ≤ ldG g t k) then 1 else 0
theorem onG_lt {g r : Nat → Nat} {a v t k on : Nat} : onG g r a v t k on < 2 := by unfold onG; split <;> omega
/-- one leg ridden: on, changed, the arrivals; R: by which arrivals boarded -/
def rsG (R : (Nat → Nat) → Nat → Nat) (g : Nat → Nat) (a v t k : Nat) (x : Nat × Nat × (Nat → Nat)) : Nat × Nat × (Nat → Nat) :=
  if onG g (R x.2.2) a v t k x.1 = 1 ∧ CmG g t (k + 1) < x.2.2 (plG g t (k + 1)) then (onG g (R x.2.2) a v t k x.1, 1, up x.2.2 (plG g t (k + 1)) (CmG g t (k + 1))) else (onG g (R x.2.2) a v t k x.1, x.2.1, x.2.2)
def riI (R : (Nat → Nat) → Nat → Nat) (g : Nat → Nat) (a v t : Nat) (y : Nat × (Nat → Nat)) : Nat → Nat × Nat × (Nat → Nat)
  | 0 => (0, y)
  | k + 1 => rsG R g a v t k (riI R g a v t y k)
def riO (R : (Nat → Nat) → Nat → Nat) (g : Nat → Nat) (a v : Nat) (y : Nat × (Nat → Nat)) : Nat → Nat × (Nat → Nat)
  | 0 => y
  | t + 1 => (riI R g a v t (riO R g a v y t) (g (16 + 36 * t + 3) - 1)).2
theorem nar_lt2 {c : Nat} (h : c < 2) : narrow .boolean (.int (nI c)) = .int (nI c) := by
  have : c = 0 ∨ c = 1 := by omega
  rcases this with rfl | rfl <;> rfl
/-- an answer of a state: what changed is smaller -/
def smE (n : Nat) (e : Nat → Nat) : Nat := match n with | 0 => 0 | k + 1 => smE k e + e k
theorem smE_up {e : Nat → Nat} {i x : Nat} : ∀ {n : Nat}, i < n → x < e i → smE n (up e i x) < smE n e
  | 0, h, _ => absurd h (Nat.not_lt_zero _)
  | n + 1, h, hx => by
    have hle : ∀ m, m ≤ i → smE m (up e i x) = smE m e := by
      intro m; induction m with
      | zero => intro _; rfl
      | succ m ih => intro hm; unfold smE; rw [ih (by omega), up_n (by omega)]
    unfold smE
    by_cases hn : i = n
    · subst hn; rw [hle i (Nat.le_refl _), up_s]; omega
    · have := smE_up (e := e) (x := x) (n := n) (by omega) hx
      rw [up_n (fun q => hn q.symm)]; omega

theorem ct_isBoarded {G : GG} {l : Launch} {h : AH} {m : Nat} {fs : List Value} {aG : Nat} {g : Nat → Nat} {a : Nat} {v : Nat} {t k aR : Nat} {r : Nat → Nat} (hm : h m = some (.inr (0, fs))) (h_g : fs[0]? = some (.ref aG)) (hg : h aG = some (iA G 304 (fun i => nI (g i)))) (h_start : fs[16]? = some (.int (nI (a)))) (h_starts : fs[17]? = some (.int (nI (v)))) (hr : h aR = some (iA G 8 (fun i => nI (r i)))) (ht : t < 6) (hk : k < 8) (hp : plG g t k < 8) (hB : GB g) (hv : v < 2 ^ 31) (ha : a < 2 ^ 31) (hrr : ∀ i, r i < 2 ^ 27) : Ct G l yX4_isBoarded cX4_isBoarded 5 (some .boolean) 2 0 0 [.ref m, .int (nI (t)), .int (nI (k)), .ref (aR)] h (PR (.int (b2 (bdG g r a v t k))) h) := by
  refine Ct.of (by decide) (Nat.le_of_ble_eq_true rfl) (cat1 rfl) (fun X hXl F HN => ?_)
  subst hXl
  refine V_aload_n (i := 0) F dX4_isBoarded_0 rfl rfl ?_
  refine V_iload_n (i := 1) F dX4_isBoarded_1 rfl rfl ?_
  refine V_iload_n (i := 2) F dX4_isBoarded_2 rfl rfl ?_
  refine V_cV2r F dX4_isBoarded_3 lk_X4_102 (ct_place hm h_g hg (by omega) (by omega)) ⟨0, _, _, _, rfl, (.inl hm)⟩ (Nat.le_of_ble_eq_true rfl) (Nat.le_of_ble_eq_true rfl) (Nat.le_of_ble_eq_true rfl) (Nat.le_of_ble_eq_true rfl) (Nat.le_of_ble_eq_true rfl) ?_
  refine V_istore (i := 4) F dX4_isBoarded_6 (Nat.le_of_ble_eq_true rfl) (Nat.le_of_ble_eq_true rfl) ?_
  refine V_iload (i := 4) F dX4_isBoarded_8 rfl ?_
  refine V_aload_n (i := 0) F dX4_isBoarded_10 rfl rfl ?_
  refine V_getf F dX4_isBoarded_11 fc_X4_105_X4 (.inl hm) h_start ?_
  refine V_icmp_neN (tgt := 36) F dX4_isBoarded_14 (by decide) hB.lt ha (fun c_14 => ?_) (fun c_14 => ?_)
  · refine V_aload_n (i := 3) F dX4_isBoarded_36 rfl rfl ?_
    refine V_iload (i := 4) F dX4_isBoarded_37 rfl ?_
    refine V_ialdG F dX4_isBoarded_39 (.inl hr) (by omega) (by decide) rfl ?_
    refine V_ldc (v := nI 1000000) F dX4_isBoarded_40 q3842 ?_
    refine V_icmp_geN (tgt := 73) F dX4_isBoarded_42 (by decide) (by have := hrr (plG g t k); omega) (by decide) (fun c_42 => ?_) (fun c_42 => ?_)
    · refine V_iconst (v := nI 0) F dX4_isBoarded_73 rfl ?_
      exact V_iret F dX4_isBoarded_74 rfl (Nat.le_of_ble_eq_true rfl) (Nat.le_of_ble_eq_true rfl) ⟨by rw [b2_f (by unfold bdG; omega)]; rfl, rfl⟩
    · refine V_aload_n (i := 0) F dX4_isBoarded_45 rfl rfl ?_
      refine V_iload_n (i := 1) F dX4_isBoarded_46 rfl rfl ?_
      refine V_iload_n (i := 2) F dX4_isBoarded_47 rfl rfl ?_
      refine V_cV2r F dX4_isBoarded_48 lk_X4_80 (ct_leaves hm h_g hg (by omega) (by omega)) ⟨0, _, _, _, rfl, (.inl hm)⟩ (Nat.le_of_ble_eq_true rfl) (Nat.le_of_ble_eq_true rfl) (Nat.le_of_ble_eq_true rfl) (Nat.le_of_ble_eq_true rfl) (Nat.le_of_ble_eq_true rfl) ?_
      refine V_aload_n (i := 3) F dX4_isBoarded_51 rfl rfl ?_
      refine V_iload (i := 4) F dX4_isBoarded_52 rfl ?_
      refine V_ialdG F dX4_isBoarded_54 (.inl hr) (by omega) (by decide) rfl ?_
      refine V_aload_n (i := 0) F dX4_isBoarded_55 rfl rfl ?_
      refine V_getf F dX4_isBoarded_56 fc_X4_7_X4 (.inl hm) h_g ?_
      refine V_bipush (v := nI 8) F dX4_isBoarded_59 rfl ?_
      refine V_iload (i := 4) F dX4_isBoarded_61 rfl ?_
      refine V_iaddN F dX4_isBoarded_63 ?_
      refine V_ialdG F dX4_isBoarded_64 (.inl hg) (by omega) (by decide) rfl ?_
      refine V_iaddN F dX4_isBoarded_65 ?_
      refine V_icmp_ltN (tgt := 73) F dX4_isBoarded_66 (by decide) (by have := LvG_31 hB (t := t) (k := k) hk; omega) (by have := hrr (plG g t k); have := hB (8 + plG g t k); omega) (fun c_66 => ?_) (fun c_66 => ?_)
      · refine V_iconst (v := nI 0) F dX4_isBoarded_73 rfl ?_
        exact V_iret F dX4_isBoarded_74 rfl (Nat.le_of_ble_eq_true rfl) (Nat.le_of_ble_eq_true rfl) ⟨by rw [b2_f (by unfold bdG; omega)]; rfl, rfl⟩
      · refine V_iconst (v := nI 1) F dX4_isBoarded_69 rfl ?_
        refine V_goto (tgt := 74) F dX4_isBoarded_70 (by decide) ?_
        exact V_iret F dX4_isBoarded_74 rfl (Nat.le_of_ble_eq_true rfl) (Nat.le_of_ble_eq_true rfl) ⟨by rw [b2_t (by unfold bdG; omega)]; rfl, rfl⟩
  · refine V_aload_n (i := 0) F dX4_isBoarded_17 rfl rfl ?_
    refine V_iload_n (i := 1) F dX4_isBoarded_18 rfl rfl ?_
    refine V_iload_n (i := 2) F dX4_isBoarded_19 rfl rfl ?_
    refine V_cV2r F dX4_isBoarded_20 lk_X4_80 (ct_leaves hm h_g hg (by omega) (by omega)) ⟨0, _, _, _, rfl, (.inl hm)⟩ (Nat.le_of_ble_eq_true rfl) (Nat.le_of_ble_eq_true rfl) (Nat.le_of_ble_eq_true rfl) (Nat.le_of_ble_eq_true rfl) (Nat.le_of_ble_eq_true rfl) ?_
    refine V_aload_n (i := 0) F dX4_isBoarded_23 rfl rfl ?_
    refine V_getf F dX4_isBoarded_24 fc_X4_108_X4 (.inl hm) h_starts ?_
    refine V_icmp_ltN (tgt := 34) F dX4_isBoarded_27 (by decide) (by have := LvG_31 hB (t := t) (k := k) hk; omega) hv (fun c_27 => ?_) (fun c_27 => ?_)
    · refine V_iconst (v := nI 0) F dX4_isBoarded_34 rfl ?_
      exact V_iret F dX4_isBoarded_35 rfl (Nat.le_of_ble_eq_true rfl) (Nat.le_of_ble_eq_true rfl) ⟨by rw [b2_f (by unfold bdG; omega)]; rfl, rfl⟩
    · refine V_iconst (v := nI 1) F dX4_isBoarded_30 rfl ?_
      refine V_goto (tgt := 35) F dX4_isBoarded_31 (by decide) ?_
      exact V_iret F dX4_isBoarded_35 rfl (Nat.le_of_ble_eq_true rfl) (Nat.le_of_ble_eq_true rfl) ⟨by rw [b2_t (by unfold bdG; omega)]; rfl, rfl⟩
theorem ct_ridesA {G : GG} {l : Launch} {h : AH} {m : Nat} {fs : List Value} {aG : Nat} {g : Nat → Nat} {a : Nat} {v : Nat} {aT : Nat} {e0 : Nat → Nat} (hm : h m = some (.inr (0, fs))) (h_g : fs[0]? = some (.ref aG)) (hg : h aG = some (iA G 304 (fun i => nI (g i)))) (h_start : fs[16]? = some (.int (nI (a)))) (h_starts : fs[17]? = some (.int (nI (v)))) (ht0 : h aT = some (iA G 8 (fun i => nI (e0 i)))) (hGT : aG ≠ aT) (he0 : ∀ i, e0 i < 2 ^ 27) (hI : GW g) (hv : v < 2 ^ 31) (ha : a < 2 ^ 31) : Ct G l yX4_rides cX4_rides 7 (some .boolean) 4 0 0 [.ref m, .ref aT, .ref aT] h (PR (.int (nI (riO (fun f => f) g a v (0, e0) (g 1)).1)) (hset h aT (iA G 8 (fun i => nI ((riO (fun f => f) g a v (0, e0) (g 1)).2 i))))) := by
  refine Ct.of (by decide) (Nat.le_of_ble_eq_true rfl) (cat1 rfl) (fun X hXl F HN => ?_)
  subst hXl
  obtain ⟨hB, hn0, hn1, hn2, hn3, hst, hpl⟩ := hI
  refine V_iconst (v := nI 0) F dX4_rides_0 rfl ?_
  refine V_istore_n (i := 3) F dX4_rides_1 rfl (Nat.le_of_ble_eq_true rfl) (Nat.le_of_ble_eq_true rfl) ?_
  refine V_iconst (v := nI 0) F dX4_rides_2 rfl ?_
  refine V_istore (i := 4) F dX4_rides_3 (Nat.le_of_ble_eq_true rfl) (Nat.le_of_ble_eq_true rfl) ?_
  have loop_5 : ∀ (nn : Nat) (j ch : Nat) (e : Nat → Nat), g 1 < j + nn → j ≤ g 1 → (riO (fun f => f) g a v (0, e0) j) = (ch, e) → ch < 2 → (∀ i, e i < 2 ^ 27) → VV G X 7 (EQ G X 0 0 (PR (.int (nI (riO (fun f => f) g a v (0, e0) (g 1)).1)) (hset h aT (iA G 8 (fun i => nI ((riO (fun f => f) g a v (0, e0) (g 1)).2 i)))))) (hset h aT (iA G 8 (fun i => nI (e i)))) 0 0 [some (.ref (m)), some (.ref (aT)), some (.ref (aT)), some (.int (nI (ch))), some (.int (nI (j))), none, none] [] 5 := by
    intro nn
    induction nn with
    | zero => intro j ch e hn hj hx hch he; exact absurd hn (by omega)
    | succ nn ih_5 =>
      intro j ch e hn hj hx hch he
      refine V_iload (i := 4) F dX4_rides_5 rfl ?_
      refine V_aload_n (i := 0) F dX4_rides_7 rfl rfl ?_
      refine V_getf F dX4_rides_8 fc_X4_7_X4 (.inl ((hset_ne (ne_oa hm ht0)).trans hm)) h_g ?_
      refine V_iconst (v := nI 1) F dX4_rides_11 rfl ?_
      refine V_ialdG F dX4_rides_12 (.inl ((hset_ne hGT).trans hg)) (by omega) (by decide) rfl ?_
      refine V_icmp_geN (tgt := 143) F dX4_rides_13 (by decide) (by omega) hB.lt (fun c_13 => ?_) (fun c_13 => ?_)
      · refine V_iload_n (i := 3) F dX4_rides_143 rfl rfl ?_
        exact V_iret F dX4_rides_144 (nar_lt2 hch) (Nat.le_of_ble_eq_true rfl) (Nat.le_of_ble_eq_true rfl) ⟨by rw [← show j = g 1 by omega, hx], by rw [← show j = g 1 by omega, hx]⟩
      · have hsj := hst j (by omega)
        refine V_iconst (v := nI 0) F dX4_rides_16 rfl ?_
        refine V_istore (i := 5) F dX4_rides_17 (Nat.le_of_ble_eq_true rfl) (Nat.le_of_ble_eq_true rfl) ?_
        refine V_iconst (v := nI 0) F dX4_rides_19 rfl ?_
        refine V_istore (i := 6) F dX4_rides_20 (Nat.le_of_ble_eq_true rfl) (Nat.le_of_ble_eq_true rfl) ?_
        have loop_22 : ∀ (nn : Nat) (q on c2 : Nat) (f : Nat → Nat), g (16 + 36 * j + 3) - 1 < q + nn → q ≤ g (16 + 36 * j + 3) - 1 → riI (fun f => f) g a v j (ch, e) q = (on, c2, f) → on < 2 → c2 < 2 → (∀ i, f i < 2 ^ 27) → VV G X 7 (EQ G X 0 0 (PR (.int (nI (riO (fun f => f) g a v (0, e0) (g 1)).1)) (hset h aT (iA G 8 (fun i => nI ((riO (fun f => f) g a v (0, e0) (g 1)).2 i)))))) (hset h aT (iA G 8 (fun i => nI (f i)))) 0 0 [some (.ref (m)), some (.ref (aT)), some (.ref (aT)), some (.int (nI (c2))), some (.int (nI (j))), some (.int (nI (on))), some (.int (nI (q)))] [] 22 := by
          intro nn
          induction nn with
          | zero => intro q on c2 f hn2 hq hy hon hc2 hf; exact absurd hn2 (by omega)
          | succ nn ih_22 =>
            intro q on c2 f hn2 hq hy hon hc2 hf
            refine V_iload (i := 6) F dX4_rides_22 rfl ?_
            refine V_aload_n (i := 0) F dX4_rides_24 rfl rfl ?_
            refine V_iload (i := 4) F dX4_rides_25 rfl ?_
            refine V_iconst (v := nI 3) F dX4_rides_27 rfl ?_
            refine V_cV2r F dX4_rides_28 lk_X4_76 (ct_of ((hset_ne (ne_oa hm ht0)).trans hm) h_g ((hset_ne hGT).trans hg) (by omega)) ⟨0, _, _, _, rfl, (.inl ((hset_ne (ne_oa hm ht0)).trans hm))⟩ (Nat.le_of_ble_eq_true rfl) (Nat.le_of_ble_eq_true rfl) (Nat.le_of_ble_eq_true rfl) (Nat.le_of_ble_eq_true rfl) (Nat.le_of_ble_eq_true rfl) ?_
            refine V_iconst (v := nI 1) F dX4_rides_31 rfl ?_
            refine V_isubN F dX4_rides_32 (by omega) ?_
            refine V_icmp_geN (tgt := 137) F dX4_rides_33 (by decide) (by omega) (by omega) (fun c_33 => ?_) (fun c_33 => ?_)
            · obtain rfl : q = g (16 + 36 * j + 3) - 1 := by omega
              refine V_iinc (i := 4) (v := nI (j + 1)) F dX4_rides_137 rfl (nI_add (j) 1) (Nat.le_of_ble_eq_true rfl) ?_
              refine V_goto (tgt := 5) F dX4_rides_140 (by decide) ?_
              refine VV.weak (L' := [some (.ref (m)), some (.ref (aT)), some (.ref (aT)), some (.int (nI (c2))), some (.int (nI (j + 1))), none, none]) (LW.c1 (LW.c1 (LW.c1 (LW.c1 (LW.c1 (LW.c0 (LW.c0 LW.nil))))))) ?_
              exact ih_5 (j + 1) c2 f (by omega) (by omega) (by show (riI (fun f => f) g a v j (riO (fun f => f) g a v (0, e0) j) (g (16 + 36 * j + 3) - 1)).2 = _; rw [hx, hy]) hc2 hf
            · refine V_iload (i := 5) F dX4_rides_36 rfl ?_
              refine V_if_neN (tgt := 53) F dX4_rides_38 (by decide) (by omega) (fun c_38 => ?_) (fun c_38 => ?_)
              · refine V_iconst (v := nI 1) F dX4_rides_53 rfl ?_
                refine V_goto (tgt := 58) F dX4_rides_54 (by decide) ?_
                refine V_istore (i := 5) F dX4_rides_58 (Nat.le_of_ble_eq_true rfl) (Nat.le_of_ble_eq_true rfl) ?_
                refine V_aload_n (i := 0) F dX4_rides_60 rfl rfl ?_
                refine V_iload (i := 4) F dX4_rides_61 rfl ?_
                refine V_iload (i := 6) F dX4_rides_63 rfl ?_
                refine V_cV2r F dX4_rides_65 lk_X4_116 (ct_isTaken ((hset_ne (ne_oa hm ht0)).trans hm) h_g ((hset_ne hGT).trans hg) (by omega) (by omega) hn3 hB) ⟨0, _, _, _, rfl, (.inl ((hset_ne (ne_oa hm ht0)).trans hm))⟩ (Nat.le_of_ble_eq_true rfl) (Nat.le_of_ble_eq_true rfl) (Nat.le_of_ble_eq_true rfl) (Nat.le_of_ble_eq_true rfl) (Nat.le_of_ble_eq_true rfl) ?_
                refine V_if_eqB (tgt := 74) F dX4_rides_68 (by decide) (fun c_68 => ?_) (fun c_68 => ?_)
                · refine V_iload (i := 5) F dX4_rides_74 rfl ?_
                  refine V_if_eqN (tgt := 131) F dX4_rides_76 (by decide) (by omega) (fun c_76 => absurd c_76 (by decide)) (fun c_76 => ?_)
                  have hcm : CmG g j (q + 1) < 2 ^ 27 := by have := CmG_31 hB (t := j) (k := q + 1) (by omega); omega
                  refine V_aload_n (i := 0) F dX4_rides_79 rfl rfl ?_
                  refine V_iload (i := 4) F dX4_rides_80 rfl ?_
                  refine V_iload (i := 6) F dX4_rides_82 rfl ?_
                  refine V_iconst (v := nI 1) F dX4_rides_84 rfl ?_
                  refine V_iaddN F dX4_rides_85 ?_
                  refine V_cV2r F dX4_rides_86 lk_X4_120 (ct_comes ((hset_ne (ne_oa hm ht0)).trans hm) h_g ((hset_ne hGT).trans hg) (by omega) (by omega) (by omega)) ⟨0, _, _, _, rfl, (.inl ((hset_ne (ne_oa hm ht0)).trans hm))⟩ (Nat.le_of_ble_eq_true rfl) (Nat.le_of_ble_eq_true rfl) (Nat.le_of_ble_eq_true rfl) (Nat.le_of_ble_eq_true rfl) (Nat.le_of_ble_eq_true rfl) ?_
                  refine V_aload_n (i := 2) F dX4_rides_89 rfl rfl ?_
                  refine V_aload_n (i := 0) F dX4_rides_90 rfl rfl ?_
                  refine V_iload (i := 4) F dX4_rides_91 rfl ?_
                  refine V_iload (i := 6) F dX4_rides_93 rfl ?_
                  refine V_iconst (v := nI 1) F dX4_rides_95 rfl ?_
                  refine V_iaddN F dX4_rides_96 ?_
                  refine V_cV2r F dX4_rides_97 lk_X4_102 (ct_place ((hset_ne (ne_oa hm ht0)).trans hm) h_g ((hset_ne hGT).trans hg) (by omega) (by omega)) ⟨0, _, _, _, rfl, (.inl ((hset_ne (ne_oa hm ht0)).trans hm))⟩ (Nat.le_of_ble_eq_true rfl) (Nat.le_of_ble_eq_true rfl) (Nat.le_of_ble_eq_true rfl) (Nat.le_of_ble_eq_true rfl) (Nat.le_of_ble_eq_true rfl) ?_
                  refine V_ialdG F dX4_rides_100 (.inl hset_self) (Nat.lt_of_lt_of_le (hpl _ _ (by omega) (by omega)) hn0) (by decide) rfl ?_
                  refine V_icmp_ltN (tgt := 107) F dX4_rides_101 (by decide) (by omega) (by have := hf (plG g j (q + 1)); omega) (fun c_101 => ?_) (fun c_101 => ?_)
                  · refine V_aload_n (i := 2) F dX4_rides_107 rfl rfl ?_
                    refine V_aload_n (i := 0) F dX4_rides_108 rfl rfl ?_
                    refine V_iload (i := 4) F dX4_rides_109 rfl ?_
                    refine V_iload (i := 6) F dX4_rides_111 rfl ?_
                    refine V_iconst (v := nI 1) F dX4_rides_113 rfl ?_
                    refine V_iaddN F dX4_rides_114 ?_
                    refine V_cV2r F dX4_rides_115 lk_X4_102 (ct_place ((hset_ne (ne_oa hm ht0)).trans hm) h_g ((hset_ne hGT).trans hg) (by omega) (by omega)) ⟨0, _, _, _, rfl, (.inl ((hset_ne (ne_oa hm ht0)).trans hm))⟩ (Nat.le_of_ble_eq_true rfl) (Nat.le_of_ble_eq_true rfl) (Nat.le_of_ble_eq_true rfl) (Nat.le_of_ble_eq_true rfl) (Nat.le_of_ble_eq_true rfl) ?_
                    refine V_aload_n (i := 0) F dX4_rides_118 rfl rfl ?_
                    refine V_iload (i := 4) F dX4_rides_119 rfl ?_
                    refine V_iload (i := 6) F dX4_rides_121 rfl ?_
                    refine V_iconst (v := nI 1) F dX4_rides_123 rfl ?_
                    refine V_iaddN F dX4_rides_124 ?_
                    refine V_cV2r F dX4_rides_125 lk_X4_120 (ct_comes ((hset_ne (ne_oa hm ht0)).trans hm) h_g ((hset_ne hGT).trans hg) (by omega) (by omega) (by omega)) ⟨0, _, _, _, rfl, (.inl ((hset_ne (ne_oa hm ht0)).trans hm))⟩ (Nat.le_of_ble_eq_true rfl) (Nat.le_of_ble_eq_true rfl) (Nat.le_of_ble_eq_true rfl) (Nat.le_of_ble_eq_true rfl) (Nat.le_of_ble_eq_true rfl) ?_
                    refine V_iastG F dX4_rides_128 hset_self (Nat.lt_of_lt_of_le (hpl _ _ (by omega) (by omega)) hn0) (by decide) ?_
                    refine V_iconst (v := nI 1) F dX4_rides_129 rfl ?_
                    refine V_istore_n (i := 3) F dX4_rides_130 rfl (Nat.le_of_ble_eq_true rfl) (Nat.le_of_ble_eq_true rfl) ?_
                    refine V_iinc (i := 6) (v := nI (q + 1)) F dX4_rides_131 rfl (nI_add (q) 1) (Nat.le_of_ble_eq_true rfl) ?_
                    refine V_goto (tgt := 22) F dX4_rides_134 (by decide) ?_
                    refine VV.weak (L' := [some (.ref (m)), some (.ref (aT)), some (.ref (aT)), some (.int (nI (1))), some (.int (nI (j))), some (.int (nI (1))), some (.int (nI (q + 1)))]) (LW.c1 (LW.c1 (LW.c1 (LW.c1 (LW.c1 (LW.c1 (LW.c1 LW.nil))))))) ?_
                    have hon9 : onG g f a v j q on = 1 := if_pos ⟨by first | exact Or.inl (by omega) | exact Or.inr c_50, c_68⟩
                    have hz9 : rsG (fun f => f) g a v j q (on, c2, f) = (1, 1, up f (plG g j (q + 1)) (CmG g j (q + 1))) := by
                      show (if onG g f a v j q on = 1 ∧ CmG g j (q + 1) < f (plG g j (q + 1)) then (onG g f a v j q on, 1, up f (plG g j (q + 1)) (CmG g j (q + 1))) else (onG g f a v j q on, c2, f)) = _
                      rw [hon9]; exact if_pos ⟨rfl, c_101⟩
                    refine VV.heap hset_hset ?_
                    exact ih_22 (q + 1) 1 1 (up f (plG g j (q + 1)) (CmG g j (q + 1))) (by omega) (by omega) (by show rsG (fun f => f) g a v j q (riI (fun f => f) g a v j (ch, e) q) = _; rw [hy]; exact hz9) (by omega) (by omega) (fun i => by unfold up; split; exact hcm; exact hf i)
                  · refine V_goto (tgt := 131) F dX4_rides_104 (by decide) ?_
                    refine V_iinc (i := 6) (v := nI (q + 1)) F dX4_rides_131 rfl (nI_add (q) 1) (Nat.le_of_ble_eq_true rfl) ?_
                    refine V_goto (tgt := 22) F dX4_rides_134 (by decide) ?_
                    refine VV.weak (L' := [some (.ref (m)), some (.ref (aT)), some (.ref (aT)), some (.int (nI (c2))), some (.int (nI (j))), some (.int (nI (1))), some (.int (nI (q + 1)))]) (LW.c1 (LW.c1 (LW.c1 (LW.c1 (LW.c1 (LW.c1 (LW.c1 LW.nil))))))) ?_
                    have hon9 : onG g f a v j q on = 1 := if_pos ⟨by first | exact Or.inl (by omega) | exact Or.inr c_50, c_68⟩
                    have hz9 : rsG (fun f => f) g a v j q (on, c2, f) = (1, c2, f) := by
                      show (if onG g f a v j q on = 1 ∧ CmG g j (q + 1) < f (plG g j (q + 1)) then (onG g f a v j q on, 1, up f (plG g j (q + 1)) (CmG g j (q + 1))) else (onG g f a v j q on, c2, f)) = _
                      rw [hon9]; exact if_neg (fun z => by first | exact absurd z.1 (by decide) | exact absurd z.2 (Nat.not_lt.mpr c_101))
                    exact ih_22 (q + 1) 1 c2 f (by omega) (by omega) (by show rsG (fun f => f) g a v j q (riI (fun f => f) g a v j (ch, e) q) = _; rw [hy]; exact hz9) (by omega) (by omega) hf
                · refine V_iconst (v := nI 0) F dX4_rides_71 rfl ?_
                  refine V_istore (i := 5) F dX4_rides_72 (Nat.le_of_ble_eq_true rfl) (Nat.le_of_ble_eq_true rfl) ?_
                  refine V_iload (i := 5) F dX4_rides_74 rfl ?_
                  refine V_if_eqN (tgt := 131) F dX4_rides_76 (by decide) (by omega) (fun c_76 => ?_) (fun c_76 => absurd c_76 (by decide))
                  refine V_iinc (i := 6) (v := nI (q + 1)) F dX4_rides_131 rfl (nI_add (q) 1) (Nat.le_of_ble_eq_true rfl) ?_
                  refine V_goto (tgt := 22) F dX4_rides_134 (by decide) ?_
                  refine VV.weak (L' := [some (.ref (m)), some (.ref (aT)), some (.ref (aT)), some (.int (nI (c2))), some (.int (nI (j))), some (.int (nI (0))), some (.int (nI (q + 1)))]) (LW.c1 (LW.c1 (LW.c1 (LW.c1 (LW.c1 (LW.c1 (LW.c1 LW.nil))))))) ?_
                  have hon9 : onG g f a v j q on = 0 := if_neg (fun z => by first | exact z.2 c_68 | (rcases z.1 with z1 | z1; omega; exact c_50 z1))
                  have hz9 : rsG (fun f => f) g a v j q (on, c2, f) = (0, c2, f) := by
                    show (if onG g f a v j q on = 1 ∧ CmG g j (q + 1) < f (plG g j (q + 1)) then (onG g f a v j q on, 1, up f (plG g j (q + 1)) (CmG g j (q + 1))) else (onG g f a v j q on, c2, f)) = _
                    rw [hon9]; exact if_neg (fun z => by first | exact absurd z.1 (by decide) | exact absurd z.2 (Nat.not_lt.mpr c_101))
                  exact ih_22 (q + 1) 0 c2 f (by omega) (by omega) (by show rsG (fun f => f) g a v j q (riI (fun f => f) g a v j (ch, e) q) = _; rw [hy]; exact hz9) (by omega) (by omega) hf
              · refine V_aload_n (i := 0) F dX4_rides_41 rfl rfl ?_
                refine V_iload (i := 4) F dX4_rides_42 rfl ?_
                refine V_iload (i := 6) F dX4_rides_44 rfl ?_
                refine V_aload_n (i := 1) F dX4_rides_46 rfl rfl ?_
                refine V_cV3r F dX4_rides_47 lk_X4_112 (ct_isBoarded ((hset_ne (ne_oa hm ht0)).trans hm) h_g ((hset_ne hGT).trans hg) h_start h_starts hset_self (by omega) (by omega) (Nat.lt_of_lt_of_le (hpl _ _ (by omega) (by omega)) hn0) hB hv ha hf) ⟨0, _, _, _, rfl, (.inl ((hset_ne (ne_oa hm ht0)).trans hm))⟩ (Nat.le_of_ble_eq_true rfl) (Nat.le_of_ble_eq_true rfl) (Nat.le_of_ble_eq_true rfl) (Nat.le_of_ble_eq_true rfl) (Nat.le_of_ble_eq_true rfl) ?_
                refine V_if_eqB (tgt := 57) F dX4_rides_50 (by decide) (fun c_50 => ?_) (fun c_50 => ?_)
                · refine V_iconst (v := nI 0) F dX4_rides_57 rfl ?_
                  refine V_istore (i := 5) F dX4_rides_58 (Nat.le_of_ble_eq_true rfl) (Nat.le_of_ble_eq_true rfl) ?_
                  refine V_aload_n (i := 0) F dX4_rides_60 rfl rfl ?_
                  refine V_iload (i := 4) F dX4_rides_61 rfl ?_
                  refine V_iload (i := 6) F dX4_rides_63 rfl ?_
                  refine V_cV2r F dX4_rides_65 lk_X4_116 (ct_isTaken ((hset_ne (ne_oa hm ht0)).trans hm) h_g ((hset_ne hGT).trans hg) (by omega) (by omega) hn3 hB) ⟨0, _, _, _, rfl, (.inl ((hset_ne (ne_oa hm ht0)).trans hm))⟩ (Nat.le_of_ble_eq_true rfl) (Nat.le_of_ble_eq_true rfl) (Nat.le_of_ble_eq_true rfl) (Nat.le_of_ble_eq_true rfl) (Nat.le_of_ble_eq_true rfl) ?_
                  refine V_if_eqB (tgt := 74) F dX4_rides_68 (by decide) (fun c_68 => ?_) (fun c_68 => ?_)
                  · refine V_iload (i := 5) F dX4_rides_74 rfl ?_
                    refine V_if_eqN (tgt := 131) F dX4_rides_76 (by decide) (by omega) (fun c_76 => ?_) (fun c_76 => absurd c_76 (by decide))
                    refine V_iinc (i := 6) (v := nI (q + 1)) F dX4_rides_131 rfl (nI_add (q) 1) (Nat.le_of_ble_eq_true rfl) ?_
                    refine V_goto (tgt := 22) F dX4_rides_134 (by decide) ?_
                    refine VV.weak (L' := [some (.ref (m)), some (.ref (aT)), some (.ref (aT)), some (.int (nI (c2))), some (.int (nI (j))), some (.int (nI (0))), some (.int (nI (q + 1)))]) (LW.c1 (LW.c1 (LW.c1 (LW.c1 (LW.c1 (LW.c1 (LW.c1 LW.nil))))))) ?_
                    have hon9 : onG g f a v j q on = 0 := if_neg (fun z => by first | exact z.2 c_68 | (rcases z.1 with z1 | z1; omega; exact c_50 z1))
                    have hz9 : rsG (fun f => f) g a v j q (on, c2, f) = (0, c2, f) := by
                      show (if onG g f a v j q on = 1 ∧ CmG g j (q + 1) < f (plG g j (q + 1)) then (onG g f a v j q on, 1, up f (plG g j (q + 1)) (CmG g j (q + 1))) else (onG g f a v j q on, c2, f)) = _
                      rw [hon9]; exact if_neg (fun z => by first | exact absurd z.1 (by decide) | exact absurd z.2 (Nat.not_lt.mpr c_101))
                    exact ih_22 (q + 1) 0 c2 f (by omega) (by omega) (by show rsG (fun f => f) g a v j q (riI (fun f => f) g a v j (ch, e) q) = _; rw [hy]; exact hz9) (by omega) (by omega) hf
                  · refine V_iconst (v := nI 0) F dX4_rides_71 rfl ?_
                    refine V_istore (i := 5) F dX4_rides_72 (Nat.le_of_ble_eq_true rfl) (Nat.le_of_ble_eq_true rfl) ?_
                    refine V_iload (i := 5) F dX4_rides_74 rfl ?_
                    refine V_if_eqN (tgt := 131) F dX4_rides_76 (by decide) (by omega) (fun c_76 => ?_) (fun c_76 => absurd c_76 (by decide))
                    refine V_iinc (i := 6) (v := nI (q + 1)) F dX4_rides_131 rfl (nI_add (q) 1) (Nat.le_of_ble_eq_true rfl) ?_
                    refine V_goto (tgt := 22) F dX4_rides_134 (by decide) ?_
                    refine VV.weak (L' := [some (.ref (m)), some (.ref (aT)), some (.ref (aT)), some (.int (nI (c2))), some (.int (nI (j))), some (.int (nI (0))), some (.int (nI (q + 1)))]) (LW.c1 (LW.c1 (LW.c1 (LW.c1 (LW.c1 (LW.c1 (LW.c1 LW.nil))))))) ?_
                    have hon9 : onG g f a v j q on = 0 := if_neg (fun z => by first | exact z.2 c_68 | (rcases z.1 with z1 | z1; omega; exact c_50 z1))
                    have hz9 : rsG (fun f => f) g a v j q (on, c2, f) = (0, c2, f) := by
                      show (if onG g f a v j q on = 1 ∧ CmG g j (q + 1) < f (plG g j (q + 1)) then (onG g f a v j q on, 1, up f (plG g j (q + 1)) (CmG g j (q + 1))) else (onG g f a v j q on, c2, f)) = _
                      rw [hon9]; exact if_neg (fun z => by first | exact absurd z.1 (by decide) | exact absurd z.2 (Nat.not_lt.mpr c_101))
                    exact ih_22 (q + 1) 0 c2 f (by omega) (by omega) (by show rsG (fun f => f) g a v j q (riI (fun f => f) g a v j (ch, e) q) = _; rw [hy]; exact hz9) (by omega) (by omega) hf
                · refine V_iconst (v := nI 1) F dX4_rides_53 rfl ?_
                  refine V_goto (tgt := 58) F dX4_rides_54 (by decide) ?_
                  refine V_istore (i := 5) F dX4_rides_58 (Nat.le_of_ble_eq_true rfl) (Nat.le_of_ble_eq_true rfl) ?_
                  refine V_aload_n (i := 0) F dX4_rides_60 rfl rfl ?_
                  refine V_iload (i := 4) F dX4_rides_61 rfl ?_
                  refine V_iload (i := 6) F dX4_rides_63 rfl ?_
                  refine V_cV2r F dX4_rides_65 lk_X4_116 (ct_isTaken ((hset_ne (ne_oa hm ht0)).trans hm) h_g ((hset_ne hGT).trans hg) (by omega) (by omega) hn3 hB) ⟨0, _, _, _, rfl, (.inl ((hset_ne (ne_oa hm ht0)).trans hm))⟩ (Nat.le_of_ble_eq_true rfl) (Nat.le_of_ble_eq_true rfl) (Nat.le_of_ble_eq_true rfl) (Nat.le_of_ble_eq_true rfl) (Nat.le_of_ble_eq_true rfl) ?_
                  refine V_if_eqB (tgt := 74) F dX4_rides_68 (by decide) (fun c_68 => ?_) (fun c_68 => ?_)
                  · refine V_iload (i := 5) F dX4_rides_74 rfl ?_
                    refine V_if_eqN (tgt := 131) F dX4_rides_76 (by decide) (by omega) (fun c_76 => absurd c_76 (by decide)) (fun c_76 => ?_)
                    have hcm : CmG g j (q + 1) < 2 ^ 27 := by have := CmG_31 hB (t := j) (k := q + 1) (by omega); omega
                    refine V_aload_n (i := 0) F dX4_rides_79 rfl rfl ?_
                    refine V_iload (i := 4) F dX4_rides_80 rfl ?_
                    refine V_iload (i := 6) F dX4_rides_82 rfl ?_
                    refine V_iconst (v := nI 1) F dX4_rides_84 rfl ?_
                    refine V_iaddN F dX4_rides_85 ?_
                    refine V_cV2r F dX4_rides_86 lk_X4_120 (ct_comes ((hset_ne (ne_oa hm ht0)).trans hm) h_g ((hset_ne hGT).trans hg) (by omega) (by omega) (by omega)) ⟨0, _, _, _, rfl, (.inl ((hset_ne (ne_oa hm ht0)).trans hm))⟩ (Nat.le_of_ble_eq_true rfl) (Nat.le_of_ble_eq_true rfl) (Nat.le_of_ble_eq_true rfl) (Nat.le_of_ble_eq_true rfl) (Nat.le_of_ble_eq_true rfl) ?_
                    refine V_aload_n (i := 2) F dX4_rides_89 rfl rfl ?_
                    refine V_aload_n (i := 0) F dX4_rides_90 rfl rfl ?_
                    refine V_iload (i := 4) F dX4_rides_91 rfl ?_
                    refine V_iload (i := 6) F dX4_rides_93 rfl ?_
                    refine V_iconst (v := nI 1) F dX4_rides_95 rfl ?_
                    refine V_iaddN F dX4_rides_96 ?_
                    refine V_cV2r F dX4_rides_97 lk_X4_102 (ct_place ((hset_ne (ne_oa hm ht0)).trans hm) h_g ((hset_ne hGT).trans hg) (by omega) (by omega)) ⟨0, _, _, _, rfl, (.inl ((hset_ne (ne_oa hm ht0)).trans hm))⟩ (Nat.le_of_ble_eq_true rfl) (Nat.le_of_ble_eq_true rfl) (Nat.le_of_ble_eq_true rfl) (Nat.le_of_ble_eq_true rfl) (Nat.le_of_ble_eq_true rfl) ?_
                    refine V_ialdG F dX4_rides_100 (.inl hset_self) (Nat.lt_of_lt_of_le (hpl _ _ (by omega) (by omega)) hn0) (by decide) rfl ?_
                    refine V_icmp_ltN (tgt := 107) F dX4_rides_101 (by decide) (by omega) (by have := hf (plG g j (q + 1)); omega) (fun c_101 => ?_) (fun c_101 => ?_)
                    · refine V_aload_n (i := 2) F dX4_rides_107 rfl rfl ?_
                      refine V_aload_n (i := 0) F dX4_rides_108 rfl rfl ?_
                      refine V_iload (i := 4) F dX4_rides_109 rfl ?_
                      refine V_iload (i := 6) F dX4_rides_111 rfl ?_
                      refine V_iconst (v := nI 1) F dX4_rides_113 rfl ?_
                      refine V_iaddN F dX4_rides_114 ?_
                      refine V_cV2r F dX4_rides_115 lk_X4_102 (ct_place ((hset_ne (ne_oa hm ht0)).trans hm) h_g ((hset_ne hGT).trans hg) (by omega) (by omega)) ⟨0, _, _, _, rfl, (.inl ((hset_ne (ne_oa hm ht0)).trans hm))⟩ (Nat.le_of_ble_eq_true rfl) (Nat.le_of_ble_eq_true rfl) (Nat.le_of_ble_eq_true rfl) (Nat.le_of_ble_eq_true rfl) (Nat.le_of_ble_eq_true rfl) ?_
                      refine V_aload_n (i := 0) F dX4_rides_118 rfl rfl ?_
                      refine V_iload (i := 4) F dX4_rides_119 rfl ?_
                      refine V_iload (i := 6) F dX4_rides_121 rfl ?_
                      refine V_iconst (v := nI 1) F dX4_rides_123 rfl ?_
                      refine V_iaddN F dX4_rides_124 ?_
                      refine V_cV2r F dX4_rides_125 lk_X4_120 (ct_comes ((hset_ne (ne_oa hm ht0)).trans hm) h_g ((hset_ne hGT).trans hg) (by omega) (by omega) (by omega)) ⟨0, _, _, _, rfl, (.inl ((hset_ne (ne_oa hm ht0)).trans hm))⟩ (Nat.le_of_ble_eq_true rfl) (Nat.le_of_ble_eq_true rfl) (Nat.le_of_ble_eq_true rfl) (Nat.le_of_ble_eq_true rfl) (Nat.le_of_ble_eq_true rfl) ?_
                      refine V_iastG F dX4_rides_128 hset_self (Nat.lt_of_lt_of_le (hpl _ _ (by omega) (by omega)) hn0) (by decide) ?_
                      refine V_iconst (v := nI 1) F dX4_rides_129 rfl ?_
                      refine V_istore_n (i := 3) F dX4_rides_130 rfl (Nat.le_of_ble_eq_true rfl) (Nat.le_of_ble_eq_true rfl) ?_
                      refine V_iinc (i := 6) (v := nI (q + 1)) F dX4_rides_131 rfl (nI_add (q) 1) (Nat.le_of_ble_eq_true rfl) ?_
                      refine V_goto (tgt := 22) F dX4_rides_134 (by decide) ?_
                      refine VV.weak (L' := [some (.ref (m)), some (.ref (aT)), some (.ref (aT)), some (.int (nI (1))), some (.int (nI (j))), some (.int (nI (1))), some (.int (nI (q + 1)))]) (LW.c1 (LW.c1 (LW.c1 (LW.c1 (LW.c1 (LW.c1 (LW.c1 LW.nil))))))) ?_
                      have hon9 : onG g f a v j q on = 1 := if_pos ⟨by first | exact Or.inl (by omega) | exact Or.inr c_50, c_68⟩
                      have hz9 : rsG (fun f => f) g a v j q (on, c2, f) = (1, 1, up f (plG g j (q + 1)) (CmG g j (q + 1))) := by
                        show (if onG g f a v j q on = 1 ∧ CmG g j (q + 1) < f (plG g j (q + 1)) then (onG g f a v j q on, 1, up f (plG g j (q + 1)) (CmG g j (q + 1))) else (onG g f a v j q on, c2, f)) = _
                        rw [hon9]; exact if_pos ⟨rfl, c_101⟩
                      refine VV.heap hset_hset ?_
                      exact ih_22 (q + 1) 1 1 (up f (plG g j (q + 1)) (CmG g j (q + 1))) (by omega) (by omega) (by show rsG (fun f => f) g a v j q (riI (fun f => f) g a v j (ch, e) q) = _; rw [hy]; exact hz9) (by omega) (by omega) (fun i => by unfold up; split; exact hcm; exact hf i)
                    · refine V_goto (tgt := 131) F dX4_rides_104 (by decide) ?_
                      refine V_iinc (i := 6) (v := nI (q + 1)) F dX4_rides_131 rfl (nI_add (q) 1) (Nat.le_of_ble_eq_true rfl) ?_
                      refine V_goto (tgt := 22) F dX4_rides_134 (by decide) ?_
                      refine VV.weak (L' := [some (.ref (m)), some (.ref (aT)), some (.ref (aT)), some (.int (nI (c2))), some (.int (nI (j))), some (.int (nI (1))), some (.int (nI (q + 1)))]) (LW.c1 (LW.c1 (LW.c1 (LW.c1 (LW.c1 (LW.c1 (LW.c1 LW.nil))))))) ?_
                      have hon9 : onG g f a v j q on = 1 := if_pos ⟨by first | exact Or.inl (by omega) | exact Or.inr c_50, c_68⟩
                      have hz9 : rsG (fun f => f) g a v j q (on, c2, f) = (1, c2, f) := by
                        show (if onG g f a v j q on = 1 ∧ CmG g j (q + 1) < f (plG g j (q + 1)) then (onG g f a v j q on, 1, up f (plG g j (q + 1)) (CmG g j (q + 1))) else (onG g f a v j q on, c2, f)) = _
                        rw [hon9]; exact if_neg (fun z => by first | exact absurd z.1 (by decide) | exact absurd z.2 (Nat.not_lt.mpr c_101))
                      exact ih_22 (q + 1) 1 c2 f (by omega) (by omega) (by show rsG (fun f => f) g a v j q (riI (fun f => f) g a v j (ch, e) q) = _; rw [hy]; exact hz9) (by omega) (by omega) hf
                  · refine V_iconst (v := nI 0) F dX4_rides_71 rfl ?_
                    refine V_istore (i := 5) F dX4_rides_72 (Nat.le_of_ble_eq_true rfl) (Nat.le_of_ble_eq_true rfl) ?_
                    refine V_iload (i := 5) F dX4_rides_74 rfl ?_
                    refine V_if_eqN (tgt := 131) F dX4_rides_76 (by decide) (by omega) (fun c_76 => ?_) (fun c_76 => absurd c_76 (by decide))
                    refine V_iinc (i := 6) (v := nI (q + 1)) F dX4_rides_131 rfl (nI_add (q) 1) (Nat.le_of_ble_eq_true rfl) ?_
                    refine V_goto (tgt := 22) F dX4_rides_134 (by decide) ?_
                    refine VV.weak (L' := [some (.ref (m)), some (.ref (aT)), some (.ref (aT)), some (.int (nI (c2))), some (.int (nI (j))), some (.int (nI (0))), some (.int (nI (q + 1)))]) (LW.c1 (LW.c1 (LW.c1 (LW.c1 (LW.c1 (LW.c1 (LW.c1 LW.nil))))))) ?_
                    have hon9 : onG g f a v j q on = 0 := if_neg (fun z => by first | exact z.2 c_68 | (rcases z.1 with z1 | z1; omega; exact c_50 z1))
                    have hz9 : rsG (fun f => f) g a v j q (on, c2, f) = (0, c2, f) := by
                      show (if onG g f a v j q on = 1 ∧ CmG g j (q + 1) < f (plG g j (q + 1)) then (onG g f a v j q on, 1, up f (plG g j (q + 1)) (CmG g j (q + 1))) else (onG g f a v j q on, c2, f)) = _
                      rw [hon9]; exact if_neg (fun z => by first | exact absurd z.1 (by decide) | exact absurd z.2 (Nat.not_lt.mpr c_101))
                    exact ih_22 (q + 1) 0 c2 f (by omega) (by omega) (by show rsG (fun f => f) g a v j q (riI (fun f => f) g a v j (ch, e) q) = _; rw [hy]; exact hz9) (by omega) (by omega) hf
        refine VV.weak (L' := [some (.ref (m)), some (.ref (aT)), some (.ref (aT)), some (.int (nI (ch))), some (.int (nI (j))), some (.int (nI (0))), some (.int (nI (0)))]) (LW.c1 (LW.c1 (LW.c1 (LW.c1 (LW.c1 (LW.c1 (LW.c1 LW.nil))))))) ?_
        exact loop_22 (g (16 + 36 * j + 3) - 1 + 1) 0 0 ch e (by omega) (by omega) rfl (by decide) hch he
  refine VV.weak (L' := [some (.ref (m)), some (.ref (aT)), some (.ref (aT)), some (.int (nI (0))), some (.int (nI (0))), none, none]) (LW.c1 (LW.c1 (LW.c1 (LW.c1 (LW.c1 (LW.c0 (LW.c0 LW.nil))))))) ?_
  refine VV.heap (h' := hset h aT (iA G 8 (fun i => nI (e0 i)))) (hset_id ht0).symm ?_
  exact loop_5 (g 1 + 1) 0 0 e0 (by omega) (by omega) rfl (by decide) he0
theorem ct_ridesB {G : GG} {l : Launch} {h : AH} {m : Nat} {fs : List Value} {aG : Nat} {g : Nat → Nat} {a : Nat} {v : Nat} {aT aR : Nat} {e0 r : Nat → Nat} (hm : h m = some (.inr (0, fs))) (h_g : fs[0]? = some (.ref aG)) (hg : h aG = some (iA G 304 (fun i => nI (g i)))) (h_start : fs[16]? = some (.int (nI (a)))) (h_starts : fs[17]? = some (.int (nI (v)))) (ht0 : h aT = some (iA G 8 (fun i => nI (e0 i)))) (hGT : aG ≠ aT) (he0 : ∀ i, e0 i < 2 ^ 27) (hI : GW g) (hv : v < 2 ^ 31) (ha : a < 2 ^ 31) (hr : h aR = some (iA G 8 (fun i => nI (r i)))) (hRT : aR ≠ aT) (hrr : ∀ i, r i < 2 ^ 27) : Ct G l yX4_rides cX4_rides 7 (some .boolean) 4 0 0 [.ref m, .ref aR, .ref aT] h (PR (.int (nI (riO (fun _ => r) g a v (0, e0) (g 1)).1)) (hset h aT (iA G 8 (fun i => nI ((riO (fun _ => r) g a v (0, e0) (g 1)).2 i))))) := by
  refine Ct.of (by decide) (Nat.le_of_ble_eq_true rfl) (cat1 rfl) (fun X hXl F HN => ?_)
  subst hXl
  obtain ⟨hB, hn0, hn1, hn2, hn3, hst, hpl⟩ := hI
  refine V_iconst (v := nI 0) F dX4_rides_0 rfl ?_
  refine V_istore_n (i := 3) F dX4_rides_1 rfl (Nat.le_of_ble_eq_true rfl) (Nat.le_of_ble_eq_true rfl) ?_
  refine V_iconst (v := nI 0) F dX4_rides_2 rfl ?_
  refine V_istore (i := 4) F dX4_rides_3 (Nat.le_of_ble_eq_true rfl) (Nat.le_of_ble_eq_true rfl) ?_
  have loop_5 : ∀ (nn : Nat) (j ch : Nat) (e : Nat → Nat), g 1 < j + nn → j ≤ g 1 → (riO (fun _ => r) g a v (0, e0) j) = (ch, e) → ch < 2 → (∀ i, e i < 2 ^ 27) → VV G X 7 (EQ G X 0 0 (PR (.int (nI (riO (fun _ => r) g a v (0, e0) (g 1)).1)) (hset h aT (iA G 8 (fun i => nI ((riO (fun _ => r) g a v (0, e0) (g 1)).2 i)))))) (hset h aT (iA G 8 (fun i => nI (e i)))) 0 0 [some (.ref (m)), some (.ref (aR)), some (.ref (aT)), some (.int (nI (ch))), some (.int (nI (j))), none, none] [] 5 := by
    intro nn
    induction nn with
    | zero => intro j ch e hn hj hx hch he; exact absurd hn (by omega)
    | succ nn ih_5 =>
      intro j ch e hn hj hx hch he
      refine V_iload (i := 4) F dX4_rides_5 rfl ?_
      refine V_aload_n (i := 0) F dX4_rides_7 rfl rfl ?_
      refine V_getf F dX4_rides_8 fc_X4_7_X4 (.inl ((hset_ne (ne_oa hm ht0)).trans hm)) h_g ?_
      refine V_iconst (v := nI 1) F dX4_rides_11 rfl ?_
      refine V_ialdG F dX4_rides_12 (.inl ((hset_ne hGT).trans hg)) (by omega) (by decide) rfl ?_
      refine V_icmp_geN (tgt := 143) F dX4_rides_13 (by decide) (by omega) hB.lt (fun c_13 => ?_) (fun c_13 => ?_)
      · refine V_iload_n (i := 3) F dX4_rides_143 rfl rfl ?_
        exact V_iret F dX4_rides_144 (nar_lt2 hch) (Nat.le_of_ble_eq_true rfl) (Nat.le_of_ble_eq_true rfl) ⟨by rw [← show j = g 1 by omega, hx], by rw [← show j = g 1 by omega, hx]⟩
      · have hsj := hst j (by omega)
        refine V_iconst (v := nI 0) F dX4_rides_16 rfl ?_
        refine V_istore (i := 5) F dX4_rides_17 (Nat.le_of_ble_eq_true rfl) (Nat.le_of_ble_eq_true rfl) ?_
        refine V_iconst (v := nI 0) F dX4_rides_19 rfl ?_
        refine V_istore (i := 6) F dX4_rides_20 (Nat.le_of_ble_eq_true rfl) (Nat.le_of_ble_eq_true rfl) ?_
        have loop_22 : ∀ (nn : Nat) (q on c2 : Nat) (f : Nat → Nat), g (16 + 36 * j + 3) - 1 < q + nn → q ≤ g (16 + 36 * j + 3) - 1 → riI (fun _ => r) g a v j (ch, e) q = (on, c2, f) → on < 2 → c2 < 2 → (∀ i, f i < 2 ^ 27) → VV G X 7 (EQ G X 0 0 (PR (.int (nI (riO (fun _ => r) g a v (0, e0) (g 1)).1)) (hset h aT (iA G 8 (fun i => nI ((riO (fun _ => r) g a v (0, e0) (g 1)).2 i)))))) (hset h aT (iA G 8 (fun i => nI (f i)))) 0 0 [some (.ref (m)), some (.ref (aR)), some (.ref (aT)), some (.int (nI (c2))), some (.int (nI (j))), some (.int (nI (on))), some (.int (nI (q)))] [] 22 := by
          intro nn
          induction nn with
          | zero => intro q on c2 f hn2 hq hy hon hc2 hf; exact absurd hn2 (by omega)
          | succ nn ih_22 =>
            intro q on c2 f hn2 hq hy hon hc2 hf
            refine V_iload (i := 6) F dX4_rides_22 rfl ?_
            refine V_aload_n (i := 0) F dX4_rides_24 rfl rfl ?_
            refine V_iload (i := 4) F dX4_rides_25 rfl ?_
            refine V_iconst (v := nI 3) F dX4_rides_27 rfl ?_
            refine V_cV2r F dX4_rides_28 lk_X4_76 (ct_of ((hset_ne (ne_oa hm ht0)).trans hm) h_g ((hset_ne hGT).trans hg) (by omega)) ⟨0, _, _, _, rfl, (.inl ((hset_ne (ne_oa hm ht0)).trans hm))⟩ (Nat.le_of_ble_eq_true rfl) (Nat.le_of_ble_eq_true rfl) (Nat.le_of_ble_eq_true rfl) (Nat.le_of_ble_eq_true rfl) (Nat.le_of_ble_eq_true rfl) ?_
            refine V_iconst (v := nI 1) F dX4_rides_31 rfl ?_
            refine V_isubN F dX4_rides_32 (by omega) ?_
            refine V_icmp_geN (tgt := 137) F dX4_rides_33 (by decide) (by omega) (by omega) (fun c_33 => ?_) (fun c_33 => ?_)
            · obtain rfl : q = g (16 + 36 * j + 3) - 1 := by omega
              refine V_iinc (i := 4) (v := nI (j + 1)) F dX4_rides_137 rfl (nI_add (j) 1) (Nat.le_of_ble_eq_true rfl) ?_
              refine V_goto (tgt := 5) F dX4_rides_140 (by decide) ?_
              refine VV.weak (L' := [some (.ref (m)), some (.ref (aR)), some (.ref (aT)), some (.int (nI (c2))), some (.int (nI (j + 1))), none, none]) (LW.c1 (LW.c1 (LW.c1 (LW.c1 (LW.c1 (LW.c0 (LW.c0 LW.nil))))))) ?_
              exact ih_5 (j + 1) c2 f (by omega) (by omega) (by show (riI (fun _ => r) g a v j (riO (fun _ => r) g a v (0, e0) j) (g (16 + 36 * j + 3) - 1)).2 = _; rw [hx, hy]) hc2 hf
            · refine V_iload (i := 5) F dX4_rides_36 rfl ?_
              refine V_if_neN (tgt := 53) F dX4_rides_38 (by decide) (by omega) (fun c_38 => ?_) (fun c_38 => ?_)
              · refine V_iconst (v := nI 1) F dX4_rides_53 rfl ?_
                refine V_goto (tgt := 58) F dX4_rides_54 (by decide) ?_
                refine V_istore (i := 5) F dX4_rides_58 (Nat.le_of_ble_eq_true rfl) (Nat.le_of_ble_eq_true rfl) ?_
                refine V_aload_n (i := 0) F dX4_rides_60 rfl rfl ?_
                refine V_iload (i := 4) F dX4_rides_61 rfl ?_
                refine V_iload (i := 6) F dX4_rides_63 rfl ?_
                refine V_cV2r F dX4_rides_65 lk_X4_116 (ct_isTaken ((hset_ne (ne_oa hm ht0)).trans hm) h_g ((hset_ne hGT).trans hg) (by omega) (by omega) hn3 hB) ⟨0, _, _, _, rfl, (.inl ((hset_ne (ne_oa hm ht0)).trans hm))⟩ (Nat.le_of_ble_eq_true rfl) (Nat.le_of_ble_eq_true rfl) (Nat.le_of_ble_eq_true rfl) (Nat.le_of_ble_eq_true rfl) (Nat.le_of_ble_eq_true rfl) ?_
                refine V_if_eqB (tgt := 74) F dX4_rides_68 (by decide) (fun c_68 => ?_) (fun c_68 => ?_)
                · refine V_iload (i := 5) F dX4_rides_74 rfl ?_
                  refine V_if_eqN (tgt := 131) F dX4_rides_76 (by decide) (by omega) (fun c_76 => absurd c_76 (by decide)) (fun c_76 => ?_)
                  have hcm : CmG g j (q + 1) < 2 ^ 27 := by have := CmG_31 hB (t := j) (k := q + 1) (by omega); omega
                  refine V_aload_n (i := 0) F dX4_rides_79 rfl rfl ?_
                  refine V_iload (i := 4) F dX4_rides_80 rfl ?_
                  refine V_iload (i := 6) F dX4_rides_82 rfl ?_
                  refine V_iconst (v := nI 1) F dX4_rides_84 rfl ?_
                  refine V_iaddN F dX4_rides_85 ?_
                  refine V_cV2r F dX4_rides_86 lk_X4_120 (ct_comes ((hset_ne (ne_oa hm ht0)).trans hm) h_g ((hset_ne hGT).trans hg) (by omega) (by omega) (by omega)) ⟨0, _, _, _, rfl, (.inl ((hset_ne (ne_oa hm ht0)).trans hm))⟩ (Nat.le_of_ble_eq_true rfl) (Nat.le_of_ble_eq_true rfl) (Nat.le_of_ble_eq_true rfl) (Nat.le_of_ble_eq_true rfl) (Nat.le_of_ble_eq_true rfl) ?_
                  refine V_aload_n (i := 2) F dX4_rides_89 rfl rfl ?_
                  refine V_aload_n (i := 0) F dX4_rides_90 rfl rfl ?_
                  refine V_iload (i := 4) F dX4_rides_91 rfl ?_
                  refine V_iload (i := 6) F dX4_rides_93 rfl ?_
                  refine V_iconst (v := nI 1) F dX4_rides_95 rfl ?_
                  refine V_iaddN F dX4_rides_96 ?_
                  refine V_cV2r F dX4_rides_97 lk_X4_102 (ct_place ((hset_ne (ne_oa hm ht0)).trans hm) h_g ((hset_ne hGT).trans hg) (by omega) (by omega)) ⟨0, _, _, _, rfl, (.inl ((hset_ne (ne_oa hm ht0)).trans hm))⟩ (Nat.le_of_ble_eq_true rfl) (Nat.le_of_ble_eq_true rfl) (Nat.le_of_ble_eq_true rfl) (Nat.le_of_ble_eq_true rfl) (Nat.le_of_ble_eq_true rfl) ?_
                  refine V_ialdG F dX4_rides_100 (.inl hset_self) (Nat.lt_of_lt_of_le (hpl _ _ (by omega) (by omega)) hn0) (by decide) rfl ?_
                  refine V_icmp_ltN (tgt := 107) F dX4_rides_101 (by decide) (by omega) (by have := hf (plG g j (q + 1)); omega) (fun c_101 => ?_) (fun c_101 => ?_)
                  · refine V_aload_n (i := 2) F dX4_rides_107 rfl rfl ?_
                    refine V_aload_n (i := 0) F dX4_rides_108 rfl rfl ?_
                    refine V_iload (i := 4) F dX4_rides_109 rfl ?_
                    refine V_iload (i := 6) F dX4_rides_111 rfl ?_
                    refine V_iconst (v := nI 1) F dX4_rides_113 rfl ?_
                    refine V_iaddN F dX4_rides_114 ?_
                    refine V_cV2r F dX4_rides_115 lk_X4_102 (ct_place ((hset_ne (ne_oa hm ht0)).trans hm) h_g ((hset_ne hGT).trans hg) (by omega) (by omega)) ⟨0, _, _, _, rfl, (.inl ((hset_ne (ne_oa hm ht0)).trans hm))⟩ (Nat.le_of_ble_eq_true rfl) (Nat.le_of_ble_eq_true rfl) (Nat.le_of_ble_eq_true rfl) (Nat.le_of_ble_eq_true rfl) (Nat.le_of_ble_eq_true rfl) ?_
                    refine V_aload_n (i := 0) F dX4_rides_118 rfl rfl ?_
                    refine V_iload (i := 4) F dX4_rides_119 rfl ?_
                    refine V_iload (i := 6) F dX4_rides_121 rfl ?_
                    refine V_iconst (v := nI 1) F dX4_rides_123 rfl ?_
                    refine V_iaddN F dX4_rides_124 ?_
                    refine V_cV2r F dX4_rides_125 lk_X4_120 (ct_comes ((hset_ne (ne_oa hm ht0)).trans hm) h_g ((hset_ne hGT).trans hg) (by omega) (by omega) (by omega)) ⟨0, _, _, _, rfl, (.inl ((hset_ne (ne_oa hm ht0)).trans hm))⟩ (Nat.le_of_ble_eq_true rfl) (Nat.le_of_ble_eq_true rfl) (Nat.le_of_ble_eq_true rfl) (Nat.le_of_ble_eq_true rfl) (Nat.le_of_ble_eq_true rfl) ?_
                    refine V_iastG F dX4_rides_128 hset_self (Nat.lt_of_lt_of_le (hpl _ _ (by omega) (by omega)) hn0) (by decide) ?_
                    refine V_iconst (v := nI 1) F dX4_rides_129 rfl ?_
                    refine V_istore_n (i := 3) F dX4_rides_130 rfl (Nat.le_of_ble_eq_true rfl) (Nat.le_of_ble_eq_true rfl) ?_
                    refine V_iinc (i := 6) (v := nI (q + 1)) F dX4_rides_131 rfl (nI_add (q) 1) (Nat.le_of_ble_eq_true rfl) ?_
                    refine V_goto (tgt := 22) F dX4_rides_134 (by decide) ?_
                    refine VV.weak (L' := [some (.ref (m)), some (.ref (aR)), some (.ref (aT)), some (.int (nI (1))), some (.int (nI (j))), some (.int (nI (1))), some (.int (nI (q + 1)))]) (LW.c1 (LW.c1 (LW.c1 (LW.c1 (LW.c1 (LW.c1 (LW.c1 LW.nil))))))) ?_
                    have hon9 : onG g r a v j q on = 1 := if_pos ⟨by first | exact Or.inl (by omega) | exact Or.inr c_50, c_68⟩
                    have hz9 : rsG (fun _ => r) g a v j q (on, c2, f) = (1, 1, up f (plG g j (q + 1)) (CmG g j (q + 1))) := by
                      show (if onG g r a v j q on = 1 ∧ CmG g j (q + 1) < f (plG g j (q + 1)) then (onG g r a v j q on, 1, up f (plG g j (q + 1)) (CmG g j (q + 1))) else (onG g r a v j q on, c2, f)) = _
                      rw [hon9]; exact if_pos ⟨rfl, c_101⟩
                    refine VV.heap hset_hset ?_
                    exact ih_22 (q + 1) 1 1 (up f (plG g j (q + 1)) (CmG g j (q + 1))) (by omega) (by omega) (by show rsG (fun _ => r) g a v j q (riI (fun _ => r) g a v j (ch, e) q) = _; rw [hy]; exact hz9) (by omega) (by omega) (fun i => by unfold up; split; exact hcm; exact hf i)
                  · refine V_goto (tgt := 131) F dX4_rides_104 (by decide) ?_
                    refine V_iinc (i := 6) (v := nI (q + 1)) F dX4_rides_131 rfl (nI_add (q) 1) (Nat.le_of_ble_eq_true rfl) ?_
                    refine V_goto (tgt := 22) F dX4_rides_134 (by decide) ?_
                    refine VV.weak (L' := [some (.ref (m)), some (.ref (aR)), some (.ref (aT)), some (.int (nI (c2))), some (.int (nI (j))), some (.int (nI (1))), some (.int (nI (q + 1)))]) (LW.c1 (LW.c1 (LW.c1 (LW.c1 (LW.c1 (LW.c1 (LW.c1 LW.nil))))))) ?_
                    have hon9 : onG g r a v j q on = 1 := if_pos ⟨by first | exact Or.inl (by omega) | exact Or.inr c_50, c_68⟩
                    have hz9 : rsG (fun _ => r) g a v j q (on, c2, f) = (1, c2, f) := by
                      show (if onG g r a v j q on = 1 ∧ CmG g j (q + 1) < f (plG g j (q + 1)) then (onG g r a v j q on, 1, up f (plG g j (q + 1)) (CmG g j (q + 1))) else (onG g r a v j q on, c2, f)) = _
                      rw [hon9]; exact if_neg (fun z => by first | exact absurd z.1 (by decide) | exact absurd z.2 (Nat.not_lt.mpr c_101))
                    exact ih_22 (q + 1) 1 c2 f (by omega) (by omega) (by show rsG (fun _ => r) g a v j q (riI (fun _ => r) g a v j (ch, e) q) = _; rw [hy]; exact hz9) (by omega) (by omega) hf
                · refine V_iconst (v := nI 0) F dX4_rides_71 rfl ?_
                  refine V_istore (i := 5) F dX4_rides_72 (Nat.le_of_ble_eq_true rfl) (Nat.le_of_ble_eq_true rfl) ?_
                  refine V_iload (i := 5) F dX4_rides_74 rfl ?_
                  refine V_if_eqN (tgt := 131) F dX4_rides_76 (by decide) (by omega) (fun c_76 => ?_) (fun c_76 => absurd c_76 (by decide))
                  refine V_iinc (i := 6) (v := nI (q + 1)) F dX4_rides_131 rfl (nI_add (q) 1) (Nat.le_of_ble_eq_true rfl) ?_
                  refine V_goto (tgt := 22) F dX4_rides_134 (by decide) ?_
                  refine VV.weak (L' := [some (.ref (m)), some (.ref (aR)), some (.ref (aT)), some (.int (nI (c2))), some (.int (nI (j))), some (.int (nI (0))), some (.int (nI (q + 1)))]) (LW.c1 (LW.c1 (LW.c1 (LW.c1 (LW.c1 (LW.c1 (LW.c1 LW.nil))))))) ?_
                  have hon9 : onG g r a v j q on = 0 := if_neg (fun z => by first | exact z.2 c_68 | (rcases z.1 with z1 | z1; omega; exact c_50 z1))
                  have hz9 : rsG (fun _ => r) g a v j q (on, c2, f) = (0, c2, f) := by
                    show (if onG g r a v j q on = 1 ∧ CmG g j (q + 1) < f (plG g j (q + 1)) then (onG g r a v j q on, 1, up f (plG g j (q + 1)) (CmG g j (q + 1))) else (onG g r a v j q on, c2, f)) = _
                    rw [hon9]; exact if_neg (fun z => by first | exact absurd z.1 (by decide) | exact absurd z.2 (Nat.not_lt.mpr c_101))
                  exact ih_22 (q + 1) 0 c2 f (by omega) (by omega) (by show rsG (fun _ => r) g a v j q (riI (fun _ => r) g a v j (ch, e) q) = _; rw [hy]; exact hz9) (by omega) (by omega) hf
              · refine V_aload_n (i := 0) F dX4_rides_41 rfl rfl ?_
                refine V_iload (i := 4) F dX4_rides_42 rfl ?_
                refine V_iload (i := 6) F dX4_rides_44 rfl ?_
                refine V_aload_n (i := 1) F dX4_rides_46 rfl rfl ?_
                refine V_cV3r F dX4_rides_47 lk_X4_112 (ct_isBoarded ((hset_ne (ne_oa hm ht0)).trans hm) h_g ((hset_ne hGT).trans hg) h_start h_starts ((hset_ne hRT).trans hr) (by omega) (by omega) (Nat.lt_of_lt_of_le (hpl _ _ (by omega) (by omega)) hn0) hB hv ha hrr) ⟨0, _, _, _, rfl, (.inl ((hset_ne (ne_oa hm ht0)).trans hm))⟩ (Nat.le_of_ble_eq_true rfl) (Nat.le_of_ble_eq_true rfl) (Nat.le_of_ble_eq_true rfl) (Nat.le_of_ble_eq_true rfl) (Nat.le_of_ble_eq_true rfl) ?_
                refine V_if_eqB (tgt := 57) F dX4_rides_50 (by decide) (fun c_50 => ?_) (fun c_50 => ?_)
                · refine V_iconst (v := nI 0) F dX4_rides_57 rfl ?_
                  refine V_istore (i := 5) F dX4_rides_58 (Nat.le_of_ble_eq_true rfl) (Nat.le_of_ble_eq_true rfl) ?_
                  refine V_aload_n (i := 0) F dX4_rides_60 rfl rfl ?_
                  refine V_iload (i := 4) F dX4_rides_61 rfl ?_
                  refine V_iload (i := 6) F dX4_rides_63 rfl ?_
                  refine V_cV2r F dX4_rides_65 lk_X4_116 (ct_isTaken ((hset_ne (ne_oa hm ht0)).trans hm) h_g ((hset_ne hGT).trans hg) (by omega) (by omega) hn3 hB) ⟨0, _, _, _, rfl, (.inl ((hset_ne (ne_oa hm ht0)).trans hm))⟩ (Nat.le_of_ble_eq_true rfl) (Nat.le_of_ble_eq_true rfl) (Nat.le_of_ble_eq_true rfl) (Nat.le_of_ble_eq_true rfl) (Nat.le_of_ble_eq_true rfl) ?_
                  refine V_if_eqB (tgt := 74) F dX4_rides_68 (by decide) (fun c_68 => ?_) (fun c_68 => ?_)
                  · refine V_iload (i := 5) F dX4_rides_74 rfl ?_
                    refine V_if_eqN (tgt := 131) F dX4_rides_76 (by decide) (by omega) (fun c_76 => ?_) (fun c_76 => absurd c_76 (by decide))
                    refine V_iinc (i := 6) (v := nI (q + 1)) F dX4_rides_131 rfl (nI_add (q) 1) (Nat.le_of_ble_eq_true rfl) ?_
                    refine V_goto (tgt := 22) F dX4_rides_134 (by decide) ?_
                    refine VV.weak (L' := [some (.ref (m)), some (.ref (aR)), some (.ref (aT)), some (.int (nI (c2))), some (.int (nI (j))), some (.int (nI (0))), some (.int (nI (q + 1)))]) (LW.c1 (LW.c1 (LW.c1 (LW.c1 (LW.c1 (LW.c1 (LW.c1 LW.nil))))))) ?_
                    have hon9 : onG g r a v j q on = 0 := if_neg (fun z => by first | exact z.2 c_68 | (rcases z.1 with z1 | z1; omega; exact c_50 z1))
                    have hz9 : rsG (fun _ => r) g a v j q (on, c2, f) = (0, c2, f) := by
                      show (if onG g r a v j q on = 1 ∧ CmG g j (q + 1) < f (plG g j (q + 1)) then (onG g r a v j q on, 1, up f (plG g j (q + 1)) (CmG g j (q + 1))) else (onG g r a v j q on, c2, f)) = _
                      rw [hon9]; exact if_neg (fun z => by first | exact absurd z.1 (by decide) | exact absurd z.2 (Nat.not_lt.mpr c_101))
                    exact ih_22 (q + 1) 0 c2 f (by omega) (by omega) (by show rsG (fun _ => r) g a v j q (riI (fun _ => r) g a v j (ch, e) q) = _; rw [hy]; exact hz9) (by omega) (by omega) hf
                  · refine V_iconst (v := nI 0) F dX4_rides_71 rfl ?_
                    refine V_istore (i := 5) F dX4_rides_72 (Nat.le_of_ble_eq_true rfl) (Nat.le_of_ble_eq_true rfl) ?_
                    refine V_iload (i := 5) F dX4_rides_74 rfl ?_
                    refine V_if_eqN (tgt := 131) F dX4_rides_76 (by decide) (by omega) (fun c_76 => ?_) (fun c_76 => absurd c_76 (by decide))
                    refine V_iinc (i := 6) (v := nI (q + 1)) F dX4_rides_131 rfl (nI_add (q) 1) (Nat.le_of_ble_eq_true rfl) ?_
                    refine V_goto (tgt := 22) F dX4_rides_134 (by decide) ?_
                    refine VV.weak (L' := [some (.ref (m)), some (.ref (aR)), some (.ref (aT)), some (.int (nI (c2))), some (.int (nI (j))), some (.int (nI (0))), some (.int (nI (q + 1)))]) (LW.c1 (LW.c1 (LW.c1 (LW.c1 (LW.c1 (LW.c1 (LW.c1 LW.nil))))))) ?_
                    have hon9 : onG g r a v j q on = 0 := if_neg (fun z => by first | exact z.2 c_68 | (rcases z.1 with z1 | z1; omega; exact c_50 z1))
                    have hz9 : rsG (fun _ => r) g a v j q (on, c2, f) = (0, c2, f) := by
                      show (if onG g r a v j q on = 1 ∧ CmG g j (q + 1) < f (plG g j (q + 1)) then (onG g r a v j q on, 1, up f (plG g j (q + 1)) (CmG g j (q + 1))) else (onG g r a v j q on, c2, f)) = _
                      rw [hon9]; exact if_neg (fun z => by first | exact absurd z.1 (by decide) | exact absurd z.2 (Nat.not_lt.mpr c_101))
                    exact ih_22 (q + 1) 0 c2 f (by omega) (by omega) (by show rsG (fun _ => r) g a v j q (riI (fun _ => r) g a v j (ch, e) q) = _; rw [hy]; exact hz9) (by omega) (by omega) hf
                · refine V_iconst (v := nI 1) F dX4_rides_53 rfl ?_
                  refine V_goto (tgt := 58) F dX4_rides_54 (by decide) ?_
                  refine V_istore (i := 5) F dX4_rides_58 (Nat.le_of_ble_eq_true rfl) (Nat.le_of_ble_eq_true rfl) ?_
                  refine V_aload_n (i := 0) F dX4_rides_60 rfl rfl ?_
                  refine V_iload (i := 4) F dX4_rides_61 rfl ?_
                  refine V_iload (i := 6) F dX4_rides_63 rfl ?_
                  refine V_cV2r F dX4_rides_65 lk_X4_116 (ct_isTaken ((hset_ne (ne_oa hm ht0)).trans hm) h_g ((hset_ne hGT).trans hg) (by omega) (by omega) hn3 hB) ⟨0, _, _, _, rfl, (.inl ((hset_ne (ne_oa hm ht0)).trans hm))⟩ (Nat.le_of_ble_eq_true rfl) (Nat.le_of_ble_eq_true rfl) (Nat.le_of_ble_eq_true rfl) (Nat.le_of_ble_eq_true rfl) (Nat.le_of_ble_eq_true rfl) ?_
                  refine V_if_eqB (tgt := 74) F dX4_rides_68 (by decide) (fun c_68 => ?_) (fun c_68 => ?_)
                  · refine V_iload (i := 5) F dX4_rides_74 rfl ?_
                    refine V_if_eqN (tgt := 131) F dX4_rides_76 (by decide) (by omega) (fun c_76 => absurd c_76 (by decide)) (fun c_76 => ?_)
                    have hcm : CmG g j (q + 1) < 2 ^ 27 := by have := CmG_31 hB (t := j) (k := q + 1) (by omega); omega
                    refine V_aload_n (i := 0) F dX4_rides_79 rfl rfl ?_
                    refine V_iload (i := 4) F dX4_rides_80 rfl ?_
                    refine V_iload (i := 6) F dX4_rides_82 rfl ?_
                    refine V_iconst (v := nI 1) F dX4_rides_84 rfl ?_
                    refine V_iaddN F dX4_rides_85 ?_
                    refine V_cV2r F dX4_rides_86 lk_X4_120 (ct_comes ((hset_ne (ne_oa hm ht0)).trans hm) h_g ((hset_ne hGT).trans hg) (by omega) (by omega) (by omega)) ⟨0, _, _, _, rfl, (.inl ((hset_ne (ne_oa hm ht0)).trans hm))⟩ (Nat.le_of_ble_eq_true rfl) (Nat.le_of_ble_eq_true rfl) (Nat.le_of_ble_eq_true rfl) (Nat.le_of_ble_eq_true rfl) (Nat.le_of_ble_eq_true rfl) ?_
                    refine V_aload_n (i := 2) F dX4_rides_89 rfl rfl ?_
                    refine V_aload_n (i := 0) F dX4_rides_90 rfl rfl ?_
                    refine V_iload (i := 4) F dX4_rides_91 rfl ?_
                    refine V_iload (i := 6) F dX4_rides_93 rfl ?_
                    refine V_iconst (v := nI 1) F dX4_rides_95 rfl ?_
                    refine V_iaddN F dX4_rides_96 ?_
                    refine V_cV2r F dX4_rides_97 lk_X4_102 (ct_place ((hset_ne (ne_oa hm ht0)).trans hm) h_g ((hset_ne hGT).trans hg) (by omega) (by omega)) ⟨0, _, _, _, rfl, (.inl ((hset_ne (ne_oa hm ht0)).trans hm))⟩ (Nat.le_of_ble_eq_true rfl) (Nat.le_of_ble_eq_true rfl) (Nat.le_of_ble_eq_true rfl) (Nat.le_of_ble_eq_true rfl) (Nat.le_of_ble_eq_true rfl) ?_
                    refine V_ialdG F dX4_rides_100 (.inl hset_self) (Nat.lt_of_lt_of_le (hpl _ _ (by omega) (by omega)) hn0) (by decide) rfl ?_
                    refine V_icmp_ltN (tgt := 107) F dX4_rides_101 (by decide) (by omega) (by have := hf (plG g j (q + 1)); omega) (fun c_101 => ?_) (fun c_101 => ?_)
                    · refine V_aload_n (i := 2) F dX4_rides_107 rfl rfl ?_
                      refine V_aload_n (i := 0) F dX4_rides_108 rfl rfl ?_
                      refine V_iload (i := 4) F dX4_rides_109 rfl ?_
                      refine V_iload (i := 6) F dX4_rides_111 rfl ?_
                      refine V_iconst (v := nI 1) F dX4_rides_113 rfl ?_
                      refine V_iaddN F dX4_rides_114 ?_
                      refine V_cV2r F dX4_rides_115 lk_X4_102 (ct_place ((hset_ne (ne_oa hm ht0)).trans hm) h_g ((hset_ne hGT).trans hg) (by omega) (by omega)) ⟨0, _, _, _, rfl, (.inl ((hset_ne (ne_oa hm ht0)).trans hm))⟩ (Nat.le_of_ble_eq_true rfl) (Nat.le_of_ble_eq_true rfl) (Nat.le_of_ble_eq_true rfl) (Nat.le_of_ble_eq_true rfl) (Nat.le_of_ble_eq_true rfl) ?_
                      refine V_aload_n (i := 0) F dX4_rides_118 rfl rfl ?_
                      refine V_iload (i := 4) F dX4_rides_119 rfl ?_
                      refine V_iload (i := 6) F dX4_rides_121 rfl ?_
                      refine V_iconst (v := nI 1) F dX4_rides_123 rfl ?_
                      refine V_iaddN F dX4_rides_124 ?_
                      refine V_cV2r F dX4_rides_125 lk_X4_120 (ct_comes ((hset_ne (ne_oa hm ht0)).trans hm) h_g ((hset_ne hGT).trans hg) (by omega) (by omega) (by omega)) ⟨0, _, _, _, rfl, (.inl ((hset_ne (ne_oa hm ht0)).trans hm))⟩ (Nat.le_of_ble_eq_true rfl) (Nat.le_of_ble_eq_true rfl) (Nat.le_of_ble_eq_true rfl) (Nat.le_of_ble_eq_true rfl) (Nat.le_of_ble_eq_true rfl) ?_
                      refine V_iastG F dX4_rides_128 hset_self (Nat.lt_of_lt_of_le (hpl _ _ (by omega) (by omega)) hn0) (by decide) ?_
                      refine V_iconst (v := nI 1) F dX4_rides_129 rfl ?_
                      refine V_istore_n (i := 3) F dX4_rides_130 rfl (Nat.le_of_ble_eq_true rfl) (Nat.le_of_ble_eq_true rfl) ?_
                      refine V_iinc (i := 6) (v := nI (q + 1)) F dX4_rides_131 rfl (nI_add (q) 1) (Nat.le_of_ble_eq_true rfl) ?_
                      refine V_goto (tgt := 22) F dX4_rides_134 (by decide) ?_
                      refine VV.weak (L' := [some (.ref (m)), some (.ref (aR)), some (.ref (aT)), some (.int (nI (1))), some (.int (nI (j))), some (.int (nI (1))), some (.int (nI (q + 1)))]) (LW.c1 (LW.c1 (LW.c1 (LW.c1 (LW.c1 (LW.c1 (LW.c1 LW.nil))))))) ?_
                      have hon9 : onG g r a v j q on = 1 := if_pos ⟨by first | exact Or.inl (by omega) | exact Or.inr c_50, c_68⟩
                      have hz9 : rsG (fun _ => r) g a v j q (on, c2, f) = (1, 1, up f (plG g j (q + 1)) (CmG g j (q + 1))) := by
                        show (if onG g r a v j q on = 1 ∧ CmG g j (q + 1) < f (plG g j (q + 1)) then (onG g r a v j q on, 1, up f (plG g j (q + 1)) (CmG g j (q + 1))) else (onG g r a v j q on, c2, f)) = _
                        rw [hon9]; exact if_pos ⟨rfl, c_101⟩
                      refine VV.heap hset_hset ?_
                      exact ih_22 (q + 1) 1 1 (up f (plG g j (q + 1)) (CmG g j (q + 1))) (by omega) (by omega) (by show rsG (fun _ => r) g a v j q (riI (fun _ => r) g a v j (ch, e) q) = _; rw [hy]; exact hz9) (by omega) (by omega) (fun i => by unfold up; split; exact hcm; exact hf i)
                    · refine V_goto (tgt := 131) F dX4_rides_104 (by decide) ?_
                      refine V_iinc (i := 6) (v := nI (q + 1)) F dX4_rides_131 rfl (nI_add (q) 1) (Nat.le_of_ble_eq_true rfl) ?_
                      refine V_goto (tgt := 22) F dX4_rides_134 (by decide) ?_
                      refine VV.weak (L' := [some (.ref (m)), some (.ref (aR)), some (.ref (aT)), some (.int (nI (c2))), some (.int (nI (j))), some (.int (nI (1))), some (.int (nI (q + 1)))]) (LW.c1 (LW.c1 (LW.c1 (LW.c1 (LW.c1 (LW.c1 (LW.c1 LW.nil))))))) ?_
                      have hon9 : onG g r a v j q on = 1 := if_pos ⟨by first | exact Or.inl (by omega) | exact Or.inr c_50, c_68⟩
                      have hz9 : rsG (fun _ => r) g a v j q (on, c2, f) = (1, c2, f) := by
                        show (if onG g r a v j q on = 1 ∧ CmG g j (q + 1) < f (plG g j (q + 1)) then (onG g r a v j q on, 1, up f (plG g j (q + 1)) (CmG g j (q + 1))) else (onG g r a v j q on, c2, f)) = _
                        rw [hon9]; exact if_neg (fun z => by first | exact absurd z.1 (by decide) | exact absurd z.2 (Nat.not_lt.mpr c_101))
                      exact ih_22 (q + 1) 1 c2 f (by omega) (by omega) (by show rsG (fun _ => r) g a v j q (riI (fun _ => r) g a v j (ch, e) q) = _; rw [hy]; exact hz9) (by omega) (by omega) hf
                  · refine V_iconst (v := nI 0) F dX4_rides_71 rfl ?_
                    refine V_istore (i := 5) F dX4_rides_72 (Nat.le_of_ble_eq_true rfl) (Nat.le_of_ble_eq_true rfl) ?_
                    refine V_iload (i := 5) F dX4_rides_74 rfl ?_
                    refine V_if_eqN (tgt := 131) F dX4_rides_76 (by decide) (by omega) (fun c_76 => ?_) (fun c_76 => absurd c_76 (by decide))
                    refine V_iinc (i := 6) (v := nI (q + 1)) F dX4_rides_131 rfl (nI_add (q) 1) (Nat.le_of_ble_eq_true rfl) ?_
                    refine V_goto (tgt := 22) F dX4_rides_134 (by decide) ?_
                    refine VV.weak (L' := [some (.ref (m)), some (.ref (aR)), some (.ref (aT)), some (.int (nI (c2))), some (.int (nI (j))), some (.int (nI (0))), some (.int (nI (q + 1)))]) (LW.c1 (LW.c1 (LW.c1 (LW.c1 (LW.c1 (LW.c1 (LW.c1 LW.nil))))))) ?_
                    have hon9 : onG g r a v j q on = 0 := if_neg (fun z => by first | exact z.2 c_68 | (rcases z.1 with z1 | z1; omega; exact c_50 z1))
                    have hz9 : rsG (fun _ => r) g a v j q (on, c2, f) = (0, c2, f) := by
                      show (if onG g r a v j q on = 1 ∧ CmG g j (q + 1) < f (plG g j (q + 1)) then (onG g r a v j q on, 1, up f (plG g j (q + 1)) (CmG g j (q + 1))) else (onG g r a v j q on, c2, f)) = _
                      rw [hon9]; exact if_neg (fun z => by first | exact absurd z.1 (by decide) | exact absurd z.2 (Nat.not_lt.mpr c_101))
                    exact ih_22 (q + 1) 0 c2 f (by omega) (by omega) (by show rsG (fun _ => r) g a v j q (riI (fun _ => r) g a v j (ch, e) q) = _; rw [hy]; exact hz9) (by omega) (by omega) hf
        refine VV.weak (L' := [some (.ref (m)), some (.ref (aR)), some (.ref (aT)), some (.int (nI (ch))), some (.int (nI (j))), some (.int (nI (0))), some (.int (nI (0)))]) (LW.c1 (LW.c1 (LW.c1 (LW.c1 (LW.c1 (LW.c1 (LW.c1 LW.nil))))))) ?_
        exact loop_22 (g (16 + 36 * j + 3) - 1 + 1) 0 0 ch e (by omega) (by omega) rfl (by decide) hch he
  refine VV.weak (L' := [some (.ref (m)), some (.ref (aR)), some (.ref (aT)), some (.int (nI (0))), some (.int (nI (0))), none, none]) (LW.c1 (LW.c1 (LW.c1 (LW.c1 (LW.c1 (LW.c0 (LW.c0 LW.nil))))))) ?_
  refine VV.heap (h' := hset h aT (iA G 8 (fun i => nI (e0 i)))) (hset_id ht0).symm ?_
  exact loop_5 (g 1 + 1) 0 0 e0 (by omega) (by omega) rfl (by decide) he0
