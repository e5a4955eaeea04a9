theorem nI_shl1 {a : Nat} : (nI a) <<< ((nI 1) &&& 31) = nI (2 * a) := by
  have e1 : (nI 1) &&& 31 = 1 := by decide
  rw [e1]
  apply Int32.toBitVec_inj.mp
  apply BitVec.eq_of_toNat_eq
  have e2 : (nI a <<< 1).toBitVec = (nI a).toBitVec <<< 1 := rfl
  rw [e2, BitVec.toNat_shiftLeft]
  show (a % 4294967296) <<< 1 % 4294967296 = 2 * a % 4294967296
  rw [Nat.shiftLeft_eq]
  omega

theorem ct_PQ_down {G : GG} {l : Launch} {h : AH} {ar x k0 n cap mL dC : Nat} {f0 : Nat → Nat} {g0 : Nat → Option Nat} {D : String} {y : MethodName} {cc : ByteArray} (hq : ∀ z, z ∈ els (upo f0 k0 x) n → PQC G l h ar z (els (upo f0 k0 x) n) D y cc mL dC) (hk0 : k0 < n) (hmc : n ≤ cap) (hcap : cap < 100000) (har0 : h ar = some (qA G cap g0)) (hg0 : ∀ i, i < n → i ≠ k0 → g0 i = some (f0 i)) : Ct G l yJ46_siftDownComparable cJ46_siftDownComparable 9 none 5 (0) (0) [.int (nI k0), .ref x, .ref ar, .int (nI n)] h (fun r h2 => r = none ∧ ∃ f2 g2, h2 ar = some (qA G cap g2) ∧ (∀ i, i < n → g2 i = some (f2 i)) ∧ (els f2 n).Perm (els (upo f0 k0 x) n) ∧ Fr (m1 ar) h h2) := by
  refine Ct.of (by decide) (Nat.le_of_ble_eq_true rfl) (cat1 rfl) (fun X hXl F HN => ?_)
  subst hXl
  have hxE : x ∈ els (upo f0 k0 x) n := by have z := els_mem (f := upo f0 k0 x) hk0; rw [upo_s] at z; exact z
  have loop : ∀ (nn k : Nat) (f : Nat → Nat) (g : Nat → Option Nat) (hh : AH), n - k < nn → k < n → hh ar = some (qA G cap g) → (∀ i, i < n → i ≠ k → g i = some (f i)) → (els (upo f k x) n).Perm (els (upo f0 k0 x) n) → Fr (m1 ar) h hh → VV G X 9 (EQ G X 0 0 (fun r h2 => r = none ∧ ∃ f2 g2, h2 ar = some (qA G cap g2) ∧ (∀ i, i < n → g2 i = some (f2 i)) ∧ (els f2 n).Perm (els (upo f0 k0 x) n) ∧ Fr (m1 ar) h h2)) hh 0 0 [some (.int (nI (k))), none, some (.ref (ar)), some (.int (nI (n))), some (.ref (x)), some (.int (nI (n / 2))), none, none, none] [] 11 := by
    intro nn
    induction nn with
    | zero => intro k f g hh hm; exact absurd hm (by omega)
    | succ nn ih =>
      intro k f g hh hm hk har hg hP hF
      have hin : ∀ i, i < n → i ≠ k → f i ∈ els (upo f0 k0 x) n := fun i h1 h2 => hP.subset (by have z := els_mem (f := upo f k x) h1; rw [upo_n h2] at z; exact z)
      refine V_iload_n (i := 0) F dJ46_siftDownComparable_11 rfl rfl ?_
      refine V_iload (i := 5) F dJ46_siftDownComparable_12 rfl ?_
      refine V_icmp_geN (tgt := 94) F dJ46_siftDownComparable_14 (by decide) (by omega) (by omega) (fun c_14 => ?_) (fun c_14 => ?_)
      · refine V_aload_n (i := 2) F dJ46_siftDownComparable_94 rfl rfl ?_
        refine V_iload_n (i := 0) F dJ46_siftDownComparable_95 rfl rfl ?_
        refine V_aload (i := 4) F dJ46_siftDownComparable_96 rfl ?_
        refine V_aastON F dJ46_siftDownComparable_98 har (hF.isO (hq x hxE).2.2.2.2.2.1) (by omega) (by omega) ?_
        have pa : (hset hh (ar) (qA G cap ((upq g k (some x))))) ar = some (qA G cap ((upq g k (some x)))) := (hset_self (e := qA G cap ((upq g k (some x)))))
        refine V_vret F dJ46_siftDownComparable_99 (by first | exact Nat.le_of_ble_eq_true rfl | omega) (by first | exact Nat.le_of_ble_eq_true rfl | omega) ⟨rfl, upo f k x, _, pa, fun i hi => ?_, hP, (hF.put (x := qA G cap ((upq g k (some x)))) har ⟨rfl, rfl⟩ rfl (Or.inl rfl))⟩
        by_cases e : i = k
        · rw [e, upq_s, upo_s]
        · rw [upq_n e, upo_n e]; exact hg i hi e
      · refine V_iload_n (i := 0) F dJ46_siftDownComparable_17 rfl rfl ?_
        refine V_iconst (v := nI 1) F dJ46_siftDownComparable_18 rfl ?_
        refine V_ishl F dJ46_siftDownComparable_19 (VV.stk (st' := .int (nI (2 * k)) :: []) (by rw [nI_shl1]) ?_)
        refine V_iconst (v := nI 1) F dJ46_siftDownComparable_20 rfl ?_
        refine V_iaddN F dJ46_siftDownComparable_21 ?_
        refine V_istore (i := 6) F dJ46_siftDownComparable_22 (Nat.le_of_ble_eq_true rfl) (Nat.le_of_ble_eq_true rfl) ?_
        refine V_aload_n (i := 2) F dJ46_siftDownComparable_24 rfl rfl ?_
        refine V_iload (i := 6) F dJ46_siftDownComparable_25 rfl ?_
        refine V_aaldN F 6 dJ46_siftDownComparable_27 rfl (.inl har) (by omega) (by omega) (w := .ref (f ((2 * k) + 1))) (by rw [hg _ (by omega) (by omega)]; rfl) ?_
        refine V_astore (i := 7) F dJ46_siftDownComparable_28 (Nat.le_of_ble_eq_true rfl) (Nat.le_of_ble_eq_true rfl) ?_
        refine V_iload (i := 6) F dJ46_siftDownComparable_30 rfl ?_
        refine V_iconst (v := nI 1) F dJ46_siftDownComparable_32 rfl ?_
        refine V_iaddN F dJ46_siftDownComparable_33 ?_
        refine V_istore (i := 8) F dJ46_siftDownComparable_34 (Nat.le_of_ble_eq_true rfl) (Nat.le_of_ble_eq_true rfl) ?_
        refine V_iload (i := 8) F dJ46_siftDownComparable_36 rfl ?_
        refine V_iload_n (i := 3) F dJ46_siftDownComparable_38 rfl rfl ?_
        refine V_icmp_geN (tgt := 68) F dJ46_siftDownComparable_39 (by decide) (by omega) (by omega) (fun c_39 => ?_) (fun c_39 => ?_)
        · refine V_aload (i := 4) F dJ46_siftDownComparable_68 rfl ?_
          refine V_aload (i := 7) F dJ46_siftDownComparable_70 rfl ?_
          obtain ⟨c2, hcc⟩ := (hq x hxE).2.2.2.2.2.2.2 hh hF (f ((2 * k) + 1)) (hin _ (by omega) (by omega))
          refine V_callF (st := []) F dJ46_siftDownComparable_72 (hq x hxE).1 hcc (hF.isC (hq x hxE).2.1) rfl rfl (Nat.le_of_ble_eq_true rfl) (by have := (hq x hxE).2.2.2.2.1; omega) (hq x hxE).2.2.2.1 (by first | exact Nat.le_of_ble_eq_true rfl | omega) (by first | exact Nat.le_of_ble_eq_true rfl | omega) (PRk ?_)
          refine V_if_gt (tgt := 83) F dJ46_siftDownComparable_77 (by decide) (fun c_77 => ?_) (fun c_77 => ?_)
          · refine V_aload_n (i := 2) F dJ46_siftDownComparable_83 rfl rfl ?_
            refine V_iload_n (i := 0) F dJ46_siftDownComparable_84 rfl rfl ?_
            refine V_aload (i := 7) F dJ46_siftDownComparable_85 rfl ?_
            refine V_aastON F dJ46_siftDownComparable_87 har (hF.isO ((hq x hxE).2.2.2.2.2.2.1 _ (hin _ (by omega) (by omega)))) (by omega) (by omega) ?_
            refine V_iload (i := 6) F dJ46_siftDownComparable_88 rfl ?_
            refine V_istore_n (i := 0) F dJ46_siftDownComparable_90 rfl (Nat.le_of_ble_eq_true rfl) (Nat.le_of_ble_eq_true rfl) ?_
            refine V_goto (tgt := 11) F dJ46_siftDownComparable_91 (by decide) ?_
            have pa : (hset hh (ar) (qA G cap ((upq g k (some (f ((2 * k) + 1))))))) ar = some (qA G cap ((upq g k (some (f ((2 * k) + 1)))))) := (hset_self (e := qA G cap ((upq g k (some (f ((2 * k) + 1)))))))
            refine VV.weak (L' := [some (.int (nI ((2 * k) + 1))), none, some (.ref (ar)), some (.int (nI (n))), some (.ref (x)), some (.int (nI (n / 2))), none, none, none]) (LW.c1 (LW.c0 (LW.c1 (LW.c1 (LW.c1 (LW.c1 (LW.c0 (LW.c0 (LW.c0 LW.nil))))))))) ?_
            refine ih ((2 * k) + 1) (upo f k (f ((2 * k) + 1))) _ _ (by omega) (by omega) pa (fun i hi hne => ?_) ((els_hole hk (by omega) (by omega)).trans hP) (hF.put (x := qA G cap ((upq g k (some (f ((2 * k) + 1)))))) har ⟨rfl, rfl⟩ rfl (Or.inl rfl))
            by_cases e : i = k
            · rw [e, upq_s, upo_s]
            · rw [upq_n e, upo_n e]; exact hg i hi e
          · refine V_goto (tgt := 94) F dJ46_siftDownComparable_80 (by decide) ?_
            refine V_aload_n (i := 2) F dJ46_siftDownComparable_94 rfl rfl ?_
            refine V_iload_n (i := 0) F dJ46_siftDownComparable_95 rfl rfl ?_
            refine V_aload (i := 4) F dJ46_siftDownComparable_96 rfl ?_
            refine V_aastON F dJ46_siftDownComparable_98 har (hF.isO (hq x hxE).2.2.2.2.2.1) (by omega) (by omega) ?_
            have pa : (hset hh (ar) (qA G cap ((upq g k (some x))))) ar = some (qA G cap ((upq g k (some x)))) := (hset_self (e := qA G cap ((upq g k (some x)))))
            refine V_vret F dJ46_siftDownComparable_99 (by first | exact Nat.le_of_ble_eq_true rfl | omega) (by first | exact Nat.le_of_ble_eq_true rfl | omega) ⟨rfl, upo f k x, _, pa, fun i hi => ?_, hP, (hF.put (x := qA G cap ((upq g k (some x)))) har ⟨rfl, rfl⟩ rfl (Or.inl rfl))⟩
            by_cases e : i = k
            · rw [e, upq_s, upo_s]
            · rw [upq_n e, upo_n e]; exact hg i hi e
        · refine V_aload (i := 7) F dJ46_siftDownComparable_42 rfl ?_
          refine V_ck F dJ46_siftDownComparable_44 q1532 (hF.isC (hq _ (hin _ (by omega) (by omega))).2.1) (hq _ (hin _ (by omega) (by omega))).2.2.1 ?_
          refine V_aload_n (i := 2) F dJ46_siftDownComparable_47 rfl rfl ?_
          refine V_iload (i := 8) F dJ46_siftDownComparable_48 rfl ?_
          refine V_aaldN F 6 dJ46_siftDownComparable_50 rfl (.inl har) (by omega) (by omega) (w := .ref (f (((2 * k) + 1) + 1))) (by rw [hg _ (by omega) (by omega)]; rfl) ?_
          obtain ⟨c1, hcc⟩ := (hq (f ((2 * k) + 1)) (hin _ (by omega) (by omega))).2.2.2.2.2.2.2 hh hF (f (((2 * k) + 1) + 1)) (hin _ (by omega) (by omega))
          refine V_callF (st := []) F dJ46_siftDownComparable_51 (hq (f ((2 * k) + 1)) (hin _ (by omega) (by omega))).1 hcc (hF.isC (hq (f ((2 * k) + 1)) (hin _ (by omega) (by omega))).2.1) rfl rfl (Nat.le_of_ble_eq_true rfl) (by have := (hq (f ((2 * k) + 1)) (hin _ (by omega) (by omega))).2.2.2.2.1; omega) (hq (f ((2 * k) + 1)) (hin _ (by omega) (by omega))).2.2.2.1 (by first | exact Nat.le_of_ble_eq_true rfl | omega) (by first | exact Nat.le_of_ble_eq_true rfl | omega) (PRk ?_)
          refine V_if_le (tgt := 68) F dJ46_siftDownComparable_56 (by decide) (fun c_56 => ?_) (fun c_56 => ?_)
          · refine V_aload (i := 4) F dJ46_siftDownComparable_68 rfl ?_
            refine V_aload (i := 7) F dJ46_siftDownComparable_70 rfl ?_
            obtain ⟨c2, hcc⟩ := (hq x hxE).2.2.2.2.2.2.2 hh hF (f ((2 * k) + 1)) (hin _ (by omega) (by omega))
            refine V_callF (st := []) F dJ46_siftDownComparable_72 (hq x hxE).1 hcc (hF.isC (hq x hxE).2.1) rfl rfl (Nat.le_of_ble_eq_true rfl) (by have := (hq x hxE).2.2.2.2.1; omega) (hq x hxE).2.2.2.1 (by first | exact Nat.le_of_ble_eq_true rfl | omega) (by first | exact Nat.le_of_ble_eq_true rfl | omega) (PRk ?_)
            refine V_if_gt (tgt := 83) F dJ46_siftDownComparable_77 (by decide) (fun c_77 => ?_) (fun c_77 => ?_)
            · refine V_aload_n (i := 2) F dJ46_siftDownComparable_83 rfl rfl ?_
              refine V_iload_n (i := 0) F dJ46_siftDownComparable_84 rfl rfl ?_
              refine V_aload (i := 7) F dJ46_siftDownComparable_85 rfl ?_
              refine V_aastON F dJ46_siftDownComparable_87 har (hF.isO ((hq x hxE).2.2.2.2.2.2.1 _ (hin _ (by omega) (by omega)))) (by omega) (by omega) ?_
              refine V_iload (i := 6) F dJ46_siftDownComparable_88 rfl ?_
              refine V_istore_n (i := 0) F dJ46_siftDownComparable_90 rfl (Nat.le_of_ble_eq_true rfl) (Nat.le_of_ble_eq_true rfl) ?_
              refine V_goto (tgt := 11) F dJ46_siftDownComparable_91 (by decide) ?_
              have pa : (hset hh (ar) (qA G cap ((upq g k (some (f ((2 * k) + 1))))))) ar = some (qA G cap ((upq g k (some (f ((2 * k) + 1)))))) := (hset_self (e := qA G cap ((upq g k (some (f ((2 * k) + 1)))))))
              refine VV.weak (L' := [some (.int (nI ((2 * k) + 1))), none, some (.ref (ar)), some (.int (nI (n))), some (.ref (x)), some (.int (nI (n / 2))), none, none, none]) (LW.c1 (LW.c0 (LW.c1 (LW.c1 (LW.c1 (LW.c1 (LW.c0 (LW.c0 (LW.c0 LW.nil))))))))) ?_
              refine ih ((2 * k) + 1) (upo f k (f ((2 * k) + 1))) _ _ (by omega) (by omega) pa (fun i hi hne => ?_) ((els_hole hk (by omega) (by omega)).trans hP) (hF.put (x := qA G cap ((upq g k (some (f ((2 * k) + 1)))))) har ⟨rfl, rfl⟩ rfl (Or.inl rfl))
              by_cases e : i = k
              · rw [e, upq_s, upo_s]
              · rw [upq_n e, upo_n e]; exact hg i hi e
            · refine V_goto (tgt := 94) F dJ46_siftDownComparable_80 (by decide) ?_
              refine V_aload_n (i := 2) F dJ46_siftDownComparable_94 rfl rfl ?_
              refine V_iload_n (i := 0) F dJ46_siftDownComparable_95 rfl rfl ?_
              refine V_aload (i := 4) F dJ46_siftDownComparable_96 rfl ?_
              refine V_aastON F dJ46_siftDownComparable_98 har (hF.isO (hq x hxE).2.2.2.2.2.1) (by omega) (by omega) ?_
              have pa : (hset hh (ar) (qA G cap ((upq g k (some x))))) ar = some (qA G cap ((upq g k (some x)))) := (hset_self (e := qA G cap ((upq g k (some x)))))
              refine V_vret F dJ46_siftDownComparable_99 (by first | exact Nat.le_of_ble_eq_true rfl | omega) (by first | exact Nat.le_of_ble_eq_true rfl | omega) ⟨rfl, upo f k x, _, pa, fun i hi => ?_, hP, (hF.put (x := qA G cap ((upq g k (some x)))) har ⟨rfl, rfl⟩ rfl (Or.inl rfl))⟩
              by_cases e : i = k
              · rw [e, upq_s, upo_s]
              · rw [upq_n e, upo_n e]; exact hg i hi e
          · refine V_aload_n (i := 2) F dJ46_siftDownComparable_59 rfl rfl ?_
            refine V_iload (i := 8) F dJ46_siftDownComparable_60 rfl ?_
            refine V_dup F dJ46_siftDownComparable_62 rfl ?_
            refine V_istore (i := 6) F dJ46_siftDownComparable_63 (Nat.le_of_ble_eq_true rfl) (Nat.le_of_ble_eq_true rfl) ?_
            refine V_aaldN F 6 dJ46_siftDownComparable_65 rfl (.inl har) (by omega) (by omega) (w := .ref (f (((2 * k) + 1) + 1))) (by rw [hg _ (by omega) (by omega)]; rfl) ?_
            refine V_astore (i := 7) F dJ46_siftDownComparable_66 (Nat.le_of_ble_eq_true rfl) (Nat.le_of_ble_eq_true rfl) ?_
            refine V_aload (i := 4) F dJ46_siftDownComparable_68 rfl ?_
            refine V_aload (i := 7) F dJ46_siftDownComparable_70 rfl ?_
            obtain ⟨c2, hcc⟩ := (hq x hxE).2.2.2.2.2.2.2 hh hF (f (((2 * k) + 1) + 1)) (hin _ (by omega) (by omega))
            refine V_callF (st := []) F dJ46_siftDownComparable_72 (hq x hxE).1 hcc (hF.isC (hq x hxE).2.1) rfl rfl (Nat.le_of_ble_eq_true rfl) (by have := (hq x hxE).2.2.2.2.1; omega) (hq x hxE).2.2.2.1 (by first | exact Nat.le_of_ble_eq_true rfl | omega) (by first | exact Nat.le_of_ble_eq_true rfl | omega) (PRk ?_)
            refine V_if_gt (tgt := 83) F dJ46_siftDownComparable_77 (by decide) (fun c_77 => ?_) (fun c_77 => ?_)
            · refine V_aload_n (i := 2) F dJ46_siftDownComparable_83 rfl rfl ?_
              refine V_iload_n (i := 0) F dJ46_siftDownComparable_84 rfl rfl ?_
              refine V_aload (i := 7) F dJ46_siftDownComparable_85 rfl ?_
              refine V_aastON F dJ46_siftDownComparable_87 har (hF.isO ((hq x hxE).2.2.2.2.2.2.1 _ (hin _ (by omega) (by omega)))) (by omega) (by omega) ?_
              refine V_iload (i := 6) F dJ46_siftDownComparable_88 rfl ?_
              refine V_istore_n (i := 0) F dJ46_siftDownComparable_90 rfl (Nat.le_of_ble_eq_true rfl) (Nat.le_of_ble_eq_true rfl) ?_
              refine V_goto (tgt := 11) F dJ46_siftDownComparable_91 (by decide) ?_
              have pa : (hset hh (ar) (qA G cap ((upq g k (some (f (((2 * k) + 1) + 1))))))) ar = some (qA G cap ((upq g k (some (f (((2 * k) + 1) + 1)))))) := (hset_self (e := qA G cap ((upq g k (some (f (((2 * k) + 1) + 1)))))))
              refine VV.weak (L' := [some (.int (nI (((2 * k) + 1) + 1))), none, some (.ref (ar)), some (.int (nI (n))), some (.ref (x)), some (.int (nI (n / 2))), none, none, none]) (LW.c1 (LW.c0 (LW.c1 (LW.c1 (LW.c1 (LW.c1 (LW.c0 (LW.c0 (LW.c0 LW.nil))))))))) ?_
              refine ih (((2 * k) + 1) + 1) (upo f k (f (((2 * k) + 1) + 1))) _ _ (by omega) (by omega) pa (fun i hi hne => ?_) ((els_hole hk (by omega) (by omega)).trans hP) (hF.put (x := qA G cap ((upq g k (some (f (((2 * k) + 1) + 1)))))) har ⟨rfl, rfl⟩ rfl (Or.inl rfl))
              by_cases e : i = k
              · rw [e, upq_s, upo_s]
              · rw [upq_n e, upo_n e]; exact hg i hi e
            · refine V_goto (tgt := 94) F dJ46_siftDownComparable_80 (by decide) ?_
              refine V_aload_n (i := 2) F dJ46_siftDownComparable_94 rfl rfl ?_
              refine V_iload_n (i := 0) F dJ46_siftDownComparable_95 rfl rfl ?_
              refine V_aload (i := 4) F dJ46_siftDownComparable_96 rfl ?_
              refine V_aastON F dJ46_siftDownComparable_98 har (hF.isO (hq x hxE).2.2.2.2.2.1) (by omega) (by omega) ?_
              have pa : (hset hh (ar) (qA G cap ((upq g k (some x))))) ar = some (qA G cap ((upq g k (some x)))) := (hset_self (e := qA G cap ((upq g k (some x)))))
              refine V_vret F dJ46_siftDownComparable_99 (by first | exact Nat.le_of_ble_eq_true rfl | omega) (by first | exact Nat.le_of_ble_eq_true rfl | omega) ⟨rfl, upo f k x, _, pa, fun i hi => ?_, hP, (hF.put (x := qA G cap ((upq g k (some x)))) har ⟨rfl, rfl⟩ rfl (Or.inl rfl))⟩
              by_cases e : i = k
              · rw [e, upq_s, upo_s]
              · rw [upq_n e, upo_n e]; exact hg i hi e
  refine V_aload_n (i := 1) F dJ46_siftDownComparable_0 rfl rfl ?_
  refine V_ck F dJ46_siftDownComparable_1 q1532 (hq x hxE).2.1 (hq x hxE).2.2.1 ?_
  refine V_astore (i := 4) F dJ46_siftDownComparable_4 (Nat.le_of_ble_eq_true rfl) (Nat.le_of_ble_eq_true rfl) ?_
  refine V_iload_n (i := 3) F dJ46_siftDownComparable_6 rfl rfl ?_
  refine V_iconst (v := nI 1) F dJ46_siftDownComparable_7 rfl ?_
  refine V_iushr (v := nI (n / 2)) F dJ46_siftDownComparable_8 (nI_ushr1 (by omega)) ?_
  refine V_istore (i := 5) F dJ46_siftDownComparable_9 (Nat.le_of_ble_eq_true rfl) (Nat.le_of_ble_eq_true rfl) ?_
  refine VV.weak (L' := [some (.int (nI (k0))), none, some (.ref (ar)), some (.int (nI (n))), some (.ref (x)), some (.int (nI (n / 2))), none, none, none]) (LW.c1 (LW.c0 (LW.c1 (LW.c1 (LW.c1 (LW.c1 (LW.c0 (LW.c0 (LW.c0 LW.nil))))))))) ?_
  exact loop (n + 1) k0 f0 g0 h (by omega) hk0 har0 hg0 (List.Perm.refl _) Fr.rf
