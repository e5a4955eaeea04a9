set_option maxRecDepth 100000
theorem upd_rP {β : Nat → Nat} {k v : Nat} : upd (fun i => rP (β i)) k (rP v) = fun i => rP (up β k v i) := by
  funext i; unfold upd up; split <;> rfl
theorem V_iastP {G : GG} {X : CX} {cc : ByteArray} {nL : Nat} {own : String} {ret : Option FieldType} {d MC MS : Nat} {Q : State → Prop} {h : AH} {kc n : Nat} {L : LV} {st : List Value} {pc a N j v : Nat} {β : Nat → Nat} (F : Fx G X cc nL own ret d MC MS) (hd : decode cc pc = .ok (.iastore, 1)) (he : h a = some (iA G N (fun i => rP (β i)))) (hj : j < N) (hN : N < 2 ^ 31) (kk : VV G X nL Q (hset h a (iA G N (fun i => rP ((up β j v) i)))) kc n L st (pc + 1)) : VV G X nL Q h kc n L (.int (rP v) :: .int (nI j) :: .ref a :: st) pc := V_iastN F 0 hd rfl he hj hN (by rw [upd_rP]; exact kk)
theorem sm_b : ∀ b : Fin 12, ((nI b.1 &&& 31).toBitVec.smod 32).toNat = b.1 := by decide
theorem sh_l {b : Nat} (hb : b < 12) : nI 1 <<< (nI b &&& 31) = nI (2 ^ b) := by
  have h2 : 2 ^ b ≤ 2 ^ 12 := Nat.pow_le_pow_right (by decide) (by omega)
  have := pk_shlN (n := 1) (nI b &&& 31) b (sm_b ⟨b, hb⟩) (by rw [Nat.one_mul]; omega)
  rw [this, Nat.one_mul]
theorem sh_r {u b : Nat} (hb : b < 12) (hu : u < 2 ^ 31) : nI u >>> (nI b &&& 31) = nI (u / 2 ^ b) := pk_shrN hu (nI b &&& 31) b (sm_b ⟨b, hb⟩)
theorem an_1 {u : Nat} (hu : u < 2 ^ 31) : nI u &&& nI 1 = nI (u % 2) := pk_andN (Nat.lt_trans hu (by decide)) 1 rfl
theorem nI_or {u v : Nat} : nI u ||| nI v = nI (u ||| v) := by
  apply Int32.toBitVec_inj.mp
  rw [Int32.toBitVec_or]
  apply BitVec.eq_of_toNat_eq
  rw [BitVec.toNat_or]
  show BitVec.toNat (BitVec.ofNat 32 u) ||| BitVec.toNat (BitVec.ofNat 32 v) = BitVec.toNat (BitVec.ofNat 32 (u ||| v))
  rw [BitVec.toNat_ofNat, BitVec.toNat_ofNat, BitVec.toNat_ofNat]
  exact (Nat.or_mod_two_pow ..).symm

theorem ct_suitcaseByReadyN {G : GG} {l : Launch} {h : AH} {m : Nat} {fs : List Value} {aG : Nat} {g : Nat → Nat} {p : Int32} (hm : h m = some (.inr (0, fs))) (h_g : fs[0]? = some (.ref aG)) (hg : h aG = some (iA G 304 (fun i => nI (g i)))) (hlen : fs.length = 25) (hI : GW g) (hfo : fdP (fun i => nI (rkG g i (g 2)) = p) (g 2) = none) : Ct G l yX4_suitcaseByReady cX4_suitcaseByReady 5 (some .int) 1 0 0 [.ref m, .int p] h (PR (.int (nI 0)) (hset h m (.inr (0, fs.set 7 (.int (nI 1)))))) := by
  refine Ct.of (by decide) (Nat.le_of_ble_eq_true rfl) (cat1 rfl) (fun X hXl F HN => ?_)
  subst hXl
  obtain ⟨hB, hn0, hn1, hn2, hn3, hst, hpl⟩ := hI
  refine V_iconst (v := nI 0) F dX4_suitcaseByReady_0 rfl ?_
  refine V_istore_n (i := 2) F dX4_suitcaseByReady_1 rfl (Nat.le_of_ble_eq_true rfl) (Nat.le_of_ble_eq_true rfl) ?_
  have loop_2 : ∀ (nn : Nat) (j : Nat), g 2 < j + nn → j ≤ g 2 → (∀ i, i < j → ¬ nI (rkG g i (g 2)) = p) → VV G X 5 (EQ G X 0 0 (PR (.int (nI 0)) (hset h m (.inr (0, fs.set 7 (.int (nI 1))))))) h 0 0 [some (.ref (m)), some (.int (p)), some (.int (nI (j))), none, none] [] 2 := by
    intro nn
    induction nn with
    | zero => intro j hn hj hbf; exact absurd hn (by omega)
    | succ nn ih_2 =>
      intro j hn hj hbf
      refine V_iload_n (i := 2) F dX4_suitcaseByReady_2 rfl rfl ?_
      refine V_aload_n (i := 0) F dX4_suitcaseByReady_3 rfl rfl ?_
      refine V_getf F dX4_suitcaseByReady_4 fc_X4_7_X4 (.inl hm) h_g ?_
      refine V_iconst (v := nI 2) F dX4_suitcaseByReady_7 rfl ?_
      refine V_ialdG F dX4_suitcaseByReady_8 (.inl hg) (by omega) (by decide) rfl ?_
      refine V_icmp_geN (tgt := 106) F dX4_suitcaseByReady_9 (by decide) (by omega) hB.lt (fun c_9 => ?_) (fun c_9 => ?_)
      · refine V_aload_n (i := 0) F dX4_suitcaseByReady_106 rfl rfl ?_
        refine V_iconst (v := nI 1) F dX4_suitcaseByReady_107 rfl ?_
        refine V_putf F dX4_suitcaseByReady_108 fp_X4_54_X4 hm rfl rfl (lenk hlen (by decide)) ?_
        refine V_iconst (v := nI 0) F dX4_suitcaseByReady_111 rfl ?_
        exact V_iret F dX4_suitcaseByReady_112 rfl (Nat.le_of_ble_eq_true rfl) (Nat.le_of_ble_eq_true rfl) ⟨rfl, rfl⟩
      · refine V_iconst (v := nI 0) F dX4_suitcaseByReady_12 rfl ?_
        refine V_istore_n (i := 3) F dX4_suitcaseByReady_13 rfl (Nat.le_of_ble_eq_true rfl) (Nat.le_of_ble_eq_true rfl) ?_
        refine V_iconst (v := nI 0) F dX4_suitcaseByReady_14 rfl ?_
        refine V_istore (i := 4) F dX4_suitcaseByReady_15 (Nat.le_of_ble_eq_true rfl) (Nat.le_of_ble_eq_true rfl) ?_
        have loop_17 : ∀ (nn : Nat) (o : Nat), g 2 < o + nn → o ≤ g 2 → VV G X 5 (EQ G X 0 0 (PR (.int (nI 0)) (hset h m (.inr (0, fs.set 7 (.int (nI 1))))))) h 0 0 [some (.ref (m)), some (.int (p)), some (.int (nI (j))), some (.int (nI (rkG g j (o)))), some (.int (nI (o)))] [] 17 := by
          intro nn
          induction nn with
          | zero => intro o hn9 ho; exact absurd hn9 (by omega)
          | succ nn ih_17 =>
            intro o hn9 ho
            refine V_iload (i := 4) F dX4_suitcaseByReady_17 rfl ?_
            refine V_aload_n (i := 0) F dX4_suitcaseByReady_19 rfl rfl ?_
            refine V_getf F dX4_suitcaseByReady_20 fc_X4_7_X4 (.inl hm) h_g ?_
            refine V_iconst (v := nI 2) F dX4_suitcaseByReady_23 rfl ?_
            refine V_ialdG F dX4_suitcaseByReady_24 (.inl hg) (by omega) (by decide) rfl ?_
            refine V_icmp_geN (tgt := 80) F dX4_suitcaseByReady_25 (by decide) (by omega) hB.lt (fun c_25 => ?_) (fun c_25 => ?_)
            · obtain rfl : o = g 2 := by omega
              refine V_iload_n (i := 3) F dX4_suitcaseByReady_80 rfl rfl ?_
              refine V_iload_n (i := 1) F dX4_suitcaseByReady_81 rfl rfl ?_
              refine V_icmp_eq (tgt := 88) F dX4_suitcaseByReady_82 (by decide) (fun c_82 => ?_) (fun c_82 => ?_)
              · refine V_aload_n (i := 0) F dX4_suitcaseByReady_88 rfl rfl ?_
                refine V_iconst (v := nI 0) F dX4_suitcaseByReady_89 rfl ?_
                refine V_putf F dX4_suitcaseByReady_90 fp_X4_54_X4 hm rfl rfl (lenk hlen (by decide)) ?_
                refine V_aload_n (i := 0) F dX4_suitcaseByReady_93 rfl rfl ?_
                refine V_iload_n (i := 2) F dX4_suitcaseByReady_94 rfl rfl ?_
                refine V_iconst (v := nI 0) F dX4_suitcaseByReady_95 rfl ?_
                refine V_cV2r F dX4_suitcaseByReady_96 lk_X4_141 (ct_the hset_self (gset h_g (by decide)) ((hset_ne (ne_ao hg hm)).trans hg) (by omega)) ⟨0, _, _, _, rfl, (.inl hset_self)⟩ (Nat.le_of_ble_eq_true rfl) (Nat.le_of_ble_eq_true rfl) (Nat.le_of_ble_eq_true rfl) (Nat.le_of_ble_eq_true rfl) (Nat.le_of_ble_eq_true rfl) ?_
                exact absurd ((fdP_some (by omega) c_82 hbf).symm.trans hfo) (by simp)
              · refine V_goto (tgt := 100) F dX4_suitcaseByReady_85 (by decide) ?_
                refine V_iinc (i := 2) (v := nI (j + 1)) F dX4_suitcaseByReady_100 rfl (nI_add (j) 1) (Nat.le_of_ble_eq_true rfl) ?_
                refine V_goto (tgt := 2) F dX4_suitcaseByReady_103 (by decide) ?_
                refine VV.weak (L' := [some (.ref (m)), some (.int (p)), some (.int (nI (j + 1))), none, none]) (LW.c1 (LW.c1 (LW.c1 (LW.c0 (LW.c0 LW.nil))))) ?_
                exact ih_2 (j + 1) (by omega) (by omega) (fun i hi => by rcases Nat.lt_succ_iff_lt_or_eq.mp hi with q | q; exact hbf i q; rw [q]; exact c_82)
            · refine V_iload_n (i := 3) F dX4_suitcaseByReady_28 rfl rfl ?_
              refine V_aload_n (i := 0) F dX4_suitcaseByReady_29 rfl rfl ?_
              refine V_iload (i := 4) F dX4_suitcaseByReady_30 rfl ?_
              refine V_iconst (v := nI 3) F dX4_suitcaseByReady_32 rfl ?_
              refine V_cV2r F dX4_suitcaseByReady_33 lk_X4_141 (ct_the hm h_g hg (by omega)) ⟨0, _, _, _, rfl, (.inl hm)⟩ (Nat.le_of_ble_eq_true rfl) (Nat.le_of_ble_eq_true rfl) (Nat.le_of_ble_eq_true rfl) (Nat.le_of_ble_eq_true rfl) (Nat.le_of_ble_eq_true rfl) ?_
              refine V_aload_n (i := 0) F dX4_suitcaseByReady_36 rfl rfl ?_
              refine V_iload_n (i := 2) F dX4_suitcaseByReady_37 rfl rfl ?_
              refine V_iconst (v := nI 3) F dX4_suitcaseByReady_38 rfl ?_
              refine V_cV2r F dX4_suitcaseByReady_39 lk_X4_141 (ct_the hm h_g hg (by omega)) ⟨0, _, _, _, rfl, (.inl hm)⟩ (Nat.le_of_ble_eq_true rfl) (Nat.le_of_ble_eq_true rfl) (Nat.le_of_ble_eq_true rfl) (Nat.le_of_ble_eq_true rfl) (Nat.le_of_ble_eq_true rfl) ?_
              refine V_icmp_ltN (tgt := 67) F dX4_suitcaseByReady_42 (by decide) hB.lt hB.lt (fun c_42 => ?_) (fun c_42 => ?_)
              · have hcc : rkC g j o = 1 := if_pos (Or.inl c_42)
                refine V_iconst (v := nI 1) F dX4_suitcaseByReady_67 rfl ?_
                refine V_goto (tgt := 72) F dX4_suitcaseByReady_68 (by decide) ?_
                refine VV.stk (st' := [.int (nI (rkC g j o)), .int (nI (rkG g j o))]) (by rw [hcc]) ?_
                refine V_iaddN F dX4_suitcaseByReady_72 ?_
                refine V_istore_n (i := 3) F dX4_suitcaseByReady_73 rfl (Nat.le_of_ble_eq_true rfl) (Nat.le_of_ble_eq_true rfl) ?_
                refine V_iinc (i := 4) (v := nI (o + 1)) F dX4_suitcaseByReady_74 rfl (nI_add (o) 1) (Nat.le_of_ble_eq_true rfl) ?_
                refine V_goto (tgt := 17) F dX4_suitcaseByReady_77 (by decide) ?_
                refine VV.weak (L' := [some (.ref (m)), some (.int (p)), some (.int (nI (j))), some (.int (nI (rkG g j (o + 1)))), some (.int (nI (o + 1)))]) (LW.c1 (LW.c1 (LW.c1 (LW.c1 (LW.c1 LW.nil))))) ?_
                exact ih_17 (o + 1) (by omega) (by omega)
              · refine V_aload_n (i := 0) F dX4_suitcaseByReady_45 rfl rfl ?_
                refine V_iload (i := 4) F dX4_suitcaseByReady_46 rfl ?_
                refine V_iconst (v := nI 3) F dX4_suitcaseByReady_48 rfl ?_
                refine V_cV2r F dX4_suitcaseByReady_49 lk_X4_141 (ct_the hm h_g hg (by omega)) ⟨0, _, _, _, rfl, (.inl hm)⟩ (Nat.le_of_ble_eq_true rfl) (Nat.le_of_ble_eq_true rfl) (Nat.le_of_ble_eq_true rfl) (Nat.le_of_ble_eq_true rfl) (Nat.le_of_ble_eq_true rfl) ?_
                refine V_aload_n (i := 0) F dX4_suitcaseByReady_52 rfl rfl ?_
                refine V_iload_n (i := 2) F dX4_suitcaseByReady_53 rfl rfl ?_
                refine V_iconst (v := nI 3) F dX4_suitcaseByReady_54 rfl ?_
                refine V_cV2r F dX4_suitcaseByReady_55 lk_X4_141 (ct_the hm h_g hg (by omega)) ⟨0, _, _, _, rfl, (.inl hm)⟩ (Nat.le_of_ble_eq_true rfl) (Nat.le_of_ble_eq_true rfl) (Nat.le_of_ble_eq_true rfl) (Nat.le_of_ble_eq_true rfl) (Nat.le_of_ble_eq_true rfl) ?_
                refine V_icmp_neN (tgt := 71) F dX4_suitcaseByReady_58 (by decide) hB.lt hB.lt (fun c_58 => ?_) (fun c_58 => ?_)
                · have hcc : rkC g j o = 0 := if_neg (fun z => by rcases z with z | z; omega; exact c_58 z.1)
                  refine V_iconst (v := nI 0) F dX4_suitcaseByReady_71 rfl ?_
                  refine VV.stk (st' := [.int (nI (rkC g j o)), .int (nI (rkG g j o))]) (by rw [hcc]) ?_
                  refine V_iaddN F dX4_suitcaseByReady_72 ?_
                  refine V_istore_n (i := 3) F dX4_suitcaseByReady_73 rfl (Nat.le_of_ble_eq_true rfl) (Nat.le_of_ble_eq_true rfl) ?_
                  refine V_iinc (i := 4) (v := nI (o + 1)) F dX4_suitcaseByReady_74 rfl (nI_add (o) 1) (Nat.le_of_ble_eq_true rfl) ?_
                  refine V_goto (tgt := 17) F dX4_suitcaseByReady_77 (by decide) ?_
                  refine VV.weak (L' := [some (.ref (m)), some (.int (p)), some (.int (nI (j))), some (.int (nI (rkG g j (o + 1)))), some (.int (nI (o + 1)))]) (LW.c1 (LW.c1 (LW.c1 (LW.c1 (LW.c1 LW.nil))))) ?_
                  exact ih_17 (o + 1) (by omega) (by omega)
                · refine V_iload (i := 4) F dX4_suitcaseByReady_61 rfl ?_
                  refine V_iload_n (i := 2) F dX4_suitcaseByReady_63 rfl rfl ?_
                  refine V_icmp_geN (tgt := 71) F dX4_suitcaseByReady_64 (by decide) (by omega) (by omega) (fun c_64 => ?_) (fun c_64 => ?_)
                  · have hcc : rkC g j o = 0 := if_neg (fun z => by omega)
                    refine V_iconst (v := nI 0) F dX4_suitcaseByReady_71 rfl ?_
                    refine VV.stk (st' := [.int (nI (rkC g j o)), .int (nI (rkG g j o))]) (by rw [hcc]) ?_
                    refine V_iaddN F dX4_suitcaseByReady_72 ?_
                    refine V_istore_n (i := 3) F dX4_suitcaseByReady_73 rfl (Nat.le_of_ble_eq_true rfl) (Nat.le_of_ble_eq_true rfl) ?_
                    refine V_iinc (i := 4) (v := nI (o + 1)) F dX4_suitcaseByReady_74 rfl (nI_add (o) 1) (Nat.le_of_ble_eq_true rfl) ?_
                    refine V_goto (tgt := 17) F dX4_suitcaseByReady_77 (by decide) ?_
                    refine VV.weak (L' := [some (.ref (m)), some (.int (p)), some (.int (nI (j))), some (.int (nI (rkG g j (o + 1)))), some (.int (nI (o + 1)))]) (LW.c1 (LW.c1 (LW.c1 (LW.c1 (LW.c1 LW.nil))))) ?_
                    exact ih_17 (o + 1) (by omega) (by omega)
                  · have hcc : rkC g j o = 1 := if_pos (Or.inr ⟨c_58, by omega⟩)
                    refine V_iconst (v := nI 1) F dX4_suitcaseByReady_67 rfl ?_
                    refine V_goto (tgt := 72) F dX4_suitcaseByReady_68 (by decide) ?_
                    refine VV.stk (st' := [.int (nI (rkC g j o)), .int (nI (rkG g j o))]) (by rw [hcc]) ?_
                    refine V_iaddN F dX4_suitcaseByReady_72 ?_
                    refine V_istore_n (i := 3) F dX4_suitcaseByReady_73 rfl (Nat.le_of_ble_eq_true rfl) (Nat.le_of_ble_eq_true rfl) ?_
                    refine V_iinc (i := 4) (v := nI (o + 1)) F dX4_suitcaseByReady_74 rfl (nI_add (o) 1) (Nat.le_of_ble_eq_true rfl) ?_
                    refine V_goto (tgt := 17) F dX4_suitcaseByReady_77 (by decide) ?_
                    refine VV.weak (L' := [some (.ref (m)), some (.int (p)), some (.int (nI (j))), some (.int (nI (rkG g j (o + 1)))), some (.int (nI (o + 1)))]) (LW.c1 (LW.c1 (LW.c1 (LW.c1 (LW.c1 LW.nil))))) ?_
                    exact ih_17 (o + 1) (by omega) (by omega)
        refine VV.weak (L' := [some (.ref (m)), some (.int (p)), some (.int (nI (j))), some (.int (nI (0))), some (.int (nI (0)))]) (LW.c1 (LW.c1 (LW.c1 (LW.c1 (LW.c1 LW.nil))))) ?_
        exact loop_17 (g 2 + 1) 0 (by omega) (by omega)
  refine VV.weak (L' := [some (.ref (m)), some (.int (p)), some (.int (nI (0))), none, none]) (LW.c1 (LW.c1 (LW.c1 (LW.c0 (LW.c0 LW.nil))))) ?_
  exact loop_2 (g 2 + 1) 0 (by omega) (by omega) (fun i hi => absurd hi (Nat.not_lt_zero i))
theorem ct_suitcaseByReadyS {G : GG} {l : Launch} {h : AH} {m : Nat} {fs : List Value} {aG : Nat} {g : Nat → Nat} {p : Int32} {k : Nat} (hm : h m = some (.inr (0, fs))) (h_g : fs[0]? = some (.ref aG)) (hg : h aG = some (iA G 304 (fun i => nI (g i)))) (hlen : fs.length = 25) (hI : GW g) (hfo : fdP (fun i => nI (rkG g i (g 2)) = p) (g 2) = some k) : Ct G l yX4_suitcaseByReady cX4_suitcaseByReady 5 (some .int) 1 0 0 [.ref m, .int p] h (PR (.int (nI (g (232 + 4 * k + 0)))) (hset h m (.inr (0, fs.set 7 (.int (nI 0)))))) := by
  refine Ct.of (by decide) (Nat.le_of_ble_eq_true rfl) (cat1 rfl) (fun X hXl F HN => ?_)
  subst hXl
  obtain ⟨hB, hn0, hn1, hn2, hn3, hst, hpl⟩ := hI
  refine V_iconst (v := nI 0) F dX4_suitcaseByReady_0 rfl ?_
  refine V_istore_n (i := 2) F dX4_suitcaseByReady_1 rfl (Nat.le_of_ble_eq_true rfl) (Nat.le_of_ble_eq_true rfl) ?_
  have loop_2 : ∀ (nn : Nat) (j : Nat), g 2 < j + nn → j ≤ g 2 → (∀ i, i < j → ¬ nI (rkG g i (g 2)) = p) → VV G X 5 (EQ G X 0 0 (PR (.int (nI (g (232 + 4 * k + 0)))) (hset h m (.inr (0, fs.set 7 (.int (nI 0))))))) h 0 0 [some (.ref (m)), some (.int (p)), some (.int (nI (j))), none, none] [] 2 := by
    intro nn
    induction nn with
    | zero => intro j hn hj hbf; exact absurd hn (by omega)
    | succ nn ih_2 =>
      intro j hn hj hbf
      refine V_iload_n (i := 2) F dX4_suitcaseByReady_2 rfl rfl ?_
      refine V_aload_n (i := 0) F dX4_suitcaseByReady_3 rfl rfl ?_
      refine V_getf F dX4_suitcaseByReady_4 fc_X4_7_X4 (.inl hm) h_g ?_
      refine V_iconst (v := nI 2) F dX4_suitcaseByReady_7 rfl ?_
      refine V_ialdG F dX4_suitcaseByReady_8 (.inl hg) (by omega) (by decide) rfl ?_
      refine V_icmp_geN (tgt := 106) F dX4_suitcaseByReady_9 (by decide) (by omega) hB.lt (fun c_9 => ?_) (fun c_9 => ?_)
      · refine V_aload_n (i := 0) F dX4_suitcaseByReady_106 rfl rfl ?_
        refine V_iconst (v := nI 1) F dX4_suitcaseByReady_107 rfl ?_
        refine V_putf F dX4_suitcaseByReady_108 fp_X4_54_X4 hm rfl rfl (lenk hlen (by decide)) ?_
        refine V_iconst (v := nI 0) F dX4_suitcaseByReady_111 rfl ?_
        exact absurd ((fdP_none (fun i hi => hbf i (by omega))).symm.trans hfo) (by simp)
      · refine V_iconst (v := nI 0) F dX4_suitcaseByReady_12 rfl ?_
        refine V_istore_n (i := 3) F dX4_suitcaseByReady_13 rfl (Nat.le_of_ble_eq_true rfl) (Nat.le_of_ble_eq_true rfl) ?_
        refine V_iconst (v := nI 0) F dX4_suitcaseByReady_14 rfl ?_
        refine V_istore (i := 4) F dX4_suitcaseByReady_15 (Nat.le_of_ble_eq_true rfl) (Nat.le_of_ble_eq_true rfl) ?_
        have loop_17 : ∀ (nn : Nat) (o : Nat), g 2 < o + nn → o ≤ g 2 → VV G X 5 (EQ G X 0 0 (PR (.int (nI (g (232 + 4 * k + 0)))) (hset h m (.inr (0, fs.set 7 (.int (nI 0))))))) h 0 0 [some (.ref (m)), some (.int (p)), some (.int (nI (j))), some (.int (nI (rkG g j (o)))), some (.int (nI (o)))] [] 17 := by
          intro nn
          induction nn with
          | zero => intro o hn9 ho; exact absurd hn9 (by omega)
          | succ nn ih_17 =>
            intro o hn9 ho
            refine V_iload (i := 4) F dX4_suitcaseByReady_17 rfl ?_
            refine V_aload_n (i := 0) F dX4_suitcaseByReady_19 rfl rfl ?_
            refine V_getf F dX4_suitcaseByReady_20 fc_X4_7_X4 (.inl hm) h_g ?_
            refine V_iconst (v := nI 2) F dX4_suitcaseByReady_23 rfl ?_
            refine V_ialdG F dX4_suitcaseByReady_24 (.inl hg) (by omega) (by decide) rfl ?_
            refine V_icmp_geN (tgt := 80) F dX4_suitcaseByReady_25 (by decide) (by omega) hB.lt (fun c_25 => ?_) (fun c_25 => ?_)
            · obtain rfl : o = g 2 := by omega
              refine V_iload_n (i := 3) F dX4_suitcaseByReady_80 rfl rfl ?_
              refine V_iload_n (i := 1) F dX4_suitcaseByReady_81 rfl rfl ?_
              refine V_icmp_eq (tgt := 88) F dX4_suitcaseByReady_82 (by decide) (fun c_82 => ?_) (fun c_82 => ?_)
              · refine V_aload_n (i := 0) F dX4_suitcaseByReady_88 rfl rfl ?_
                refine V_iconst (v := nI 0) F dX4_suitcaseByReady_89 rfl ?_
                refine V_putf F dX4_suitcaseByReady_90 fp_X4_54_X4 hm rfl rfl (lenk hlen (by decide)) ?_
                refine V_aload_n (i := 0) F dX4_suitcaseByReady_93 rfl rfl ?_
                refine V_iload_n (i := 2) F dX4_suitcaseByReady_94 rfl rfl ?_
                refine V_iconst (v := nI 0) F dX4_suitcaseByReady_95 rfl ?_
                refine V_cV2r F dX4_suitcaseByReady_96 lk_X4_141 (ct_the hset_self (gset h_g (by decide)) ((hset_ne (ne_ao hg hm)).trans hg) (by omega)) ⟨0, _, _, _, rfl, (.inl hset_self)⟩ (Nat.le_of_ble_eq_true rfl) (Nat.le_of_ble_eq_true rfl) (Nat.le_of_ble_eq_true rfl) (Nat.le_of_ble_eq_true rfl) (Nat.le_of_ble_eq_true rfl) ?_
                obtain rfl := Option.some.inj ((fdP_some (by omega) c_82 hbf).symm.trans hfo)
                exact V_iret F dX4_suitcaseByReady_99 rfl (Nat.le_of_ble_eq_true rfl) (Nat.le_of_ble_eq_true rfl) ⟨rfl, rfl⟩
              · refine V_goto (tgt := 100) F dX4_suitcaseByReady_85 (by decide) ?_
                refine V_iinc (i := 2) (v := nI (j + 1)) F dX4_suitcaseByReady_100 rfl (nI_add (j) 1) (Nat.le_of_ble_eq_true rfl) ?_
                refine V_goto (tgt := 2) F dX4_suitcaseByReady_103 (by decide) ?_
                refine VV.weak (L' := [some (.ref (m)), some (.int (p)), some (.int (nI (j + 1))), none, none]) (LW.c1 (LW.c1 (LW.c1 (LW.c0 (LW.c0 LW.nil))))) ?_
                exact ih_2 (j + 1) (by omega) (by omega) (fun i hi => by rcases Nat.lt_succ_iff_lt_or_eq.mp hi with q | q; exact hbf i q; rw [q]; exact c_82)
            · refine V_iload_n (i := 3) F dX4_suitcaseByReady_28 rfl rfl ?_
              refine V_aload_n (i := 0) F dX4_suitcaseByReady_29 rfl rfl ?_
              refine V_iload (i := 4) F dX4_suitcaseByReady_30 rfl ?_
              refine V_iconst (v := nI 3) F dX4_suitcaseByReady_32 rfl ?_
              refine V_cV2r F dX4_suitcaseByReady_33 lk_X4_141 (ct_the hm h_g hg (by omega)) ⟨0, _, _, _, rfl, (.inl hm)⟩ (Nat.le_of_ble_eq_true rfl) (Nat.le_of_ble_eq_true rfl) (Nat.le_of_ble_eq_true rfl) (Nat.le_of_ble_eq_true rfl) (Nat.le_of_ble_eq_true rfl) ?_
              refine V_aload_n (i := 0) F dX4_suitcaseByReady_36 rfl rfl ?_
              refine V_iload_n (i := 2) F dX4_suitcaseByReady_37 rfl rfl ?_
              refine V_iconst (v := nI 3) F dX4_suitcaseByReady_38 rfl ?_
              refine V_cV2r F dX4_suitcaseByReady_39 lk_X4_141 (ct_the hm h_g hg (by omega)) ⟨0, _, _, _, rfl, (.inl hm)⟩ (Nat.le_of_ble_eq_true rfl) (Nat.le_of_ble_eq_true rfl) (Nat.le_of_ble_eq_true rfl) (Nat.le_of_ble_eq_true rfl) (Nat.le_of_ble_eq_true rfl) ?_
              refine V_icmp_ltN (tgt := 67) F dX4_suitcaseByReady_42 (by decide) hB.lt hB.lt (fun c_42 => ?_) (fun c_42 => ?_)
              · have hcc : rkC g j o = 1 := if_pos (Or.inl c_42)
                refine V_iconst (v := nI 1) F dX4_suitcaseByReady_67 rfl ?_
                refine V_goto (tgt := 72) F dX4_suitcaseByReady_68 (by decide) ?_
                refine VV.stk (st' := [.int (nI (rkC g j o)), .int (nI (rkG g j o))]) (by rw [hcc]) ?_
                refine V_iaddN F dX4_suitcaseByReady_72 ?_
                refine V_istore_n (i := 3) F dX4_suitcaseByReady_73 rfl (Nat.le_of_ble_eq_true rfl) (Nat.le_of_ble_eq_true rfl) ?_
                refine V_iinc (i := 4) (v := nI (o + 1)) F dX4_suitcaseByReady_74 rfl (nI_add (o) 1) (Nat.le_of_ble_eq_true rfl) ?_
                refine V_goto (tgt := 17) F dX4_suitcaseByReady_77 (by decide) ?_
                refine VV.weak (L' := [some (.ref (m)), some (.int (p)), some (.int (nI (j))), some (.int (nI (rkG g j (o + 1)))), some (.int (nI (o + 1)))]) (LW.c1 (LW.c1 (LW.c1 (LW.c1 (LW.c1 LW.nil))))) ?_
                exact ih_17 (o + 1) (by omega) (by omega)
              · refine V_aload_n (i := 0) F dX4_suitcaseByReady_45 rfl rfl ?_
                refine V_iload (i := 4) F dX4_suitcaseByReady_46 rfl ?_
                refine V_iconst (v := nI 3) F dX4_suitcaseByReady_48 rfl ?_
                refine V_cV2r F dX4_suitcaseByReady_49 lk_X4_141 (ct_the hm h_g hg (by omega)) ⟨0, _, _, _, rfl, (.inl hm)⟩ (Nat.le_of_ble_eq_true rfl) (Nat.le_of_ble_eq_true rfl) (Nat.le_of_ble_eq_true rfl) (Nat.le_of_ble_eq_true rfl) (Nat.le_of_ble_eq_true rfl) ?_
                refine V_aload_n (i := 0) F dX4_suitcaseByReady_52 rfl rfl ?_
                refine V_iload_n (i := 2) F dX4_suitcaseByReady_53 rfl rfl ?_
                refine V_iconst (v := nI 3) F dX4_suitcaseByReady_54 rfl ?_
                refine V_cV2r F dX4_suitcaseByReady_55 lk_X4_141 (ct_the hm h_g hg (by omega)) ⟨0, _, _, _, rfl, (.inl hm)⟩ (Nat.le_of_ble_eq_true rfl) (Nat.le_of_ble_eq_true rfl) (Nat.le_of_ble_eq_true rfl) (Nat.le_of_ble_eq_true rfl) (Nat.le_of_ble_eq_true rfl) ?_
                refine V_icmp_neN (tgt := 71) F dX4_suitcaseByReady_58 (by decide) hB.lt hB.lt (fun c_58 => ?_) (fun c_58 => ?_)
                · have hcc : rkC g j o = 0 := if_neg (fun z => by rcases z with z | z; omega; exact c_58 z.1)
                  refine V_iconst (v := nI 0) F dX4_suitcaseByReady_71 rfl ?_
                  refine VV.stk (st' := [.int (nI (rkC g j o)), .int (nI (rkG g j o))]) (by rw [hcc]) ?_
                  refine V_iaddN F dX4_suitcaseByReady_72 ?_
                  refine V_istore_n (i := 3) F dX4_suitcaseByReady_73 rfl (Nat.le_of_ble_eq_true rfl) (Nat.le_of_ble_eq_true rfl) ?_
                  refine V_iinc (i := 4) (v := nI (o + 1)) F dX4_suitcaseByReady_74 rfl (nI_add (o) 1) (Nat.le_of_ble_eq_true rfl) ?_
                  refine V_goto (tgt := 17) F dX4_suitcaseByReady_77 (by decide) ?_
                  refine VV.weak (L' := [some (.ref (m)), some (.int (p)), some (.int (nI (j))), some (.int (nI (rkG g j (o + 1)))), some (.int (nI (o + 1)))]) (LW.c1 (LW.c1 (LW.c1 (LW.c1 (LW.c1 LW.nil))))) ?_
                  exact ih_17 (o + 1) (by omega) (by omega)
                · refine V_iload (i := 4) F dX4_suitcaseByReady_61 rfl ?_
                  refine V_iload_n (i := 2) F dX4_suitcaseByReady_63 rfl rfl ?_
                  refine V_icmp_geN (tgt := 71) F dX4_suitcaseByReady_64 (by decide) (by omega) (by omega) (fun c_64 => ?_) (fun c_64 => ?_)
                  · have hcc : rkC g j o = 0 := if_neg (fun z => by omega)
                    refine V_iconst (v := nI 0) F dX4_suitcaseByReady_71 rfl ?_
                    refine VV.stk (st' := [.int (nI (rkC g j o)), .int (nI (rkG g j o))]) (by rw [hcc]) ?_
                    refine V_iaddN F dX4_suitcaseByReady_72 ?_
                    refine V_istore_n (i := 3) F dX4_suitcaseByReady_73 rfl (Nat.le_of_ble_eq_true rfl) (Nat.le_of_ble_eq_true rfl) ?_
                    refine V_iinc (i := 4) (v := nI (o + 1)) F dX4_suitcaseByReady_74 rfl (nI_add (o) 1) (Nat.le_of_ble_eq_true rfl) ?_
                    refine V_goto (tgt := 17) F dX4_suitcaseByReady_77 (by decide) ?_
                    refine VV.weak (L' := [some (.ref (m)), some (.int (p)), some (.int (nI (j))), some (.int (nI (rkG g j (o + 1)))), some (.int (nI (o + 1)))]) (LW.c1 (LW.c1 (LW.c1 (LW.c1 (LW.c1 LW.nil))))) ?_
                    exact ih_17 (o + 1) (by omega) (by omega)
                  · have hcc : rkC g j o = 1 := if_pos (Or.inr ⟨c_58, by omega⟩)
                    refine V_iconst (v := nI 1) F dX4_suitcaseByReady_67 rfl ?_
                    refine V_goto (tgt := 72) F dX4_suitcaseByReady_68 (by decide) ?_
                    refine VV.stk (st' := [.int (nI (rkC g j o)), .int (nI (rkG g j o))]) (by rw [hcc]) ?_
                    refine V_iaddN F dX4_suitcaseByReady_72 ?_
                    refine V_istore_n (i := 3) F dX4_suitcaseByReady_73 rfl (Nat.le_of_ble_eq_true rfl) (Nat.le_of_ble_eq_true rfl) ?_
                    refine V_iinc (i := 4) (v := nI (o + 1)) F dX4_suitcaseByReady_74 rfl (nI_add (o) 1) (Nat.le_of_ble_eq_true rfl) ?_
                    refine V_goto (tgt := 17) F dX4_suitcaseByReady_77 (by decide) ?_
                    refine VV.weak (L' := [some (.ref (m)), some (.int (p)), some (.int (nI (j))), some (.int (nI (rkG g j (o + 1)))), some (.int (nI (o + 1)))]) (LW.c1 (LW.c1 (LW.c1 (LW.c1 (LW.c1 LW.nil))))) ?_
                    exact ih_17 (o + 1) (by omega) (by omega)
        refine VV.weak (L' := [some (.ref (m)), some (.int (p)), some (.int (nI (j))), some (.int (nI (0))), some (.int (nI (0)))]) (LW.c1 (LW.c1 (LW.c1 (LW.c1 (LW.c1 LW.nil))))) ?_
        exact loop_17 (g 2 + 1) 0 (by omega) (by omega)
  refine VV.weak (L' := [some (.ref (m)), some (.int (p)), some (.int (nI (0))), none, none]) (LW.c1 (LW.c1 (LW.c1 (LW.c0 (LW.c0 LW.nil))))) ?_
  exact loop_2 (g 2 + 1) 0 (by omega) (by omega) (fun i hi => absurd hi (Nat.not_lt_zero i))
theorem ct_isConsistent {G : GG} {l : Launch} {h : AH} {m : Nat} {fs : List Value} {aG : Nat} {g : Nat → Nat}  (hm : h m = some (.inr (0, fs))) (h_g : fs[0]? = some (.ref aG)) (hg : h aG = some (iA G 304 (fun i => nI (g i)))) (hlen : fs.length = 25) (hI : GW g) (hC : ∀ t, t < g 1 → ∀ k, k < g (16 + 36 * t + 3) - 1 → ldG g t k ≤ g (16 + 36 * t + 0)) : Ct G l yX4_isConsistent cX4_isConsistent 3 (some .boolean) 3 0 0 [.ref m] h (PR (.int (nI 1)) (hset h m (.inr (0, fs.set 7 (.int (nI 0)))))) := by
  refine Ct.of (by decide) (Nat.le_of_ble_eq_true rfl) (cat1 rfl) (fun X hXl F HN => ?_)
  subst hXl
  obtain ⟨hB, hn0, hn1, hn2, hn3, hst, hpl⟩ := hI
  refine V_aload_n (i := 0) F dX4_isConsistent_0 rfl rfl ?_
  refine V_iconst (v := nI 0) F dX4_isConsistent_1 rfl ?_
  refine V_putf F dX4_isConsistent_2 fp_X4_54_X4 hm rfl rfl (lenk hlen (by decide)) ?_
  refine V_iconst (v := nI 0) F dX4_isConsistent_5 rfl ?_
  refine V_istore_n (i := 1) F dX4_isConsistent_6 rfl (Nat.le_of_ble_eq_true rfl) (Nat.le_of_ble_eq_true rfl) ?_
  have loop_7 : ∀ (nn : Nat) (j : Nat), g 1 < j + nn → j ≤ g 1 → VV G X 3 (EQ G X 0 0 (PR (.int (nI 1)) (hset h m (.inr (0, fs.set 7 (.int (nI 0))))))) (hset h (m) (.inr (0, (fs).set 7 (.int (nI (0)))))) 0 0 [some (.ref (m)), some (.int (nI (j))), none] [] 7 := by
    intro nn
    induction nn with
    | zero => intro j hn hj; exact absurd hn (by omega)
    | succ nn ih_7 =>
      intro j hn hj
      refine V_iload_n (i := 1) F dX4_isConsistent_7 rfl rfl ?_
      refine V_aload_n (i := 0) F dX4_isConsistent_8 rfl rfl ?_
      refine V_getf F dX4_isConsistent_9 fc_X4_7_X4 (.inl hset_self) (gset h_g (by decide)) ?_
      refine V_iconst (v := nI 1) F dX4_isConsistent_12 rfl ?_
      refine V_ialdG F dX4_isConsistent_13 (.inl ((hset_ne (ne_ao hg hm)).trans hg)) (by omega) (by decide) rfl ?_
      refine V_icmp_geN (tgt := 60) F dX4_isConsistent_14 (by decide) (by omega) hB.lt (fun c_14 => ?_) (fun c_14 => ?_)
      · refine V_iconst (v := nI 1) F dX4_isConsistent_60 rfl ?_
        exact V_iret F dX4_isConsistent_61 rfl (Nat.le_of_ble_eq_true rfl) (Nat.le_of_ble_eq_true rfl) ⟨rfl, rfl⟩
      · have hsj := hst j (by omega)
        refine V_iconst (v := nI 0) F dX4_isConsistent_17 rfl ?_
        refine V_istore_n (i := 2) F dX4_isConsistent_18 rfl (Nat.le_of_ble_eq_true rfl) (Nat.le_of_ble_eq_true rfl) ?_
        have loop_19 : ∀ (nn : Nat) (q : Nat), g (16 + 36 * j + 3) - 1 < q + nn → q ≤ g (16 + 36 * j + 3) - 1 → VV G X 3 (EQ G X 0 0 (PR (.int (nI 1)) (hset h m (.inr (0, fs.set 7 (.int (nI 0))))))) (hset h (m) (.inr (0, (fs).set 7 (.int (nI (0)))))) 0 0 [some (.ref (m)), some (.int (nI (j))), some (.int (nI (q)))] [] 19 := by
          intro nn
          induction nn with
          | zero => intro q hn2 hq; exact absurd hn2 (by omega)
          | succ nn ih_19 =>
            intro q hn2 hq
            refine V_iload_n (i := 2) F dX4_isConsistent_19 rfl rfl ?_
            refine V_aload_n (i := 0) F dX4_isConsistent_20 rfl rfl ?_
            refine V_iload_n (i := 1) F dX4_isConsistent_21 rfl rfl ?_
            refine V_iconst (v := nI 3) F dX4_isConsistent_22 rfl ?_
            refine V_cV2r F dX4_isConsistent_23 lk_X4_76 (ct_of hset_self (gset h_g (by decide)) ((hset_ne (ne_ao hg hm)).trans hg) (by omega)) ⟨0, _, _, _, rfl, (.inl hset_self)⟩ (Nat.le_of_ble_eq_true rfl) (Nat.le_of_ble_eq_true rfl) (Nat.le_of_ble_eq_true rfl) (Nat.le_of_ble_eq_true rfl) (Nat.le_of_ble_eq_true rfl) ?_
            refine V_iconst (v := nI 1) F dX4_isConsistent_26 rfl ?_
            refine V_isubN F dX4_isConsistent_27 (by omega) ?_
            refine V_icmp_geN (tgt := 54) F dX4_isConsistent_28 (by decide) (by omega) (by omega) (fun c_28 => ?_) (fun c_28 => ?_)
            · refine V_iinc (i := 1) (v := nI (j + 1)) F dX4_isConsistent_54 rfl (nI_add (j) 1) (Nat.le_of_ble_eq_true rfl) ?_
              refine V_goto (tgt := 7) F dX4_isConsistent_57 (by decide) ?_
              refine VV.weak (L' := [some (.ref (m)), some (.int (nI (j + 1))), none]) (LW.c1 (LW.c1 (LW.c0 LW.nil))) ?_
              exact ih_7 (j + 1) (by omega) (by omega)
            · refine V_aload_n (i := 0) F dX4_isConsistent_31 rfl rfl ?_
              refine V_iload_n (i := 1) F dX4_isConsistent_32 rfl rfl ?_
              refine V_iload_n (i := 2) F dX4_isConsistent_33 rfl rfl ?_
              refine V_cV2r F dX4_isConsistent_34 lk_X4_89 (ct_carries hset_self (gset h_g (by decide)) ((hset_ne (ne_ao hg hm)).trans hg) (by omega) (by omega) hn3 hB) ⟨0, _, _, _, rfl, (.inl hset_self)⟩ (Nat.le_of_ble_eq_true rfl) (Nat.le_of_ble_eq_true rfl) (Nat.le_of_ble_eq_true rfl) (Nat.le_of_ble_eq_true rfl) (Nat.le_of_ble_eq_true rfl) ?_
              refine V_aload_n (i := 0) F dX4_isConsistent_37 rfl rfl ?_
              refine V_iload_n (i := 1) F dX4_isConsistent_38 rfl rfl ?_
              refine V_iconst (v := nI 0) F dX4_isConsistent_39 rfl ?_
              refine V_cV2r F dX4_isConsistent_40 lk_X4_76 (ct_of hset_self (gset h_g (by decide)) ((hset_ne (ne_ao hg hm)).trans hg) (by omega)) ⟨0, _, _, _, rfl, (.inl hset_self)⟩ (Nat.le_of_ble_eq_true rfl) (Nat.le_of_ble_eq_true rfl) (Nat.le_of_ble_eq_true rfl) (Nat.le_of_ble_eq_true rfl) (Nat.le_of_ble_eq_true rfl) ?_
              refine V_icmp_leN (tgt := 48) F dX4_isConsistent_43 (by decide) (ldG_31 hn3 hB) hB.lt (fun c_43 => ?_) (fun c_43 => absurd (hC j (by omega) q (by omega)) (Nat.not_le.mpr c_43))
              refine V_iinc (i := 2) (v := nI (q + 1)) F dX4_isConsistent_48 rfl (nI_add (q) 1) (Nat.le_of_ble_eq_true rfl) ?_
              refine V_goto (tgt := 19) F dX4_isConsistent_51 (by decide) ?_
              refine VV.weak (L' := [some (.ref (m)), some (.int (nI (j))), some (.int (nI (q + 1)))]) (LW.c1 (LW.c1 (LW.c1 LW.nil))) ?_
              exact ih_19 (q + 1) (by omega) (by omega)
        refine VV.weak (L' := [some (.ref (m)), some (.int (nI (j))), some (.int (nI (0)))]) (LW.c1 (LW.c1 (LW.c1 LW.nil))) ?_
        exact loop_19 (g (16 + 36 * j + 3) - 1 + 1) 0 (by omega) (by omega)
  refine VV.weak (L' := [some (.ref (m)), some (.int (nI (0))), none]) (LW.c1 (LW.c1 (LW.c0 LW.nil))) ?_
  exact loop_7 (g 1 + 1) 0 (by omega) (by omega)
