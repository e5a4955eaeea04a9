set_option maxRecDepth 100000
theorem V_dconst0 {G : GG} {X : CX} {cc : ByteArray} {nL : Nat} {own : String} {ret : Option FieldType} {d MC MS : Nat} {Q : State → Prop} {h : AH} {kc n : Nat} {L : LV} {st : List Value} {pc : Nat} (F : Fx G X cc nL own ret d MC MS) (hd : decode cc pc = .ok (.dconst 0, 1)) (k : VV G X nL Q h kc n L (.double FP.dconst0 :: st) (pc + 1)) : VV G X nL Q h kc n L st pc := fun H locs ls hS hL hl => lv_dconst0 F.exec F.code hd (k H locs ls hS hL hl)
theorem V_fconst0 {G : GG} {X : CX} {cc : ByteArray} {nL : Nat} {own : String} {ret : Option FieldType} {d MC MS : Nat} {Q : State → Prop} {h : AH} {kc n : Nat} {L : LV} {st : List Value} {pc : Nat} (F : Fx G X cc nL own ret d MC MS) (hd : decode cc pc = .ok (.fconst 0, 1)) (k : VV G X nL Q h kc n L (.float FP.fconst0 :: st) (pc + 1)) : VV G X nL Q h kc n L st pc := fun H locs ls hS hL hl => lv_fconst0 F.exec F.code hd (k H locs ls hS hL hl)
theorem lgG_le {g : Nat → Nat} (hst : ∀ t, t < g 1 → 1 ≤ g (16 + 36 * t + 3) ∧ g (16 + 36 * t + 3) ≤ 8) : ∀ t, t ≤ g 1 → lgG g t ≤ 7 * t
  | 0, _ => Nat.le_refl _
  | t + 1, ht => by
    have := lgG_le hst t (by omega)
    have := hst t (by omega)
    unfold lgG; omega
theorem fuI_le {g : Nat → Nat} {t a : Nat} : ∀ k, fuI g t a k ≤ a + k
  | 0 => Nat.le_refl _
  | k + 1 => by
    have := fuI_le (g := g) (t := t) (a := a) k
    unfold fuI fuC; split <;> omega
theorem fuG_le {g : Nat → Nat} : ∀ t, fuG g t ≤ lgG g t
  | 0 => Nat.le_refl _
  | t + 1 => by
    have := fuG_le (g := g) t
    have := fuI_le (g := g) (t := t) (a := fuG g t) (g (16 + 36 * t + 3) - 1)
    unfold fuG lgG; omega
theorem n64_i2d {a b : Nat} (ha : a ≤ 210) (h0 : 0 < b) (hb : b ≤ 42) : vf_n64 (FP.ddiv (FP.i2d (nI a)) (FP.i2d (nI b))) := by
  obtain ⟨c, rfl⟩ : ∃ c, b = c + 1 := ⟨b - 1, by omega⟩
  exact n64_t ⟨a, by omega⟩ ⟨c, by omega⟩
theorem n32_i2f {a b : Nat} (ha : a ≤ 42) (h0 : 0 < b) (hb : b ≤ 42) : vf_n32 (FP.fdiv (FP.i2f (nI a)) (FP.i2f (nI b))) := by
  obtain ⟨c, rfl⟩ : ∃ c, b = c + 1 := ⟨b - 1, by omega⟩
  exact n32_t ⟨a, by omega⟩ ⟨c, by omega⟩
/-- a number told, or 0 and why not -/
def PY (cd : Nat) (hF : Nat → AH) (v0 vS : Value) (hS : AH) : Option Value → AH → Prop := fun v h' => (cd ≠ 0 → v = some v0 ∧ h' = hF cd) ∧ (cd = 0 → v = some vS ∧ h' = hS)
theorem PY.fail {cd : Nat} {hF : Nat → AH} {v0 vS : Value} {hS h' : AH} (k : Nat) (hc : cd = k) (hk : k ≠ 0) (hh : h' = hF k) : PY cd hF v0 vS hS (some v0) h' := ⟨fun _ => ⟨rfl, by rw [hc]; exact hh⟩, fun q => absurd (hc.symm.trans q) hk⟩
theorem PY.ok {cd : Nat} {hF : Nat → AH} {v v0 vS : Value} {hS h' : AH} (hc : cd = 0) (hv : v = vS) (hh : h' = hS) : PY cd hF v0 vS hS (some v) h' := ⟨fun q => absurd hc q, fun _ => ⟨by rw [hv], hh⟩⟩

theorem ct_meanLoad {G : GG} {l : Launch} {h : AH} {m : Nat} {fs : List Value} {aG : Nat} {g : Nat → Nat}  (hm : h m = some (.inr (0, fs))) (h_g : fs[0]? = some (.ref aG)) (hg : h aG = some (iA G 304 (fun i => nI (g i)))) (hlen : fs.length = 25) (hI : GW g) (hsm : smG g (g 1) ≤ 210) : Ct G l yX4_meanLoad cX4_meanLoad 4 (some .double) 3 0 0 [.ref m] h (PY (if lgG g (g 1) = 0 then 1 else 0) (fun k => hset h m (.inr (0, fs.set 7 (.int (nI k))))) (.double FP.dconst0) (.double (FP.ddiv (FP.i2d (nI (smG g (g 1)))) (FP.i2d (nI (lgG g (g 1)))))) (hset h m (.inr (0, fs.set 7 (.int (nI 0)))))) := by
  refine Ct.of (by decide) (Nat.le_of_ble_eq_true rfl) (cat1 rfl) (fun X hXl F HN => ?_)
  subst hXl
  have hI9 := hI
  obtain ⟨hB, hn0, hn1, hn2, hn3, hst, hpl⟩ := hI
  have hl42 : lgG g (g 1) ≤ 42 := by have := lgG_le hst (g 1) (Nat.le_refl _); omega
  refine V_aload_n (i := 0) F dX4_meanLoad_0 rfl rfl ?_
  refine V_aload_n (i := 0) F dX4_meanLoad_1 rfl rfl ?_
  refine V_cV0r F dX4_meanLoad_2 lk_X4_186 (ct_legs hm h_g hg hlen hI9) ⟨0, _, _, _, rfl, (.inl hm)⟩ (Nat.le_of_ble_eq_true rfl) (Nat.le_of_ble_eq_true rfl) (Nat.le_of_ble_eq_true rfl) (Nat.le_of_ble_eq_true rfl) (Nat.le_of_ble_eq_true rfl) ?_
  refine V_if_neN (tgt := 12) F dX4_meanLoad_5 (by decide) (by omega) (fun c_5 => ?_) (fun c_5 => ?_)
  · refine V_iconst (v := nI 0) F dX4_meanLoad_12 rfl ?_
    refine V_cV1r F dX4_meanLoad_13 lk_X4_92 (ct_fails0 hm hlen) ⟨0, _, _, _, rfl, (.inl hm)⟩ (Nat.le_of_ble_eq_true rfl) (Nat.le_of_ble_eq_true rfl) (Nat.le_of_ble_eq_true rfl) (Nat.le_of_ble_eq_true rfl) (Nat.le_of_ble_eq_true rfl) ?_
    refine V_if_eqN (tgt := 21) F dX4_meanLoad_16 (by decide) (by omega) (fun c_16 => ?_) (fun c_16 => absurd c_16 (by decide))
    refine V_iconst (v := nI 0) F dX4_meanLoad_21 rfl ?_
    refine V_istore_n (i := 1) F dX4_meanLoad_22 rfl (Nat.le_of_ble_eq_true rfl) (Nat.le_of_ble_eq_true rfl) ?_
    refine V_iconst (v := nI 0) F dX4_meanLoad_23 rfl ?_
    refine V_istore_n (i := 2) F dX4_meanLoad_24 rfl (Nat.le_of_ble_eq_true rfl) (Nat.le_of_ble_eq_true rfl) ?_
    have loop_25 : ∀ (nn : Nat) (j : Nat), g 1 < j + nn → j ≤ g 1 → VV G X 4 (EQ G X 0 0 (PY (if lgG g (g 1) = 0 then 1 else 0) (fun k => hset h m (.inr (0, fs.set 7 (.int (nI k))))) (.double FP.dconst0) (.double (FP.ddiv (FP.i2d (nI (smG g (g 1)))) (FP.i2d (nI (lgG g (g 1)))))) (hset h m (.inr (0, fs.set 7 (.int (nI 0))))))) (hset h (m) (.inr (0, (fs).set 7 (.int (nI (0)))))) 0 0 [some (.ref (m)), some (.int (nI (smG g j))), some (.int (nI (j))), none] [] 25 := by
      intro nn
      induction nn with
      | zero => intro j hn hj; exact absurd hn (by omega)
      | succ nn ih_25 =>
        intro j hn hj
        refine V_iload_n (i := 2) F dX4_meanLoad_25 rfl rfl ?_
        refine V_aload_n (i := 0) F dX4_meanLoad_26 rfl rfl ?_
        refine V_getf F dX4_meanLoad_27 fc_X4_7_X4 (.inl hset_self) (gset h_g (by decide)) ?_
        refine V_iconst (v := nI 1) F dX4_meanLoad_30 rfl ?_
        refine V_ialdG F dX4_meanLoad_31 (.inl ((hset_ne (ne_ao hg hm)).trans hg)) (by omega) (by decide) rfl ?_
        refine V_icmp_geN (tgt := 70) F dX4_meanLoad_32 (by decide) (by omega) hB.lt (fun c_32 => ?_) (fun c_32 => ?_)
        · refine V_iload_n (i := 1) F dX4_meanLoad_70 rfl rfl ?_
          refine V_i2d F dX4_meanLoad_71 ?_
          refine V_aload_n (i := 0) F dX4_meanLoad_72 rfl rfl ?_
          refine V_cV0r F dX4_meanLoad_73 lk_X4_186 (ct_legs hset_self (gset h_g (by decide)) ((hset_ne (ne_ao hg hm)).trans hg) (lens hlen) hI9) ⟨0, _, _, _, rfl, (.inl hset_self)⟩ (Nat.le_of_ble_eq_true rfl) (Nat.le_of_ble_eq_true rfl) (Nat.le_of_ble_eq_true rfl) (Nat.le_of_ble_eq_true rfl) (Nat.le_of_ble_eq_true rfl) ?_
          refine V_i2d F dX4_meanLoad_76 ?_
          refine V_ddiv F dX4_meanLoad_77 (n64_i2d (by rw [show j = g 1 by omega]; exact hsm) (by omega) hl42) ?_
          exact V_dret F dX4_meanLoad_78 (Nat.le_of_ble_eq_true rfl) (Nat.le_of_ble_eq_true rfl) (PY.ok (if_neg (by omega)) (by rw [show j = g 1 by omega]) rfl)
        · have hsj := hst j (by omega)
          refine V_iconst (v := nI 0) F dX4_meanLoad_35 rfl ?_
          refine V_istore_n (i := 3) F dX4_meanLoad_36 rfl (Nat.le_of_ble_eq_true rfl) (Nat.le_of_ble_eq_true rfl) ?_
          have loop_37 : ∀ (nn : Nat) (q : Nat), g (16 + 36 * j + 3) - 1 < q + nn → q ≤ g (16 + 36 * j + 3) - 1 → VV G X 4 (EQ G X 0 0 (PY (if lgG g (g 1) = 0 then 1 else 0) (fun k => hset h m (.inr (0, fs.set 7 (.int (nI k))))) (.double FP.dconst0) (.double (FP.ddiv (FP.i2d (nI (smG g (g 1)))) (FP.i2d (nI (lgG g (g 1)))))) (hset h m (.inr (0, fs.set 7 (.int (nI 0))))))) (hset h (m) (.inr (0, (fs).set 7 (.int (nI (0)))))) 0 0 [some (.ref (m)), some (.int (nI (smI g j (smG g j) (q)))), some (.int (nI (j))), some (.int (nI (q)))] [] 37 := by
            intro nn
            induction nn with
            | zero => intro q hn2 hq; exact absurd hn2 (by omega)
            | succ nn ih_37 =>
              intro q hn2 hq
              refine V_iload_n (i := 3) F dX4_meanLoad_37 rfl rfl ?_
              refine V_aload_n (i := 0) F dX4_meanLoad_38 rfl rfl ?_
              refine V_iload_n (i := 2) F dX4_meanLoad_39 rfl rfl ?_
              refine V_iconst (v := nI 3) F dX4_meanLoad_40 rfl ?_
              refine V_cV2r F dX4_meanLoad_41 lk_X4_76 (ct_of hset_self (gset h_g (by decide)) ((hset_ne (ne_ao hg hm)).trans hg) (by omega)) ⟨0, _, _, _, rfl, (.inl hset_self)⟩ (Nat.le_of_ble_eq_true rfl) (Nat.le_of_ble_eq_true rfl) (Nat.le_of_ble_eq_true rfl) (Nat.le_of_ble_eq_true rfl) (Nat.le_of_ble_eq_true rfl) ?_
              refine V_iconst (v := nI 1) F dX4_meanLoad_44 rfl ?_
              refine V_isubN F dX4_meanLoad_45 (by omega) ?_
              refine V_icmp_geN (tgt := 64) F dX4_meanLoad_46 (by decide) (by omega) (by omega) (fun c_46 => ?_) (fun c_46 => ?_)
              · obtain rfl : q = g (16 + 36 * j + 3) - 1 := by omega
                refine V_iinc (i := 2) (v := nI (j + 1)) F dX4_meanLoad_64 rfl (nI_add (j) 1) (Nat.le_of_ble_eq_true rfl) ?_
                refine V_goto (tgt := 25) F dX4_meanLoad_67 (by decide) ?_
                refine VV.weak (L' := [some (.ref (m)), some (.int (nI (smG g (j + 1)))), some (.int (nI (j + 1))), none]) (LW.c1 (LW.c1 (LW.c1 (LW.c0 LW.nil)))) ?_
                exact ih_25 (j + 1) (by omega) (by omega)
              · refine V_iload_n (i := 1) F dX4_meanLoad_49 rfl rfl ?_
                refine V_aload_n (i := 0) F dX4_meanLoad_50 rfl rfl ?_
                refine V_iload_n (i := 2) F dX4_meanLoad_51 rfl rfl ?_
                refine V_iload_n (i := 3) F dX4_meanLoad_52 rfl rfl ?_
                refine V_cV2r F dX4_meanLoad_53 lk_X4_89 (ct_carries hset_self (gset h_g (by decide)) ((hset_ne (ne_ao hg hm)).trans hg) (by omega) (by omega) hn3 hB) ⟨0, _, _, _, rfl, (.inl hset_self)⟩ (Nat.le_of_ble_eq_true rfl) (Nat.le_of_ble_eq_true rfl) (Nat.le_of_ble_eq_true rfl) (Nat.le_of_ble_eq_true rfl) (Nat.le_of_ble_eq_true rfl) ?_
                refine V_iaddN F dX4_meanLoad_56 ?_
                refine V_istore_n (i := 1) F dX4_meanLoad_57 rfl (Nat.le_of_ble_eq_true rfl) (Nat.le_of_ble_eq_true rfl) ?_
                refine V_iinc (i := 3) (v := nI (q + 1)) F dX4_meanLoad_58 rfl (nI_add (q) 1) (Nat.le_of_ble_eq_true rfl) ?_
                refine V_goto (tgt := 37) F dX4_meanLoad_61 (by decide) ?_
                refine VV.weak (L' := [some (.ref (m)), some (.int (nI (smI g j (smG g j) (q + 1)))), some (.int (nI (j))), some (.int (nI (q + 1)))]) (LW.c1 (LW.c1 (LW.c1 (LW.c1 LW.nil)))) ?_
                exact ih_37 (q + 1) (by omega) (by omega)
          refine VV.weak (L' := [some (.ref (m)), some (.int (nI (smG g j))), some (.int (nI (j))), some (.int (nI (0)))]) (LW.c1 (LW.c1 (LW.c1 (LW.c1 LW.nil)))) ?_
          exact loop_37 (g (16 + 36 * j + 3) - 1 + 1) 0 (by omega) (by omega)
    refine VV.weak (L' := [some (.ref (m)), some (.int (nI (0))), some (.int (nI (0))), none]) (LW.c1 (LW.c1 (LW.c1 (LW.c0 LW.nil)))) ?_
    exact loop_25 (g 1 + 1) 0 (by omega) (by omega)
  · refine V_iconst (v := nI 1) F dX4_meanLoad_8 rfl ?_
    refine V_goto (tgt := 13) F dX4_meanLoad_9 (by decide) ?_
    refine V_cV1r F dX4_meanLoad_13 lk_X4_92 (ct_failsP 1 hm hlen (by decide)) ⟨0, _, _, _, rfl, (.inl hm)⟩ (Nat.le_of_ble_eq_true rfl) (Nat.le_of_ble_eq_true rfl) (Nat.le_of_ble_eq_true rfl) (Nat.le_of_ble_eq_true rfl) (Nat.le_of_ble_eq_true rfl) ?_
    refine V_if_eqN (tgt := 21) F dX4_meanLoad_16 (by decide) (by omega) (fun c_16 => absurd c_16 (by decide)) (fun c_16 => ?_)
    refine V_dconst0 F dX4_meanLoad_19 ?_
    exact V_dret F dX4_meanLoad_20 (Nat.le_of_ble_eq_true rfl) (Nat.le_of_ble_eq_true rfl) (PY.fail 1 (if_pos c_5) (by decide) rfl)
theorem ct_fullShare {G : GG} {l : Launch} {h : AH} {m : Nat} {fs : List Value} {aG : Nat} {g : Nat → Nat}  (hm : h m = some (.inr (0, fs))) (h_g : fs[0]? = some (.ref aG)) (hg : h aG = some (iA G 304 (fun i => nI (g i)))) (hlen : fs.length = 25) (hI : GW g)  : Ct G l yX4_fullShare cX4_fullShare 4 (some .float) 4 0 0 [.ref m] h (PY (if lgG g (g 1) = 0 then 1 else 0) (fun k => hset h m (.inr (0, fs.set 7 (.int (nI k))))) (.float FP.fconst0) (.float (FP.fdiv (FP.i2f (nI (fuG g (g 1)))) (FP.i2f (nI (lgG g (g 1)))))) (hset h m (.inr (0, fs.set 7 (.int (nI 0)))))) := by
  refine Ct.of (by decide) (Nat.le_of_ble_eq_true rfl) (cat1 rfl) (fun X hXl F HN => ?_)
  subst hXl
  have hI9 := hI
  obtain ⟨hB, hn0, hn1, hn2, hn3, hst, hpl⟩ := hI
  have hl42 : lgG g (g 1) ≤ 42 := by have := lgG_le hst (g 1) (Nat.le_refl _); omega
  refine V_aload_n (i := 0) F dX4_fullShare_0 rfl rfl ?_
  refine V_aload_n (i := 0) F dX4_fullShare_1 rfl rfl ?_
  refine V_cV0r F dX4_fullShare_2 lk_X4_186 (ct_legs hm h_g hg hlen hI9) ⟨0, _, _, _, rfl, (.inl hm)⟩ (Nat.le_of_ble_eq_true rfl) (Nat.le_of_ble_eq_true rfl) (Nat.le_of_ble_eq_true rfl) (Nat.le_of_ble_eq_true rfl) (Nat.le_of_ble_eq_true rfl) ?_
  refine V_if_neN (tgt := 12) F dX4_fullShare_5 (by decide) (by omega) (fun c_5 => ?_) (fun c_5 => ?_)
  · refine V_iconst (v := nI 0) F dX4_fullShare_12 rfl ?_
    refine V_cV1r F dX4_fullShare_13 lk_X4_92 (ct_fails0 hm hlen) ⟨0, _, _, _, rfl, (.inl hm)⟩ (Nat.le_of_ble_eq_true rfl) (Nat.le_of_ble_eq_true rfl) (Nat.le_of_ble_eq_true rfl) (Nat.le_of_ble_eq_true rfl) (Nat.le_of_ble_eq_true rfl) ?_
    refine V_if_eqN (tgt := 21) F dX4_fullShare_16 (by decide) (by omega) (fun c_16 => ?_) (fun c_16 => absurd c_16 (by decide))
    refine V_iconst (v := nI 0) F dX4_fullShare_21 rfl ?_
    refine V_istore_n (i := 1) F dX4_fullShare_22 rfl (Nat.le_of_ble_eq_true rfl) (Nat.le_of_ble_eq_true rfl) ?_
    refine V_iconst (v := nI 0) F dX4_fullShare_23 rfl ?_
    refine V_istore_n (i := 2) F dX4_fullShare_24 rfl (Nat.le_of_ble_eq_true rfl) (Nat.le_of_ble_eq_true rfl) ?_
    have loop_25 : ∀ (nn : Nat) (j : Nat), g 1 < j + nn → j ≤ g 1 → VV G X 4 (EQ G X 0 0 (PY (if lgG g (g 1) = 0 then 1 else 0) (fun k => hset h m (.inr (0, fs.set 7 (.int (nI k))))) (.float FP.fconst0) (.float (FP.fdiv (FP.i2f (nI (fuG g (g 1)))) (FP.i2f (nI (lgG g (g 1)))))) (hset h m (.inr (0, fs.set 7 (.int (nI 0))))))) (hset h (m) (.inr (0, (fs).set 7 (.int (nI (0)))))) 0 0 [some (.ref (m)), some (.int (nI (fuG g j))), some (.int (nI (j))), none] [] 25 := by
      intro nn
      induction nn with
      | zero => intro j hn hj; exact absurd hn (by omega)
      | succ nn ih_25 =>
        intro j hn hj
        refine V_iload_n (i := 2) F dX4_fullShare_25 rfl rfl ?_
        refine V_aload_n (i := 0) F dX4_fullShare_26 rfl rfl ?_
        refine V_getf F dX4_fullShare_27 fc_X4_7_X4 (.inl hset_self) (gset h_g (by decide)) ?_
        refine V_iconst (v := nI 1) F dX4_fullShare_30 rfl ?_
        refine V_ialdG F dX4_fullShare_31 (.inl ((hset_ne (ne_ao hg hm)).trans hg)) (by omega) (by decide) rfl ?_
        refine V_icmp_geN (tgt := 78) F dX4_fullShare_32 (by decide) (by omega) hB.lt (fun c_32 => ?_) (fun c_32 => ?_)
        · refine V_iload_n (i := 1) F dX4_fullShare_78 rfl rfl ?_
          refine V_i2f F dX4_fullShare_79 ?_
          refine V_aload_n (i := 0) F dX4_fullShare_80 rfl rfl ?_
          refine V_cV0r F dX4_fullShare_81 lk_X4_186 (ct_legs hset_self (gset h_g (by decide)) ((hset_ne (ne_ao hg hm)).trans hg) (lens hlen) hI9) ⟨0, _, _, _, rfl, (.inl hset_self)⟩ (Nat.le_of_ble_eq_true rfl) (Nat.le_of_ble_eq_true rfl) (Nat.le_of_ble_eq_true rfl) (Nat.le_of_ble_eq_true rfl) (Nat.le_of_ble_eq_true rfl) ?_
          refine V_i2f F dX4_fullShare_84 ?_
          refine V_fdiv F dX4_fullShare_85 (n32_i2f (by have := fuG_le (g := g) (g 1); rw [show j = g 1 by omega]; omega) (by omega) hl42) ?_
          exact V_fret F dX4_fullShare_86 (Nat.le_of_ble_eq_true rfl) (Nat.le_of_ble_eq_true rfl) (PY.ok (if_neg (by omega)) (by rw [show j = g 1 by omega]) rfl)
        · have hsj := hst j (by omega)
          refine V_iconst (v := nI 0) F dX4_fullShare_35 rfl ?_
          refine V_istore_n (i := 3) F dX4_fullShare_36 rfl (Nat.le_of_ble_eq_true rfl) (Nat.le_of_ble_eq_true rfl) ?_
          have loop_37 : ∀ (nn : Nat) (q : Nat), g (16 + 36 * j + 3) - 1 < q + nn → q ≤ g (16 + 36 * j + 3) - 1 → VV G X 4 (EQ G X 0 0 (PY (if lgG g (g 1) = 0 then 1 else 0) (fun k => hset h m (.inr (0, fs.set 7 (.int (nI k))))) (.float FP.fconst0) (.float (FP.fdiv (FP.i2f (nI (fuG g (g 1)))) (FP.i2f (nI (lgG g (g 1)))))) (hset h m (.inr (0, fs.set 7 (.int (nI 0))))))) (hset h (m) (.inr (0, (fs).set 7 (.int (nI (0)))))) 0 0 [some (.ref (m)), some (.int (nI (fuI g j (fuG g j) (q)))), some (.int (nI (j))), some (.int (nI (q)))] [] 37 := by
            intro nn
            induction nn with
            | zero => intro q hn2 hq; exact absurd hn2 (by omega)
            | succ nn ih_37 =>
              intro q hn2 hq
              refine V_iload_n (i := 3) F dX4_fullShare_37 rfl rfl ?_
              refine V_aload_n (i := 0) F dX4_fullShare_38 rfl rfl ?_
              refine V_iload_n (i := 2) F dX4_fullShare_39 rfl rfl ?_
              refine V_iconst (v := nI 3) F dX4_fullShare_40 rfl ?_
              refine V_cV2r F dX4_fullShare_41 lk_X4_76 (ct_of hset_self (gset h_g (by decide)) ((hset_ne (ne_ao hg hm)).trans hg) (by omega)) ⟨0, _, _, _, rfl, (.inl hset_self)⟩ (Nat.le_of_ble_eq_true rfl) (Nat.le_of_ble_eq_true rfl) (Nat.le_of_ble_eq_true rfl) (Nat.le_of_ble_eq_true rfl) (Nat.le_of_ble_eq_true rfl) ?_
              refine V_iconst (v := nI 1) F dX4_fullShare_44 rfl ?_
              refine V_isubN F dX4_fullShare_45 (by omega) ?_
              refine V_icmp_geN (tgt := 72) F dX4_fullShare_46 (by decide) (by omega) (by omega) (fun c_46 => ?_) (fun c_46 => ?_)
              · obtain rfl : q = g (16 + 36 * j + 3) - 1 := by omega
                refine V_iinc (i := 2) (v := nI (j + 1)) F dX4_fullShare_72 rfl (nI_add (j) 1) (Nat.le_of_ble_eq_true rfl) ?_
                refine V_goto (tgt := 25) F dX4_fullShare_75 (by decide) ?_
                refine VV.weak (L' := [some (.ref (m)), some (.int (nI (fuG g (j + 1)))), some (.int (nI (j + 1))), none]) (LW.c1 (LW.c1 (LW.c1 (LW.c0 LW.nil)))) ?_
                exact ih_25 (j + 1) (by omega) (by omega)
              · refine V_iload_n (i := 1) F dX4_fullShare_49 rfl rfl ?_
                refine V_aload_n (i := 0) F dX4_fullShare_50 rfl rfl ?_
                refine V_iload_n (i := 2) F dX4_fullShare_51 rfl rfl ?_
                refine V_iload_n (i := 3) F dX4_fullShare_52 rfl rfl ?_
                refine V_cV2r F dX4_fullShare_53 lk_X4_116 (ct_isTaken hset_self (gset h_g (by decide)) ((hset_ne (ne_ao hg hm)).trans hg) (by omega) (by omega) hn3 hB) ⟨0, _, _, _, rfl, (.inl hset_self)⟩ (Nat.le_of_ble_eq_true rfl) (Nat.le_of_ble_eq_true rfl) (Nat.le_of_ble_eq_true rfl) (Nat.le_of_ble_eq_true rfl) (Nat.le_of_ble_eq_true rfl) ?_
                refine V_if_eqB (tgt := 63) F dX4_fullShare_56 (by decide) (fun c_56 => ?_) (fun c_56 => ?_)
                · have hcc : fuC g j q = 0 := if_neg c_56
                  refine V_iconst (v := nI 0) F dX4_fullShare_63 rfl ?_
                  refine VV.stk (st' := [.int (nI (fuC g j q)), .int (nI (fuI g j (fuG g j) q))]) (by rw [hcc]) ?_
                  refine V_iaddN F dX4_fullShare_64 ?_
                  refine V_istore_n (i := 1) F dX4_fullShare_65 rfl (Nat.le_of_ble_eq_true rfl) (Nat.le_of_ble_eq_true rfl) ?_
                  refine V_iinc (i := 3) (v := nI (q + 1)) F dX4_fullShare_66 rfl (nI_add (q) 1) (Nat.le_of_ble_eq_true rfl) ?_
                  refine V_goto (tgt := 37) F dX4_fullShare_69 (by decide) ?_
                  refine VV.weak (L' := [some (.ref (m)), some (.int (nI (fuI g j (fuG g j) (q + 1)))), some (.int (nI (j))), some (.int (nI (q + 1)))]) (LW.c1 (LW.c1 (LW.c1 (LW.c1 LW.nil)))) ?_
                  exact ih_37 (q + 1) (by omega) (by omega)
                · have hcc : fuC g j q = 1 := if_pos c_56
                  refine V_iconst (v := nI 1) F dX4_fullShare_59 rfl ?_
                  refine V_goto (tgt := 64) F dX4_fullShare_60 (by decide) ?_
                  refine VV.stk (st' := [.int (nI (fuC g j q)), .int (nI (fuI g j (fuG g j) q))]) (by rw [hcc]) ?_
                  refine V_iaddN F dX4_fullShare_64 ?_
                  refine V_istore_n (i := 1) F dX4_fullShare_65 rfl (Nat.le_of_ble_eq_true rfl) (Nat.le_of_ble_eq_true rfl) ?_
                  refine V_iinc (i := 3) (v := nI (q + 1)) F dX4_fullShare_66 rfl (nI_add (q) 1) (Nat.le_of_ble_eq_true rfl) ?_
                  refine V_goto (tgt := 37) F dX4_fullShare_69 (by decide) ?_
                  refine VV.weak (L' := [some (.ref (m)), some (.int (nI (fuI g j (fuG g j) (q + 1)))), some (.int (nI (j))), some (.int (nI (q + 1)))]) (LW.c1 (LW.c1 (LW.c1 (LW.c1 LW.nil)))) ?_
                  exact ih_37 (q + 1) (by omega) (by omega)
          refine VV.weak (L' := [some (.ref (m)), some (.int (nI (fuG g j))), some (.int (nI (j))), some (.int (nI (0)))]) (LW.c1 (LW.c1 (LW.c1 (LW.c1 LW.nil)))) ?_
          exact loop_37 (g (16 + 36 * j + 3) - 1 + 1) 0 (by omega) (by omega)
    refine VV.weak (L' := [some (.ref (m)), some (.int (nI (0))), some (.int (nI (0))), none]) (LW.c1 (LW.c1 (LW.c1 (LW.c0 LW.nil)))) ?_
    exact loop_25 (g 1 + 1) 0 (by omega) (by omega)
  · refine V_iconst (v := nI 1) F dX4_fullShare_8 rfl ?_
    refine V_goto (tgt := 13) F dX4_fullShare_9 (by decide) ?_
    refine V_cV1r F dX4_fullShare_13 lk_X4_92 (ct_failsP 1 hm hlen (by decide)) ⟨0, _, _, _, rfl, (.inl hm)⟩ (Nat.le_of_ble_eq_true rfl) (Nat.le_of_ble_eq_true rfl) (Nat.le_of_ble_eq_true rfl) (Nat.le_of_ble_eq_true rfl) (Nat.le_of_ble_eq_true rfl) ?_
    refine V_if_eqN (tgt := 21) F dX4_fullShare_16 (by decide) (by omega) (fun c_16 => absurd c_16 (by decide)) (fun c_16 => ?_)
    refine V_fconst0 F dX4_fullShare_19 ?_
    exact V_fret F dX4_fullShare_20 (Nat.le_of_ble_eq_true rfl) (Nat.le_of_ble_eq_true rfl) (PY.fail 1 (if_pos c_5) (by decide) rfl)
