theorem al_ne_ar {G : GG} {h : AH} {a ar m n b nar m2 n2 : Nat} {f f2 : Nat → Nat} (hA : ALs G h a ar m n f) (hB : ALs G h b nar m2 n2 f2) (hb : HB G h) : a ≠ nar := by
  obtain ⟨-, -, cap, g2, q, -⟩ := hB
  rcases q with q | q
  · exact ne_oa hA.1 q
  · exact ne_fr hA.1 (hb.no q)
theorem mexB.ext {g N N2 : Nat → Nat} {S : List Nat} {k b : Nat} (h : mexB g S N k b) (he : ∀ i, i < k → N2 i = N i) : mexB g S N2 k b :=
  ⟨h.1, fun k2 h2 hu => by rw [he k2 h2]; exact h.2.1 k2 h2 hu, fun c hc => by obtain ⟨k2, h2, hu, e⟩ := h.2.2 c hc; exact ⟨k2, h2, hu, by rw [he k2 h2]; exact e⟩⟩
/-- nd is one more than the greatest berth of the first k -/
def NDm (N : Nat → Nat) (k nd : Nat) : Prop := (∀ i, i < k → N i + 1 ≤ nd) ∧ (nd = 0 ∨ ∃ i, i < k ∧ nd = N i + 1)
theorem NDm.step {N : Nat → Nat} {k nd b : Nat} (h : NDm N k nd) : NDm (up N k b) (k + 1) (max nd (b + 1)) := by
  refine ⟨fun i hi => ?_, ?_⟩
  · by_cases e : i = k
    · rw [e, up_s]; exact Nat.le_max_right _ _
    · rw [up_n e]; exact Nat.le_trans (h.1 i (by omega)) (Nat.le_max_left _ _)
  · rcases Nat.le_total nd (b + 1) with z | z
    · exact Or.inr ⟨k, Nat.lt_succ_self k, by rw [up_s, Nat.max_eq_right z]⟩
    · rw [Nat.max_eq_left z]
      rcases h.2 with q | ⟨i, hi, q⟩
      · exact Or.inl q
      · exact Or.inr ⟨i, by omega, by rw [up_n (by omega)]; exact q⟩
theorem ct_BE_give {G : GG} {l : Launch} {h : AH} {b so nu ar : Nat} {g : Nat → Nat} {S : List Nat} {f : Nat → Nat}  (hb : h b = some (.inr (13, [.ref so, .ref nu, .int (nI 0)]))) (hB : BKS G h so ar g S f) (hn0 : ALs G h nu (ad G 1) 0 0 (fun _ => 0)) (hne : so ≠ nu) (hS : S.length ≤ 10) (hGB : GB g) : Ct G l yX16_give cX16_give 3 (some (.object "SleeperRailway$Berths")) 11 (340) (1700) [.ref b] h (fun r h2 => r = some (.ref b) ∧ ∃ (N fN : Nat → Nat) (nd nar : Nat), h2 b = some (.inr (13, [.ref so, .ref nu, .int (nI nd)])) ∧ (∀ k, k < S.length → mexB g S N k (N k)) ∧ NDm N S.length nd ∧ ALs G h2 nu nar S.length S.length fN ∧ (∀ i, i < S.length → IV G h2 (fN i) (nI (N i))) ∧ BKS G h2 so ar g S f ∧ Fr (m2 b nu) h h2) := by
  refine Ct.of (by decide) (Nat.le_of_ble_eq_true rfl) (cat1 rfl) (fun X hXl F HN => ?_)
  subst hXl
  refine VV.bs (fun hB0 => ?_)
  refine V_iconst (v := nI 0) F dX16_give_0 rfl ?_
  refine V_istore_n (i := 1) F dX16_give_1 rfl (Nat.le_of_ble_eq_true rfl) (Nat.le_of_ble_eq_true rfl) ?_
  have loop_2 : ∀ (nn : Nat) (k : Nat) (N fN : Nat → Nat) (nd nar : Nat) (hh : AH), S.length - k < nn → k ≤ S.length → hh b = some (.inr (13, [.ref so, .ref nu, .int (nI nd)])) → ALs G hh nu nar k k fN → (∀ i, i < k → IV G hh (fN i) (nI (N i))) → (∀ i, i < k → mexB g S N i (N i)) → NDm N k nd → h nar = none → Fr (m2 b nu) h hh → VV G X 3 ((EQ G X (340) (1700) (fun r h2 => r = some (.ref b) ∧ ∃ (N fN : Nat → Nat) (nd nar : Nat), h2 b = some (.inr (13, [.ref so, .ref nu, .int (nI nd)])) ∧ (∀ k, k < S.length → mexB g S N k (N k)) ∧ NDm N S.length nd ∧ ALs G h2 nu nar S.length S.length fN ∧ (∀ i, i < S.length → IV G h2 (fN i) (nI (N i))) ∧ BKS G h2 so ar g S f ∧ Fr (m2 b nu) h h2))) hh (33 * k) (160 * k) [some (.ref (b)), some (.int (nI (k))), none] [] 2 := by
    intro nn
    induction nn with
    | zero => intro k N fN nd nar hh hm hk hbc hNu hIN hmex hnd hnar hF; exact absurd hm (by omega)
    | succ nn ih_2 =>
      intro k N fN nd nar hh hm hk hbc hNu hIN hmex hnd hnar hF
      have hBn := hB.fr hF (fun z => z.elim (ne_oo hB.1.1 hb (by decide)) hne) (fun _ _ z y => y.elim (ne_ao z hb) (ne_ao z hn0.1)) (by intro y e hy hs z; rcases z with rfl | rfl; cases hb.symm.trans hy; cases hs; cases hn0.1.symm.trans hy; cases hs)
      have hbc3 : ∀ {h3 : AH}, Fr nM hh h3 → h3 b = some (.inr (13, [.ref so, .ref nu, .int (nI nd)])) := fun hx => hx.get hbc id rfl
      refine V_iload_n (i := 1) F dX16_give_2 rfl rfl ?_
      refine V_aload_n (i := 0) F dX16_give_3 rfl rfl ?_
      refine V_getf F dX16_give_4 fc_X16_10_X16 (.inl hbc) rfl ?_
      refine V_callF (st := [.int (nI (k))]) (nn := 0) F dX16_give_7 ⟨lw_F q2037 q388 q390 q111 q392, ⟨q386, List.mem_append_left _ q385, q391, q389, q387⟩, (by decide +kernel), (by decide +kernel)⟩ (ct_AL_size hBn.1) hBn.1.isC rfl rfl (Nat.le_of_ble_eq_true rfl) (Nat.le_of_ble_eq_true rfl) (Nat.le_of_ble_eq_true rfl) (by first | exact Nat.le_of_ble_eq_true rfl | omega) (by first | exact Nat.le_of_ble_eq_true rfl | omega) ?_
      refine PRk ?_
      refine V_icmp_geN (tgt := 64) F dX16_give_12 (by decide) (by omega) (by omega) (fun c_12 => ?_) (fun c_12 => ?_)
      · refine V_aload_n (i := 0) F dX16_give_64 rfl rfl ?_
        have hkS : k = S.length := by omega
        subst hkS
        exact V_aret F dX16_give_65 (Or.inl ⟨_, rfl⟩) (Or.inr ⟨_, rfl⟩) (by first | exact Nat.le_of_ble_eq_true rfl | omega) (by first | exact Nat.le_of_ble_eq_true rfl | omega) ⟨rfl, N, fN, nd, nar, hbc, hmex, hnd, hNu, hIN, hBn, hF⟩
      · refine V_aload_n (i := 0) F dX16_give_15 rfl rfl ?_
        refine V_iload_n (i := 1) F dX16_give_16 rfl rfl ?_
        refine V_callV (st := []) (nn := 1) F dX16_give_17 lk_X16_39 (ct_BE_free (N := N) hbc hBn hNu hIN (fun i hi => Nat.le_trans (hmex i hi).1 (by omega)) (by omega) hS hGB) ⟨13, _, _, _, rfl, (.inl hbc)⟩ rfl rfl (Nat.le_of_ble_eq_true rfl) (Nat.le_of_ble_eq_true rfl) (Nat.le_of_ble_eq_true rfl) (by first | exact Nat.le_of_ble_eq_true rfl | omega) (by first | exact Nat.le_of_ble_eq_true rfl | omega) ?_
        rintro _ h3 ⟨st, t, mc3, n3, A3, K3, b0, rfl, hT3, hn3, hI3, hm3, hx3⟩
        have hb3 := hbc3 hx3
        have hBn3 := hBn.fr0 hx3
        have hNu3 := hNu.fr0 hx3
        have hIN3 : ∀ i, i < k → IV G h3 (fN i) (nI (N i)) := fun i hi => (hIN i hi).fr hx3 offK.nM
        have hb020 := hm3.1
        refine V_callV (st := []) (nn := 0) F dX16_give_20 lk_X16_43 (ct_TS_first hT3 hn3) hT3.isC rfl rfl (Nat.le_of_ble_eq_true rfl) (Nat.le_of_ble_eq_true rfl) (Nat.le_of_ble_eq_true rfl) (by first | exact Nat.le_of_ble_eq_true rfl | omega) (by first | exact Nat.le_of_ble_eq_true rfl | omega) ?_
        refine PRk ?_
        refine V_ckS F dX16_give_23 q2231 ⟨27, _, _, _, rfl, hI3⟩ ?_
        refine V_callV (st := []) (nn := 0) F dX16_give_26 lk_X16_51 (ct_intValue hI3) ⟨27, _, _, _, rfl, hI3⟩ rfl rfl (Nat.le_of_ble_eq_true rfl) (Nat.le_of_ble_eq_true rfl) (Nat.le_of_ble_eq_true rfl) (by first | exact Nat.le_of_ble_eq_true rfl | omega) (by first | exact Nat.le_of_ble_eq_true rfl | omega) ?_
        refine PRk ?_
        refine V_istore_n (i := 2) F dX16_give_29 rfl (Nat.le_of_ble_eq_true rfl) (Nat.le_of_ble_eq_true rfl) ?_
        refine V_aload_n (i := 0) F dX16_give_30 rfl rfl ?_
        refine V_getf F dX16_give_31 fc_X16_16_X16 (.inl hb3) rfl ?_
        refine V_iload_n (i := 2) F dX16_give_34 rfl rfl ?_
        refine V_callS (st := [.ref (nu)]) (nn := 1) F dX16_give_35 lk_X16_54 (ct_I_valueOf (x := nI b0)) rfl rfl (Nat.le_of_ble_eq_true rfl) (Nat.le_of_ble_eq_true rfl) (Nat.le_of_ble_eq_true rfl) (by first | exact Nat.le_of_ble_eq_true rfl | omega) (by first | exact Nat.le_of_ble_eq_true rfl | omega) ?_
        rintro _ h4 ⟨q, rfl, hq, hx4⟩
        have hb4 := hx4.get hb3 id rfl
        have hBn4 := hBn3.fr0 hx4
        have hNu4 := hNu3.fr0 hx4
        have hIN4 : ∀ i, i < k → IV G h4 (fN i) (nI (N i)) := fun i hi => (hIN3 i hi).fr hx4 offK.nM
        have hF4 := (hF.cal0 hx3).cal0 hx4
        refine VV.bs (fun hB4 => ?_)
        refine V_callF (st := []) (nn := 1) F dX16_give_38 ⟨lw_F q2234 q1176 q1178 q111 q1180, ⟨q1175, List.mem_append_left _ q1174, q1179, q1177, q387⟩, (by decide +kernel), (by decide +kernel)⟩ (ct_AL_add hNu4 (isO_int hq) (by omega)) hNu4.isC rfl rfl (Nat.le_of_ble_eq_true rfl) (Nat.le_of_ble_eq_true rfl) (Nat.le_of_ble_eq_true rfl) (by first | exact Nat.le_of_ble_eq_true rfl | omega) (by first | exact Nat.le_of_ble_eq_true rfl | omega) ?_
        rintro _ h5 ⟨rfl, nar5, hNu5, hx5, hq5⟩
        have hof := fun k hk => offK.al (S := kO k) hNu4 hB4 (fun _ => kO_ne hk) (fun _ _ _ => rfl)
        have hb5 := hx5.get hb4 ((hof 13 (by decide)).o hb4) rfl
        have hBn5 := hBn4.fr hx5 (fun z => z.elim hne (fun z => al_ne_ar hBn4.1 hNu4 hB4 z)) (fun c f2 z y => y.elim (ne_ao z hNu4.1) (hB.1.sep hB4 hnar z)) (hof 11 (by decide))
        have hF5 : Fr (m2 b nu) h h5 := hF4.cal hx5 (fun b2 z => z.elim (fun z => Or.inl (Or.inr z)) (fun z => Or.inr (z ▸ hnar)))
        have hnar5 : h nar5 = none := hF4.ar2 hnar hq5
        have hIN5 : ∀ i, i < k + 1 → IV G h5 (up fN k q i) (nI (up N k b0 i)) := fun i hi => by
          by_cases e : i = k
          · subst e; rw [up_s, up_s]; exact hq.fr hx5 (hof 27 (by decide))
          · rw [up_n e, up_n e]; exact (hIN4 i (by omega)).fr hx5 (hof 27 (by decide))
        refine V_pop F dX16_give_43 rfl ?_
        refine V_aload_n (i := 0) F dX16_give_44 rfl rfl ?_
        refine V_aload_n (i := 0) F dX16_give_45 rfl rfl ?_
        refine V_getf F dX16_give_46 fc_X16_61_X16 (.inl hb5) rfl ?_
        refine V_iload_n (i := 2) F dX16_give_49 rfl rfl ?_
        refine V_iconst (v := nI 1) F dX16_give_50 rfl ?_
        refine V_iaddN F dX16_give_51 ?_
        have hnd31 : nd < 2 ^ 31 := by
          rcases hnd.2 with z | ⟨i, hi, z⟩
          · omega
          · have := (hmex i hi).1; omega
        refine V_mmaxN (a := nd) (b := (b0 + 1)) F dX16_give_52 q2235 hnd31 (by omega) (Nat.le_of_ble_eq_true rfl) (Nat.le_of_ble_eq_true rfl) (by first | exact Nat.le_of_ble_eq_true rfl | omega) (by first | exact Nat.le_of_ble_eq_true rfl | omega) ?_
        refine V_putf F dX16_give_55 fp_X16_61_X16 hb5 rfl rfl (Nat.le_of_ble_eq_true rfl) ?_
        refine VV.heap (h' := (hset h5 (b) (.inr (13, [.ref (so), .ref (nu), .int (nI (max nd (b0 + 1)))])))) rfl ?_
        refine V_iinc (i := 1) (v := nI (k + 1)) F dX16_give_58 rfl (nI_add (k) 1) (Nat.le_of_ble_eq_true rfl) ?_
        refine V_goto (tgt := 2) F dX16_give_61 (by decide) ?_
        refine VV.weak (L' := [some (.ref (b)), some (.int (nI (k + 1))), none]) (LW.c1 (LW.c1 (LW.c0 LW.nil))) ?_
        have pb : (hset h5 (b) (.inr (13, [.ref (so), .ref (nu), .int (nI (max nd (b0 + 1)))]))) b = some (.inr (13, [.ref (so), .ref (nu), .int (nI (max nd (b0 + 1)))])) := (hset_self (e := .inr (13, [.ref (so), .ref (nu), .int (nI (max nd (b0 + 1)))])))
        have hpu : Fr (m1 b) h5 ((hset h5 (b) (.inr (13, [.ref (so), .ref (nu), .int (nI (max nd (b0 + 1)))])))) := Fr.rf.put hb5 rfl rfl (Or.inl rfl)
        have hof6 := fun k hk => offK.m1 (S := kO k) hb5 (kO_ne (Ne.symm hk))
        refine VV.wide ?_ ?_ (ih_2 (k + 1) (up N k b0) (up fN k q) (max nd (b0 + 1)) nar5 _ (by omega) (by omega) pb (hNu5.frQ hpu (ne_oo hNu5.1 hb5 (by decide)) (fun _ _ z => ne_ao z hb5)) (fun i hi => (hIN5 i hi).fr hpu (hof6 27 (by decide))) ?_ hnd.step hnar5 (hF5.cal hpu (Yo.m1 (Or.inl (Or.inl rfl)))))
        · omega
        · omega
        · intro i hi
          by_cases e : i = k
          · subst e; rw [up_s]; exact hm3.ext (fun i2 hi2 => up_n (by omega))
          · rw [up_n e]; exact (hmex i (by omega)).ext (fun i2 hi2 => up_n (by omega))
  refine VV.weak (L' := [some (.ref (b)), some (.int (nI (0))), none]) (LW.c1 (LW.c1 (LW.c0 LW.nil))) ?_
  refine VV.wide (by omega) (by omega) (loop_2 (S.length + 1) 0 (fun _ => 0) (fun _ => 0) 0 (ad G 1) h (by omega) (Nat.zero_le _) hb hn0 (fun i hi => absurd hi (Nat.not_lt_zero i)) (fun i hi => absurd hi (Nat.not_lt_zero i)) ⟨fun i hi => absurd hi (Nat.not_lt_zero i), Or.inl rfl⟩ (F.hb1 hB0) Fr.rf)
theorem ct_BE_berthOf {G : GG} {l : Launch} {h : AH} {b so nu ar nar p : Nat} {nd : Int32} {g N fN : Nat → Nat} {S : List Nat} {f : Nat → Nat}  (hb : h b = some (.inr (13, [.ref so, .ref nu, .int nd]))) (hB : BKS G h so ar g S f) (hNu : ALs G h nu nar S.length S.length fN) (hIN : ∀ i, i < S.length → IV G h (fN i) (nI (N i))) (hp : p < S.length) (hS : S.length ≤ 10) (hinj : ∀ i, i < p → f i ≠ f p) : Ct G l yX16_berthOf cX16_berthOf 2 (some .int) 3 (0) (0) [.ref b, .ref (f p)] h (PR (.int (nI (N p))) h) := by
  refine Ct.of (by decide) (Nat.le_of_ble_eq_true rfl) (cat1 rfl) (fun X hXl F HN => ?_)
  subst hXl
  refine V_aload_n (i := 0) F dX16_berthOf_0 rfl rfl ?_
  refine V_getf F dX16_berthOf_1 fc_X16_16_X16 (.inl hb) rfl ?_
  refine V_aload_n (i := 0) F dX16_berthOf_4 rfl rfl ?_
  refine V_getf F dX16_berthOf_5 fc_X16_10_X16 (.inl hb) rfl ?_
  refine V_aload_n (i := 1) F dX16_berthOf_8 rfl rfl ?_
  refine V_callF (st := [.ref (nu)]) (nn := 1) F dX16_berthOf_9 ⟨lw_F q3149 q3152 q3154 q111 q3156, ⟨q3151, List.mem_append_left _ q3150, q3155, q3153, q387⟩, (by decide +kernel), (by decide +kernel)⟩ (ct_AL_indexOf hB.1 ⟨11, _, _, _, rfl, .inl (hB.2 p hp)⟩ hp hinj (by omega) oeq) hB.1.isC rfl rfl (Nat.le_of_ble_eq_true rfl) (Nat.le_of_ble_eq_true rfl) (Nat.le_of_ble_eq_true rfl) (by first | exact Nat.le_of_ble_eq_true rfl | omega) (by first | exact Nat.le_of_ble_eq_true rfl | omega) ?_
  refine PRk ?_
  refine V_callF (st := []) (nn := 1) F dX16_berthOf_14 ⟨lw_F q2039 q473 q475 q111 q477, ⟨q472, List.mem_append_left _ q471, q476, q474, q387⟩, (by decide +kernel), (by decide +kernel)⟩ (ct_AL_get hNu (k := p) hp (by omega)) hNu.isC rfl rfl (Nat.le_of_ble_eq_true rfl) (Nat.le_of_ble_eq_true rfl) (Nat.le_of_ble_eq_true rfl) (by first | exact Nat.le_of_ble_eq_true rfl | omega) (by first | exact Nat.le_of_ble_eq_true rfl | omega) ?_
  refine PRk ?_
  refine V_ckS F dX16_berthOf_19 q2231 ⟨27, _, _, _, rfl, (hIN p hp)⟩ ?_
  refine V_callV (st := []) (nn := 0) F dX16_berthOf_22 lk_X16_51 (ct_intValue (hIN p hp)) ⟨27, _, _, _, rfl, hIN p hp⟩ rfl rfl (Nat.le_of_ble_eq_true rfl) (Nat.le_of_ble_eq_true rfl) (Nat.le_of_ble_eq_true rfl) (by first | exact Nat.le_of_ble_eq_true rfl | omega) (by first | exact Nat.le_of_ble_eq_true rfl | omega) ?_
  refine PRk ?_
  exact V_iret F dX16_berthOf_25 rfl (by first | exact Nat.le_of_ble_eq_true rfl | omega) (by first | exact Nat.le_of_ble_eq_true rfl | omega) ⟨rfl, rfl⟩
