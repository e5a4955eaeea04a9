set_option maxRecDepth 100000
theorem V_gets {G : GG} {X : CX} {cc : ByteArray} {nL : Nat} {own : String} {ret : Option FieldType} {d MC MS : Nat} {Q : State → Prop} {h : AH} {kc n : Nat} {L : LV} {st : List Value} {pc : Nat} {C n0 d0 : String} {v : Value} {idx : Nat} (F : Fx G X cc nL own ret d MC MS) (hd : decode cc pc = .ok (.getstatic idx, 3)) (hm : (C, n0, d0, v) ∈ stL G) (hlink : Cond.fieldLink own idx C n0 d0 ∈ lw_all) (k : VV G X nL Q h kc n L (v :: st) (pc + 3)) : VV G X nL Q h kc n L st pc := by
  intro H locs ls hS hL hl
  obtain ⟨cf, kf, fi, f, a, cell, h1, h2, h3, h4, h5, h6, h7, h8⟩ := F.kn.2.2.2.2.2.2.1 _ hm
  have hb := (Array.getElem?_eq_some_iff.mp h5).1
  exact W.gets F.exec F.code F.hown (F.wd _ hlink) h1 h2 h3 h4 (by rw [hS.2.1 a hb]; exact h5) (fun e => by rw [e] at h6; cases h6) h7 rfl hd (k H locs ls hS hL hl)
theorem V_ldcS {G : GG} {X : CX} {cc : ByteArray} {nL : Nat} {own : String} {ret : Option FieldType} {d MC MS : Nat} {Q : State → Prop} {h : AH} {kc n : Nat} {L : LV} {st : List Value} {pc : Nat} {tx : String} {idx : Nat} (F : Fx G X cc nL own ret d MC MS) (hd : decode cc pc = .ok (.ldc idx, 2)) (hw : Cond.stringRef own idx tx ∈ lw_tbl) (k : ∀ a, Gstr G tx a → VV G X nL Q h kc n L (.ref a :: st) (pc + 2)) : VV G X nL Q h kc n L st pc := by
  intro H locs ls hS hL hl
  obtain ⟨a, ha, hg⟩ := F.kn.2.2.2.2.2.1 _ _ _ hw
  exact va_ldcS F.exec F.code F.hown ha hd (k a hg H locs ls hS hL hl)
theorem V_iand255 {G : GG} {X : CX} {cc : ByteArray} {nL : Nat} {own : String} {ret : Option FieldType} {d MC MS : Nat} {Q : State → Prop} {h : AH} {kc n : Nat} {L : LV} {st : List Value} {pc : Nat} {c : Nat} (F : Fx G X cc nL own ret d MC MS) (hd : decode cc pc = .ok (.iand, 1)) (hc : c < 256) (k : VV G X nL Q h kc n L (.int (nI c) :: st) (pc + 1)) : VV G X nL Q h kc n L (.int (nI 255) :: .int (sb_b c) :: st) pc := V_iand F hd (by rw [show (nI 255 : Int32) = 255 from rfl, (sb_byte c hc).1]; exact k)
theorem cat_rf (o : Option Nat) : (va_rf o).category = 1 := by cases o <;> rfl

theorem ct_J6_coder {G : GG} {l : Launch} {h : AH} {a v len : Nat} {c : Nat → Nat} {hc hz : Int32} (hs : rd G h a (.inr (22, [.ref v, .int (nI 0), .int hc, .int hz]))) (hv : rd G h v (.inl (G.2.1 5, len, .inl (fun j => sb_b (c j))))) (hc9 : ∀ j, c j < 256) (hln : len < 2 ^ 31) : Ct G l yJ6_coder cJ6_coder 1 (some .byte) 0 0 0 [.ref a] h (PR (.int (nI 0)) h) := by
  refine Ct.of (by decide) (Nat.le_of_ble_eq_true rfl) (cat1 rfl) (fun X hXl F HN => ?_)
  subst hXl
  refine V_gets F dJ6_coder_0 (List.mem_of_getElem? (i := 2) rfl) q642 ?_
  refine VV.stk (st' := [.int (nI (1))]) rfl ?_
  refine V_if_eqN (tgt := 13) F dJ6_coder_3 (by decide) (by omega) (fun c_3 => absurd c_3 (by decide)) (fun c_3 => ?_)
  refine V_aload_n (i := 0) F dJ6_coder_6 rfl rfl ?_
  refine V_getf F dJ6_coder_7 fc_J6_15_J6 hs rfl ?_
  refine V_goto (tgt := 14) F dJ6_coder_10 (by decide) ?_
  exact V_iret F dJ6_coder_14 rfl (Nat.le_of_ble_eq_true rfl) (Nat.le_of_ble_eq_true rfl) ⟨rfl, rfl⟩
theorem ct_J6_isLatin1 {G : GG} {l : Launch} {h : AH} {a v len : Nat} {c : Nat → Nat} {hc hz : Int32} (hs : rd G h a (.inr (22, [.ref v, .int (nI 0), .int hc, .int hz]))) (hv : rd G h v (.inl (G.2.1 5, len, .inl (fun j => sb_b (c j))))) (hc9 : ∀ j, c j < 256) (hln : len < 2 ^ 31) : Ct G l yJ6_isLatin1 cJ6_isLatin1 1 (some .boolean) 0 0 0 [.ref a] h (PR (.int (nI 1)) h) := by
  refine Ct.of (by decide) (Nat.le_of_ble_eq_true rfl) (cat1 rfl) (fun X hXl F HN => ?_)
  subst hXl
  refine V_gets F dJ6_isLatin1_0 (List.mem_of_getElem? (i := 2) rfl) q642 ?_
  refine VV.stk (st' := [.int (nI (1))]) rfl ?_
  refine V_if_eqN (tgt := 17) F dJ6_isLatin1_3 (by decide) (by omega) (fun c_3 => absurd c_3 (by decide)) (fun c_3 => ?_)
  refine V_aload_n (i := 0) F dJ6_isLatin1_6 rfl rfl ?_
  refine V_getf F dJ6_isLatin1_7 fc_J6_15_J6 hs rfl ?_
  refine V_if_neN (tgt := 17) F dJ6_isLatin1_10 (by decide) (by omega) (fun c_10 => absurd c_10 (by decide)) (fun c_10 => ?_)
  refine V_iconst (v := nI 1) F dJ6_isLatin1_13 rfl ?_
  refine V_goto (tgt := 18) F dJ6_isLatin1_14 (by decide) ?_
  exact V_iret F dJ6_isLatin1_18 rfl (Nat.le_of_ble_eq_true rfl) (Nat.le_of_ble_eq_true rfl) ⟨rfl, rfl⟩
theorem ct_J6_length {G : GG} {l : Launch} {h : AH} {a v len : Nat} {c : Nat → Nat} {hc hz : Int32} (hs : rd G h a (.inr (22, [.ref v, .int (nI 0), .int hc, .int hz]))) (hv : rd G h v (.inl (G.2.1 5, len, .inl (fun j => sb_b (c j))))) (hc9 : ∀ j, c j < 256) (hln : len < 2 ^ 31) : Ct G l yJ6_length cJ6_length 1 (some .int) 1 0 0 [.ref a] h (PR (.int (nI len)) h) := by
  refine Ct.of (by decide) (Nat.le_of_ble_eq_true rfl) (cat1 rfl) (fun X hXl F HN => ?_)
  subst hXl
  refine V_aload_n (i := 0) F dJ6_length_0 rfl rfl ?_
  refine V_getf F dJ6_length_1 fc_J6_9_J6 hs rfl ?_
  refine V_alen (v := nI (len)) F 5 dJ6_length_4 rfl hv rfl ?_
  refine V_aload_n (i := 0) F dJ6_length_5 rfl rfl ?_
  refine V_cV0r F dJ6_length_6 lk_J6_335 (ct_J6_coder hs hv hc9 hln) ⟨22, _, _, _, rfl, hs⟩ (Nat.le_of_ble_eq_true rfl) (Nat.le_of_ble_eq_true rfl) (Nat.le_of_ble_eq_true rfl) (Nat.le_of_ble_eq_true rfl) (Nat.le_of_ble_eq_true rfl) ?_
  refine V_ishrN F dJ6_length_9 (by decide) hln ?_
  exact V_iret F dJ6_length_10 rfl (Nat.le_of_ble_eq_true rfl) (Nat.le_of_ble_eq_true rfl) ⟨by rw [Nat.pow_zero, Nat.div_one], rfl⟩
theorem ct_J12_checkIndex {G : GG} {l : Launch} {h : AH} {k n : Nat} {o : Option Nat} (hk : k < n) (hn : n < 2 ^ 31) : Ct G l yJ12_checkIndex cJ12_checkIndex 3 (some .int) 0 0 0 [.int (nI k), .int (nI n), va_rf o] h (PR (.int (nI k)) h) := by
  refine Ct.of (by decide) (by cases o <;> exact (Nat.le_of_ble_eq_true rfl)) (fun v hv => by simp only [List.mem_cons, List.not_mem_nil, or_false] at hv; rcases hv with rfl | rfl | rfl; rfl; rfl; exact cat_rf _) (fun X hXl F HN => ?_)
  subst hXl
  refine V_iload_n (i := 0) F dJ12_checkIndex_0 rfl rfl ?_
  refine V_if_ltN (tgt := 9) F dJ12_checkIndex_1 (by decide) (by omega) ?_
  refine V_iload_n (i := 0) F dJ12_checkIndex_4 rfl rfl ?_
  refine V_iload_n (i := 1) F dJ12_checkIndex_5 rfl rfl ?_
  refine V_icmp_ltN (tgt := 16) F dJ12_checkIndex_6 (by decide) (by omega) hn (fun c_6 => ?_) (fun c_6 => absurd hk (by omega))
  refine V_iload_n (i := 0) F dJ12_checkIndex_16 rfl rfl ?_
  exact V_iret F dJ12_checkIndex_17 rfl (Nat.le_of_ble_eq_true rfl) (Nat.le_of_ble_eq_true rfl) ⟨rfl, rfl⟩
theorem ct_J6_checkIndex {G : GG} {l : Launch} {h : AH} {k n : Nat} (hk : k < n) (hn : n < 2 ^ 31) : Ct G l yJ6_checkIndex cJ6_checkIndex 2 none 1 0 0 [.int (nI k), .int (nI n)] h (PV h) := by
  refine Ct.of (by decide) (Nat.le_of_ble_eq_true rfl) (cat1 rfl) (fun X hXl F HN => ?_)
  subst hXl
  refine V_iload_n (i := 0) F dJ6_checkIndex_0 rfl rfl ?_
  refine V_iload_n (i := 1) F dJ6_checkIndex_1 rfl rfl ?_
  refine V_gets F dJ6_checkIndex_2 (List.mem_of_getElem? (i := 10) rfl) q620 ?_
  refine V_cS3r F dJ6_checkIndex_5 lk_J6_1059 (ct_J12_checkIndex hk hn) (Nat.le_of_ble_eq_true rfl) (Nat.le_of_ble_eq_true rfl) (Nat.le_of_ble_eq_true rfl) (Nat.le_of_ble_eq_true rfl) (Nat.le_of_ble_eq_true rfl) ?_
  refine V_pop F dJ6_checkIndex_8 rfl ?_
  exact V_vret F dJ6_checkIndex_9 (Nat.le_of_ble_eq_true rfl) (Nat.le_of_ble_eq_true rfl) ⟨rfl, rfl⟩
theorem ct_J20_charAt {G : GG} {l : Launch} {h : AH} {v len k : Nat} {c : Nat → Nat} (hv : rd G h v (.inl (G.2.1 5, len, .inl (fun j => sb_b (c j))))) (hc9 : ∀ j, c j < 256) (hln : len < 2 ^ 31) (hk : k < len) : Ct G l yJ20_charAt cJ20_charAt 2 (some .char) 2 0 0 [.ref v, .int (nI k)] h (PR (.int (nI (c k))) h) := by
  refine Ct.of (by decide) (Nat.le_of_ble_eq_true rfl) (cat1 rfl) (fun X hXl F HN => ?_)
  subst hXl
  refine V_iload_n (i := 1) F dJ20_charAt_0 rfl rfl ?_
  refine V_aload_n (i := 0) F dJ20_charAt_1 rfl rfl ?_
  refine V_alen (v := nI (len)) F 5 dJ20_charAt_2 rfl hv rfl ?_
  refine V_cS2v F dJ20_charAt_3 lk_J20_9 (ct_J6_checkIndex hk hln) (Nat.le_of_ble_eq_true rfl) (Nat.le_of_ble_eq_true rfl) (Nat.le_of_ble_eq_true rfl) (Nat.le_of_ble_eq_true rfl) (Nat.le_of_ble_eq_true rfl) ?_
  refine V_aload_n (i := 0) F dJ20_charAt_6 rfl rfl ?_
  refine V_iload_n (i := 1) F dJ20_charAt_7 rfl rfl ?_
  refine V_baldN F 5 dJ20_charAt_8 rfl hv hk hln ?_
  refine V_sipush (v := nI 255) F dJ20_charAt_9 rfl ?_
  refine V_iand255 F dJ20_charAt_12 (hc9 k) ?_
  refine V_i2cN F dJ20_charAt_13 (Nat.lt_trans (hc9 k) (by decide)) ?_
  exact V_iret F dJ20_charAt_14 (nar_c (Nat.lt_trans (hc9 k) (by decide))) (Nat.le_of_ble_eq_true rfl) (Nat.le_of_ble_eq_true rfl) ⟨rfl, rfl⟩
theorem ct_J6_charAt {G : GG} {l : Launch} {h : AH} {a v len : Nat} {c : Nat → Nat} {hc hz : Int32} {k : Nat} (hs : rd G h a (.inr (22, [.ref v, .int (nI 0), .int hc, .int hz]))) (hv : rd G h v (.inl (G.2.1 5, len, .inl (fun j => sb_b (c j))))) (hc9 : ∀ j, c j < 256) (hln : len < 2 ^ 31) (hk : k < len) : Ct G l yJ6_charAt cJ6_charAt 2 (some .char) 3 0 0 [.ref a, .int (nI k)] h (PR (.int (nI (c k))) h) := by
  refine Ct.of (by decide) (Nat.le_of_ble_eq_true rfl) (cat1 rfl) (fun X hXl F HN => ?_)
  subst hXl
  refine V_aload_n (i := 0) F dJ6_charAt_0 rfl rfl ?_
  refine V_cV0r F dJ6_charAt_1 lk_J6_492 (ct_J6_isLatin1 hs hv hc9 hln) ⟨22, _, _, _, rfl, hs⟩ (Nat.le_of_ble_eq_true rfl) (Nat.le_of_ble_eq_true rfl) (Nat.le_of_ble_eq_true rfl) (Nat.le_of_ble_eq_true rfl) (Nat.le_of_ble_eq_true rfl) ?_
  refine V_if_eqN (tgt := 16) F dJ6_charAt_4 (by decide) (by omega) (fun c_4 => absurd c_4 (by decide)) (fun c_4 => ?_)
  refine V_aload_n (i := 0) F dJ6_charAt_7 rfl rfl ?_
  refine V_getf F dJ6_charAt_8 fc_J6_9_J6 hs rfl ?_
  refine V_iload_n (i := 1) F dJ6_charAt_11 rfl rfl ?_
  refine V_cS2r F dJ6_charAt_12 lk_J6_495 (ct_J20_charAt hv hc9 hln hk) (Nat.le_of_ble_eq_true rfl) (Nat.le_of_ble_eq_true rfl) (Nat.le_of_ble_eq_true rfl) (Nat.le_of_ble_eq_true rfl) (Nat.le_of_ble_eq_true rfl) ?_
  exact V_iret F dJ6_charAt_15 (nar_c (Nat.lt_trans (hc9 k) (by decide))) (Nat.le_of_ble_eq_true rfl) (Nat.le_of_ble_eq_true rfl) ⟨rfl, rfl⟩
