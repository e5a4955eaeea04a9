set_option maxRecDepth 100000
abbrev chA (G : GG) (n : Nat) (f : Nat → Int32) : va_E := .inl (G.2.1 4, n, .inl f)
theorem nI_bv {a : Nat} (h : a < 2 ^ 32) : (nI a).toBitVec.toNat = a := by
  show (BitVec.ofNat 32 a).toNat = a
  rw [BitVec.toNat_ofNat]; exact Nat.mod_eq_of_lt h
theorem i2c_nI {a : Nat} (h : a < 65536) : ((nI a).toUInt32 % 65536).toInt32 = nI a := by
  rw [pk_char, nI_bv (by omega), Nat.mod_eq_of_lt h]
theorem nar_c {a : Nat} (h : a < 65536) : narrow .char (.int (nI a)) = .int (nI a) := (pk_charN h).1
theorem vpnar_c {a : Nat} (h : a < 65536) : vp_nar .char (nI a) = nI a := by unfold vp_nar; rw [nar_c h]
theorem V_i2cN {G : GG} {X : CX} {cc : ByteArray} {nL : Nat} {own : String} {ret : Option FieldType} {d MC MS : Nat} {Q : State → Prop} {h : AH} {kc n : Nat} {L : LV} {st : List Value} {pc : Nat} {a : Nat} (F : Fx G X cc nL own ret d MC MS) (hd : decode cc pc = .ok (.i2c, 1)) (ha : a < 65536) (k : VV G X nL Q h kc n L (.int (nI a) :: st) (pc + 1)) : VV G X nL Q h kc n L (.int (nI a) :: st) pc := V_i2c F hd (by rw [i2c_nI ha]; exact k)
theorem V_castG {G : GG} {X : CX} {cc : ByteArray} {nL : Nat} {own : String} {ret : Option FieldType} {d MC MS : Nat} {Q : State → Prop} {h : AH} {kc n : Nat} {L : LV} {st : List Value} {pc : Nat} {a N j v : Nat} {g : Nat → Nat} (F : Fx G X cc nL own ret d MC MS) (hd : decode cc pc = .ok (.castore, 1)) (he : h a = some (chA G N (fun i => nI (g i)))) (hj : j < N) (hN : N < 2 ^ 31) (hv : v < 65536) (kk : VV G X nL Q (hset h a (chA G N (fun i => nI ((up g j v) i)))) kc n L st (pc + 1)) : VV G X nL Q h kc n L (.int (nI v) :: .int (nI j) :: .ref a :: st) pc := V_castN F 4 hd rfl he hj hN (by rw [vpnar_c hv, upd_up]; exact kk)
def wrH (G : GG) (h : AH) (m : Nat) (fs : List Value) (aW : Nat) (x : Nat → Nat) (n : Nat) : AH := hset (hset h aW (chA G 60 (fun i => nI (x i)))) m (.inr (0, fs.set 13 (.int (nI n))))
theorem wrH_m {G : GG} {h : AH} {m : Nat} {fs : List Value} {aW n : Nat} {x : Nat → Nat} : wrH G h m fs aW x n m = some (.inr (0, fs.set 13 (.int (nI n)))) := hset_self
theorem wrH_w {G : GG} {h : AH} {m : Nat} {fs : List Value} {aW n : Nat} {x : Nat → Nat} (h1 : aW ≠ m) : wrH G h m fs aW x n aW = some (chA G 60 (fun i => nI (x i))) := (hset_ne h1).trans hset_self
theorem wrH_o {G : GG} {h : AH} {m : Nat} {fs : List Value} {aW n b : Nat} {x : Nat → Nat} (h1 : b ≠ m) (h2 : b ≠ aW) : wrH G h m fs aW x n b = h b := (hset_ne h1).trans (hset_ne h2)
theorem wrH_wr {G : GG} {h : AH} {m : Nat} {fs : List Value} {aW n n2 : Nat} {x x2 : Nat → Nat} (h1 : aW ≠ m) : wrH G (wrH G h m fs aW x n) m (fs.set 13 (.int (nI n))) aW x2 n2 = wrH G h m fs aW x2 n2 := by
  unfold wrH
  rw [List.set_set, hset_comm (Ne.symm h1), hset_hset, hset_hset]
theorem wrH_h {G : GG} {h : AH} {m : Nat} {fs : List Value} {aW n : Nat} {x : Nat → Nat} {e : va_E} (h1 : aW ≠ m) : wrH G (hset h m e) m fs aW x n = wrH G h m fs aW x n := by
  unfold wrH; rw [hset_comm (Ne.symm h1), hset_hset]
theorem wrH_1 {G : GG} {h : AH} {m : Nat} {fs : List Value} {aW n : Nat} {x : Nat → Nat} (hx : h aW = some (chA G 60 (fun i => nI (x i)))) : hset h m (.inr (0, fs.set 13 (.int (nI n)))) = wrH G h m fs aW x n := by
  unfold wrH; rw [hset_id hx]
/-- the signs of a list put from n on -/
def apL (x : Nat → Nat) (n : Nat) (l : List Nat) : Nat → Nat := fun i => if n ≤ i ∧ i < n + l.length then l.getD (i - n) 0 else x i
theorem apL_nil {x : Nat → Nat} {n : Nat} : apL x n [] = x := by funext i; exact if_neg (by simp)
theorem apL_snoc {x : Nat → Nat} {n c : Nat} {l : List Nat} : up (apL x n l) (n + l.length) c = apL x n (l ++ [c]) := by
  funext i; unfold up apL
  by_cases h1 : i = n + l.length
  · rw [if_pos h1, if_pos (by rw [List.length_append, List.length_singleton]; omega), h1, Nat.add_sub_cancel_left]
    simp [List.getD]
  · rw [if_neg h1]
    by_cases h2 : n ≤ i ∧ i < n + l.length
    · rw [if_pos h2, if_pos (by rw [List.length_append, List.length_singleton]; omega)]
      simp only [List.getD]
      rw [List.getElem?_append_left (by omega)]
    · rw [if_neg h2, if_neg (by rw [List.length_append, List.length_singleton]; omega)]
theorem apL_1 {x : Nat → Nat} {n c : Nat} : apL x n [c] = up x n c := by
  have := apL_snoc (x := x) (n := n) (c := c) (l := [])
  rw [apL_nil] at this; exact this.symm
theorem apL_ap {x : Nat → Nat} {n : Nat} {l : List Nat} : ∀ (r : List Nat), apL (apL x n l) (n + l.length) r = apL x n (l ++ r) := by
  intro r
  funext i
  unfold apL
  by_cases h1 : n + l.length ≤ i ∧ i < n + l.length + r.length
  · rw [if_pos h1, if_pos (by rw [List.length_append]; omega)]
    simp only [List.getD]
    rw [List.getElem?_append_right (by omega), Nat.sub_sub]
  · rw [if_neg h1]
    by_cases h2 : n ≤ i ∧ i < n + l.length
    · rw [if_pos h2, if_pos (by rw [List.length_append]; omega)]
      simp only [List.getD]
      rw [List.getElem?_append_left (by omega)]
    · rw [if_neg h2, if_neg (by rw [List.length_append]; omega)]
/-- the digits of a number, as signs: with fuel -/
def dgF : Nat → Nat → List Nat
  | 0, v => [48 + v]
  | k + 1, v => if v ≤ 9 then [48 + v] else dgF k (v / 10) ++ [48 + v % 10]
theorem dgF_len : ∀ k v, (dgF k v).length ≤ k + 1
  | 0, _ => Nat.le_refl _
  | k + 1, v => by
    unfold dgF; split
    · exact Nat.le_add_left _ _
    · rw [List.length_append, List.length_singleton]; have := dgF_len k (v / 10); omega
theorem dgF_s : ∀ k v, v < 10 ^ (k + 1) → dgF (k + 1) v = dgF k v
  | 0, v, h => by unfold dgF; rw [if_pos (by omega)]
  | k + 1, v, h => by
    unfold dgF
    by_cases q : v ≤ 9
    · rw [if_pos q, if_pos q]
    · rw [if_neg q, if_neg q, dgF_s k (v / 10) (by rw [Nat.pow_succ] at h; omega)]
theorem dgF_up {k v : Nat} (h : v < 10 ^ (k + 1)) : ∀ n, k ≤ n → dgF n v = dgF k v := by
  intro n hn
  induction n with
  | zero => rw [show k = 0 by omega]
  | succ n ih =>
    by_cases q : k = n + 1
    · rw [q]
    · rw [dgF_s n v (Nat.lt_of_lt_of_le h (Nat.pow_le_pow_right (by decide) (by omega))), ih (by omega)]
def dgL (v : Nat) : List Nat := dgF 6 v
theorem dgL_len {k v : Nat} (hk : k ≤ 6) (h : v < 10 ^ (k + 1)) : (dgL v).length ≤ k + 1 := by
  unfold dgL; rw [dgF_up h 6 hk]; exact dgF_len k v
theorem dgL_1 {v : Nat} (h : v ≤ 9) : dgL v = [48 + v] := by unfold dgL dgF; exact if_pos h
theorem dgL_s {v : Nat} (h : ¬ v ≤ 9) (h7 : v < 10 ^ 7) : dgL v = dgL (v / 10) ++ [48 + v % 10] := by
  unfold dgL
  rw [dgF_up (k := 5) (v := v / 10) (by omega) 6 (by decide)]
  show (if v ≤ 9 then _ else _) = _
  rw [if_neg h]
theorem wrH_ap {G : GG} {h : AH} {m : Nat} {fs : List Value} {aW : Nat} {x : Nat → Nat} {L r : List Nat} (h1 : aW ≠ m) : wrH G (wrH G h m fs aW (apL x 0 L) L.length) m (fs.set 13 (.int (nI L.length))) aW (apL (apL x 0 L) L.length r) (L.length + r.length) = wrH G h m fs aW (apL x 0 (L ++ r)) (L ++ r).length := by
  have := apL_ap (x := x) (n := 0) (l := L) r
  rw [Nat.zero_add] at this
  rw [wrH_wr h1, List.length_append, this]
def rtL (g : Nat → Nat) (t : Nat) : Nat → List Nat
  | 0 => dgL t ++ (58 :: dgL (plG g t 0))
  | j + 1 => rtL g t j ++ (45 :: dgL (ldG g t j)) ++ (45 :: dgL (plG g t (j + 1)))
def rtT (g : Nat → Nat) (t : Nat) : List Nat := if 0 < g (16 + 36 * t + 2) then rtL g t (g (16 + 36 * t + 3) - 1) ++ (43 :: dgL (g (16 + 36 * t + 2))) else rtL g t (g (16 + 36 * t + 3) - 1)
theorem rtL_len {g : Nat → Nat} {t : Nat} (ht : t < 10) (hp : ∀ k, k < g (16 + 36 * t + 3) → plG g t k < 10) (hl : ∀ k, k < g (16 + 36 * t + 3) - 1 → ldG g t k < 10) (h1 : 1 ≤ g (16 + 36 * t + 3)) : ∀ j, j < g (16 + 36 * t + 3) → (rtL g t j).length ≤ 3 + 4 * j
  | 0, hj => by
    have q1 := dgL_len (k := 0) (v := t) (by decide) (by omega)
    have q2 := dgL_len (k := 0) (v := plG g t 0) (by decide) (by have := hp 0 (by omega); omega)
    unfold rtL
    simp only [List.length_append, List.length_cons]
    omega
  | j + 1, hj => by
    have q0 := rtL_len ht hp hl h1 j (by omega)
    have q1 := dgL_len (k := 0) (v := ldG g t j) (by decide) (by have := hl j (by omega); omega)
    have q2 := dgL_len (k := 0) (v := plG g t (j + 1)) (by decide) (by have := hp (j + 1) (by omega); omega)
    unfold rtL
    simp only [List.length_append, List.length_cons]
    omega
def rcT (g : Nat → Nat) (k : Nat) : List Nat := dgL (g (232 + 4 * k + 0)) ++ (64 :: dgL (g (232 + 4 * k + 1))) ++ (62 :: dgL (g (232 + 4 * k + 2))) ++ (116 :: dgL (g (232 + 4 * k + 3)))

theorem ct_writes {G : GG} {l : Launch} {h : AH} {m : Nat} {fs : List Value} {aW : Nat} {x : Nat → Nat} {n : Nat} {c : Nat} (hm : h m = some (.inr (0, fs))) (h_signs : fs[12]? = some (.ref aW)) (hsg : h aW = some (chA G 60 (fun i => nI (x i)))) (h_signMany : fs[13]? = some (.int (nI n))) (hlen : fs.length = 25) (hc : c < 65536) (hn : n < 60) : Ct G l yX4_writes cX4_writes 2 none 0 0 0 [.ref m, .int (nI c)] h (PV (wrH G h m fs aW (up x n c) (n + 1))) := by
  refine Ct.of (by decide) (Nat.le_of_ble_eq_true rfl) (cat1 rfl) (fun X hXl F HN => ?_)
  subst hXl
  refine V_aload_n (i := 0) F dX4_writes_0 rfl rfl ?_
  refine V_getf F dX4_writes_1 fc_X4_32_X4 (.inl hm) h_signs ?_
  refine V_aload_n (i := 0) F dX4_writes_4 rfl rfl ?_
  refine V_getf F dX4_writes_5 fc_X4_190_X4 (.inl hm) h_signMany ?_
  refine V_iload_n (i := 1) F dX4_writes_8 rfl rfl ?_
  refine V_i2cN F dX4_writes_9 hc ?_
  refine V_castG F dX4_writes_10 hsg (by omega) (by decide) hc ?_
  refine V_aload_n (i := 0) F dX4_writes_11 rfl rfl ?_
  refine V_dup F dX4_writes_12 rfl ?_
  refine V_getf F dX4_writes_13 fc_X4_190_X4 (.inl ((hset_ne (ne_oa hm hsg)).trans hm)) h_signMany ?_
  refine V_iconst (v := nI 1) F dX4_writes_16 rfl ?_
  refine V_iaddN F dX4_writes_17 ?_
  refine V_putf F dX4_writes_18 fp_X4_190_X4 ((hset_ne (ne_oa hm hsg)).trans hm) rfl rfl (lenk hlen (by decide)) ?_
  exact V_vret F dX4_writes_21 (Nat.le_of_ble_eq_true rfl) (Nat.le_of_ble_eq_true rfl) ⟨rfl, rfl⟩
theorem ct_wn0 {G : GG} {l : Launch} {h : AH} {m : Nat} {fs : List Value} {aW : Nat} {x : Nat → Nat} {n : Nat} {v : Nat} (hm : h m = some (.inr (0, fs))) (h_signs : fs[12]? = some (.ref aW)) (hsg : h aW = some (chA G 60 (fun i => nI (x i)))) (h_signMany : fs[13]? = some (.int (nI n))) (hlen : fs.length = 25) (hv : v < 10 ^ 1) (hn : n + (dgL v).length ≤ 60) : Ct G l yX4_writesNumber cX4_writesNumber 2 none 1 0 0 [.ref m, .int (nI v)] h (PV (wrH G h m fs aW (apL x n (dgL v)) (n + (dgL v).length))) := by
  refine Ct.of (by decide) (Nat.le_of_ble_eq_true rfl) (cat1 rfl) (fun X hXl F HN => ?_)
  subst hXl
  refine V_iload_n (i := 1) F dX4_writesNumber_0 rfl rfl ?_
  refine V_bipush (v := nI 9) F dX4_writesNumber_1 rfl ?_
  refine V_icmp_leN (tgt := 14) F dX4_writesNumber_3 (by decide) (by omega) (by decide) (fun c_3 => ?_) (fun c_3 => absurd hv (by omega))
  have hd9 : dgL v = [48 + v] := dgL_1 c_3
  have hdl : (dgL v).length = 1 := by rw [hd9]; rfl
  have hvm : v % 10 = v := Nat.mod_eq_of_lt (by omega)
  refine V_aload_n (i := 0) F dX4_writesNumber_14 rfl rfl ?_
  refine V_bipush (v := nI 48) F dX4_writesNumber_15 rfl ?_
  refine V_iload_n (i := 1) F dX4_writesNumber_17 rfl rfl ?_
  refine V_bipush (v := nI 10) F dX4_writesNumber_18 rfl ?_
  refine V_iremN F dX4_writesNumber_20 (by omega) (by omega) (by omega) ?_
  refine V_iaddN F dX4_writesNumber_21 ?_
  refine V_cV1v F dX4_writesNumber_22 lk_X4_196 (ct_writes hm h_signs hsg h_signMany hlen (by omega) (by omega)) ⟨0, _, _, _, rfl, (.inl hm)⟩ (Nat.le_of_ble_eq_true rfl) (Nat.le_of_ble_eq_true rfl) (Nat.le_of_ble_eq_true rfl) (Nat.le_of_ble_eq_true rfl) (Nat.le_of_ble_eq_true rfl) ?_
  exact V_vret F dX4_writesNumber_25 (Nat.le_of_ble_eq_true rfl) (Nat.le_of_ble_eq_true rfl) ⟨rfl, by rw [hd9, hvm, apL_1]; rfl⟩
theorem ct_wn1 {G : GG} {l : Launch} {h : AH} {m : Nat} {fs : List Value} {aW : Nat} {x : Nat → Nat} {n : Nat} {v : Nat} (hm : h m = some (.inr (0, fs))) (h_signs : fs[12]? = some (.ref aW)) (hsg : h aW = some (chA G 60 (fun i => nI (x i)))) (h_signMany : fs[13]? = some (.int (nI n))) (hlen : fs.length = 25) (hv : v < 10 ^ 2) (hn : n + (dgL v).length ≤ 60) : Ct G l yX4_writesNumber cX4_writesNumber 2 none 2 0 0 [.ref m, .int (nI v)] h (PV (wrH G h m fs aW (apL x n (dgL v)) (n + (dgL v).length))) := by
  refine Ct.of (by decide) (Nat.le_of_ble_eq_true rfl) (cat1 rfl) (fun X hXl F HN => ?_)
  subst hXl
  refine V_iload_n (i := 1) F dX4_writesNumber_0 rfl rfl ?_
  refine V_bipush (v := nI 9) F dX4_writesNumber_1 rfl ?_
  refine V_icmp_leN (tgt := 14) F dX4_writesNumber_3 (by decide) (by omega) (by decide) (fun c_3 => ?_) (fun c_3 => ?_)
  · have hd9 : dgL v = [48 + v] := dgL_1 c_3
    have hdl : (dgL v).length = 1 := by rw [hd9]; rfl
    have hvm : v % 10 = v := Nat.mod_eq_of_lt (by omega)
    refine V_aload_n (i := 0) F dX4_writesNumber_14 rfl rfl ?_
    refine V_bipush (v := nI 48) F dX4_writesNumber_15 rfl ?_
    refine V_iload_n (i := 1) F dX4_writesNumber_17 rfl rfl ?_
    refine V_bipush (v := nI 10) F dX4_writesNumber_18 rfl ?_
    refine V_iremN F dX4_writesNumber_20 (by omega) (by omega) (by omega) ?_
    refine V_iaddN F dX4_writesNumber_21 ?_
    refine V_cV1v F dX4_writesNumber_22 lk_X4_196 (ct_writes hm h_signs hsg h_signMany hlen (by omega) (by omega)) ⟨0, _, _, _, rfl, (.inl hm)⟩ (Nat.le_of_ble_eq_true rfl) (Nat.le_of_ble_eq_true rfl) (Nat.le_of_ble_eq_true rfl) (Nat.le_of_ble_eq_true rfl) (Nat.le_of_ble_eq_true rfl) ?_
    exact V_vret F dX4_writesNumber_25 (Nat.le_of_ble_eq_true rfl) (Nat.le_of_ble_eq_true rfl) ⟨rfl, by rw [hd9, hvm, apL_1]; rfl⟩
  · have hd9 := dgL_s (v := v) (by omega) (by omega)
    have hdl : (dgL v).length = (dgL (v / 10)).length + 1 := by rw [hd9, List.length_append, List.length_singleton]
    refine V_aload_n (i := 0) F dX4_writesNumber_6 rfl rfl ?_
    refine V_iload_n (i := 1) F dX4_writesNumber_7 rfl rfl ?_
    refine V_bipush (v := nI 10) F dX4_writesNumber_8 rfl ?_
    refine V_idivN F dX4_writesNumber_10 (by omega) (by omega) (by omega) ?_
    refine V_cV1v F dX4_writesNumber_11 lk_X4_193 (ct_wn0 hm h_signs hsg h_signMany hlen (by omega) (by omega)) ⟨0, _, _, _, rfl, (.inl hm)⟩ (Nat.le_of_ble_eq_true rfl) (Nat.le_of_ble_eq_true rfl) (Nat.le_of_ble_eq_true rfl) (Nat.le_of_ble_eq_true rfl) (Nat.le_of_ble_eq_true rfl) ?_
    refine V_aload_n (i := 0) F dX4_writesNumber_14 rfl rfl ?_
    refine V_bipush (v := nI 48) F dX4_writesNumber_15 rfl ?_
    refine V_iload_n (i := 1) F dX4_writesNumber_17 rfl rfl ?_
    refine V_bipush (v := nI 10) F dX4_writesNumber_18 rfl ?_
    refine V_iremN F dX4_writesNumber_20 (by omega) (by omega) (by omega) ?_
    refine V_iaddN F dX4_writesNumber_21 ?_
    refine V_cV1v F dX4_writesNumber_22 lk_X4_196 (ct_writes wrH_m (gset h_signs (by decide)) (wrH_w (ne_ao hsg hm)) (gself (lenk hlen (by decide))) (lens hlen) (by omega) (by omega)) ⟨0, _, _, _, rfl, (.inl wrH_m)⟩ (Nat.le_of_ble_eq_true rfl) (Nat.le_of_ble_eq_true rfl) (Nat.le_of_ble_eq_true rfl) (Nat.le_of_ble_eq_true rfl) (Nat.le_of_ble_eq_true rfl) ?_
    refine VV.heap (h' := wrH G h m fs aW (up (apL x n (dgL (v / 10))) (n + (dgL (v / 10)).length) (48 + (v % 10))) ((n + (dgL (v / 10)).length) + 1)) (wrH_wr (ne_ao hsg hm)) ?_
    exact V_vret F dX4_writesNumber_25 (Nat.le_of_ble_eq_true rfl) (Nat.le_of_ble_eq_true rfl) ⟨rfl, by rw [hd9, List.length_append, List.length_singleton, apL_snoc, Nat.add_assoc]⟩
theorem ct_wn2 {G : GG} {l : Launch} {h : AH} {m : Nat} {fs : List Value} {aW : Nat} {x : Nat → Nat} {n : Nat} {v : Nat} (hm : h m = some (.inr (0, fs))) (h_signs : fs[12]? = some (.ref aW)) (hsg : h aW = some (chA G 60 (fun i => nI (x i)))) (h_signMany : fs[13]? = some (.int (nI n))) (hlen : fs.length = 25) (hv : v < 10 ^ 3) (hn : n + (dgL v).length ≤ 60) : Ct G l yX4_writesNumber cX4_writesNumber 2 none 3 0 0 [.ref m, .int (nI v)] h (PV (wrH G h m fs aW (apL x n (dgL v)) (n + (dgL v).length))) := by
  refine Ct.of (by decide) (Nat.le_of_ble_eq_true rfl) (cat1 rfl) (fun X hXl F HN => ?_)
  subst hXl
  refine V_iload_n (i := 1) F dX4_writesNumber_0 rfl rfl ?_
  refine V_bipush (v := nI 9) F dX4_writesNumber_1 rfl ?_
  refine V_icmp_leN (tgt := 14) F dX4_writesNumber_3 (by decide) (by omega) (by decide) (fun c_3 => ?_) (fun c_3 => ?_)
  · have hd9 : dgL v = [48 + v] := dgL_1 c_3
    have hdl : (dgL v).length = 1 := by rw [hd9]; rfl
    have hvm : v % 10 = v := Nat.mod_eq_of_lt (by omega)
    refine V_aload_n (i := 0) F dX4_writesNumber_14 rfl rfl ?_
    refine V_bipush (v := nI 48) F dX4_writesNumber_15 rfl ?_
    refine V_iload_n (i := 1) F dX4_writesNumber_17 rfl rfl ?_
    refine V_bipush (v := nI 10) F dX4_writesNumber_18 rfl ?_
    refine V_iremN F dX4_writesNumber_20 (by omega) (by omega) (by omega) ?_
    refine V_iaddN F dX4_writesNumber_21 ?_
    refine V_cV1v F dX4_writesNumber_22 lk_X4_196 (ct_writes hm h_signs hsg h_signMany hlen (by omega) (by omega)) ⟨0, _, _, _, rfl, (.inl hm)⟩ (Nat.le_of_ble_eq_true rfl) (Nat.le_of_ble_eq_true rfl) (Nat.le_of_ble_eq_true rfl) (Nat.le_of_ble_eq_true rfl) (Nat.le_of_ble_eq_true rfl) ?_
    exact V_vret F dX4_writesNumber_25 (Nat.le_of_ble_eq_true rfl) (Nat.le_of_ble_eq_true rfl) ⟨rfl, by rw [hd9, hvm, apL_1]; rfl⟩
  · have hd9 := dgL_s (v := v) (by omega) (by omega)
    have hdl : (dgL v).length = (dgL (v / 10)).length + 1 := by rw [hd9, List.length_append, List.length_singleton]
    refine V_aload_n (i := 0) F dX4_writesNumber_6 rfl rfl ?_
    refine V_iload_n (i := 1) F dX4_writesNumber_7 rfl rfl ?_
    refine V_bipush (v := nI 10) F dX4_writesNumber_8 rfl ?_
    refine V_idivN F dX4_writesNumber_10 (by omega) (by omega) (by omega) ?_
    refine V_cV1v F dX4_writesNumber_11 lk_X4_193 (ct_wn1 hm h_signs hsg h_signMany hlen (by omega) (by omega)) ⟨0, _, _, _, rfl, (.inl hm)⟩ (Nat.le_of_ble_eq_true rfl) (Nat.le_of_ble_eq_true rfl) (Nat.le_of_ble_eq_true rfl) (Nat.le_of_ble_eq_true rfl) (Nat.le_of_ble_eq_true rfl) ?_
    refine V_aload_n (i := 0) F dX4_writesNumber_14 rfl rfl ?_
    refine V_bipush (v := nI 48) F dX4_writesNumber_15 rfl ?_
    refine V_iload_n (i := 1) F dX4_writesNumber_17 rfl rfl ?_
    refine V_bipush (v := nI 10) F dX4_writesNumber_18 rfl ?_
    refine V_iremN F dX4_writesNumber_20 (by omega) (by omega) (by omega) ?_
    refine V_iaddN F dX4_writesNumber_21 ?_
    refine V_cV1v F dX4_writesNumber_22 lk_X4_196 (ct_writes wrH_m (gset h_signs (by decide)) (wrH_w (ne_ao hsg hm)) (gself (lenk hlen (by decide))) (lens hlen) (by omega) (by omega)) ⟨0, _, _, _, rfl, (.inl wrH_m)⟩ (Nat.le_of_ble_eq_true rfl) (Nat.le_of_ble_eq_true rfl) (Nat.le_of_ble_eq_true rfl) (Nat.le_of_ble_eq_true rfl) (Nat.le_of_ble_eq_true rfl) ?_
    refine VV.heap (h' := wrH G h m fs aW (up (apL x n (dgL (v / 10))) (n + (dgL (v / 10)).length) (48 + (v % 10))) ((n + (dgL (v / 10)).length) + 1)) (wrH_wr (ne_ao hsg hm)) ?_
    exact V_vret F dX4_writesNumber_25 (Nat.le_of_ble_eq_true rfl) (Nat.le_of_ble_eq_true rfl) ⟨rfl, by rw [hd9, List.length_append, List.length_singleton, apL_snoc, Nat.add_assoc]⟩
theorem ct_wn3 {G : GG} {l : Launch} {h : AH} {m : Nat} {fs : List Value} {aW : Nat} {x : Nat → Nat} {n : Nat} {v : Nat} (hm : h m = some (.inr (0, fs))) (h_signs : fs[12]? = some (.ref aW)) (hsg : h aW = some (chA G 60 (fun i => nI (x i)))) (h_signMany : fs[13]? = some (.int (nI n))) (hlen : fs.length = 25) (hv : v < 10 ^ 4) (hn : n + (dgL v).length ≤ 60) : Ct G l yX4_writesNumber cX4_writesNumber 2 none 4 0 0 [.ref m, .int (nI v)] h (PV (wrH G h m fs aW (apL x n (dgL v)) (n + (dgL v).length))) := by
  refine Ct.of (by decide) (Nat.le_of_ble_eq_true rfl) (cat1 rfl) (fun X hXl F HN => ?_)
  subst hXl
  refine V_iload_n (i := 1) F dX4_writesNumber_0 rfl rfl ?_
  refine V_bipush (v := nI 9) F dX4_writesNumber_1 rfl ?_
  refine V_icmp_leN (tgt := 14) F dX4_writesNumber_3 (by decide) (by omega) (by decide) (fun c_3 => ?_) (fun c_3 => ?_)
  · have hd9 : dgL v = [48 + v] := dgL_1 c_3
    have hdl : (dgL v).length = 1 := by rw [hd9]; rfl
    have hvm : v % 10 = v := Nat.mod_eq_of_lt (by omega)
    refine V_aload_n (i := 0) F dX4_writesNumber_14 rfl rfl ?_
    refine V_bipush (v := nI 48) F dX4_writesNumber_15 rfl ?_
    refine V_iload_n (i := 1) F dX4_writesNumber_17 rfl rfl ?_
    refine V_bipush (v := nI 10) F dX4_writesNumber_18 rfl ?_
    refine V_iremN F dX4_writesNumber_20 (by omega) (by omega) (by omega) ?_
    refine V_iaddN F dX4_writesNumber_21 ?_
    refine V_cV1v F dX4_writesNumber_22 lk_X4_196 (ct_writes hm h_signs hsg h_signMany hlen (by omega) (by omega)) ⟨0, _, _, _, rfl, (.inl hm)⟩ (Nat.le_of_ble_eq_true rfl) (Nat.le_of_ble_eq_true rfl) (Nat.le_of_ble_eq_true rfl) (Nat.le_of_ble_eq_true rfl) (Nat.le_of_ble_eq_true rfl) ?_
    exact V_vret F dX4_writesNumber_25 (Nat.le_of_ble_eq_true rfl) (Nat.le_of_ble_eq_true rfl) ⟨rfl, by rw [hd9, hvm, apL_1]; rfl⟩
  · have hd9 := dgL_s (v := v) (by omega) (by omega)
    have hdl : (dgL v).length = (dgL (v / 10)).length + 1 := by rw [hd9, List.length_append, List.length_singleton]
    refine V_aload_n (i := 0) F dX4_writesNumber_6 rfl rfl ?_
    refine V_iload_n (i := 1) F dX4_writesNumber_7 rfl rfl ?_
    refine V_bipush (v := nI 10) F dX4_writesNumber_8 rfl ?_
    refine V_idivN F dX4_writesNumber_10 (by omega) (by omega) (by omega) ?_
    refine V_cV1v F dX4_writesNumber_11 lk_X4_193 (ct_wn2 hm h_signs hsg h_signMany hlen (by omega) (by omega)) ⟨0, _, _, _, rfl, (.inl hm)⟩ (Nat.le_of_ble_eq_true rfl) (Nat.le_of_ble_eq_true rfl) (Nat.le_of_ble_eq_true rfl) (Nat.le_of_ble_eq_true rfl) (Nat.le_of_ble_eq_true rfl) ?_
    refine V_aload_n (i := 0) F dX4_writesNumber_14 rfl rfl ?_
    refine V_bipush (v := nI 48) F dX4_writesNumber_15 rfl ?_
    refine V_iload_n (i := 1) F dX4_writesNumber_17 rfl rfl ?_
    refine V_bipush (v := nI 10) F dX4_writesNumber_18 rfl ?_
    refine V_iremN F dX4_writesNumber_20 (by omega) (by omega) (by omega) ?_
    refine V_iaddN F dX4_writesNumber_21 ?_
    refine V_cV1v F dX4_writesNumber_22 lk_X4_196 (ct_writes wrH_m (gset h_signs (by decide)) (wrH_w (ne_ao hsg hm)) (gself (lenk hlen (by decide))) (lens hlen) (by omega) (by omega)) ⟨0, _, _, _, rfl, (.inl wrH_m)⟩ (Nat.le_of_ble_eq_true rfl) (Nat.le_of_ble_eq_true rfl) (Nat.le_of_ble_eq_true rfl) (Nat.le_of_ble_eq_true rfl) (Nat.le_of_ble_eq_true rfl) ?_
    refine VV.heap (h' := wrH G h m fs aW (up (apL x n (dgL (v / 10))) (n + (dgL (v / 10)).length) (48 + (v % 10))) ((n + (dgL (v / 10)).length) + 1)) (wrH_wr (ne_ao hsg hm)) ?_
    exact V_vret F dX4_writesNumber_25 (Nat.le_of_ble_eq_true rfl) (Nat.le_of_ble_eq_true rfl) ⟨rfl, by rw [hd9, List.length_append, List.length_singleton, apL_snoc, Nat.add_assoc]⟩
theorem ct_wn4 {G : GG} {l : Launch} {h : AH} {m : Nat} {fs : List Value} {aW : Nat} {x : Nat → Nat} {n : Nat} {v : Nat} (hm : h m = some (.inr (0, fs))) (h_signs : fs[12]? = some (.ref aW)) (hsg : h aW = some (chA G 60 (fun i => nI (x i)))) (h_signMany : fs[13]? = some (.int (nI n))) (hlen : fs.length = 25) (hv : v < 10 ^ 5) (hn : n + (dgL v).length ≤ 60) : Ct G l yX4_writesNumber cX4_writesNumber 2 none 5 0 0 [.ref m, .int (nI v)] h (PV (wrH G h m fs aW (apL x n (dgL v)) (n + (dgL v).length))) := by
  refine Ct.of (by decide) (Nat.le_of_ble_eq_true rfl) (cat1 rfl) (fun X hXl F HN => ?_)
  subst hXl
  refine V_iload_n (i := 1) F dX4_writesNumber_0 rfl rfl ?_
  refine V_bipush (v := nI 9) F dX4_writesNumber_1 rfl ?_
  refine V_icmp_leN (tgt := 14) F dX4_writesNumber_3 (by decide) (by omega) (by decide) (fun c_3 => ?_) (fun c_3 => ?_)
  · have hd9 : dgL v = [48 + v] := dgL_1 c_3
    have hdl : (dgL v).length = 1 := by rw [hd9]; rfl
    have hvm : v % 10 = v := Nat.mod_eq_of_lt (by omega)
    refine V_aload_n (i := 0) F dX4_writesNumber_14 rfl rfl ?_
    refine V_bipush (v := nI 48) F dX4_writesNumber_15 rfl ?_
    refine V_iload_n (i := 1) F dX4_writesNumber_17 rfl rfl ?_
    refine V_bipush (v := nI 10) F dX4_writesNumber_18 rfl ?_
    refine V_iremN F dX4_writesNumber_20 (by omega) (by omega) (by omega) ?_
    refine V_iaddN F dX4_writesNumber_21 ?_
    refine V_cV1v F dX4_writesNumber_22 lk_X4_196 (ct_writes hm h_signs hsg h_signMany hlen (by omega) (by omega)) ⟨0, _, _, _, rfl, (.inl hm)⟩ (Nat.le_of_ble_eq_true rfl) (Nat.le_of_ble_eq_true rfl) (Nat.le_of_ble_eq_true rfl) (Nat.le_of_ble_eq_true rfl) (Nat.le_of_ble_eq_true rfl) ?_
    exact V_vret F dX4_writesNumber_25 (Nat.le_of_ble_eq_true rfl) (Nat.le_of_ble_eq_true rfl) ⟨rfl, by rw [hd9, hvm, apL_1]; rfl⟩
  · have hd9 := dgL_s (v := v) (by omega) (by omega)
    have hdl : (dgL v).length = (dgL (v / 10)).length + 1 := by rw [hd9, List.length_append, List.length_singleton]
    refine V_aload_n (i := 0) F dX4_writesNumber_6 rfl rfl ?_
    refine V_iload_n (i := 1) F dX4_writesNumber_7 rfl rfl ?_
    refine V_bipush (v := nI 10) F dX4_writesNumber_8 rfl ?_
    refine V_idivN F dX4_writesNumber_10 (by omega) (by omega) (by omega) ?_
    refine V_cV1v F dX4_writesNumber_11 lk_X4_193 (ct_wn3 hm h_signs hsg h_signMany hlen (by omega) (by omega)) ⟨0, _, _, _, rfl, (.inl hm)⟩ (Nat.le_of_ble_eq_true rfl) (Nat.le_of_ble_eq_true rfl) (Nat.le_of_ble_eq_true rfl) (Nat.le_of_ble_eq_true rfl) (Nat.le_of_ble_eq_true rfl) ?_
    refine V_aload_n (i := 0) F dX4_writesNumber_14 rfl rfl ?_
    refine V_bipush (v := nI 48) F dX4_writesNumber_15 rfl ?_
    refine V_iload_n (i := 1) F dX4_writesNumber_17 rfl rfl ?_
    refine V_bipush (v := nI 10) F dX4_writesNumber_18 rfl ?_
    refine V_iremN F dX4_writesNumber_20 (by omega) (by omega) (by omega) ?_
    refine V_iaddN F dX4_writesNumber_21 ?_
    refine V_cV1v F dX4_writesNumber_22 lk_X4_196 (ct_writes wrH_m (gset h_signs (by decide)) (wrH_w (ne_ao hsg hm)) (gself (lenk hlen (by decide))) (lens hlen) (by omega) (by omega)) ⟨0, _, _, _, rfl, (.inl wrH_m)⟩ (Nat.le_of_ble_eq_true rfl) (Nat.le_of_ble_eq_true rfl) (Nat.le_of_ble_eq_true rfl) (Nat.le_of_ble_eq_true rfl) (Nat.le_of_ble_eq_true rfl) ?_
    refine VV.heap (h' := wrH G h m fs aW (up (apL x n (dgL (v / 10))) (n + (dgL (v / 10)).length) (48 + (v % 10))) ((n + (dgL (v / 10)).length) + 1)) (wrH_wr (ne_ao hsg hm)) ?_
    exact V_vret F dX4_writesNumber_25 (Nat.le_of_ble_eq_true rfl) (Nat.le_of_ble_eq_true rfl) ⟨rfl, by rw [hd9, List.length_append, List.length_singleton, apL_snoc, Nat.add_assoc]⟩
theorem ct_wn5 {G : GG} {l : Launch} {h : AH} {m : Nat} {fs : List Value} {aW : Nat} {x : Nat → Nat} {n : Nat} {v : Nat} (hm : h m = some (.inr (0, fs))) (h_signs : fs[12]? = some (.ref aW)) (hsg : h aW = some (chA G 60 (fun i => nI (x i)))) (h_signMany : fs[13]? = some (.int (nI n))) (hlen : fs.length = 25) (hv : v < 10 ^ 6) (hn : n + (dgL v).length ≤ 60) : Ct G l yX4_writesNumber cX4_writesNumber 2 none 6 0 0 [.ref m, .int (nI v)] h (PV (wrH G h m fs aW (apL x n (dgL v)) (n + (dgL v).length))) := by
  refine Ct.of (by decide) (Nat.le_of_ble_eq_true rfl) (cat1 rfl) (fun X hXl F HN => ?_)
  subst hXl
  refine V_iload_n (i := 1) F dX4_writesNumber_0 rfl rfl ?_
  refine V_bipush (v := nI 9) F dX4_writesNumber_1 rfl ?_
  refine V_icmp_leN (tgt := 14) F dX4_writesNumber_3 (by decide) (by omega) (by decide) (fun c_3 => ?_) (fun c_3 => ?_)
  · have hd9 : dgL v = [48 + v] := dgL_1 c_3
    have hdl : (dgL v).length = 1 := by rw [hd9]; rfl
    have hvm : v % 10 = v := Nat.mod_eq_of_lt (by omega)
    refine V_aload_n (i := 0) F dX4_writesNumber_14 rfl rfl ?_
    refine V_bipush (v := nI 48) F dX4_writesNumber_15 rfl ?_
    refine V_iload_n (i := 1) F dX4_writesNumber_17 rfl rfl ?_
    refine V_bipush (v := nI 10) F dX4_writesNumber_18 rfl ?_
    refine V_iremN F dX4_writesNumber_20 (by omega) (by omega) (by omega) ?_
    refine V_iaddN F dX4_writesNumber_21 ?_
    refine V_cV1v F dX4_writesNumber_22 lk_X4_196 (ct_writes hm h_signs hsg h_signMany hlen (by omega) (by omega)) ⟨0, _, _, _, rfl, (.inl hm)⟩ (Nat.le_of_ble_eq_true rfl) (Nat.le_of_ble_eq_true rfl) (Nat.le_of_ble_eq_true rfl) (Nat.le_of_ble_eq_true rfl) (Nat.le_of_ble_eq_true rfl) ?_
    exact V_vret F dX4_writesNumber_25 (Nat.le_of_ble_eq_true rfl) (Nat.le_of_ble_eq_true rfl) ⟨rfl, by rw [hd9, hvm, apL_1]; rfl⟩
  · have hd9 := dgL_s (v := v) (by omega) (by omega)
    have hdl : (dgL v).length = (dgL (v / 10)).length + 1 := by rw [hd9, List.length_append, List.length_singleton]
    refine V_aload_n (i := 0) F dX4_writesNumber_6 rfl rfl ?_
    refine V_iload_n (i := 1) F dX4_writesNumber_7 rfl rfl ?_
    refine V_bipush (v := nI 10) F dX4_writesNumber_8 rfl ?_
    refine V_idivN F dX4_writesNumber_10 (by omega) (by omega) (by omega) ?_
    refine V_cV1v F dX4_writesNumber_11 lk_X4_193 (ct_wn4 hm h_signs hsg h_signMany hlen (by omega) (by omega)) ⟨0, _, _, _, rfl, (.inl hm)⟩ (Nat.le_of_ble_eq_true rfl) (Nat.le_of_ble_eq_true rfl) (Nat.le_of_ble_eq_true rfl) (Nat.le_of_ble_eq_true rfl) (Nat.le_of_ble_eq_true rfl) ?_
    refine V_aload_n (i := 0) F dX4_writesNumber_14 rfl rfl ?_
    refine V_bipush (v := nI 48) F dX4_writesNumber_15 rfl ?_
    refine V_iload_n (i := 1) F dX4_writesNumber_17 rfl rfl ?_
    refine V_bipush (v := nI 10) F dX4_writesNumber_18 rfl ?_
    refine V_iremN F dX4_writesNumber_20 (by omega) (by omega) (by omega) ?_
    refine V_iaddN F dX4_writesNumber_21 ?_
    refine V_cV1v F dX4_writesNumber_22 lk_X4_196 (ct_writes wrH_m (gset h_signs (by decide)) (wrH_w (ne_ao hsg hm)) (gself (lenk hlen (by decide))) (lens hlen) (by omega) (by omega)) ⟨0, _, _, _, rfl, (.inl wrH_m)⟩ (Nat.le_of_ble_eq_true rfl) (Nat.le_of_ble_eq_true rfl) (Nat.le_of_ble_eq_true rfl) (Nat.le_of_ble_eq_true rfl) (Nat.le_of_ble_eq_true rfl) ?_
    refine VV.heap (h' := wrH G h m fs aW (up (apL x n (dgL (v / 10))) (n + (dgL (v / 10)).length) (48 + (v % 10))) ((n + (dgL (v / 10)).length) + 1)) (wrH_wr (ne_ao hsg hm)) ?_
    exact V_vret F dX4_writesNumber_25 (Nat.le_of_ble_eq_true rfl) (Nat.le_of_ble_eq_true rfl) ⟨rfl, by rw [hd9, List.length_append, List.length_singleton, apL_snoc, Nat.add_assoc]⟩
theorem ct_wn6 {G : GG} {l : Launch} {h : AH} {m : Nat} {fs : List Value} {aW : Nat} {x : Nat → Nat} {n : Nat} {v : Nat} (hm : h m = some (.inr (0, fs))) (h_signs : fs[12]? = some (.ref aW)) (hsg : h aW = some (chA G 60 (fun i => nI (x i)))) (h_signMany : fs[13]? = some (.int (nI n))) (hlen : fs.length = 25) (hv : v < 10 ^ 7) (hn : n + (dgL v).length ≤ 60) : Ct G l yX4_writesNumber cX4_writesNumber 2 none 7 0 0 [.ref m, .int (nI v)] h (PV (wrH G h m fs aW (apL x n (dgL v)) (n + (dgL v).length))) := by
  refine Ct.of (by decide) (Nat.le_of_ble_eq_true rfl) (cat1 rfl) (fun X hXl F HN => ?_)
  subst hXl
  refine V_iload_n (i := 1) F dX4_writesNumber_0 rfl rfl ?_
  refine V_bipush (v := nI 9) F dX4_writesNumber_1 rfl ?_
  refine V_icmp_leN (tgt := 14) F dX4_writesNumber_3 (by decide) (by omega) (by decide) (fun c_3 => ?_) (fun c_3 => ?_)
  · have hd9 : dgL v = [48 + v] := dgL_1 c_3
    have hdl : (dgL v).length = 1 := by rw [hd9]; rfl
    have hvm : v % 10 = v := Nat.mod_eq_of_lt (by omega)
    refine V_aload_n (i := 0) F dX4_writesNumber_14 rfl rfl ?_
    refine V_bipush (v := nI 48) F dX4_writesNumber_15 rfl ?_
    refine V_iload_n (i := 1) F dX4_writesNumber_17 rfl rfl ?_
    refine V_bipush (v := nI 10) F dX4_writesNumber_18 rfl ?_
    refine V_iremN F dX4_writesNumber_20 (by omega) (by omega) (by omega) ?_
    refine V_iaddN F dX4_writesNumber_21 ?_
    refine V_cV1v F dX4_writesNumber_22 lk_X4_196 (ct_writes hm h_signs hsg h_signMany hlen (by omega) (by omega)) ⟨0, _, _, _, rfl, (.inl hm)⟩ (Nat.le_of_ble_eq_true rfl) (Nat.le_of_ble_eq_true rfl) (Nat.le_of_ble_eq_true rfl) (Nat.le_of_ble_eq_true rfl) (Nat.le_of_ble_eq_true rfl) ?_
    exact V_vret F dX4_writesNumber_25 (Nat.le_of_ble_eq_true rfl) (Nat.le_of_ble_eq_true rfl) ⟨rfl, by rw [hd9, hvm, apL_1]; rfl⟩
  · have hd9 := dgL_s (v := v) (by omega) (by omega)
    have hdl : (dgL v).length = (dgL (v / 10)).length + 1 := by rw [hd9, List.length_append, List.length_singleton]
    refine V_aload_n (i := 0) F dX4_writesNumber_6 rfl rfl ?_
    refine V_iload_n (i := 1) F dX4_writesNumber_7 rfl rfl ?_
    refine V_bipush (v := nI 10) F dX4_writesNumber_8 rfl ?_
    refine V_idivN F dX4_writesNumber_10 (by omega) (by omega) (by omega) ?_
    refine V_cV1v F dX4_writesNumber_11 lk_X4_193 (ct_wn5 hm h_signs hsg h_signMany hlen (by omega) (by omega)) ⟨0, _, _, _, rfl, (.inl hm)⟩ (Nat.le_of_ble_eq_true rfl) (Nat.le_of_ble_eq_true rfl) (Nat.le_of_ble_eq_true rfl) (Nat.le_of_ble_eq_true rfl) (Nat.le_of_ble_eq_true rfl) ?_
    refine V_aload_n (i := 0) F dX4_writesNumber_14 rfl rfl ?_
    refine V_bipush (v := nI 48) F dX4_writesNumber_15 rfl ?_
    refine V_iload_n (i := 1) F dX4_writesNumber_17 rfl rfl ?_
    refine V_bipush (v := nI 10) F dX4_writesNumber_18 rfl ?_
    refine V_iremN F dX4_writesNumber_20 (by omega) (by omega) (by omega) ?_
    refine V_iaddN F dX4_writesNumber_21 ?_
    refine V_cV1v F dX4_writesNumber_22 lk_X4_196 (ct_writes wrH_m (gset h_signs (by decide)) (wrH_w (ne_ao hsg hm)) (gself (lenk hlen (by decide))) (lens hlen) (by omega) (by omega)) ⟨0, _, _, _, rfl, (.inl wrH_m)⟩ (Nat.le_of_ble_eq_true rfl) (Nat.le_of_ble_eq_true rfl) (Nat.le_of_ble_eq_true rfl) (Nat.le_of_ble_eq_true rfl) (Nat.le_of_ble_eq_true rfl) ?_
    refine VV.heap (h' := wrH G h m fs aW (up (apL x n (dgL (v / 10))) (n + (dgL (v / 10)).length) (48 + (v % 10))) ((n + (dgL (v / 10)).length) + 1)) (wrH_wr (ne_ao hsg hm)) ?_
    exact V_vret F dX4_writesNumber_25 (Nat.le_of_ble_eq_true rfl) (Nat.le_of_ble_eq_true rfl) ⟨rfl, by rw [hd9, List.length_append, List.length_singleton, apL_snoc, Nat.add_assoc]⟩
theorem ct_writesBehind {G : GG} {l : Launch} {h : AH} {m : Nat} {fs : List Value} {aW : Nat} {x : Nat → Nat} {n : Nat} {c v : Nat} (hm : h m = some (.inr (0, fs))) (h_signs : fs[12]? = some (.ref aW)) (hsg : h aW = some (chA G 60 (fun i => nI (x i)))) (h_signMany : fs[13]? = some (.int (nI n))) (hlen : fs.length = 25) (hc : c < 65536) (hv : v < 10 ^ 7) (hn : n + (c :: dgL v).length ≤ 60) : Ct G l yX4_writesBehind cX4_writesBehind 3 none 8 0 0 [.ref m, .int (nI c), .int (nI v)] h (PV (wrH G h m fs aW (apL x n (c :: dgL v)) (n + (c :: dgL v).length))) := by
  refine Ct.of (by decide) (Nat.le_of_ble_eq_true rfl) (cat1 rfl) (fun X hXl F HN => ?_)
  subst hXl
  rw [List.length_cons] at hn
  refine V_aload_n (i := 0) F dX4_writesBehind_0 rfl rfl ?_
  refine V_iload_n (i := 1) F dX4_writesBehind_1 rfl rfl ?_
  refine V_cV1v F dX4_writesBehind_2 lk_X4_196 (ct_writes hm h_signs hsg h_signMany hlen hc (by omega)) ⟨0, _, _, _, rfl, (.inl hm)⟩ (Nat.le_of_ble_eq_true rfl) (Nat.le_of_ble_eq_true rfl) (Nat.le_of_ble_eq_true rfl) (Nat.le_of_ble_eq_true rfl) (Nat.le_of_ble_eq_true rfl) ?_
  refine V_aload_n (i := 0) F dX4_writesBehind_5 rfl rfl ?_
  refine V_iload_n (i := 2) F dX4_writesBehind_6 rfl rfl ?_
  refine V_cV1v F dX4_writesBehind_7 lk_X4_193 (ct_wn6 wrH_m (gset h_signs (by decide)) (wrH_w (ne_ao hsg hm)) (gself (lenk hlen (by decide))) (lens hlen) (by omega) (by omega)) ⟨0, _, _, _, rfl, (.inl wrH_m)⟩ (Nat.le_of_ble_eq_true rfl) (Nat.le_of_ble_eq_true rfl) (Nat.le_of_ble_eq_true rfl) (Nat.le_of_ble_eq_true rfl) (Nat.le_of_ble_eq_true rfl) ?_
  refine VV.heap (h' := wrH G h m fs aW (apL (up x n c) (n + 1) (dgL v)) (n + 1 + (dgL v).length)) (wrH_wr (ne_ao hsg hm)) ?_
  have hx9 : apL (up x n c) (n + 1) (dgL v) = apL x n (c :: dgL v) := by rw [← apL_1]; exact apL_ap (dgL v)
  have hn9 : n + 1 + (dgL v).length = n + (c :: dgL v).length := by rw [List.length_cons]; omega
  exact V_vret F dX4_writesBehind_10 (Nat.le_of_ble_eq_true rfl) (Nat.le_of_ble_eq_true rfl) ⟨rfl, by rw [hx9, hn9]⟩
theorem ct_renderTrain {G : GG} {l : Launch} {h : AH} {m : Nat} {fs : List Value} {aG : Nat} {g : Nat → Nat} {p : Int32} {aW : Nat} {x : Nat → Nat} (hm : h m = some (.inr (0, fs))) (h_g : fs[0]? = some (.ref aG)) (hg : h aG = some (iA G 304 (fun i => nI (g i)))) (h_signs : fs[12]? = some (.ref aW)) (hsg : h aW = some (chA G 60 (fun i => nI (x i)))) (hGW : aG ≠ aW) (hlen : fs.length = 25) (hI : GW g) (hld9 : ∀ t, t < g 1 → ∀ k, k < g (16 + 36 * t + 3) - 1 → ldG g t k < 10) (hlt9 : ∀ t, t < g 1 → g (16 + 36 * t + 2) < 10 ^ 3) : Ct G l yX4_renderTrain cX4_renderTrain 3 (some .int) 9 0 0 [.ref m, .int p] h (PX (if ¬ iR p (g 1) then 1 else 0) (fun k => hset h m (.inr (0, fs.set 7 (.int (nI k))))) (.int (nI (rtT g (tn p)).length)) (wrH G h m (fs.set 7 (.int (nI 0))) aW (apL x 0 (rtT g (tn p))) (rtT g (tn p)).length)) := by
  refine Ct.of (by decide) (Nat.le_of_ble_eq_true rfl) (cat1 rfl) (fun X hXl F HN => ?_)
  subst hXl
  obtain ⟨hB, hn0, hn1, hn2, hn3, hst, hpl⟩ := hI
  refine V_aload_n (i := 0) F dX4_renderTrain_0 rfl rfl ?_
  refine V_aload_n (i := 0) F dX4_renderTrain_1 rfl rfl ?_
  refine V_iload_n (i := 1) F dX4_renderTrain_2 rfl rfl ?_
  refine V_cV1r F dX4_renderTrain_3 lk_X4_72 (ct_isTrain hm h_g hg hB.lt) ⟨0, _, _, _, rfl, (.inl hm)⟩ (Nat.le_of_ble_eq_true rfl) (Nat.le_of_ble_eq_true rfl) (Nat.le_of_ble_eq_true rfl) (Nat.le_of_ble_eq_true rfl) (Nat.le_of_ble_eq_true rfl) ?_
  refine V_if_eqB (tgt := 13) F dX4_renderTrain_6 (by decide) (fun c_6 => ?_) (fun c_6 => ?_)
  · refine V_iconst (v := nI 1) F dX4_renderTrain_13 rfl ?_
    refine V_cV1r F dX4_renderTrain_14 lk_X4_92 (ct_failsP 1 hm hlen (by decide)) ⟨0, _, _, _, rfl, (.inl hm)⟩ (Nat.le_of_ble_eq_true rfl) (Nat.le_of_ble_eq_true rfl) (Nat.le_of_ble_eq_true rfl) (Nat.le_of_ble_eq_true rfl) (Nat.le_of_ble_eq_true rfl) ?_
    refine V_if_eqN (tgt := 22) F dX4_renderTrain_17 (by decide) (by omega) (fun c_17 => absurd c_17 (by decide)) (fun c_17 => ?_)
    refine V_iconst (v := nI 0) F dX4_renderTrain_20 rfl ?_
    exact V_iret F dX4_renderTrain_21 rfl (Nat.le_of_ble_eq_true rfl) (Nat.le_of_ble_eq_true rfl) (PX.fail 1 (if_pos c_6) (by decide) rfl)
  · obtain ⟨t, ht, rfl⟩ := iR_of c_6 hB.lt
    have ht3 := hst t ht
    have hp9 : ∀ k, k < g (16 + 36 * t + 3) → plG g t k < 10 := fun k hk => by have := hpl t k ht hk; omega
    have hld : ∀ k, k < g (16 + 36 * t + 3) - 1 → ldG g t k < 10 := hld9 t ht
    have hlt := hlt9 t ht
    have hlL := fun j hj => Nat.le_trans (rtL_len (g := g) (t := t) (by omega) hp9 hld ht3.1 j hj) (show 3 + 4 * j ≤ 31 by omega)
    refine V_iconst (v := nI 0) F dX4_renderTrain_9 rfl ?_
    refine V_goto (tgt := 14) F dX4_renderTrain_10 (by decide) ?_
    refine V_cV1r F dX4_renderTrain_14 lk_X4_92 (ct_fails0 hm hlen) ⟨0, _, _, _, rfl, (.inl hm)⟩ (Nat.le_of_ble_eq_true rfl) (Nat.le_of_ble_eq_true rfl) (Nat.le_of_ble_eq_true rfl) (Nat.le_of_ble_eq_true rfl) (Nat.le_of_ble_eq_true rfl) ?_
    refine V_if_eqN (tgt := 22) F dX4_renderTrain_17 (by decide) (by omega) (fun c_17 => ?_) (fun c_17 => absurd c_17 (by decide))
    refine V_aload_n (i := 0) F dX4_renderTrain_22 rfl rfl ?_
    refine V_iconst (v := nI 0) F dX4_renderTrain_23 rfl ?_
    refine V_putf F dX4_renderTrain_24 fp_X4_190_X4 hset_self rfl rfl (lenk (lens hlen) (by decide)) ?_
    refine VV.heap (h' := wrH G h m (fs.set 7 (.int (nI 0))) aW (apL x 0 []) ([] : List Nat).length) (by rw [apL_nil, hset_hset]; exact (wrH_1 (x := x) hsg).trans rfl) ?_
    refine V_aload_n (i := 0) F dX4_renderTrain_27 rfl rfl ?_
    refine V_iload_n (i := 1) F dX4_renderTrain_28 rfl rfl ?_
    refine V_cV1v F dX4_renderTrain_29 lk_X4_193 (ct_wn6 wrH_m (gset (gset h_signs (by decide)) (by decide)) (wrH_w (ne_ao hsg hm)) (gself (lenk (lens hlen) (by decide))) (lens (lens hlen)) (by omega) (by have q1 := dgL_len (k := 0) (v := t) (by decide) (by omega); simp only [List.length_append, List.length_cons, List.length_nil]; omega)) ⟨0, _, _, _, rfl, (.inl wrH_m)⟩ (Nat.le_of_ble_eq_true rfl) (Nat.le_of_ble_eq_true rfl) (Nat.le_of_ble_eq_true rfl) (Nat.le_of_ble_eq_true rfl) (Nat.le_of_ble_eq_true rfl) ?_
    refine VV.heap (h' := wrH G h m (fs.set 7 (.int (nI 0))) aW (apL x 0 ([] ++ dgL t)) ([] ++ dgL t).length) (wrH_ap (ne_ao hsg hm)) ?_
    refine V_aload_n (i := 0) F dX4_renderTrain_32 rfl rfl ?_
    refine V_bipush (v := nI 58) F dX4_renderTrain_33 rfl ?_
    refine V_aload_n (i := 0) F dX4_renderTrain_35 rfl rfl ?_
    refine V_iload_n (i := 1) F dX4_renderTrain_36 rfl rfl ?_
    refine V_iconst (v := nI 0) F dX4_renderTrain_37 rfl ?_
    refine V_cV2r F dX4_renderTrain_38 lk_X4_102 (ct_place wrH_m (gset (gset h_g (by decide)) (by decide)) ((wrH_o (ne_ao hg hm) hGW).trans hg) (by omega) (by omega)) ⟨0, _, _, _, rfl, (.inl wrH_m)⟩ (Nat.le_of_ble_eq_true rfl) (Nat.le_of_ble_eq_true rfl) (Nat.le_of_ble_eq_true rfl) (Nat.le_of_ble_eq_true rfl) (Nat.le_of_ble_eq_true rfl) ?_
    have q0 := hlL 0 (by omega)
    unfold rtL at q0
    simp only [List.length_append, List.length_cons] at q0
    refine V_cV2v F dX4_renderTrain_41 lk_X4_199 (ct_writesBehind wrH_m (gset (gset h_signs (by decide)) (by decide)) (wrH_w (ne_ao hsg hm)) (gself (lenk (lens hlen) (by decide))) (lens (lens hlen)) (by decide) (by have := hp9 0 (by omega); omega) (by simp only [List.length_append, List.length_cons, List.length_nil]; omega)) ⟨0, _, _, _, rfl, (.inl wrH_m)⟩ (Nat.le_of_ble_eq_true rfl) (Nat.le_of_ble_eq_true rfl) (Nat.le_of_ble_eq_true rfl) (Nat.le_of_ble_eq_true rfl) (Nat.le_of_ble_eq_true rfl) ?_
    refine VV.heap (h' := wrH G h m (fs.set 7 (.int (nI 0))) aW (apL x 0 (([] ++ dgL t) ++ (58 :: dgL (plG g t 0)))) (([] ++ dgL t) ++ (58 :: dgL (plG g t 0))).length) (wrH_ap (ne_ao hsg hm)) ?_
    refine V_iconst (v := nI 1) F dX4_renderTrain_44 rfl ?_
    refine V_istore_n (i := 2) F dX4_renderTrain_45 rfl (Nat.le_of_ble_eq_true rfl) (Nat.le_of_ble_eq_true rfl) ?_
    have loop_46 : ∀ (nn : Nat) (j : Nat), g (16 + 36 * t + 3) < j + nn → j < g (16 + 36 * t + 3) → VV G X 3 (EQ G X 0 0 (PX (if ¬ iR (nI t) (g 1) then 1 else 0) (fun k => hset h m (.inr (0, fs.set 7 (.int (nI k))))) (.int (nI (rtT g (tn (nI t))).length)) (wrH G h m (fs.set 7 (.int (nI 0))) aW (apL x 0 (rtT g (tn (nI t)))) (rtT g (tn (nI t))).length))) (wrH G h m (fs.set 7 (.int (nI 0))) aW (apL x 0 (rtL g t j)) (rtL g t j).length) 0 0 [some (.ref (m)), some (.int (nI (t))), some (.int (nI (j + 1)))] [] 46 := by
      intro nn
      induction nn with
      | zero => intro j hn hj; exact absurd hn (by omega)
      | succ nn ih_46 =>
        intro j hn hj
        refine V_iload_n (i := 2) F dX4_renderTrain_46 rfl rfl ?_
        refine V_aload_n (i := 0) F dX4_renderTrain_47 rfl rfl ?_
        refine V_iload_n (i := 1) F dX4_renderTrain_48 rfl rfl ?_
        refine V_iconst (v := nI 3) F dX4_renderTrain_49 rfl ?_
        refine V_cV2r F dX4_renderTrain_50 lk_X4_76 (ct_of wrH_m (gset (gset h_g (by decide)) (by decide)) ((wrH_o (ne_ao hg hm) hGW).trans hg) (by omega)) ⟨0, _, _, _, rfl, (.inl wrH_m)⟩ (Nat.le_of_ble_eq_true rfl) (Nat.le_of_ble_eq_true rfl) (Nat.le_of_ble_eq_true rfl) (Nat.le_of_ble_eq_true rfl) (Nat.le_of_ble_eq_true rfl) ?_
        refine V_icmp_geN (tgt := 88) F dX4_renderTrain_53 (by decide) (by omega) hB.lt (fun c_53 => ?_) (fun c_53 => ?_)
        · have q0 := hlL j (by omega)
          refine V_aload_n (i := 0) F dX4_renderTrain_88 rfl rfl ?_
          refine V_iload_n (i := 1) F dX4_renderTrain_89 rfl rfl ?_
          refine V_iconst (v := nI 2) F dX4_renderTrain_90 rfl ?_
          refine V_cV2r F dX4_renderTrain_91 lk_X4_76 (ct_of wrH_m (gset (gset h_g (by decide)) (by decide)) ((wrH_o (ne_ao hg hm) hGW).trans hg) (by omega)) ⟨0, _, _, _, rfl, (.inl wrH_m)⟩ (Nat.le_of_ble_eq_true rfl) (Nat.le_of_ble_eq_true rfl) (Nat.le_of_ble_eq_true rfl) (Nat.le_of_ble_eq_true rfl) (Nat.le_of_ble_eq_true rfl) ?_
          refine V_if_leN (tgt := 109) F dX4_renderTrain_94 (by decide) hB.lt (fun c_94 => ?_) (fun c_94 => ?_)
          · refine V_aload_n (i := 0) F dX4_renderTrain_109 rfl rfl ?_
            refine V_getf F dX4_renderTrain_110 fc_X4_190_X4 (.inl wrH_m) (gself (lenk (lens hlen) (by decide))) ?_
            have hT9 : rtT g t = rtL g t j := by unfold rtT; rw [if_neg (by omega), show j = g (16 + 36 * t + 3) - 1 by omega]
            exact V_iret F dX4_renderTrain_113 rfl (Nat.le_of_ble_eq_true rfl) (Nat.le_of_ble_eq_true rfl) (PX.ok (if_neg (not_not_intro c_6)) (by rw [tn_nI (by omega), hT9]) (by rw [tn_nI (by omega), hT9]))
          · refine V_aload_n (i := 0) F dX4_renderTrain_97 rfl rfl ?_
            refine V_bipush (v := nI 43) F dX4_renderTrain_98 rfl ?_
            refine V_aload_n (i := 0) F dX4_renderTrain_100 rfl rfl ?_
            refine V_iload_n (i := 1) F dX4_renderTrain_101 rfl rfl ?_
            refine V_iconst (v := nI 2) F dX4_renderTrain_102 rfl ?_
            refine V_cV2r F dX4_renderTrain_103 lk_X4_76 (ct_of wrH_m (gset (gset h_g (by decide)) (by decide)) ((wrH_o (ne_ao hg hm) hGW).trans hg) (by omega)) ⟨0, _, _, _, rfl, (.inl wrH_m)⟩ (Nat.le_of_ble_eq_true rfl) (Nat.le_of_ble_eq_true rfl) (Nat.le_of_ble_eq_true rfl) (Nat.le_of_ble_eq_true rfl) (Nat.le_of_ble_eq_true rfl) ?_
            refine V_cV2v F dX4_renderTrain_106 lk_X4_199 (ct_writesBehind wrH_m (gset (gset h_signs (by decide)) (by decide)) (wrH_w (ne_ao hsg hm)) (gself (lenk (lens hlen) (by decide))) (lens (lens hlen)) (by decide) (by omega) (by have q3 := dgL_len (k := 2) (v := g (16 + 36 * t + 2)) (by decide) hlt; simp only [List.length_append, List.length_cons, List.length_nil]; omega)) ⟨0, _, _, _, rfl, (.inl wrH_m)⟩ (Nat.le_of_ble_eq_true rfl) (Nat.le_of_ble_eq_true rfl) (Nat.le_of_ble_eq_true rfl) (Nat.le_of_ble_eq_true rfl) (Nat.le_of_ble_eq_true rfl) ?_
            refine VV.heap (h' := wrH G h m (fs.set 7 (.int (nI 0))) aW (apL x 0 ((rtL g t j) ++ (43 :: dgL (g (16 + 36 * t + 2))))) ((rtL g t j) ++ (43 :: dgL (g (16 + 36 * t + 2)))).length) (wrH_ap (ne_ao hsg hm)) ?_
            refine V_aload_n (i := 0) F dX4_renderTrain_109 rfl rfl ?_
            refine V_getf F dX4_renderTrain_110 fc_X4_190_X4 (.inl wrH_m) (gself (lenk (lens hlen) (by decide))) ?_
            have hT9 : rtT g t = rtL g t j ++ (43 :: dgL (g (16 + 36 * t + 2))) := by unfold rtT; rw [if_pos c_94, show j = g (16 + 36 * t + 3) - 1 by omega]
            exact V_iret F dX4_renderTrain_113 rfl (Nat.le_of_ble_eq_true rfl) (Nat.le_of_ble_eq_true rfl) (PX.ok (if_neg (not_not_intro c_6)) (by rw [tn_nI (by omega), hT9]) (by rw [tn_nI (by omega), hT9]))
        · have q0 := hlL j (by omega)
          have q1 := dgL_len (k := 0) (v := ldG g t j) (by decide) (by have := hld j (by omega); omega)
          have q2 := dgL_len (k := 0) (v := plG g t (j + 1)) (by decide) (by have := hp9 (j + 1) (by omega); omega)
          refine V_aload_n (i := 0) F dX4_renderTrain_56 rfl rfl ?_
          refine V_bipush (v := nI 45) F dX4_renderTrain_57 rfl ?_
          refine V_aload_n (i := 0) F dX4_renderTrain_59 rfl rfl ?_
          refine V_iload_n (i := 1) F dX4_renderTrain_60 rfl rfl ?_
          refine V_iload_n (i := 2) F dX4_renderTrain_61 rfl rfl ?_
          refine V_iconst (v := nI 1) F dX4_renderTrain_62 rfl ?_
          refine V_isubN F dX4_renderTrain_63 (by omega) ?_
          refine VV.stk (st' := [.int (nI j), .int (nI t), .ref m, .int (nI 45), .ref m]) rfl ?_
          refine V_cV2r F dX4_renderTrain_64 lk_X4_89 (ct_carries wrH_m (gset (gset h_g (by decide)) (by decide)) ((wrH_o (ne_ao hg hm) hGW).trans hg) (by omega) (by omega) hn3 hB) ⟨0, _, _, _, rfl, (.inl wrH_m)⟩ (Nat.le_of_ble_eq_true rfl) (Nat.le_of_ble_eq_true rfl) (Nat.le_of_ble_eq_true rfl) (Nat.le_of_ble_eq_true rfl) (Nat.le_of_ble_eq_true rfl) ?_
          refine V_cV2v F dX4_renderTrain_67 lk_X4_199 (ct_writesBehind wrH_m (gset (gset h_signs (by decide)) (by decide)) (wrH_w (ne_ao hsg hm)) (gself (lenk (lens hlen) (by decide))) (lens (lens hlen)) (by decide) (by have := hld j (by omega); omega) (by simp only [List.length_append, List.length_cons, List.length_nil]; omega)) ⟨0, _, _, _, rfl, (.inl wrH_m)⟩ (Nat.le_of_ble_eq_true rfl) (Nat.le_of_ble_eq_true rfl) (Nat.le_of_ble_eq_true rfl) (Nat.le_of_ble_eq_true rfl) (Nat.le_of_ble_eq_true rfl) ?_
          refine VV.heap (h' := wrH G h m (fs.set 7 (.int (nI 0))) aW (apL x 0 ((rtL g t j) ++ (45 :: dgL (ldG g t j)))) ((rtL g t j) ++ (45 :: dgL (ldG g t j))).length) (wrH_ap (ne_ao hsg hm)) ?_
          refine V_aload_n (i := 0) F dX4_renderTrain_70 rfl rfl ?_
          refine V_bipush (v := nI 45) F dX4_renderTrain_71 rfl ?_
          refine V_aload_n (i := 0) F dX4_renderTrain_73 rfl rfl ?_
          refine V_iload_n (i := 1) F dX4_renderTrain_74 rfl rfl ?_
          refine V_iload_n (i := 2) F dX4_renderTrain_75 rfl rfl ?_
          refine V_cV2r F dX4_renderTrain_76 lk_X4_102 (ct_place wrH_m (gset (gset h_g (by decide)) (by decide)) ((wrH_o (ne_ao hg hm) hGW).trans hg) (by omega) (by omega)) ⟨0, _, _, _, rfl, (.inl wrH_m)⟩ (Nat.le_of_ble_eq_true rfl) (Nat.le_of_ble_eq_true rfl) (Nat.le_of_ble_eq_true rfl) (Nat.le_of_ble_eq_true rfl) (Nat.le_of_ble_eq_true rfl) ?_
          refine V_cV2v F dX4_renderTrain_79 lk_X4_199 (ct_writesBehind wrH_m (gset (gset h_signs (by decide)) (by decide)) (wrH_w (ne_ao hsg hm)) (gself (lenk (lens hlen) (by decide))) (lens (lens hlen)) (by decide) (by have := hp9 (j + 1) (by omega); omega) (by simp only [List.length_append, List.length_cons, List.length_nil]; omega)) ⟨0, _, _, _, rfl, (.inl wrH_m)⟩ (Nat.le_of_ble_eq_true rfl) (Nat.le_of_ble_eq_true rfl) (Nat.le_of_ble_eq_true rfl) (Nat.le_of_ble_eq_true rfl) (Nat.le_of_ble_eq_true rfl) ?_
          refine VV.heap (h' := wrH G h m (fs.set 7 (.int (nI 0))) aW (apL x 0 (((rtL g t j) ++ (45 :: dgL (ldG g t j))) ++ (45 :: dgL (plG g t (j + 1))))) (((rtL g t j) ++ (45 :: dgL (ldG g t j))) ++ (45 :: dgL (plG g t (j + 1)))).length) (wrH_ap (ne_ao hsg hm)) ?_
          refine V_iinc (i := 2) (v := nI (j + 1 + 1)) F dX4_renderTrain_82 rfl (nI_add (j + 1) 1) (Nat.le_of_ble_eq_true rfl) ?_
          refine V_goto (tgt := 46) F dX4_renderTrain_85 (by decide) ?_
          refine VV.weak (L' := [some (.ref (m)), some (.int (nI (t))), some (.int (nI (j + 1 + 1)))]) (LW.c1 (LW.c1 (LW.c1 LW.nil))) ?_
          exact ih_46 (j + 1) (by omega) (by omega)
    refine VV.weak (L' := [some (.ref (m)), some (.int (nI (t))), some (.int (nI (1)))]) (LW.c1 (LW.c1 (LW.c1 LW.nil))) ?_
    exact loop_46 (g (16 + 36 * t + 3) + 1) 0 (by omega) (by omega)
theorem ct_renderSuitcaseN {G : GG} {l : Launch} {h : AH} {m : Nat} {fs : List Value} {aG : Nat} {g : Nat → Nat} {p : Int32} (hm : h m = some (.inr (0, fs))) (h_g : fs[0]? = some (.ref aG)) (hg : h aG = some (iA G 304 (fun i => nI (g i)))) (hlen : fs.length = 25) (hI : GW g) (hfo : fdO g 232 p (g 2) = none) : Ct G l yX4_renderSuitcase cX4_renderSuitcase 3 (some .int) 3 0 0 [.ref m, .int p] h (PR (.int (nI 0)) (hset h m (.inr (0, fs.set 7 (.int (nI 1)))))) := by
  refine Ct.of (by decide) (Nat.le_of_ble_eq_true rfl) (cat1 rfl) (fun X hXl F HN => ?_)
  subst hXl
  obtain ⟨hB, hn0, hn1, hn2, hn3, hst, hpl⟩ := hI
  refine V_aload_n (i := 0) F dX4_renderSuitcase_0 rfl rfl ?_
  refine V_iload_n (i := 1) F dX4_renderSuitcase_1 rfl rfl ?_
  refine V_cV1r F dX4_renderSuitcase_2 lk_X4_148 (ct_isLostN hm h_g hg hlen hn2 hB hfo) ⟨0, _, _, _, rfl, (.inl hm)⟩ (Nat.le_of_ble_eq_true rfl) (Nat.le_of_ble_eq_true rfl) (Nat.le_of_ble_eq_true rfl) (Nat.le_of_ble_eq_true rfl) (Nat.le_of_ble_eq_true rfl) ?_
  refine V_if_eqN (tgt := 10) F dX4_renderSuitcase_5 (by decide) (by omega) (fun c_5 => absurd c_5 (by decide)) (fun c_5 => ?_)
  refine V_iconst (v := nI 0) F dX4_renderSuitcase_8 rfl ?_
  exact V_iret F dX4_renderSuitcase_9 rfl (Nat.le_of_ble_eq_true rfl) (Nat.le_of_ble_eq_true rfl) ⟨rfl, rfl⟩
theorem ct_renderSuitcaseS {G : GG} {l : Launch} {h : AH} {m : Nat} {fs : List Value} {aG : Nat} {g : Nat → Nat} {p : Int32} {k : Nat} {aW : Nat} {x : Nat → Nat} (hm : h m = some (.inr (0, fs))) (h_g : fs[0]? = some (.ref aG)) (hg : h aG = some (iA G 304 (fun i => nI (g i)))) (h_signs : fs[12]? = some (.ref aW)) (hsg : h aW = some (chA G 60 (fun i => nI (x i)))) (hGW : aG ≠ aW) (hlen : fs.length = 25) (hI : GW g) (hca : g (232 + 4 * k + 1) < g 0) (hct : g (232 + 4 * k + 2) < g 0) (hfo : fdO g 232 p (g 2) = some k) : Ct G l yX4_renderSuitcase cX4_renderSuitcase 3 (some .int) 9 0 0 [.ref m, .int p] h (PR (.int (nI (rcT g k).length)) (wrH G h m (fs.set 7 (.int (nI 0))) aW (apL x 0 (rcT g k)) (rcT g k).length)) := by
  refine Ct.of (by decide) (Nat.le_of_ble_eq_true rfl) (cat1 rfl) (fun X hXl F HN => ?_)
  subst hXl
  obtain ⟨hB, hn0, hn1, hn2, hn3, hst, hpl⟩ := hI
  refine V_aload_n (i := 0) F dX4_renderSuitcase_0 rfl rfl ?_
  refine V_iload_n (i := 1) F dX4_renderSuitcase_1 rfl rfl ?_
  refine V_cV1r F dX4_renderSuitcase_2 lk_X4_148 (ct_isLostS hm h_g hg hlen hn2 hB hfo) ⟨0, _, _, _, rfl, (.inl hm)⟩ (Nat.le_of_ble_eq_true rfl) (Nat.le_of_ble_eq_true rfl) (Nat.le_of_ble_eq_true rfl) (Nat.le_of_ble_eq_true rfl) (Nat.le_of_ble_eq_true rfl) ?_
  refine V_if_eqN (tgt := 10) F dX4_renderSuitcase_5 (by decide) (by omega) (fun c_5 => ?_) (fun c_5 => absurd c_5 (by decide))
  have hk2 := (fdO_lt hfo).1
  have hpk := (fdO_lt hfo).2
  have hg0 := hB (232 + 4 * k + 0)
  have hg3 := hB (232 + 4 * k + 3)
  have q0 := dgL_len (k := 6) (v := g (232 + 4 * k + 0)) (by decide) (by omega)
  have q1 := dgL_len (k := 0) (v := g (232 + 4 * k + 1)) (by decide) (by omega)
  have q2 := dgL_len (k := 0) (v := g (232 + 4 * k + 2)) (by decide) (by omega)
  have q3 := dgL_len (k := 6) (v := g (232 + 4 * k + 3)) (by decide) (by omega)
  refine V_aload_n (i := 0) F dX4_renderSuitcase_10 rfl rfl ?_
  refine V_iload_n (i := 1) F dX4_renderSuitcase_11 rfl rfl ?_
  refine V_cV1r F dX4_renderSuitcase_12 lk_X4_144 (ct_foundS hset_self (gset h_g (by decide)) ((hset_ne (ne_ao hg hm)).trans hg) hn2 hB hfo) ⟨0, _, _, _, rfl, (.inl hset_self)⟩ (Nat.le_of_ble_eq_true rfl) (Nat.le_of_ble_eq_true rfl) (Nat.le_of_ble_eq_true rfl) (Nat.le_of_ble_eq_true rfl) (Nat.le_of_ble_eq_true rfl) ?_
  refine V_istore_n (i := 2) F dX4_renderSuitcase_15 rfl (Nat.le_of_ble_eq_true rfl) (Nat.le_of_ble_eq_true rfl) ?_
  subst hpk
  refine V_aload_n (i := 0) F dX4_renderSuitcase_16 rfl rfl ?_
  refine V_iconst (v := nI 0) F dX4_renderSuitcase_17 rfl ?_
  refine V_putf F dX4_renderSuitcase_18 fp_X4_190_X4 hset_self rfl rfl (lenk (lens hlen) (by decide)) ?_
  refine VV.heap (h' := wrH G h m (fs.set 7 (.int (nI 0))) aW (apL x 0 []) ([] : List Nat).length) (by rw [apL_nil, hset_hset]; exact (wrH_1 (x := x) hsg).trans rfl) ?_
  refine V_aload_n (i := 0) F dX4_renderSuitcase_21 rfl rfl ?_
  refine V_iload_n (i := 1) F dX4_renderSuitcase_22 rfl rfl ?_
  refine V_cV1v F dX4_renderSuitcase_23 lk_X4_193 (ct_wn6 wrH_m (gset (gset h_signs (by decide)) (by decide)) (wrH_w (ne_ao hsg hm)) (gself (lenk (lens hlen) (by decide))) (lens (lens hlen)) (by omega) (by simp only [List.length_append, List.length_cons, List.length_nil]; omega)) ⟨0, _, _, _, rfl, (.inl wrH_m)⟩ (Nat.le_of_ble_eq_true rfl) (Nat.le_of_ble_eq_true rfl) (Nat.le_of_ble_eq_true rfl) (Nat.le_of_ble_eq_true rfl) (Nat.le_of_ble_eq_true rfl) ?_
  refine VV.heap (h' := wrH G h m (fs.set 7 (.int (nI 0))) aW (apL x 0 ([] ++ dgL (g (232 + 4 * k + 0)))) ([] ++ dgL (g (232 + 4 * k + 0))).length) (wrH_ap (ne_ao hsg hm)) ?_
  refine V_aload_n (i := 0) F dX4_renderSuitcase_26 rfl rfl ?_
  refine V_bipush (v := nI 64) F dX4_renderSuitcase_27 rfl ?_
  refine V_aload_n (i := 0) F dX4_renderSuitcase_29 rfl rfl ?_
  refine V_iload_n (i := 2) F dX4_renderSuitcase_30 rfl rfl ?_
  refine V_iconst (v := nI 1) F dX4_renderSuitcase_31 rfl ?_
  refine V_cV2r F dX4_renderSuitcase_32 lk_X4_141 (ct_the wrH_m (gset (gset h_g (by decide)) (by decide)) ((wrH_o (ne_ao hg hm) hGW).trans hg) (by omega)) ⟨0, _, _, _, rfl, (.inl wrH_m)⟩ (Nat.le_of_ble_eq_true rfl) (Nat.le_of_ble_eq_true rfl) (Nat.le_of_ble_eq_true rfl) (Nat.le_of_ble_eq_true rfl) (Nat.le_of_ble_eq_true rfl) ?_
  refine V_cV2v F dX4_renderSuitcase_35 lk_X4_199 (ct_writesBehind wrH_m (gset (gset h_signs (by decide)) (by decide)) (wrH_w (ne_ao hsg hm)) (gself (lenk (lens hlen) (by decide))) (lens (lens hlen)) (by decide) (by omega) (by simp only [List.length_append, List.length_cons, List.length_nil]; omega)) ⟨0, _, _, _, rfl, (.inl wrH_m)⟩ (Nat.le_of_ble_eq_true rfl) (Nat.le_of_ble_eq_true rfl) (Nat.le_of_ble_eq_true rfl) (Nat.le_of_ble_eq_true rfl) (Nat.le_of_ble_eq_true rfl) ?_
  refine VV.heap (h' := wrH G h m (fs.set 7 (.int (nI 0))) aW (apL x 0 (([] ++ dgL (g (232 + 4 * k + 0))) ++ (64 :: dgL (g (232 + 4 * k + 1))))) (([] ++ dgL (g (232 + 4 * k + 0))) ++ (64 :: dgL (g (232 + 4 * k + 1)))).length) (wrH_ap (ne_ao hsg hm)) ?_
  refine V_aload_n (i := 0) F dX4_renderSuitcase_38 rfl rfl ?_
  refine V_bipush (v := nI 62) F dX4_renderSuitcase_39 rfl ?_
  refine V_aload_n (i := 0) F dX4_renderSuitcase_41 rfl rfl ?_
  refine V_iload_n (i := 2) F dX4_renderSuitcase_42 rfl rfl ?_
  refine V_iconst (v := nI 2) F dX4_renderSuitcase_43 rfl ?_
  refine V_cV2r F dX4_renderSuitcase_44 lk_X4_141 (ct_the wrH_m (gset (gset h_g (by decide)) (by decide)) ((wrH_o (ne_ao hg hm) hGW).trans hg) (by omega)) ⟨0, _, _, _, rfl, (.inl wrH_m)⟩ (Nat.le_of_ble_eq_true rfl) (Nat.le_of_ble_eq_true rfl) (Nat.le_of_ble_eq_true rfl) (Nat.le_of_ble_eq_true rfl) (Nat.le_of_ble_eq_true rfl) ?_
  refine V_cV2v F dX4_renderSuitcase_47 lk_X4_199 (ct_writesBehind wrH_m (gset (gset h_signs (by decide)) (by decide)) (wrH_w (ne_ao hsg hm)) (gself (lenk (lens hlen) (by decide))) (lens (lens hlen)) (by decide) (by omega) (by simp only [List.length_append, List.length_cons, List.length_nil]; omega)) ⟨0, _, _, _, rfl, (.inl wrH_m)⟩ (Nat.le_of_ble_eq_true rfl) (Nat.le_of_ble_eq_true rfl) (Nat.le_of_ble_eq_true rfl) (Nat.le_of_ble_eq_true rfl) (Nat.le_of_ble_eq_true rfl) ?_
  refine VV.heap (h' := wrH G h m (fs.set 7 (.int (nI 0))) aW (apL x 0 ((([] ++ dgL (g (232 + 4 * k + 0))) ++ (64 :: dgL (g (232 + 4 * k + 1)))) ++ (62 :: dgL (g (232 + 4 * k + 2))))) ((([] ++ dgL (g (232 + 4 * k + 0))) ++ (64 :: dgL (g (232 + 4 * k + 1)))) ++ (62 :: dgL (g (232 + 4 * k + 2)))).length) (wrH_ap (ne_ao hsg hm)) ?_
  refine V_aload_n (i := 0) F dX4_renderSuitcase_50 rfl rfl ?_
  refine V_bipush (v := nI 116) F dX4_renderSuitcase_51 rfl ?_
  refine V_aload_n (i := 0) F dX4_renderSuitcase_53 rfl rfl ?_
  refine V_iload_n (i := 2) F dX4_renderSuitcase_54 rfl rfl ?_
  refine V_iconst (v := nI 3) F dX4_renderSuitcase_55 rfl ?_
  refine V_cV2r F dX4_renderSuitcase_56 lk_X4_141 (ct_the wrH_m (gset (gset h_g (by decide)) (by decide)) ((wrH_o (ne_ao hg hm) hGW).trans hg) (by omega)) ⟨0, _, _, _, rfl, (.inl wrH_m)⟩ (Nat.le_of_ble_eq_true rfl) (Nat.le_of_ble_eq_true rfl) (Nat.le_of_ble_eq_true rfl) (Nat.le_of_ble_eq_true rfl) (Nat.le_of_ble_eq_true rfl) ?_
  refine V_cV2v F dX4_renderSuitcase_59 lk_X4_199 (ct_writesBehind wrH_m (gset (gset h_signs (by decide)) (by decide)) (wrH_w (ne_ao hsg hm)) (gself (lenk (lens hlen) (by decide))) (lens (lens hlen)) (by decide) (by omega) (by simp only [List.length_append, List.length_cons, List.length_nil]; omega)) ⟨0, _, _, _, rfl, (.inl wrH_m)⟩ (Nat.le_of_ble_eq_true rfl) (Nat.le_of_ble_eq_true rfl) (Nat.le_of_ble_eq_true rfl) (Nat.le_of_ble_eq_true rfl) (Nat.le_of_ble_eq_true rfl) ?_
  refine VV.heap (h' := wrH G h m (fs.set 7 (.int (nI 0))) aW (apL x 0 (((([] ++ dgL (g (232 + 4 * k + 0))) ++ (64 :: dgL (g (232 + 4 * k + 1)))) ++ (62 :: dgL (g (232 + 4 * k + 2)))) ++ (116 :: dgL (g (232 + 4 * k + 3))))) (((([] ++ dgL (g (232 + 4 * k + 0))) ++ (64 :: dgL (g (232 + 4 * k + 1)))) ++ (62 :: dgL (g (232 + 4 * k + 2)))) ++ (116 :: dgL (g (232 + 4 * k + 3)))).length) (wrH_ap (ne_ao hsg hm)) ?_
  refine V_aload_n (i := 0) F dX4_renderSuitcase_62 rfl rfl ?_
  refine V_getf F dX4_renderSuitcase_63 fc_X4_190_X4 (.inl wrH_m) (gself (lenk (lens hlen) (by decide))) ?_
  exact V_iret F dX4_renderSuitcase_66 rfl (Nat.le_of_ble_eq_true rfl) (Nat.le_of_ble_eq_true rfl) ⟨rfl, rfl⟩
theorem ct_outputAt {G : GG} {l : Launch} {h : AH} {m : Nat} {fs : List Value} {aW : Nat} {x : Nat → Nat} {n : Nat} {p : Int32} (hm : h m = some (.inr (0, fs))) (h_signs : fs[12]? = some (.ref aW)) (hsg : h aW = some (chA G 60 (fun i => nI (x i)))) (h_signMany : fs[13]? = some (.int (nI n))) (hlen : fs.length = 25) (hn : n < 2 ^ 31) (hn60 : n ≤ 60) (hx : ∀ i, x i < 65536) : Ct G l yX4_outputAt cX4_outputAt 2 (some .char) 1 0 0 [.ref m, .int p] h (PY (if ¬ iR p n then 1 else 0) (fun k => hset h m (.inr (0, fs.set 7 (.int (nI k))))) (.int (nI 32)) (.int (nI (x (tn p)))) (hset h m (.inr (0, fs.set 7 (.int (nI 0)))))) := by
  refine Ct.of (by decide) (Nat.le_of_ble_eq_true rfl) (cat1 rfl) (fun X hXl F HN => ?_)
  subst hXl
  refine V_aload_n (i := 0) F dX4_outputAt_0 rfl rfl ?_
  refine V_iload_n (i := 1) F dX4_outputAt_1 rfl rfl ?_
  refine V_iconst (v := nI 0) F dX4_outputAt_2 rfl ?_
  refine V_aload_n (i := 0) F dX4_outputAt_3 rfl rfl ?_
  refine V_getf F dX4_outputAt_4 fc_X4_190_X4 (.inl hm) h_signMany ?_
  refine V_iconst (v := nI 1) F dX4_outputAt_7 rfl ?_
  refine V_isub F dX4_outputAt_8 ?_
  refine V_cS3r F dX4_outputAt_9 lk_X4_68 (ct_in ) (Nat.le_of_ble_eq_true rfl) (Nat.le_of_ble_eq_true rfl) (Nat.le_of_ble_eq_true rfl) (Nat.le_of_ble_eq_true rfl) (Nat.le_of_ble_eq_true rfl) ?_
  refine V_if_eqB (tgt := 19) F dX4_outputAt_12 (by decide) (fun c_12 => ?_) (fun c_12 => ?_)
  · refine V_iconst (v := nI 1) F dX4_outputAt_19 rfl ?_
    refine V_cV1r F dX4_outputAt_20 lk_X4_92 (ct_failsP 1 hm hlen (by decide)) ⟨0, _, _, _, rfl, (.inl hm)⟩ (Nat.le_of_ble_eq_true rfl) (Nat.le_of_ble_eq_true rfl) (Nat.le_of_ble_eq_true rfl) (Nat.le_of_ble_eq_true rfl) (Nat.le_of_ble_eq_true rfl) ?_
    refine V_if_eqN (tgt := 31) F dX4_outputAt_23 (by decide) (by omega) (fun c_23 => absurd c_23 (by decide)) (fun c_23 => ?_)
    refine V_bipush (v := nI 32) F dX4_outputAt_26 rfl ?_
    refine V_goto (tgt := 37) F dX4_outputAt_28 (by decide) ?_
    exact V_iret F dX4_outputAt_37 (nar_c (by decide)) (Nat.le_of_ble_eq_true rfl) (Nat.le_of_ble_eq_true rfl) (PY.fail 1 (if_pos (fun z => c_12 ((iR_in hn).mpr z))) (by decide) rfl)
  · obtain ⟨c, hc, rfl⟩ := iR_of ((iR_in hn).mp c_12) hn
    refine V_iconst (v := nI 0) F dX4_outputAt_15 rfl ?_
    refine V_goto (tgt := 20) F dX4_outputAt_16 (by decide) ?_
    refine V_cV1r F dX4_outputAt_20 lk_X4_92 (ct_fails0 hm hlen) ⟨0, _, _, _, rfl, (.inl hm)⟩ (Nat.le_of_ble_eq_true rfl) (Nat.le_of_ble_eq_true rfl) (Nat.le_of_ble_eq_true rfl) (Nat.le_of_ble_eq_true rfl) (Nat.le_of_ble_eq_true rfl) ?_
    refine V_if_eqN (tgt := 31) F dX4_outputAt_23 (by decide) (by omega) (fun c_23 => ?_) (fun c_23 => absurd c_23 (by decide))
    refine V_aload_n (i := 0) F dX4_outputAt_31 rfl rfl ?_
    refine V_getf F dX4_outputAt_32 fc_X4_32_X4 (.inl hset_self) (gset h_signs (by decide)) ?_
    refine V_iload_n (i := 1) F dX4_outputAt_35 rfl rfl ?_
    refine V_caldN F 4 dX4_outputAt_36 rfl (.inl ((hset_ne (ne_ao hsg hm)).trans hsg)) (by omega) (by decide) ?_
    exact V_iret F dX4_outputAt_37 (nar_c (hx c)) (Nat.le_of_ble_eq_true rfl) (Nat.le_of_ble_eq_true rfl) (PY.ok (if_neg (not_not_intro ((iR_in hn).mp c_12))) (by rw [tn_nI (by omega)]) rfl)
