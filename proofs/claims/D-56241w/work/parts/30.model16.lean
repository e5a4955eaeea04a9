set_option maxRecDepth 100000
theorem rP_pos {u : Nat} (h : 0 < u) : rP u = nI (u - 1) := by
  obtain ⟨c, rfl⟩ : ∃ c, u = c + 1 := ⟨u - 1, by omega⟩
  rfl
abbrev dgP (gi : Nat → Nat) (n a : Nat) : Prop := 49 ≤ hrN gi n a ∧ hrN gi n a ≤ 58
theorem dgP_iff {u : Nat} (hu : u < 2 ^ 31) : (nI 48 ≤ rP u ∧ rP u ≤ nI 57) ↔ (49 ≤ u ∧ u ≤ 58) := by
  rw [le_toInt, le_toInt, nI_toInt (by decide), nI_toInt (by decide)]
  cases u with
  | zero => have h2 : (rP 0).toInt = -1 := by decide
            rw [h2]; omega
  | succ j => have h2 : (rP (j + 1)).toInt = j := nI_toInt (by omega)
              rw [h2]; omega
theorem hrN_at {gi : Nat → Nat} {n a : Nat} (h : 0 < hrN gi n a) : a < n := by
  unfold hrN at h; split at h
  · assumption
  · omega
theorem up_up {g : Nat → Nat} {p v w : Nat} : up (up g p v) p w = up g p w := by
  funext i; unfold up; split <;> rfl
/-- digits read: the place behind them, the number -/
def dgI (gi : Nat → Nat) (n a : Nat) : Nat → Nat × Nat
  | 0 => (a, 0)
  | k + 1 => if dgP gi n (dgI gi n a k).1 then ((dgI gi n a k).1 + 1, 10 * (dgI gi n a k).2 + (hrN gi n (dgI gi n a k).1 - 1) - 48) else dgI gi n a k
theorem dgI_end {gi : Nat → Nat} {n a j : Nat} (h : ¬ dgP gi n (dgI gi n a j).1) : ∀ i, j ≤ i → dgI gi n a i = dgI gi n a j := by
  intro i hi
  induction i with
  | zero => rw [show j = 0 by omega]
  | succ i ih =>
    by_cases q : j = i + 1
    · rw [q]
    · have h2 := ih (by omega)
      show (if _ then _ else _) = _
      rw [h2, if_neg h]
def dgO (gi : Nat → Nat) (n a : Nat) : Nat := if dgP gi n a then 1 else 0
def dgA (gi : Nat → Nat) (n a k : Nat) : Nat := if dgP gi n a then (dgI gi n a k).1 else a
def dgT (gi : Nat → Nat) (n a p k : Nat) (τ : Nat → Nat) : Nat → Nat := if dgP gi n a then up τ p (dgI gi n a k).2 else τ
theorem dgI_60 {gi : Nat → Nat} {n a : Nat} (hn : n ≤ 60) (ha : a ≤ 60) : ∀ k, (dgI gi n a k).1 ≤ 60
  | 0 => ha
  | k + 1 => by
    have := dgI_60 (gi := gi) hn ha k
    unfold dgI; split
    · next h => have := hrN_at (gi := gi) (show 0 < hrN gi n (dgI gi n a k).1 by omega); show (dgI gi n a k).1 + 1 ≤ 60; omega
    · exact this
theorem dgA_60 {gi : Nat → Nat} {n a k : Nat} (hn : n ≤ 60) (ha : a ≤ 60) : dgA gi n a k ≤ 60 := by
  unfold dgA; split
  · exact dgI_60 hn ha k
  · exact ha
theorem skA_60 {gi : Nat → Nat} {n c a : Nat} (hn : n ≤ 60) (ha : a ≤ 60) : a + skA gi n c a ≤ 60 := by
  unfold skA; split
  · next h => have := hrN_at (gi := gi) (n := n) (a := a) (by omega); omega
  · omega
def pkH (G : GG) (h : AH) (m : Nat) (fs : List Value) (aL : Nat) (τ : Nat → Nat) (b : Nat) : AH := hset (hset h aL (iA G 155 (fun i => nI (τ i)))) m (.inr (0, fs.set 22 (.int (nI b))))
theorem pkH_m {G : GG} {h : AH} {m : Nat} {fs : List Value} {aL b : Nat} {τ : Nat → Nat} : pkH G h m fs aL τ b m = some (.inr (0, fs.set 22 (.int (nI b)))) := hset_self
theorem pkH_l {G : GG} {h : AH} {m : Nat} {fs : List Value} {aL b : Nat} {τ : Nat → Nat} (h1 : aL ≠ m) : pkH G h m fs aL τ b aL = some (iA G 155 (fun i => nI (τ i))) := (hset_ne h1).trans hset_self
theorem pkH_o {G : GG} {h : AH} {m : Nat} {fs : List Value} {aL b c : Nat} {τ : Nat → Nat} (h1 : c ≠ m) (h2 : c ≠ aL) : pkH G h m fs aL τ b c = h c := (hset_ne h1).trans (hset_ne h2)
theorem pkH_pk {G : GG} {h : AH} {m : Nat} {fs : List Value} {aL b b2 : Nat} {τ τ2 : Nat → Nat} (h1 : aL ≠ m) : pkH G (pkH G h m fs aL τ b) m (fs.set 22 (.int (nI b))) aL τ2 b2 = pkH G h m fs aL τ2 b2 := by
  unfold pkH
  rw [List.set_set, hset_comm (Ne.symm h1), hset_hset, hset_hset]
theorem pkH_1 {G : GG} {h : AH} {m : Nat} {fs : List Value} {aL b : Nat} {τ : Nat → Nat} (hl : h aL = some (iA G 155 (fun i => nI (τ i)))) : hset h m (.inr (0, fs.set 22 (.int (nI b)))) = pkH G h m fs aL τ b := by
  unfold pkH; rw [hset_id hl]
theorem pkH_0 {G : GG} {h : AH} {m : Nat} {fs : List Value} {aL b : Nat} {τ τ0 : Nat → Nat} (hm : h m = some (.inr (0, fs))) (hf : fs[22]? = some (.int (nI b))) (hl : h aL = some (iA G 155 (fun i => nI (τ0 i)))) (h1 : m ≠ aL) : hset h aL (iA G 155 (fun i => nI (τ i))) = pkH G h m fs aL τ b := by
  unfold pkH; rw [set_same hf, hset_id ((hset_ne h1).trans hm)]
theorem pkH_id {G : GG} {h : AH} {m : Nat} {fs : List Value} {aL b : Nat} {τ : Nat → Nat} (hm : h m = some (.inr (0, fs))) (hf : fs[22]? = some (.int (nI b))) (hl : h aL = some (iA G 155 (fun i => nI (τ i)))) (h1 : m ≠ aL) : pkH G h m fs aL τ b = h := by
  rw [← pkH_0 hm hf hl h1, hset_id hl]
/-- a blank and a number -/
def fgO (gi : Nat → Nat) (n a : Nat) : Nat := if skA gi n 32 a = 0 then 0 else dgO gi n (a + 1)
def fgA (gi : Nat → Nat) (n a k : Nat) : Nat := if skA gi n 32 a = 0 then a else dgA gi n (a + 1) k
def fgT (gi : Nat → Nat) (n a p k : Nat) (τ : Nat → Nat) : Nat → Nat := if skA gi n 32 a = 0 then τ else dgT gi n (a + 1) p k τ
theorem dgO_lt {gi : Nat → Nat} {n a : Nat} : dgO gi n a < 2 := by unfold dgO; split <;> omega
theorem fgO_lt {gi : Nat → Nat} {n a : Nat} : fgO gi n a < 2 := by
  unfold fgO; split
  · omega
  · exact dgO_lt
theorem fgA_60 {gi : Nat → Nat} {n a k : Nat} (hn : n ≤ 60) (ha : a ≤ 60) : fgA gi n a k ≤ 60 := by
  unfold fgA; split
  · exact ha
  · next h =>
    have h2 := skA_60 (gi := gi) (c := 32) hn ha
    have h3 := skA_lt (gi := gi) (n := n) (c := 32) (a := a)
    exact dgA_60 hn (by omega)

theorem ct_digits {G : GG} {l : Launch} {h : AH} {m : Nat} {fs : List Value} {aI : Nat} {gi : Nat → Nat} {n : Nat} {a aL : Nat} {τ : Nat → Nat} {p K : Nat} (hm : h m = some (.inr (0, fs))) (h_input : fs[8]? = some (.ref aI)) (hin : h aI = some (iA G 60 (fun i => nI (gi i)))) (h_length : fs[9]? = some (.int (nI n))) (hlen : fs.length = 25) (hn60 : n ≤ 60) (h_at : fs[22]? = some (.int (nI a))) (ha : a ≤ 60) (hgi : ∀ i, gi i < 65536) (h_told : fs[23]? = some (.ref aL)) (hto : h aL = some (iA G 155 (fun i => nI (τ i)))) (hIL : aI ≠ aL) (hp : p < 155) (hK : K < 2 ^ 31) : Ct G l yX4_digits cX4_digits 4 (some .boolean) 1 0 0 [.ref m, .int (nI p), .int (nI K)] h (PR (.int (nI (dgO gi n a))) (pkH G h m fs aL (dgT gi n a p K τ) (dgA gi n a K))) := by
  refine Ct.of (by decide) (Nat.le_of_ble_eq_true rfl) (cat1 rfl) (fun X hXl F HN => ?_)
  subst hXl
  refine V_aload_n (i := 0) F dX4_digits_0 rfl rfl ?_
  refine V_cV0r F dX4_digits_1 lk_X4_208 (ct_here hm h_input hin h_length hlen hn60 h_at (by omega)) ⟨0, _, _, _, rfl, (.inl hm)⟩ (Nat.le_of_ble_eq_true rfl) (Nat.le_of_ble_eq_true rfl) (Nat.le_of_ble_eq_true rfl) (Nat.le_of_ble_eq_true rfl) (Nat.le_of_ble_eq_true rfl) ?_
  refine V_bipush (v := nI 48) F dX4_digits_4 rfl ?_
  refine V_bipush (v := nI 57) F dX4_digits_6 rfl ?_
  refine V_cS3r F dX4_digits_8 lk_X4_68 (ct_in ) (Nat.le_of_ble_eq_true rfl) (Nat.le_of_ble_eq_true rfl) (Nat.le_of_ble_eq_true rfl) (Nat.le_of_ble_eq_true rfl) (Nat.le_of_ble_eq_true rfl) ?_
  refine V_if_neB (tgt := 16) F dX4_digits_11 (by decide) (fun c_11 => ?_) (fun c_11 => ?_)
  · have hd9 : dgP gi n a := (dgP_iff (by unfold hrN; split; have := hgi a; omega; omega)).mp c_11
    refine V_aload_n (i := 0) F dX4_digits_16 rfl rfl ?_
    refine V_getf F dX4_digits_17 fc_X4_51_X4 (.inl hm) h_told ?_
    refine V_iload_n (i := 1) F dX4_digits_20 rfl rfl ?_
    refine V_iconst (v := nI 0) F dX4_digits_21 rfl ?_
    refine V_iastG F dX4_digits_22 hto (by omega) (by decide) ?_
    refine V_iconst (v := nI 0) F dX4_digits_23 rfl ?_
    refine V_istore_n (i := 3) F dX4_digits_24 rfl (Nat.le_of_ble_eq_true rfl) (Nat.le_of_ble_eq_true rfl) ?_
    have loop_25 : ∀ (nn : Nat) (j b v : Nat), K < j + nn → j ≤ K → b ≤ 60 → dgI gi n a j = (b, v) → VV G X 4 (EQ G X 0 0 (PR (.int (nI (dgO gi n a))) (pkH G h m fs aL (dgT gi n a p K τ) (dgA gi n a K)))) (pkH G h m fs aL (up τ p v) b) 0 0 [some (.ref (m)), some (.int (nI (p))), some (.int (nI (K))), some (.int (nI (j)))] [] 25 := by
      intro nn
      induction nn with
      | zero => intro j b v hn hj hb hx; exact absurd hn (by omega)
      | succ nn ih_25 =>
        intro j b v hn hj hb hx
        refine V_iload_n (i := 3) F dX4_digits_25 rfl rfl ?_
        refine V_iload_n (i := 2) F dX4_digits_26 rfl rfl ?_
        refine V_icmp_geN (tgt := 83) F dX4_digits_27 (by decide) (by omega) (by omega) (fun c_27 => ?_) (fun c_27 => ?_)
        · refine V_iconst (v := nI 1) F dX4_digits_83 rfl ?_
          exact V_iret F dX4_digits_84 rfl (Nat.le_of_ble_eq_true rfl) (Nat.le_of_ble_eq_true rfl) ⟨by unfold dgO; rw [if_pos hd9], by unfold dgT dgA; rw [if_pos hd9, if_pos hd9]; rw [show K = j by omega, hx]⟩
        · refine V_aload_n (i := 0) F dX4_digits_30 rfl rfl ?_
          refine V_cV0r F dX4_digits_31 lk_X4_208 (ct_here pkH_m (gset h_input (by decide)) ((pkH_o (ne_ao hin hm) hIL).trans hin) (gset h_length (by decide)) (lens hlen) hn60 (gself (lenk hlen (by decide))) (by omega)) ⟨0, _, _, _, rfl, (.inl pkH_m)⟩ (Nat.le_of_ble_eq_true rfl) (Nat.le_of_ble_eq_true rfl) (Nat.le_of_ble_eq_true rfl) (Nat.le_of_ble_eq_true rfl) (Nat.le_of_ble_eq_true rfl) ?_
          refine V_bipush (v := nI 48) F dX4_digits_34 rfl ?_
          refine V_bipush (v := nI 57) F dX4_digits_36 rfl ?_
          refine V_cS3r F dX4_digits_38 lk_X4_68 (ct_in ) (Nat.le_of_ble_eq_true rfl) (Nat.le_of_ble_eq_true rfl) (Nat.le_of_ble_eq_true rfl) (Nat.le_of_ble_eq_true rfl) (Nat.le_of_ble_eq_true rfl) ?_
          refine V_if_eqB (tgt := 83) F dX4_digits_41 (by decide) (fun c_41 => ?_) (fun c_41 => ?_)
          · refine V_iconst (v := nI 1) F dX4_digits_83 rfl ?_
            exact V_iret F dX4_digits_84 rfl (Nat.le_of_ble_eq_true rfl) (Nat.le_of_ble_eq_true rfl) ⟨by unfold dgO; rw [if_pos hd9], by unfold dgT dgA; rw [if_pos hd9, if_pos hd9]; rw [dgI_end (j := j) (by rw [hx]; exact fun z => c_41 ((dgP_iff (by unfold hrN; split; have := hgi b; omega; omega)).mpr z)) K (by omega), hx]⟩
          · have hdb : dgP gi n b := (dgP_iff (by unfold hrN; split; have := hgi b; omega; omega)).mp c_41
            have hbn := hrN_at (gi := gi) (n := n) (a := b) (by omega)
            refine V_aload_n (i := 0) F dX4_digits_44 rfl rfl ?_
            refine V_getf F dX4_digits_45 fc_X4_51_X4 (.inl pkH_m) (gset h_told (by decide)) ?_
            refine V_iload_n (i := 1) F dX4_digits_48 rfl rfl ?_
            refine V_bipush (v := nI 10) F dX4_digits_49 rfl ?_
            refine V_aload_n (i := 0) F dX4_digits_51 rfl rfl ?_
            refine V_getf F dX4_digits_52 fc_X4_51_X4 (.inl pkH_m) (gset h_told (by decide)) ?_
            refine V_iload_n (i := 1) F dX4_digits_55 rfl rfl ?_
            refine V_ialdG F dX4_digits_56 (.inl (pkH_l (ne_ao hto hm))) (by omega) (by decide) up_s ?_
            refine V_imulN F dX4_digits_57 ?_
            refine V_aload_n (i := 0) F dX4_digits_58 rfl rfl ?_
            refine V_cV0r F dX4_digits_59 lk_X4_208 (ct_here pkH_m (gset h_input (by decide)) ((pkH_o (ne_ao hin hm) hIL).trans hin) (gset h_length (by decide)) (lens hlen) hn60 (gself (lenk hlen (by decide))) (by omega)) ⟨0, _, _, _, rfl, (.inl pkH_m)⟩ (Nat.le_of_ble_eq_true rfl) (Nat.le_of_ble_eq_true rfl) (Nat.le_of_ble_eq_true rfl) (Nat.le_of_ble_eq_true rfl) (Nat.le_of_ble_eq_true rfl) ?_
            refine VV.stk (st' := [.int (nI (hrN gi n b - 1)), .int (nI (10 * v)), .int (nI p), .ref aL]) (by rw [rP_pos (by omega)]) ?_
            refine V_iaddN F dX4_digits_62 ?_
            refine V_bipush (v := nI 48) F dX4_digits_63 rfl ?_
            refine V_isubN F dX4_digits_65 (by omega) ?_
            refine V_iastG F dX4_digits_66 (pkH_l (ne_ao hto hm)) (by omega) (by decide) ?_
            refine V_aload_n (i := 0) F dX4_digits_67 rfl rfl ?_
            refine V_dup F dX4_digits_68 rfl ?_
            refine V_getf F dX4_digits_69 fc_X4_205_X4 (.inl ((hset_ne (ne_oa hm hto)).trans pkH_m)) (gself (lenk hlen (by decide))) ?_
            refine V_iconst (v := nI 1) F dX4_digits_72 rfl ?_
            refine V_iaddN F dX4_digits_73 ?_
            refine V_putf F dX4_digits_74 fp_X4_205_X4 ((hset_ne (ne_oa hm hto)).trans pkH_m) rfl rfl (lenk (lens hlen) (by decide)) ?_
            refine V_iinc (i := 3) (v := nI (j + 1)) F dX4_digits_77 rfl (nI_add (j) 1) (Nat.le_of_ble_eq_true rfl) ?_
            refine V_goto (tgt := 25) F dX4_digits_80 (by decide) ?_
            refine VV.weak (L' := [some (.ref (m)), some (.int (nI (p))), some (.int (nI (K))), some (.int (nI (j + 1)))]) (LW.c1 (LW.c1 (LW.c1 (LW.c1 LW.nil)))) ?_
            refine VV.heap (h' := pkH G h m fs aL (up τ p (10 * v + (hrN gi n b - 1) - 48)) (b + 1)) (by rw [← up_up (g := τ) (p := p) (v := v) (w := 10 * v + (hrN gi n b - 1) - 48)]; exact pkH_pk (ne_ao hto hm)) ?_
            exact ih_25 (j + 1) (b + 1) (10 * v + (hrN gi n b - 1) - 48) (by omega) (by omega) (by omega) (by show (if _ then _ else _) = _; rw [hx, if_pos hdb])
    refine VV.weak (L' := [some (.ref (m)), some (.int (nI (p))), some (.int (nI (K))), some (.int (nI (0)))]) (LW.c1 (LW.c1 (LW.c1 (LW.c1 LW.nil)))) ?_
    refine VV.heap (h' := pkH G h m fs aL (up τ p 0) a) (pkH_0 hm h_at hto (ne_oa hm hto)) ?_
    exact loop_25 (K + 1) 0 a 0 (by omega) (by omega) ha rfl
  · refine V_iconst (v := nI 0) F dX4_digits_14 rfl ?_
    have hd9 : ¬ dgP gi n a := fun z => c_11 ((dgP_iff (by unfold hrN; split; have := hgi a; omega; omega)).mpr z)
    exact V_iret F dX4_digits_15 rfl (Nat.le_of_ble_eq_true rfl) (Nat.le_of_ble_eq_true rfl) ⟨by unfold dgO; rw [if_neg hd9], by unfold dgT dgA; rw [if_neg hd9, if_neg hd9]; exact (pkH_id hm h_at hto (ne_oa hm hto)).symm⟩
