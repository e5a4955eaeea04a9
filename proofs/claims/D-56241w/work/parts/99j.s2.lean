set_option maxRecDepth 100000
section VSD
variable {G : GG} {X : CX} {cc : ByteArray} {nL : Nat} {own : String} {ret : Option FieldType} {d MC MS : Nat} {Q : State → Prop} {h : AH} {kc n : Nat} {L : LV} {st : List Value} {pc : Nat}
theorem V_inegM (F : Fx G X cc nL own ret d MC MS) {a : Nat} (hd : decode cc pc = .ok (.ineg, 1)) (k : VV G X nL Q h kc n L (.int (nI a) :: st) (pc + 1)) : VV G X nL Q h kc n L (.int (-(nI a)) :: st) pc := V_ineg F hd (by rw [Int32.neg_neg]; exact k)
theorem V_idivM (F : Fx G X cc nL own ret d MC MS) {a : Nat} (hd : decode cc pc = .ok (.idiv, 1)) (ha : a < 2 ^ 31) (k : VV G X nL Q h kc n L (.int (-(nI (a / 100))) :: st) (pc + 1)) : VV G X nL Q h kc n L (.int (nI 100) :: .int (-(nI a)) :: st) pc := V_idiv F hd (by decide) (by rw [show (nI 100 : Int32) = 100 from rfl, sb_ndiv ha]; exact k)
theorem V_isubM (F : Fx G X cc nL own ret d MC MS) {a : Nat} (hd : decode cc pc = .ok (.isub, 1)) (ha : a < 2 ^ 31) (k : VV G X nL Q h kc n L (.int (nI (a % 100)) :: st) (pc + 1)) : VV G X nL Q h kc n L (.int (-(nI a)) :: .int (-(nI (a / 100)) * nI 100) :: st) pc := V_isub F hd (by rw [show (nI 100 : Int32) = 100 from rfl, sb_nrem ha]; exact k)
theorem V_ckB (F : Fx G X cc nL own ret d MC MS) {idx a N : Nat} {f : Nat → Int32} (hd : decode cc pc = .ok (.checkcast idx, 3)) (hcl : Cond.classLink own idx "[B" ∈ lw_all) (he : rd G h a (bA G N f)) (kk : VV G X nL Q h kc n L (.ref a :: st) (pc + 3)) : VV G X nL Q h kc n L (.ref a :: st) pc :=
  fun H locs ls hS hL hl => by
    obtain ⟨cell, c1, c2, c3, -⟩ := hS.rd he
    exact cl_castA F.exec F.code F.hown (F.wd _ hcl) c1 (nst c3) (by rw [c2]; exact (F.kn.1.2 5 _ rfl).2) hd (kk H locs ls hS hL hl)
theorem V_cloneS (F : Fx G X cc nL own ret d MC MS) {idx a N : Nat} {c : Nat → Nat} (hd : decode cc pc = .ok (.invokevirtual idx, 3)) (hlink : Cond.methodLink own idx ⟨"[B", "clone", "()Ljava/lang/Object;"⟩ ∈ lw_all) (he : h a = some (byA G N c) ∨ False) (hd1 : 1 ≤ d) (hsum : (st.map fun v => v.category).sum ≤ 20) (hr1 : kc + 1 ≤ MC) (hr2 : n + N ≤ MS)
    (kk : ∀ q : Nat, h q = none → bz G ≤ q → VV G X nL Q (hset h q (byA G N c)) (kc + 1) (n + N) L (.ref q :: st) (pc + 3)) : VV G X nL Q h kc n L (.ref a :: st) pc := V_cloneB F hd hlink he hd1 hsum (fun i _ => sb_fitB _) hr1 hr2 kk
end VSD
theorem dgL_num {i : Nat} : ∀ {n : Nat}, 1 ≤ i → i ≤ 5 → (i = 1 ∨ 10 ^ (i - 1) ≤ n) → n < 10 ^ i → (dgL n).length = i := by
  induction i with
  | zero => intro n h; omega
  | succ i ih =>
    intro n _ h5 h2 h3
    rcases Nat.eq_zero_or_pos i with e | e
    · subst e
      rw [dgL_1 (by omega)]; rfl
    · have h2 : 10 ^ i ≤ n := by
        rcases h2 with h2 | h2
        · omega
        · exact h2
      have h10 : 10 ^ i = 10 ^ (i - 1) * 10 := by rw [← Nat.pow_succ]; congr 1; omega
      have h12 : ∀ k : Nat, 1 ≤ 10 ^ k := fun k => by
        induction k with
        | zero => decide
        | succ k ih => rw [Nat.pow_succ]; omega
      have h11 : 1 ≤ 10 ^ (i - 1) := h12 _
      have hp : 10 ^ (i + 1) ≤ 10 ^ 6 := Nat.pow_le_pow_right (by decide) (by omega)
      rw [Nat.pow_succ] at h3
      rw [dgL_s (by omega) (by omega), List.length_append, ih e (by omega) (Or.inr (by omega)) (by omega)]; rfl
theorem gc1 {n : Nat} (h : n ≤ 9) : dgL n = [48 + n] := dgL_1 h
theorem gc2 {n : Nat} (h : 10 ≤ n) (h2 : n < 100) : dgL n = [48 + n / 10, 48 + n % 10] := by
  rw [dgL_s (by omega) (by omega), gc1 (by omega)]; rfl
theorem gc3 {n : Nat} (h : 100 ≤ n) (h2 : n < 1000) : dgL n = [48 + n / 100, 48 + n % 100 / 10, 48 + n % 100 % 10] := by
  rw [dgL_s (by omega) (by omega), gc2 (by omega) (by omega)]
  show [_, _, _] = [_, _, _]
  rw [show n / 10 / 10 = n / 100 by omega, show n / 10 % 10 = n % 100 / 10 by omega, show n % 10 = n % 100 % 10 by omega]
theorem gc4 {n : Nat} (h : 1000 ≤ n) (h2 : n < 10000) : dgL n = [48 + n / 100 / 10, 48 + n / 100 % 10, 48 + n % 100 / 10, 48 + n % 100 % 10] := by
  rw [dgL_s (by omega) (by omega), gc3 (by omega) (by omega)]
  show [_, _, _, _] = [_, _, _, _]
  rw [show n / 10 / 100 = n / 100 / 10 by omega, show n / 10 % 100 / 10 = n / 100 % 10 by omega, show n / 10 % 100 % 10 = n % 100 / 10 by omega, show n % 10 = n % 100 % 10 by omega]
theorem dgL_asc {n : Nat} (h : n < 10000) : asc (dgL n) ∧ 1 ≤ (dgL n).length ∧ (dgL n).length ≤ 4 := by
  by_cases h1 : n ≤ 9
  · rw [gc1 h1]; refine ⟨fun c hc => ?_, (by show 1 ≤ 1; decide), (by show 1 ≤ 4; decide)⟩; simp only [List.mem_cons, List.not_mem_nil, or_false] at hc; omega
  · by_cases h2 : n < 100
    · rw [gc2 (by omega) h2]; refine ⟨fun c hc => ?_, (by show 1 ≤ 2; decide), (by show 2 ≤ 4; decide)⟩; simp only [List.mem_cons, List.not_mem_nil, or_false] at hc; omega
    · by_cases h3 : n < 1000
      · rw [gc3 (by omega) h3]; refine ⟨fun c hc => ?_, (by show 1 ≤ 3; decide), (by show 3 ≤ 4; decide)⟩; simp only [List.mem_cons, List.not_mem_nil, or_false] at hc; omega
      · rw [gc4 (by omega) h]; refine ⟨fun c hc => ?_, (by show 1 ≤ 4; decide), (by show 4 ≤ 4; decide)⟩; simp only [List.mem_cons, List.not_mem_nil, or_false] at hc; omega
/-- digits, kept shut -/
def isT (x a b : Nat) : Prop := 48 + x % 10 = a ∧ 48 + x / 10 = b
def isQ (n q r : Nat) : Prop := q = n / 100 ∧ r = n % 100
theorem exT (x : Nat) : ∃ a b, isT x a b := ⟨_, _, rfl, rfl⟩
theorem exQ (n : Nat) : ∃ q r, isQ n q r := ⟨_, _, rfl, rfl⟩
theorem isT.a {x a b : Nat} (h : isT x a b) : a < 58 := by unfold isT at h; omega
theorem isT.b {x a b : Nat} (h : isT x a b) (hx : x < 100) : b < 58 := by unfold isT at h; omega
theorem isQ.l {n q r : Nat} (h : isQ n q r) : n = 100 * q + r ∧ r < 100 := by unfold isQ at h; omega
theorem isQ.q100 {n q r : Nat} (h : isQ n q r) (hn : n < 10000) : q < 100 := by unfold isQ at h; omega
theorem gx1 {n c0 c1 : Nat} (h : isT n c0 c1) (h9 : n ≤ 9) : dgL n = [c0] := by rw [gc1 h9, ← h.1, Nat.mod_eq_of_lt (by omega)]
theorem gx2 {n c0 c1 : Nat} (h : isT n c0 c1) (h9 : 10 ≤ n) (h2 : n < 100) : dgL n = [c1, c0] := by rw [gc2 h9 h2, ← h.1, ← h.2]
theorem gx3 {n q r a0 a1 e0 e1 : Nat} (hQ : isQ n q r) (ha : isT r a0 a1) (he : isT q e0 e1) (h : 100 ≤ n) (h9 : q ≤ 9) : dgL n = [e0, a1, a0] := by
  obtain ⟨rfl, rfl⟩ := hQ
  rw [gc3 h (by omega), ← ha.1, ← ha.2, ← he.1, Nat.mod_eq_of_lt (a := n / 100) (by omega)]
theorem gx4 {n q r a0 a1 e0 e1 : Nat} (hQ : isQ n q r) (ha : isT r a0 a1) (he : isT q e0 e1) (h : 10 ≤ q) (hn : n < 10000) : dgL n = [e1, e0, a1, a0] := by
  obtain ⟨rfl, rfl⟩ := hQ
  rw [gc4 (by omega) hn, ← ha.1, ← ha.2, ← he.1, ← he.2]
theorem gx2L {n : Nat} (hn : n < 10000) (h : 10 ≤ n) : 2 ≤ (dgL n).length := by
  by_cases h2 : n < 100
  · rw [gc2 h h2]; exact Nat.le_refl _
  · by_cases h3 : n < 1000
    · rw [gc3 (by omega) h3]; exact Nat.le_succ _
    · rw [gc4 (by omega) hn]; show 2 ≤ 4; decide
theorem gx3L {n : Nat} (hn : n < 10000) (h : ¬ n < 100) : 3 ≤ (dgL n).length := by
  by_cases h3 : n < 1000
  · rw [gc3 (by omega) h3]; exact Nat.le_refl _
  · rw [gc4 (by omega) hn]; exact Nat.le_succ _
theorem gx4L {n q r : Nat} (hQ : isQ n q r) (hn : n < 10000) (h : 10 ≤ q) : 4 ≤ (dgL n).length := by
  unfold isQ at hQ
  rw [gc4 (by omega) hn]; exact Nat.le_refl _
section VSE
variable {G : GG} {X : CX} {cc : ByteArray} {nL : Nat} {own : String} {ret : Option FieldType} {d MC MS : Nat} {Q : State → Prop} {h : AH} {kc n : Nat} {L : LV} {st : List Value} {pc : Nat}
theorem V_idivQ (F : Fx G X cc nL own ret d MC MS) {a q r : Nat} (hd : decode cc pc = .ok (.idiv, 1)) (hQ : isQ a q r) (ha : a < 2 ^ 31) (k : VV G X nL Q h kc n L (.int (-(nI q)) :: st) (pc + 1)) : VV G X nL Q h kc n L (.int (nI 100) :: .int (-(nI a)) :: st) pc := by
  obtain ⟨rfl, rfl⟩ := hQ; exact V_idivM F hd ha k
theorem V_isubQ (F : Fx G X cc nL own ret d MC MS) {a q r : Nat} (hd : decode cc pc = .ok (.isub, 1)) (hQ : isQ a q r) (ha : a < 2 ^ 31) (k : VV G X nL Q h kc n L (.int (nI r) :: st) (pc + 1)) : VV G X nL Q h kc n L (.int (-(nI a)) :: .int (-(nI q) * nI 100) :: st) pc := by
  obtain ⟨rfl, rfl⟩ := hQ; exact V_isubM F hd ha k
end VSE
theorem up_e {g : Nat → Nat} {k v j : Nat} (h : j = k) : up g k v j = v := by subst h; exact up_s
theorem neg_le {a b : Nat} (ha : a < 2 ^ 31) (hb : b < 2 ^ 31) : -(nI a) ≤ -(nI b) ↔ b ≤ a := sb_nle ha hb
theorem begW.app2 {c c2 : Nat → Nat} {l m : List Nat} (h : begW c l) (h1 : ∀ i, i < l.length → c2 i = c i) (h2 : ∀ j, j < m.length → c2 (l.length + j) = m.getD j 0) : begW c2 (l ++ m) := by
  intro i hi
  rw [List.length_append] at hi
  by_cases q : l.length ≤ i
  · obtain ⟨j, rfl⟩ : ∃ j, i = l.length + j := ⟨i - l.length, by omega⟩
    rw [h2 j (by omega), List.getD_eq_getElem?_getD, List.getD_eq_getElem?_getD, List.getElem?_append_right (by omega), Nat.add_sub_cancel_left]
  · rw [h1 i (by omega), h i (by omega), List.getD_eq_getElem?_getD, List.getD_eq_getElem?_getD, List.getElem?_append_left (by omega)]

theorem ct_J22_stringSize {G : GG} {l : Launch} {h : AH} {n : Nat}  (hn : n < 100000) : Ct G l yJ22_stringSize cJ22_stringSize 4 (some .int) 0 (0) (0) [.int (nI n)] h (PR (.int (nI (dgL n).length)) h) := by
  refine Ct.of (by decide) (Nat.le_of_ble_eq_true rfl) (cat1 rfl) (fun X hXl F HN => ?_)
  subst hXl
  refine V_iconst (v := nI 1) F dJ22_stringSize_0 rfl ?_
  refine V_istore_n (i := 1) F dJ22_stringSize_1 rfl (Nat.le_of_ble_eq_true rfl) (Nat.le_of_ble_eq_true rfl) ?_
  refine V_iload_n (i := 0) F dJ22_stringSize_2 rfl rfl ?_
  refine V_if_ltN (tgt := 11) F dJ22_stringSize_3 (by decide) (by omega) ?_
  refine V_iconst (v := nI 0) F dJ22_stringSize_6 rfl ?_
  refine V_istore_n (i := 1) F dJ22_stringSize_7 rfl (Nat.le_of_ble_eq_true rfl) (Nat.le_of_ble_eq_true rfl) ?_
  refine V_iload_n (i := 0) F dJ22_stringSize_8 rfl rfl ?_
  refine V_ineg F dJ22_stringSize_9 ?_
  refine V_istore_n (i := 0) F dJ22_stringSize_10 rfl (Nat.le_of_ble_eq_true rfl) (Nat.le_of_ble_eq_true rfl) ?_
  refine V_bipush (v := -10) F dJ22_stringSize_11 rfl ?_
  refine VV.stk (st' := [.int (-(nI (10 ^ 1)))]) rfl ?_
  refine V_istore_n (i := 2) F dJ22_stringSize_13 rfl (Nat.le_of_ble_eq_true rfl) (Nat.le_of_ble_eq_true rfl) ?_
  refine V_iconst (v := nI 1) F dJ22_stringSize_14 rfl ?_
  refine V_istore_n (i := 3) F dJ22_stringSize_15 rfl (Nat.le_of_ble_eq_true rfl) (Nat.le_of_ble_eq_true rfl) ?_
  have loop_16 : ∀ (nn : Nat) (i : Nat), 6 - i < nn → 1 ≤ i → i ≤ 5 → i = 1 ∨ 10 ^ (i - 1) ≤ n → VV G X 4 ((EQ G X (0) (0) (PR (.int (nI (dgL n).length)) h))) h (0) (0) [some (.int (-(nI (n)))), some (.int (nI (0))), some (.int (-(nI (10 ^ i)))), some (.int (nI (i)))] [] 16 := by
    intro nn
    induction nn with
    | zero => intro i hm h1i h5i hpw; exact absurd hm (by omega)
    | succ nn ih_16 =>
      intro i hm h1i h5i hpw
      have hp31 : 10 ^ i < 2 ^ 31 := Nat.lt_of_le_of_lt (Nat.pow_le_pow_right (by decide) h5i) (by decide)
      refine V_iload_n (i := 3) F dJ22_stringSize_16 rfl rfl ?_
      refine V_bipush (v := nI 10) F dJ22_stringSize_17 rfl ?_
      refine V_icmp_geN (tgt := 42) F dJ22_stringSize_19 (by decide) (by omega) (by decide) (fun c_19 => absurd c_19 (by omega)) (fun c_19 => ?_)
      refine V_iload_n (i := 0) F dJ22_stringSize_22 rfl rfl ?_
      refine V_iload_n (i := 2) F dJ22_stringSize_23 rfl rfl ?_
      refine V_icmp_le (tgt := 31) F dJ22_stringSize_24 (by decide) (fun c_24 => ?_) (fun c_24 => ?_)
      · have hc24 : 10 ^ i ≤ n := (neg_le (by omega) hp31).mp c_24
        refine V_bipush (v := nI 10) F dJ22_stringSize_31 rfl ?_
        refine V_iload_n (i := 2) F dJ22_stringSize_33 rfl rfl ?_
        refine V_imul F dJ22_stringSize_34 ?_
        refine VV.stk (st' := [.int (-(nI (10 ^ (i + 1))))]) (by rw [Nat.pow_succ, Nat.mul_comm, Int32.mul_neg, ← pk_mul]) ?_
        refine V_istore_n (i := 2) F dJ22_stringSize_35 rfl (Nat.le_of_ble_eq_true rfl) (Nat.le_of_ble_eq_true rfl) ?_
        refine V_iinc (i := 3) (v := nI (i + 1)) F dJ22_stringSize_36 rfl (nI_add (i) 1) (Nat.le_of_ble_eq_true rfl) ?_
        refine V_goto (tgt := 16) F dJ22_stringSize_39 (by decide) ?_
        have h6 : i ≠ 5 := fun z => by rw [z] at hc24; omega
        exact ih_16 (i + 1) (by omega) (by omega) (by omega) (Or.inr hc24)
      · have hc24 : n < 10 ^ i := Nat.not_le.mp (fun z => c_24 ((neg_le (by omega) hp31).mpr z))
        refine V_iload_n (i := 3) F dJ22_stringSize_27 rfl rfl ?_
        refine V_iload_n (i := 1) F dJ22_stringSize_28 rfl rfl ?_
        refine V_iaddN F dJ22_stringSize_29 ?_
        exact V_iret F dJ22_stringSize_30 rfl (by first | exact Nat.le_of_ble_eq_true rfl | omega) (by first | exact Nat.le_of_ble_eq_true rfl | omega) ⟨by rw [Nat.add_zero, dgL_num h1i h5i hpw hc24], rfl⟩
  refine VV.weak (L' := [some (.int (-(nI (n)))), some (.int (nI (0))), some (.int (-(nI (10 ^ 1)))), some (.int (nI (1)))]) (LW.c1 (LW.c1 (LW.c1 (LW.c1 LW.nil)))) ?_
  exact loop_16 6 1 (by decide) (by decide) (by decide) (Or.inl rfl)
theorem ct_J22_getChars {G : GG} {l : Launch} {h : AH} {n e b N k0 : Nat} {c : Nat → Nat}  (hb : h b = some (byA G N c)) (hn : n < 10000) (he : e = k0 + (dgL n).length) (heN : e ≤ N) (hN : N < 1000) (hc8 : by8 c) : Ct G l yJ22_getChars cJ22_getChars 7 (some .int) 0 (0) (0) [.int (nI n), .int (nI e), .ref b] h (fun r h2 => ∃ c2, r = some (.int (nI k0)) ∧ h2 b = some (byA G N c2) ∧ by8 c2 ∧ (∀ i, i < k0 → c2 i = c i) ∧ (∀ j, j < (dgL n).length → c2 (k0 + j) = (dgL n).getD j 0) ∧ Fr (m1 b) h h2) := by
  refine Ct.of (by decide) (Nat.le_of_ble_eq_true rfl) (cat1 rfl) (fun X hXl F HN => ?_)
  subst hXl
  have hD4 : rd G h (ad G 4) (byA G 100 (fun j => 48 + j % 10)) := Or.inr F.gb.2.2.2.2.2.2.1
  have hD5 : rd G h (ad G 5) (byA G 100 (fun j => 48 + j / 10)) := Or.inr F.gb.2.2.2.2.2.2.2.1
  have hds := (dgL_asc hn).2.1
  obtain ⟨q, r, hQ⟩ := exQ n
  have hQl := hQ.l
  have hq100 := hQ.q100 hn
  obtain ⟨a0, a1, haT⟩ := exT r
  obtain ⟨c0, c1, hcT⟩ := exT n
  obtain ⟨e0, e1, heT⟩ := exT q
  have ha0 := haT.a
  have ha1 := haT.b hQl.2
  have hc0 := hcT.a
  have he0 := heT.a
  have he1 := heT.b hq100
  refine V_iload_n (i := 1) F dJ22_getChars_0 rfl rfl ?_
  refine V_istore (i := 5) F dJ22_getChars_1 (Nat.le_of_ble_eq_true rfl) (Nat.le_of_ble_eq_true rfl) ?_
  refine V_iload_n (i := 0) F dJ22_getChars_3 rfl rfl ?_
  refine V_if_geN (tgt := 11) F dJ22_getChars_4 (by decide) (by omega) ?_
  refine V_iconst (v := nI 0) F dJ22_getChars_11 rfl ?_
  refine V_istore (i := 6) F dJ22_getChars_12 (Nat.le_of_ble_eq_true rfl) (Nat.le_of_ble_eq_true rfl) ?_
  refine V_iload (i := 6) F dJ22_getChars_14 rfl ?_
  refine V_if_neN (tgt := 22) F dJ22_getChars_16 (by decide) (by omega) (fun c_16 => absurd c_16 (by decide)) (fun c_16 => ?_)
  refine V_iload_n (i := 0) F dJ22_getChars_19 rfl rfl ?_
  refine V_ineg F dJ22_getChars_20 ?_
  refine V_istore_n (i := 0) F dJ22_getChars_21 rfl (Nat.le_of_ble_eq_true rfl) (Nat.le_of_ble_eq_true rfl) ?_
  refine V_iload_n (i := 0) F dJ22_getChars_22 rfl rfl ?_
  refine V_bipush (v := -100) F dJ22_getChars_23 rfl ?_
  refine V_icmp_gt (tgt := 72) F dJ22_getChars_25 (by decide) (fun c_25 => ?_) (fun c_25 => ?_)
  · have h100 : n < 100 := (sb_nlt (by decide) (by omega)).mp c_25
    have hL1 : 1 ≤ (dgL n).length := hds
    have hc1 := hcT.b h100
    refine V_aload_n (i := 2) F dJ22_getChars_72 rfl rfl ?_
    obtain ⟨p1, hp1⟩ : ∃ p, e = p + 1 := ⟨e - 1, by omega⟩
    refine V_iinc (i := 5) (v := nI p1) F dJ22_getChars_73 rfl (by rw [hp1]; exact nI_sub1 (Nat.succ_pos _)) (Nat.le_of_ble_eq_true rfl) ?_
    refine V_iload (i := 5) F dJ22_getChars_76 rfl ?_
    refine V_gets F dJ22_getChars_78 (List.mem_of_getElem? (i := 6) rfl) q690 ?_
    refine V_iload_n (i := 0) F dJ22_getChars_81 rfl rfl ?_
    refine V_inegM F dJ22_getChars_82 ?_
    refine V_baldS F dJ22_getChars_83 hD4 (by omega) (by decide) hcT.1 (by omega) ?_
    refine V_bastS F dJ22_getChars_84 hb (by omega) (by omega) (by omega) ?_
    refine V_iload_n (i := 0) F dJ22_getChars_85 rfl rfl ?_
    refine V_bipush (v := -9) F dJ22_getChars_86 rfl ?_
    refine V_icmp_ge (tgt := 104) F dJ22_getChars_88 (by decide) (fun c_88 => ?_) (fun c_88 => ?_)
    · have h9 : n ≤ 9 := Nat.not_lt.mp (fun z => absurd c_88 (Int32.not_le.mpr ((sb_nlt (a := n) (b := 9) (by omega) (by decide)).mpr z)))
      refine V_iload (i := 6) F dJ22_getChars_104 rfl ?_
      refine V_if_eqN (tgt := 118) F dJ22_getChars_106 (by decide) (by omega) (fun c_106 => ?_) (fun c_106 => absurd c_106 (by decide))
      refine V_iload (i := 5) F dJ22_getChars_118 rfl ?_
      have hd9 := gx1 hcT h9
      have qb : (hset h (b) (byA G N ((up c p1 c0)))) b = some (byA G N ((up c p1 c0))) := (hset_self (e := byA G N ((up c p1 c0))))
      have qf := ((Fr.rf (M := m1 b) (h := h)).put (x := byA G N ((up c p1 c0))) hb ⟨rfl, rfl⟩ rfl (Or.inl rfl))
      rw [hd9] at he ⊢
      have he : e = k0 + 1 := he
      have hk9 : p1 = k0 := by omega
      subst hk9
      refine V_iret F dJ22_getChars_120 rfl (Nat.zero_le _) (Nat.zero_le _) ⟨_, rfl, qb, (hc8.st8 (by omega)), fun i hi => (up_n (by omega)), fun j hj => ?_, qf⟩
      have hj : j < 1 := hj
      have hj9 : j = 0 := by omega
      subst hj9
      exact (up_e (by omega))
    · have h9 : ¬ n ≤ 9 := fun z => c_88 ((neg_le (a := 9) (by decide) (by omega)).mpr z)
      have hL2 : 2 ≤ (dgL n).length := gx2L hn (by omega)
      refine V_aload_n (i := 2) F dJ22_getChars_91 rfl rfl ?_
      obtain ⟨p2, hp2⟩ : ∃ p, p1 = p + 1 := ⟨p1 - 1, by omega⟩
      refine V_iinc (i := 5) (v := nI p2) F dJ22_getChars_92 rfl (by rw [hp2]; exact nI_sub1 (Nat.succ_pos _)) (Nat.le_of_ble_eq_true rfl) ?_
      refine V_iload (i := 5) F dJ22_getChars_95 rfl ?_
      refine V_gets F dJ22_getChars_97 (List.mem_of_getElem? (i := 7) rfl) q692 ?_
      refine V_iload_n (i := 0) F dJ22_getChars_100 rfl rfl ?_
      refine V_inegM F dJ22_getChars_101 ?_
      refine V_baldS F dJ22_getChars_102 (hD5.put2 (Or.inl F.gb.2.2.2.2.2.2.2.1)) (by omega) (by decide) hcT.2 (by omega) ?_
      refine V_bastS F dJ22_getChars_103 (hset_self (e := byA G N ((up c p1 c0)))) (by omega) (by omega) (by omega) ?_
      refine V_iload (i := 6) F dJ22_getChars_104 rfl ?_
      refine V_if_eqN (tgt := 118) F dJ22_getChars_106 (by decide) (by omega) (fun c_106 => ?_) (fun c_106 => absurd c_106 (by decide))
      refine V_iload (i := 5) F dJ22_getChars_118 rfl ?_
      have hd9 := gx2 hcT (by omega) h100
      have qb : (hset (hset h (b) (byA G N ((up c p1 c0)))) (b) (byA G N ((up ((up c p1 c0)) p2 c1)))) b = some (byA G N ((up ((up c p1 c0)) p2 c1))) := (hset_self (e := byA G N ((up ((up c p1 c0)) p2 c1))))
      have qf := (((Fr.rf (M := m1 b) (h := h)).put (x := byA G N ((up c p1 c0))) hb ⟨rfl, rfl⟩ rfl (Or.inl rfl)).put (x := byA G N ((up ((up c p1 c0)) p2 c1))) (hset_self (e := byA G N ((up c p1 c0)))) ⟨rfl, rfl⟩ rfl (Or.inl rfl))
      rw [hd9] at he ⊢
      have he : e = k0 + 2 := he
      have hk9 : p2 = k0 := by omega
      subst hk9
      refine V_iret F dJ22_getChars_120 rfl (Nat.zero_le _) (Nat.zero_le _) ⟨_, rfl, qb, ((hc8.st8 (by omega)).st8 (by omega)), fun i hi => ((up_n (by omega)).trans (up_n (by omega))), fun j hj => ?_, qf⟩
      have hj : j < 2 := hj
      have hj9 : j = 0 ∨ j = 1 := by omega
      rcases hj9 with rfl | rfl
      · exact (up_e (by omega))
      · exact ((up_n (by omega)).trans (up_e (by omega)))
  · have h100 : ¬ n < 100 := fun z => c_25 ((sb_nlt (by decide) (by omega)).mpr z)
    have hL3 : 3 ≤ (dgL n).length := gx3L hn h100
    refine V_iload_n (i := 0) F dJ22_getChars_28 rfl rfl ?_
    refine V_bipush (v := nI 100) F dJ22_getChars_29 rfl ?_
    refine V_idivQ F dJ22_getChars_31 hQ (by omega) ?_
    refine V_istore_n (i := 3) F dJ22_getChars_32 rfl (Nat.le_of_ble_eq_true rfl) (Nat.le_of_ble_eq_true rfl) ?_
    refine V_iload_n (i := 3) F dJ22_getChars_33 rfl rfl ?_
    refine V_bipush (v := nI 100) F dJ22_getChars_34 rfl ?_
    refine V_imul F dJ22_getChars_36 ?_
    refine V_iload_n (i := 0) F dJ22_getChars_37 rfl rfl ?_
    refine V_isubQ F dJ22_getChars_38 hQ (by omega) ?_
    refine V_istore (i := 4) F dJ22_getChars_39 (Nat.le_of_ble_eq_true rfl) (Nat.le_of_ble_eq_true rfl) ?_
    refine V_iload_n (i := 3) F dJ22_getChars_41 rfl rfl ?_
    refine V_istore_n (i := 0) F dJ22_getChars_42 rfl (Nat.le_of_ble_eq_true rfl) (Nat.le_of_ble_eq_true rfl) ?_
    refine V_aload_n (i := 2) F dJ22_getChars_43 rfl rfl ?_
    obtain ⟨p1, hp1⟩ : ∃ p, e = p + 1 := ⟨e - 1, by omega⟩
    refine V_iinc (i := 5) (v := nI p1) F dJ22_getChars_44 rfl (by rw [hp1]; exact nI_sub1 (Nat.succ_pos _)) (Nat.le_of_ble_eq_true rfl) ?_
    refine V_iload (i := 5) F dJ22_getChars_47 rfl ?_
    refine V_gets F dJ22_getChars_49 (List.mem_of_getElem? (i := 6) rfl) q690 ?_
    refine V_iload (i := 4) F dJ22_getChars_52 rfl ?_
    refine V_baldS F dJ22_getChars_54 hD4 (by omega) (by decide) haT.1 (by omega) ?_
    refine V_bastS F dJ22_getChars_55 hb (by omega) (by omega) (by omega) ?_
    refine V_aload_n (i := 2) F dJ22_getChars_56 rfl rfl ?_
    obtain ⟨p2, hp2⟩ : ∃ p, p1 = p + 1 := ⟨p1 - 1, by omega⟩
    refine V_iinc (i := 5) (v := nI p2) F dJ22_getChars_57 rfl (by rw [hp2]; exact nI_sub1 (Nat.succ_pos _)) (Nat.le_of_ble_eq_true rfl) ?_
    refine V_iload (i := 5) F dJ22_getChars_60 rfl ?_
    refine V_gets F dJ22_getChars_62 (List.mem_of_getElem? (i := 7) rfl) q692 ?_
    refine V_iload (i := 4) F dJ22_getChars_65 rfl ?_
    refine V_baldS F dJ22_getChars_67 (hD5.put2 (Or.inl F.gb.2.2.2.2.2.2.2.1)) (by omega) (by decide) haT.2 (by omega) ?_
    refine V_bastS F dJ22_getChars_68 (hset_self (e := byA G N ((up c p1 a0)))) (by omega) (by omega) (by omega) ?_
    refine V_goto (tgt := 22) F dJ22_getChars_69 (by decide) ?_
    refine V_iload_n (i := 0) F dJ22_getChars_22 rfl rfl ?_
    refine V_bipush (v := -100) F dJ22_getChars_23 rfl ?_
    refine V_icmp_gt (tgt := 72) F dJ22_getChars_25 (by decide) (fun c_25 => ?_) (fun c_25 => absurd c_25 (fun z => z ((sb_nlt (by decide) (by omega)).mpr hq100)))
    refine V_aload_n (i := 2) F dJ22_getChars_72 rfl rfl ?_
    obtain ⟨p3, hp3⟩ : ∃ p, p2 = p + 1 := ⟨p2 - 1, by omega⟩
    refine V_iinc (i := 5) (v := nI p3) F dJ22_getChars_73 rfl (by rw [hp3]; exact nI_sub1 (Nat.succ_pos _)) (Nat.le_of_ble_eq_true rfl) ?_
    refine V_iload (i := 5) F dJ22_getChars_76 rfl ?_
    refine V_gets F dJ22_getChars_78 (List.mem_of_getElem? (i := 6) rfl) q690 ?_
    refine V_iload_n (i := 0) F dJ22_getChars_81 rfl rfl ?_
    refine V_inegM F dJ22_getChars_82 ?_
    refine V_baldS F dJ22_getChars_83 ((hD4.put2 (Or.inl F.gb.2.2.2.2.2.2.1)).put2 (Or.inl F.gb.2.2.2.2.2.2.1)) (by omega) (by decide) heT.1 (by omega) ?_
    refine V_bastS F dJ22_getChars_84 (hset_self (e := byA G N ((up ((up c p1 a0)) p2 a1)))) (by omega) (by omega) (by omega) ?_
    refine V_iload_n (i := 0) F dJ22_getChars_85 rfl rfl ?_
    refine V_bipush (v := -9) F dJ22_getChars_86 rfl ?_
    refine V_icmp_ge (tgt := 104) F dJ22_getChars_88 (by decide) (fun c_88 => ?_) (fun c_88 => ?_)
    · have h9 : q ≤ 9 := Nat.not_lt.mp (fun z => absurd c_88 (Int32.not_le.mpr ((sb_nlt (a := q) (b := 9) (by omega) (by decide)).mpr z)))
      refine V_iload (i := 6) F dJ22_getChars_104 rfl ?_
      refine V_if_eqN (tgt := 118) F dJ22_getChars_106 (by decide) (by omega) (fun c_106 => ?_) (fun c_106 => absurd c_106 (by decide))
      refine V_iload (i := 5) F dJ22_getChars_118 rfl ?_
      have hd9 := gx3 hQ haT heT (by omega) h9
      have qb : (hset (hset (hset h (b) (byA G N ((up c p1 a0)))) (b) (byA G N ((up ((up c p1 a0)) p2 a1)))) (b) (byA G N ((up ((up ((up c p1 a0)) p2 a1)) p3 e0)))) b = some (byA G N ((up ((up ((up c p1 a0)) p2 a1)) p3 e0))) := (hset_self (e := byA G N ((up ((up ((up c p1 a0)) p2 a1)) p3 e0))))
      have qf := ((((Fr.rf (M := m1 b) (h := h)).put (x := byA G N ((up c p1 a0))) hb ⟨rfl, rfl⟩ rfl (Or.inl rfl)).put (x := byA G N ((up ((up c p1 a0)) p2 a1))) (hset_self (e := byA G N ((up c p1 a0)))) ⟨rfl, rfl⟩ rfl (Or.inl rfl)).put (x := byA G N ((up ((up ((up c p1 a0)) p2 a1)) p3 e0))) (hset_self (e := byA G N ((up ((up c p1 a0)) p2 a1)))) ⟨rfl, rfl⟩ rfl (Or.inl rfl))
      rw [hd9] at he ⊢
      have he : e = k0 + 3 := he
      have hk9 : p3 = k0 := by omega
      subst hk9
      refine V_iret F dJ22_getChars_120 rfl (Nat.zero_le _) (Nat.zero_le _) ⟨_, rfl, qb, (((hc8.st8 (by omega)).st8 (by omega)).st8 (by omega)), fun i hi => ((up_n (by omega)).trans ((up_n (by omega)).trans (up_n (by omega)))), fun j hj => ?_, qf⟩
      have hj : j < 3 := hj
      have hj9 : j = 0 ∨ j = 1 ∨ j = 2 := by omega
      rcases hj9 with rfl | rfl | rfl
      · exact (up_e (by omega))
      · exact ((up_n (by omega)).trans (up_e (by omega)))
      · exact ((up_n (by omega)).trans ((up_n (by omega)).trans (up_e (by omega))))
    · have h9 : ¬ q ≤ 9 := fun z => c_88 ((neg_le (a := 9) (by decide) (by omega)).mpr z)
      have hL4 : 4 ≤ (dgL n).length := gx4L hQ hn (by omega)
      refine V_aload_n (i := 2) F dJ22_getChars_91 rfl rfl ?_
      obtain ⟨p4, hp4⟩ : ∃ p, p3 = p + 1 := ⟨p3 - 1, by omega⟩
      refine V_iinc (i := 5) (v := nI p4) F dJ22_getChars_92 rfl (by rw [hp4]; exact nI_sub1 (Nat.succ_pos _)) (Nat.le_of_ble_eq_true rfl) ?_
      refine V_iload (i := 5) F dJ22_getChars_95 rfl ?_
      refine V_gets F dJ22_getChars_97 (List.mem_of_getElem? (i := 7) rfl) q692 ?_
      refine V_iload_n (i := 0) F dJ22_getChars_100 rfl rfl ?_
      refine V_inegM F dJ22_getChars_101 ?_
      refine V_baldS F dJ22_getChars_102 (((hD5.put2 (Or.inl F.gb.2.2.2.2.2.2.2.1)).put2 (Or.inl F.gb.2.2.2.2.2.2.2.1)).put2 (Or.inl F.gb.2.2.2.2.2.2.2.1)) (by omega) (by decide) heT.2 (by omega) ?_
      refine V_bastS F dJ22_getChars_103 (hset_self (e := byA G N ((up ((up ((up c p1 a0)) p2 a1)) p3 e0)))) (by omega) (by omega) (by omega) ?_
      refine V_iload (i := 6) F dJ22_getChars_104 rfl ?_
      refine V_if_eqN (tgt := 118) F dJ22_getChars_106 (by decide) (by omega) (fun c_106 => ?_) (fun c_106 => absurd c_106 (by decide))
      refine V_iload (i := 5) F dJ22_getChars_118 rfl ?_
      have hd9 := gx4 hQ haT heT (by omega) hn
      have qb : (hset (hset (hset (hset h (b) (byA G N ((up c p1 a0)))) (b) (byA G N ((up ((up c p1 a0)) p2 a1)))) (b) (byA G N ((up ((up ((up c p1 a0)) p2 a1)) p3 e0)))) (b) (byA G N ((up ((up ((up ((up c p1 a0)) p2 a1)) p3 e0)) p4 e1)))) b = some (byA G N ((up ((up ((up ((up c p1 a0)) p2 a1)) p3 e0)) p4 e1))) := (hset_self (e := byA G N ((up ((up ((up ((up c p1 a0)) p2 a1)) p3 e0)) p4 e1))))
      have qf := (((((Fr.rf (M := m1 b) (h := h)).put (x := byA G N ((up c p1 a0))) hb ⟨rfl, rfl⟩ rfl (Or.inl rfl)).put (x := byA G N ((up ((up c p1 a0)) p2 a1))) (hset_self (e := byA G N ((up c p1 a0)))) ⟨rfl, rfl⟩ rfl (Or.inl rfl)).put (x := byA G N ((up ((up ((up c p1 a0)) p2 a1)) p3 e0))) (hset_self (e := byA G N ((up ((up c p1 a0)) p2 a1)))) ⟨rfl, rfl⟩ rfl (Or.inl rfl)).put (x := byA G N ((up ((up ((up ((up c p1 a0)) p2 a1)) p3 e0)) p4 e1))) (hset_self (e := byA G N ((up ((up ((up c p1 a0)) p2 a1)) p3 e0)))) ⟨rfl, rfl⟩ rfl (Or.inl rfl))
      rw [hd9] at he ⊢
      have he : e = k0 + 4 := he
      have hk9 : p4 = k0 := by omega
      subst hk9
      refine V_iret F dJ22_getChars_120 rfl (Nat.zero_le _) (Nat.zero_le _) ⟨_, rfl, qb, ((((hc8.st8 (by omega)).st8 (by omega)).st8 (by omega)).st8 (by omega)), fun i hi => ((up_n (by omega)).trans ((up_n (by omega)).trans ((up_n (by omega)).trans (up_n (by omega))))), fun j hj => ?_, qf⟩
      have hj : j < 4 := hj
      have hj9 : j = 0 ∨ j = 1 ∨ j = 2 ∨ j = 3 := by omega
      rcases hj9 with rfl | rfl | rfl | rfl
      · exact (up_e (by omega))
      · exact ((up_n (by omega)).trans (up_e (by omega)))
      · exact ((up_n (by omega)).trans ((up_n (by omega)).trans (up_e (by omega))))
      · exact ((up_n (by omega)).trans ((up_n (by omega)).trans ((up_n (by omega)).trans (up_e (by omega)))))
theorem ct_J4_appendI {G : GG} {l : Launch} {h : AH} {s b N : Nat} {l0 : List Nat} {n : Nat}  (hS : SBs G h s b N l0) (hn : n < 10000) (hm : l0.length + (dgL n).length ≤ 100) : Ct G l yJ4_append_2 cJ4_append_2 4 (some (.object "java/lang/AbstractStringBuilder")) 4 (1) (202) [.ref s, .int (nI n)] h (fun r h2 => r = some (.ref s) ∧ ∃ b2 N2, SBs G h2 s b2 N2 (l0 ++ dgL n) ∧ (b2 = b ∧ N2 = N ∨ h b2 = none) ∧ Fr (m2 s b) h h2) := by
  refine Ct.of (by decide) (Nat.le_of_ble_eq_true rfl) (cat1 rfl) (fun X hXl F HN => ?_)
  subst hXl
  obtain ⟨ml, c, hs, hb, hlN, hN2, hc8, hcl, hal⟩ := id hS
  have hds := dgL_asc hn
  refine V_aload_n (i := 0) F dJ4_append_2_0 rfl rfl ?_
  refine V_getf F dJ4_append_2_1 fc_J4_79_J5 (.inl hs) rfl ?_
  refine V_istore_n (i := 2) F dJ4_append_2_4 rfl (Nat.le_of_ble_eq_true rfl) (Nat.le_of_ble_eq_true rfl) ?_
  refine V_iload_n (i := 2) F dJ4_append_2_5 rfl rfl ?_
  refine V_iload_n (i := 1) F dJ4_append_2_6 rfl rfl ?_
  refine V_callS (st := [.int (nI (l0.length))]) (nn := 1) F dJ4_append_2_7 lk_J4_245 (ct_J22_stringSize (n := n) (by omega)) rfl rfl (Nat.le_of_ble_eq_true rfl) (Nat.le_of_ble_eq_true rfl) (Nat.le_of_ble_eq_true rfl) (by omega) (by omega) ?_
  refine PRk ?_
  refine V_iaddN F dJ4_append_2_10 ?_
  refine V_istore_n (i := 3) F dJ4_append_2_11 rfl (Nat.le_of_ble_eq_true rfl) (Nat.le_of_ble_eq_true rfl) ?_
  refine V_aload_n (i := 0) F dJ4_append_2_12 rfl rfl ?_
  refine V_iload_n (i := 3) F dJ4_append_2_13 rfl rfl ?_
  refine V_callP (st := []) (nn := 1) F dJ4_append_2_14 ⟨lw_P q568 q570 q106 q571, q569, ⟨_, _, _, q606, rfl⟩, by decide +kernel, by decide +kernel⟩ (ct_J4_ens (m := l0.length + (dgL n).length) hS (by omega)) hS.isC rfl rfl (Nat.le_of_ble_eq_true rfl) (Nat.le_of_ble_eq_true rfl) (Nat.le_of_ble_eq_true rfl) (by omega) (by omega) ?_
  rintro _ h2 ⟨rfl, b2, N2, hSn, hmN, hbb, hx2⟩
  obtain ⟨ml2, c2, hs2, hb2, hlN2, hN22, hc82, hcl2, hal2⟩ := id hSn
  have hbY : Yo (m2 s b) h b2 := hbb.elim (fun z => Or.inl (Or.inr z.1)) Or.inr
  have hF2 : Fr (m2 s b) h h2 := hx2.mono (fun _ z => Or.inl z)
  refine V_aload_n (i := 0) F dJ4_append_2_17 rfl rfl ?_
  refine V_callO (st := []) (nn := 0) F dJ4_append_2_18 ⟨lw_O q603 q605 q604 q606 q604 q106 q607, ⟨_, _, _, q607⟩, by decide +kernel⟩ (ct_J4_isLatin1 hSn) hSn.isC rfl rfl (Nat.le_of_ble_eq_true rfl) (Nat.le_of_ble_eq_true rfl) (Nat.le_of_ble_eq_true rfl) (by omega) (by omega) ?_
  refine PRk ?_
  refine V_if_eqN (tgt := 37) F dJ4_append_2_21 (by decide) (by omega) (fun c_21 => absurd c_21 (by decide)) (fun c_21 => ?_)
  refine V_iload_n (i := 1) F dJ4_append_2_24 rfl rfl ?_
  refine V_iload_n (i := 3) F dJ4_append_2_25 rfl rfl ?_
  refine V_aload_n (i := 0) F dJ4_append_2_26 rfl rfl ?_
  refine V_getf F dJ4_append_2_27 fc_J4_15_J5 (.inl hs2) rfl ?_
  refine V_callS (st := []) (nn := 3) F dJ4_append_2_30 lk_J4_248 (ct_J22_getChars hb2 hn rfl hmN (by omega) hc82) rfl rfl (Nat.le_of_ble_eq_true rfl) (Nat.le_of_ble_eq_true rfl) (Nat.le_of_ble_eq_true rfl) (by omega) (by omega) ?_
  rintro _ h3 ⟨c3, rfl, hb3, hc83, hlo3, hdg3, hx3⟩
  have hs3 := hx3.get hs2 (ne_oa hs2 hb2) rfl
  have hF3 := hF2.cal hx3 (Yo.m1 hbY)
  refine V_pop F dJ4_append_2_33 rfl ?_
  refine V_goto (tgt := 48) F dJ4_append_2_34 (by decide) ?_
  refine V_aload_n (i := 0) F dJ4_append_2_48 rfl rfl ?_
  refine V_iload_n (i := 3) F dJ4_append_2_49 rfl rfl ?_
  refine V_putf F dJ4_append_2_50 fp_J4_79_J5 hs3 rfl rfl (Nat.le_of_ble_eq_true rfl) ?_
  refine VV.heap (h' := (hset h3 (s) (.inr (21, [.ref (b2), .int (nI (0)), .int (ml2), .int (nI (l0.length + ((dgL n).length)))])))) rfl ?_
  refine V_aload_n (i := 0) F dJ4_append_2_53 rfl rfl ?_
  have qs : (hset h3 (s) (.inr (21, [.ref (b2), .int (nI (0)), .int (ml2), .int (nI (l0.length + ((dgL n).length)))]))) s = some (.inr (21, [.ref (b2), .int (nI (0)), .int (ml2), .int (nI (l0.length + ((dgL n).length)))])) := (hset_self (e := .inr (21, [.ref (b2), .int (nI (0)), .int (ml2), .int (nI (l0.length + ((dgL n).length)))])))
  have qb : (hset h3 (s) (.inr (21, [.ref (b2), .int (nI (0)), .int (ml2), .int (nI (l0.length + ((dgL n).length)))]))) b2 = some (byA G N2 c3) := ((hset_ne (ne_ao hb3 hs3)).trans hb3)
  have qf := (hF3.put (x := .inr (21, [.ref (b2), .int (nI (0)), .int (ml2), .int (nI (l0.length + ((dgL n).length)))])) hs3 rfl rfl (Or.inl (Or.inl rfl)))
  exact V_aret F dJ4_append_2_54 (Or.inl ⟨_, rfl⟩) (Or.inr ⟨_, rfl⟩) (by first | exact Nat.le_of_ble_eq_true rfl | omega) (by first | exact Nat.le_of_ble_eq_true rfl | omega) ⟨rfl, b2, N2, ⟨_, _, by rw [List.length_append]; exact qs, qb, by rw [List.length_append]; exact hmN, hN22, hc83, hcl2.app2 hlo3 hdg3, hal.app hds.1⟩, hbb, qf⟩
theorem ct_J5_appendI {G : GG} {l : Launch} {h : AH} {s b N : Nat} {l0 : List Nat} {n : Nat}  (hS : SBs G h s b N l0) (hn : n < 10000) (hm : l0.length + (dgL n).length ≤ 100) : Ct G l yJ5_append_2 cJ5_append_2 2 (some (.object "java/lang/StringBuilder")) 5 (1) (202) [.ref s, .int (nI n)] h (fun r h2 => r = some (.ref s) ∧ ∃ b2 N2, SBs G h2 s b2 N2 (l0 ++ dgL n) ∧ (b2 = b ∧ N2 = N ∨ h b2 = none) ∧ Fr (m2 s b) h h2) := by
  refine Ct.of (by decide) (Nat.le_of_ble_eq_true rfl) (cat1 rfl) (fun X hXl F HN => ?_)
  subst hXl
  refine V_aload_n (i := 0) F dJ5_append_2_0 rfl rfl ?_
  refine V_iload_n (i := 1) F dJ5_append_2_1 rfl rfl ?_
  refine V_callSU (st := []) (nn := 1) F dJ5_append_2_2 ⟨lw_SU q681 q4211 q249 q682 q106 q683, by decide, by decide +kernel⟩ (ct_J4_appendI hS hn hm) hS.isC rfl rfl (Nat.le_of_ble_eq_true rfl) (Nat.le_of_ble_eq_true rfl) (Nat.le_of_ble_eq_true rfl) (by omega) (by omega) ?_
  rintro _ h2 ⟨rfl, b2, N2, hS3, hbb, hx2⟩
  refine V_pop F dJ5_append_2_5 rfl ?_
  refine V_aload_n (i := 0) F dJ5_append_2_6 rfl rfl ?_
  exact V_aret F dJ5_append_2_7 (Or.inl ⟨_, rfl⟩) (Or.inr ⟨_, rfl⟩) (by first | exact Nat.le_of_ble_eq_true rfl | omega) (by first | exact Nat.le_of_ble_eq_true rfl | omega) ⟨rfl, b2, N2, hS3, hbb, hx2⟩
theorem ct_J19_checkLength {G : GG} {l : Launch} {h : AH} {a b : Nat}  (hab : a ≤ b) (hb : b < 1000) : Ct G l yJ19_checkLength cJ19_checkLength 2 none 0 (0) (0) [.int (nI a), .int (nI b)] h (PV h) := by
  refine Ct.of (by decide) (Nat.le_of_ble_eq_true rfl) (cat1 rfl) (fun X hXl F HN => ?_)
  subst hXl
  refine V_iload_n (i := 1) F dJ19_checkLength_0 rfl rfl ?_
  refine V_iload_n (i := 0) F dJ19_checkLength_1 rfl rfl ?_
  refine V_icmp_geN (tgt := 37) F dJ19_checkLength_2 (by decide) (by omega) (by omega) (fun c_2 => ?_) (fun c_2 => absurd c_2 (by omega))
  exact V_vret F dJ19_checkLength_37 (by first | exact Nat.le_of_ble_eq_true rfl | omega) (by first | exact Nat.le_of_ble_eq_true rfl | omega) ⟨rfl, rfl⟩
theorem ct_J19_copyOfRangeByte {G : GG} {l : Launch} {h : AH} {a n0 z : Nat} {c : Nat → Nat}  (ha : rd G h a (byA G n0 c)) (hc8 : by8 c) (hz : z ≤ n0) (hn : n0 < 1000) : Ct G l yJ19_copyOfRangeByte cJ19_copyOfRangeByte 5 (some (.array .byte)) 1 (1) (z) [.ref a, .int (nI 0), .int (nI z)] h (fun r h2 => ∃ o c2, r = some (.ref o) ∧ h o = none ∧ h2 o = some (byA G z c2) ∧ by8 c2 ∧ (∀ i, i < z → c2 i = c i) ∧ Fr nM h h2) := by
  refine Ct.of (by decide) (Nat.le_of_ble_eq_true rfl) (cat1 rfl) (fun X hXl F HN => ?_)
  subst hXl
  refine V_iload_n (i := 1) F dJ19_copyOfRangeByte_0 rfl rfl ?_
  refine V_iload_n (i := 2) F dJ19_copyOfRangeByte_1 rfl rfl ?_
  refine V_callS (st := []) (nn := 2) F dJ19_copyOfRangeByte_2 lk_J19_343 (ct_J19_checkLength (a := 0) (b := z) (Nat.zero_le _) (by omega)) rfl rfl (Nat.le_of_ble_eq_true rfl) (Nat.le_of_ble_eq_true rfl) (Nat.le_of_ble_eq_true rfl) (by omega) (by omega) ?_
  refine PVk ?_
  refine V_iload_n (i := 2) F dJ19_copyOfRangeByte_5 rfl rfl ?_
  refine V_iload_n (i := 1) F dJ19_copyOfRangeByte_6 rfl rfl ?_
  refine V_isubN F dJ19_copyOfRangeByte_7 (Nat.zero_le _) ?_
  refine V_istore_n (i := 3) F dJ19_copyOfRangeByte_8 rfl (Nat.le_of_ble_eq_true rfl) (Nat.le_of_ble_eq_true rfl) ?_
  refine V_iload_n (i := 3) F dJ19_copyOfRangeByte_9 rfl rfl ?_
  refine V_newaS F dJ19_copyOfRangeByte_10 (by omega) (by omega) (by omega) ?_
  intro o hfo hbo
  refine V_astore (i := 4) F dJ19_copyOfRangeByte_12 (Nat.le_of_ble_eq_true rfl) (Nat.le_of_ble_eq_true rfl) ?_
  refine V_aload_n (i := 0) F dJ19_copyOfRangeByte_14 rfl rfl ?_
  refine V_iload_n (i := 1) F dJ19_copyOfRangeByte_15 rfl rfl ?_
  refine V_aload (i := 4) F dJ19_copyOfRangeByte_16 rfl ?_
  refine V_iconst (v := nI 0) F dJ19_copyOfRangeByte_18 rfl ?_
  refine V_aload_n (i := 0) F dJ19_copyOfRangeByte_19 rfl rfl ?_
  refine V_alen (v := nI n0) F 5 dJ19_copyOfRangeByte_20 rfl (ha.nw hfo) rfl ?_
  refine V_iload_n (i := 1) F dJ19_copyOfRangeByte_21 rfl rfl ?_
  refine V_isubN F dJ19_copyOfRangeByte_22 (Nat.zero_le _) ?_
  refine V_iload_n (i := 3) F dJ19_copyOfRangeByte_23 rfl rfl ?_
  refine V_mminN (a := (n0 - 0)) (b := (z - 0)) F dJ19_copyOfRangeByte_24 q597 (by omega) (by omega) (Nat.le_of_ble_eq_true rfl) (Nat.le_of_ble_eq_true rfl) (by omega) (by omega) ?_
  refine V_copyS F dJ19_copyOfRangeByte_27 q600 (ha.nw hfo) (hset_self (e := byA G (z - 0) (fun _ => 0))) (by omega) (by omega) (by omega) (by omega) (Nat.le_of_ble_eq_true rfl) (Nat.le_of_ble_eq_true rfl) ?_
  refine V_aload (i := 4) F dJ19_copyOfRangeByte_30 rfl ?_
  have qo : (hset (hset h o (byA G (z - 0) (fun _ => 0))) (o) (byA G (z - 0) ((va_cpy c (fun _ => 0) 0 0 (min (n0 - 0) (z - 0)))))) o = some (byA G (z - 0) ((va_cpy c (fun _ => 0) 0 0 (min (n0 - 0) (z - 0))))) := (hset_self (e := byA G (z - 0) ((va_cpy c (fun _ => 0) 0 0 (min (n0 - 0) (z - 0))))))
  have qf := (((Fr.rf (M := nM) (h := h)).nw (x := byA G (z - 0) (fun _ => 0)) hfo).put (x := byA G (z - 0) ((va_cpy c (fun _ => 0) 0 0 (min (n0 - 0) (z - 0))))) (hset_self (e := byA G (z - 0) (fun _ => 0))) ⟨rfl, rfl⟩ rfl ((Fr.rf (M := nM) (h := h)).yo hfo))
  exact V_aret F dJ19_copyOfRangeByte_32 (Or.inr ⟨_, rfl⟩) (Or.inr ⟨_, rfl⟩) (by first | exact Nat.le_of_ble_eq_true rfl | omega) (by first | exact Nat.le_of_ble_eq_true rfl | omega) ⟨o, _, rfl, hfo, (by rw [Nat.sub_zero] at qo; exact qo), by8.cpy hc8 (fun _ => by decide), fun i hi => by unfold va_cpy; rw [if_pos ⟨Nat.zero_le _, by omega⟩, Nat.zero_add, Nat.sub_zero], qf⟩
theorem ct_J19_copyOfRange {G : GG} {l : Launch} {h : AH} {a n0 z : Nat} {c : Nat → Nat}  (ha : h a = some (byA G n0 c) ∨ False) (hc8 : by8 c) (hz : z ≤ n0) (hn : n0 < 1000) : Ct G l yJ19_copyOfRange cJ19_copyOfRange 3 (some (.array .byte)) 2 (1) (n0) [.ref a, .int (nI 0), .int (nI z)] h (fun r h2 => ∃ o c2, r = some (.ref o) ∧ h o = none ∧ h2 o = some (byA G z c2) ∧ by8 c2 ∧ (∀ i, i < z → c2 i = c i) ∧ Fr nM h h2) := by
  refine Ct.of (by decide) (Nat.le_of_ble_eq_true rfl) (cat1 rfl) (fun X hXl F HN => ?_)
  subst hXl
  refine V_iload_n (i := 1) F dJ19_copyOfRange_0 rfl rfl ?_
  refine V_if_neN (tgt := 10) F dJ19_copyOfRange_1 (by decide) (by omega) (fun c_1 => absurd c_1 (by decide)) (fun c_1 => ?_)
  refine V_iload_n (i := 2) F dJ19_copyOfRange_4 rfl rfl ?_
  refine V_aload_n (i := 0) F dJ19_copyOfRange_5 rfl rfl ?_
  refine V_alen (v := nI n0) F 5 dJ19_copyOfRange_6 rfl (.inl (ha.elim id False.elim)) rfl ?_
  refine V_icmp_eqN (tgt := 17) F dJ19_copyOfRange_7 (by decide) (by omega) (by omega) (fun c_7 => ?_) (fun c_7 => ?_)
  · refine V_aload_n (i := 0) F dJ19_copyOfRange_17 rfl rfl ?_
    refine V_cloneS F dJ19_copyOfRange_18 q590 (.inl (ha.elim id False.elim)) (Nat.le_of_ble_eq_true rfl) (Nat.le_of_ble_eq_true rfl) (by omega) (by omega) ?_
    intro o hfo hbo
    have p1 : rd G h a (byA G n0 c) := (.inl (ha.elim id False.elim))
    refine V_ckB F dJ19_copyOfRange_21 q596 (.inl (hset_self (e := byA G n0 c))) ?_
    have qo : (hset h o (byA G n0 c)) o = some (byA G n0 c) := (hset_self (e := byA G n0 c))
    have qf := ((Fr.rf (M := nM) (h := h)).nw (x := byA G n0 c) hfo)
    have ez : z = n0 := by omega
    exact V_aret F dJ19_copyOfRange_24 (Or.inr ⟨_, rfl⟩) (Or.inr ⟨_, rfl⟩) (by first | exact Nat.le_of_ble_eq_true rfl | omega) (by first | exact Nat.le_of_ble_eq_true rfl | omega) ⟨o, c, rfl, hfo, (by rw [ez]; exact qo), hc8, fun _ _ => rfl, qf⟩
  · refine V_aload_n (i := 0) F dJ19_copyOfRange_10 rfl rfl ?_
    refine V_iload_n (i := 1) F dJ19_copyOfRange_11 rfl rfl ?_
    refine V_iload_n (i := 2) F dJ19_copyOfRange_12 rfl rfl ?_
    refine V_callS (st := []) (nn := 3) F dJ19_copyOfRange_13 lk_J19_339 (ct_J19_copyOfRangeByte (.inl (ha.elim id False.elim)) hc8 hz hn) rfl rfl (Nat.le_of_ble_eq_true rfl) (Nat.le_of_ble_eq_true rfl) (Nat.le_of_ble_eq_true rfl) (by omega) (by omega) ?_
    rintro _ h2 ⟨o, c2, rfl, ho0, ho, hc2, hcc, hx2⟩
    exact V_aret F dJ19_copyOfRange_16 (Or.inr ⟨_, rfl⟩) (Or.inr ⟨_, rfl⟩) (by first | exact Nat.le_of_ble_eq_true rfl | omega) (by first | exact Nat.le_of_ble_eq_true rfl | omega) ⟨o, c2, rfl, ho0, ho, hc2, hcc, hx2⟩
theorem ct_J6_init2 {G : GG} {l : Launch} {h : AH} {s b N : Nat} {l0 : List Nat} {o : Nat}  (hS : SBs G h s b N l0) (ho : h o = some (.inr (22, [.null, .int (nI 0), .int (nI 0), .int (nI 0)]))) : Ct G l yJ6_init_2 cJ6_init_2 5 none 3 (1) (202) [.ref o, .ref s, .null] h (fun r h2 => r = none ∧ ∃ v c2, h v = none ∧ h2 o = some (.inr (22, [.ref v, .int (nI 0), .int (nI 0), .int (nI 0)])) ∧ h2 v = some (byA G l0.length c2) ∧ by8 c2 ∧ begW c2 l0 ∧ Fr (m1 o) h h2) := by
  refine Ct.of (by decide) (Nat.le_of_ble_eq_true rfl) (cat1 rfl) (fun X hXl F HN => ?_)
  subst hXl
  obtain ⟨ml, c, hs, hb, hlN, hN2, hc8, hcl, hal⟩ := id hS
  refine V_aload_n (i := 0) F dJ6_init_2_0 rfl rfl ?_
  refine V_objInit F dJ6_init_2_1 q715 q180 q181 (Nat.le_of_ble_eq_true rfl) (Nat.le_of_ble_eq_true rfl) ?_
  refine V_aload_n (i := 1) F dJ6_init_2_4 rfl rfl ?_
  refine V_callO (st := []) (nn := 0) F dJ6_init_2_5 ⟨lw_O q716 q718 q717 q719 q717 q106 q720, ⟨_, _, _, q720⟩, by decide +kernel⟩ (ct_J4_getValue hs hb) hS.isC rfl rfl (Nat.le_of_ble_eq_true rfl) (Nat.le_of_ble_eq_true rfl) (Nat.le_of_ble_eq_true rfl) (by omega) (by omega) ?_
  refine PRk ?_
  refine V_astore_n (i := 3) F dJ6_init_2_8 rfl (Nat.le_of_ble_eq_true rfl) (Nat.le_of_ble_eq_true rfl) ?_
  refine V_aload_n (i := 1) F dJ6_init_2_9 rfl rfl ?_
  refine V_callO (st := []) (nn := 0) F dJ6_init_2_10 ⟨lw_O q721 q723 q722 q724 q725 q107 q726, ⟨_, _, _, q728⟩, by decide +kernel⟩ (ct_J5_length hS) hS.isC rfl rfl (Nat.le_of_ble_eq_true rfl) (Nat.le_of_ble_eq_true rfl) (Nat.le_of_ble_eq_true rfl) (by omega) (by omega) ?_
  refine PRk ?_
  refine V_istore (i := 4) F dJ6_init_2_13 (Nat.le_of_ble_eq_true rfl) (Nat.le_of_ble_eq_true rfl) ?_
  refine V_aload_n (i := 1) F dJ6_init_2_15 rfl rfl ?_
  refine V_callO (st := []) (nn := 0) F dJ6_init_2_16 ⟨lw_O q729 q605 q604 q606 q604 q106 q607, ⟨_, _, _, q607⟩, by decide +kernel⟩ (ct_J4_isLatin1 hS) hS.isC rfl rfl (Nat.le_of_ble_eq_true rfl) (Nat.le_of_ble_eq_true rfl) (Nat.le_of_ble_eq_true rfl) (by omega) (by omega) ?_
  refine PRk ?_
  refine V_if_eqN (tgt := 41) F dJ6_init_2_19 (by decide) (by omega) (fun c_19 => absurd c_19 (by decide)) (fun c_19 => ?_)
  refine V_aload_n (i := 0) F dJ6_init_2_22 rfl rfl ?_
  refine V_iconst (v := nI 0) F dJ6_init_2_23 rfl ?_
  refine V_putF F dJ6_init_2_24 ff_J6_15_J6 ho HN rfl rfl (Nat.le_of_ble_eq_true rfl) ?_
  refine VV.heap (h' := (hset h (o) (.inr (22, [.null, .int (nI (0)), .int (nI (0)), .int (nI (0))])))) rfl ?_
  refine V_aload_n (i := 0) F dJ6_init_2_27 rfl rfl ?_
  refine V_aload_n (i := 3) F dJ6_init_2_28 rfl rfl ?_
  refine V_iconst (v := nI 0) F dJ6_init_2_29 rfl ?_
  refine V_iload (i := 4) F dJ6_init_2_30 rfl ?_
  refine V_callS (st := [.ref (o)]) (nn := 3) F dJ6_init_2_32 lk_J6_54 (ct_J19_copyOfRange (.inl ((hset_ne (ne_ao hb ho)).trans hb)) hc8 hlN (by omega)) rfl rfl (Nat.le_of_ble_eq_true rfl) (Nat.le_of_ble_eq_true rfl) (Nat.le_of_ble_eq_true rfl) (by omega) (by omega) ?_
  have hfa := ((Fr.rf (M := m1 o) (h := h)).put (x := .inr (22, [.null, .int (nI (0)), .int (nI (0)), .int (nI (0))])) ho rfl rfl (Or.inl rfl))
  rintro _ h3 ⟨v, c2, rfl, hv0, hv, hc2, hcc, hx3⟩
  have hv00 := hfa.none hv0
  have p1 := hx3.get ((hset_ne (ne_oo hs ho (by decide))).trans hs) id rfl
  have p2 := hx3.get ((hset_ne (ne_ao hb ho)).trans hb) id rfl
  have p3 := hx3.get (hset_self (e := .inr (22, [.null, .int (nI (0)), .int (nI (0)), .int (nI (0))]))) id rfl
  have f4 : Fr (m1 o) h h3 := ((Fr.rf (M := m1 o) (h := h)).put (x := .inr (22, [.null, .int (nI (0)), .int (nI (0)), .int (nI (0))])) ho rfl rfl (Or.inl rfl)).cal0 hx3
  refine V_putF F dJ6_init_2_35 ff_J6_9_J6 p3 HN rfl rfl (Nat.le_of_ble_eq_true rfl) ?_
  refine VV.heap (h' := (hset h3 (o) (.inr (22, [.ref (v), .int (nI (0)), .int (nI (0)), .int (nI (0))])))) rfl ?_
  refine V_goto (tgt := 97) F dJ6_init_2_38 (by decide) ?_
  have qo : (hset h3 (o) (.inr (22, [.ref (v), .int (nI (0)), .int (nI (0)), .int (nI (0))]))) o = some (.inr (22, [.ref (v), .int (nI (0)), .int (nI (0)), .int (nI (0))])) := (hset_self (e := .inr (22, [.ref (v), .int (nI (0)), .int (nI (0)), .int (nI (0))])))
  have qv : (hset h3 (o) (.inr (22, [.ref (v), .int (nI (0)), .int (nI (0)), .int (nI (0))]))) v = some (byA G l0.length c2) := ((hset_ne (Ne.symm (ne_fr ho hv00))).trans hv)
  have qf := (f4.put (x := .inr (22, [.ref (v), .int (nI (0)), .int (nI (0)), .int (nI (0))])) p3 rfl rfl (Or.inl rfl))
  exact V_vret F dJ6_init_2_97 (by first | exact Nat.le_of_ble_eq_true rfl | omega) (by first | exact Nat.le_of_ble_eq_true rfl | omega) ⟨rfl, v, c2, hv00, qo, qv, hc2, fun i hi => (hcc i hi).trans (hcl i hi), qf⟩
theorem ct_J6_init {G : GG} {l : Launch} {h : AH} {s b N : Nat} {l0 : List Nat} {o : Nat}  (hS : SBs G h s b N l0) (ho : h o = some (.inr (22, [.null, .int (nI 0), .int (nI 0), .int (nI 0)]))) : Ct G l yJ6_init cJ6_init 2 none 4 (1) (202) [.ref o, .ref s] h (fun r h2 => r = none ∧ ∃ v c2, h v = none ∧ h2 o = some (.inr (22, [.ref v, .int (nI 0), .int (nI 0), .int (nI 0)])) ∧ h2 v = some (byA G l0.length c2) ∧ by8 c2 ∧ begW c2 l0 ∧ Fr (m1 o) h h2) := by
  refine Ct.of (by decide) (Nat.le_of_ble_eq_true rfl) (cat1 rfl) (fun X hXl F HN => ?_)
  subst hXl
  refine V_aload_n (i := 0) F dJ6_init_0 rfl rfl ?_
  refine V_aload_n (i := 1) F dJ6_init_1 rfl rfl ?_
  refine V_null F dJ6_init_2 ?_
  refine V_callI (st := []) (nn := 2) F dJ6_init_3 lk_J6_489 (ct_J6_init2 hS ho) rfl rfl (Nat.le_of_ble_eq_true rfl) (Nat.le_of_ble_eq_true rfl) (Nat.le_of_ble_eq_true rfl) (by omega) (by omega) ?_
  rintro _ h2 ⟨rfl, hq2⟩
  exact V_vret F dJ6_init_6 (by first | exact Nat.le_of_ble_eq_true rfl | omega) (by first | exact Nat.le_of_ble_eq_true rfl | omega) ⟨rfl, hq2⟩
theorem ct_J5_toString {G : GG} {l : Launch} {h : AH} {s b N : Nat} {l0 : List Nat}  (hS : SBs G h s b N l0) (hl2 : l0.length ≤ 200) : Ct G l yJ5_toString cJ5_toString 1 (some (.object "java/lang/String")) 5 (2) (210) [.ref s] h (fun r h2 => ∃ o, r = some (.ref o) ∧ h o = none ∧ STR G h2 o l0 ∧ (∃ v, h v = none ∧ ∃ hs hz c, h2 o = some (.inr (22, [.ref v, .int (nI 0), .int hs, .int hz])) ∧ h2 v = some (byA G l0.length c) ∧ by8 c ∧ begW c l0) ∧ Fr nM h h2) := by
  refine Ct.of (by decide) (Nat.le_of_ble_eq_true rfl) (cat1 rfl) (fun X hXl F HN => ?_)
  subst hXl
  refine V_new F dJ5_toString_0 nw_J5_18 (by omega) (by omega) ?_
  intro o hfo hbo
  refine V_dup F dJ5_toString_3 rfl ?_
  refine V_aload_n (i := 0) F dJ5_toString_4 rfl rfl ?_
  refine V_callI (st := [.ref (o)]) (nn := 1) F dJ5_toString_5 lk_J5_137 (ct_J6_init (hS.fr0 ((Fr.rf (M := nM) (h := h)).nw (x := .inr (22, [.null, .int 0, .int 0, .int 0])) hfo)) (hset_self (e := .inr (22, [.null, .int 0, .int 0, .int 0])))) rfl rfl (Nat.le_of_ble_eq_true rfl) (Nat.le_of_ble_eq_true rfl) (Nat.le_of_ble_eq_true rfl) (by omega) (by omega) ?_
  rintro _ h3 ⟨rfl, v, c2, hv0, ho3, hv3, hc2, hcb, hx3⟩
  have hF3 := (Fr.rf (M := nM) (h := h)).nw (x := .inr (22, [.null, .int 0, .int 0, .int 0])) hfo
  have hF4 := hF3.cal hx3 (Yo.m1 (Or.inr hfo))
  exact V_aret F dJ5_toString_8 (Or.inl ⟨_, rfl⟩) (Or.inr ⟨_, rfl⟩) (by first | exact Nat.le_of_ble_eq_true rfl | omega) (by first | exact Nat.le_of_ble_eq_true rfl | omega) ⟨o, rfl, hfo, ⟨v, _, _, c2, .inl ho3, .inl hv3, hc2, hcb, (by obtain ⟨ml, c, q1, q2, q3, q4, q5, q6, q7⟩ := hS; exact q7), (by obtain ⟨ml, c, q1, q2, q3, q4, q5, q6, q7⟩ := hS; omega), Or.inr (Or.inl ⟨rfl, rfl, ho3⟩)⟩, ⟨v, hF3.none hv0, _, _, c2, ho3, hv3, hc2, hcb⟩, hF4⟩
