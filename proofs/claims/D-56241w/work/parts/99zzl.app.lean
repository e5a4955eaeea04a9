set_option maxRecDepth 100000
/-! ===== append(int) of any int: no more than that it goes well ===== -/
theorem ng_T {w : Nat} (h : w ≤ 2 ^ 31) : (-nI w).toInt = -(w : Int) := by
  rcases Nat.lt_or_eq_of_le h with h | h
  · exact sb_negT h
  · subst h; decide
theorem ng_le {a b : Nat} (ha : a ≤ 2 ^ 31) (hb : b ≤ 2 ^ 31) : -nI a ≤ -nI b ↔ b ≤ a := by
  rw [Int32.le_iff_toInt_le, ng_T ha, ng_T hb]; omega
theorem ng_lt {a b : Nat} (ha : a ≤ 2 ^ 31) (hb : b ≤ 2 ^ 31) : -nI a < -nI b ↔ b < a := by
  rw [Int32.lt_iff_toInt_lt, ng_T ha, ng_T hb]; omega
theorem ng_div {w : Nat} (h : w ≤ 2 ^ 31) : (-nI w) / 100 = -nI (w / 100) := by
  rcases Nat.lt_or_eq_of_le h with h | h
  · exact sb_ndiv h
  · subst h; decide
theorem ng_rem {w : Nat} (h : w ≤ 2 ^ 31) : (-nI (w / 100)) * 100 - (-nI w) = nI (w % 100) := by
  rcases Nat.lt_or_eq_of_le h with h | h
  · exact sb_nrem h
  · subst h; decide
theorem ng_ex (p : Int32) : (∃ m, m < 2 ^ 31 ∧ p = nI m ∧ ¬ p < 0) ∨ (∃ m, 0 < m ∧ m ≤ 2 ^ 31 ∧ p = -nI m ∧ p < 0) := by
  have h1 := Int32.toInt_lt p
  have h2 := Int32.le_toInt p
  have e0 : (0 : Int32).toInt = 0 := rfl
  by_cases h : p < 0
  · have h' : p.toInt < 0 := by rw [Int32.lt_iff_toInt_lt, e0] at h; exact h
    refine Or.inr ⟨(-p.toInt).toNat, by omega, by omega, ?_, h⟩
    apply Int32.toInt_inj.mp
    rw [ng_T (by omega)]; omega
  · have h' : ¬ p.toInt < 0 := fun z => h (by rw [Int32.lt_iff_toInt_lt, e0]; exact z)
    refine Or.inl ⟨p.toInt.toNat, by omega, ?_, h⟩
    apply Int32.toInt_inj.mp
    rw [nI_toInt (by omega)]; omega
/-- m has k digits -/
def dK (m k : Nat) : Prop := 1 ≤ k ∧ k ≤ 10 ∧ (k = 1 ∨ 10 ^ (k - 1) ≤ m) ∧ m < 10 ^ k
section VNG
variable {G : GG} {X : CX} {cc : ByteArray} {nL : Nat} {own : String} {ret : Option FieldType} {d MC MS : Nat} {Q : State → Prop} {h : AH} {kc n : Nat} {L : LV} {st : List Value} {pc : Nat}
theorem V_idivG (F : Fx G X cc nL own ret d MC MS) {a : Nat} (hd : decode cc pc = .ok (.idiv, 1)) (ha : a ≤ 2 ^ 31) (k : VV G X nL Q h kc n L (.int (-(nI (a / 100))) :: st) (pc + 1)) : VV G X nL Q h kc n L (.int (nI 100) :: .int (-(nI a)) :: st) pc := V_idiv F hd (by decide) (by rw [show (nI 100 : Int32) = 100 from rfl, ng_div ha]; exact k)
theorem V_isubG (F : Fx G X cc nL own ret d MC MS) {a : Nat} (hd : decode cc pc = .ok (.isub, 1)) (ha : a ≤ 2 ^ 31) (k : VV G X nL Q h kc n L (.int (nI (a % 100)) :: st) (pc + 1)) : VV G X nL Q h kc n L (.int (-(nI a)) :: .int (-(nI (a / 100)) * nI 100) :: st) pc := V_isub F hd (by rw [show (nI 100 : Int32) = 100 from rfl, ng_rem ha]; exact k)
end VNG
theorem ct_J22_sizeG {G : GG} {l : Launch} {h : AH} {p : Int32} {m dg : Nat} (hp : (p = nI m ∧ dg = 0 ∧ m < 2 ^ 31 ∧ ¬ p < 0) ∨ (p = -nI m ∧ dg = 1 ∧ m ≤ 2 ^ 31 ∧ p < 0)) : Ct G l yJ22_stringSize cJ22_stringSize 4 (some .int) 0 (0) (0) [.int p] h (fun r h2 => (∃ k, dK m k ∧ r = some (.int (nI (k + dg)))) ∧ h = h2) := by
  refine Ct.of (by decide) (Nat.le_of_ble_eq_true rfl) (cat1 rfl) (fun X hXl F HN => ?_)
  subst hXl
  have hm31 : m ≤ 2 ^ 31 := by rcases hp with ⟨-, -, z, -⟩ | ⟨-, -, z, -⟩ <;> omega
  have loop : ∀ (nn i : Nat), 11 - i < nn → 1 ≤ i → i ≤ 10 → (i = 1 ∨ 10 ^ (i - 1) ≤ m) → VV G X 4 (EQ G X 0 0 (fun r h2 => (∃ k, dK m k ∧ r = some (.int (nI (k + dg)))) ∧ h = h2)) h 0 0 [some (.int (-(nI m))), some (.int (nI dg)), some (.int (-(nI (10 ^ i)))), some (.int (nI i))] [] 16 := by
    intro nn
    induction nn with
    | zero => intro i hm h1i h5i hpw; exact absurd hm (by omega)
    | succ nn ih =>
      intro i hm h1i h5i hpw
      refine V_iload_n (i := 3) F dJ22_stringSize_16 rfl rfl ?_
      refine V_bipush (v := nI 10) F dJ22_stringSize_17 rfl ?_
      refine V_icmp_geN (tgt := 42) F dJ22_stringSize_19 (by decide) (by omega) (by decide) (fun c_19 => ?_) (fun c_19 => ?_)
      · refine V_bipush (v := nI 10) F dJ22_stringSize_42 rfl ?_
        refine V_iload_n (i := 1) F dJ22_stringSize_44 rfl rfl ?_
        refine V_iaddN F dJ22_stringSize_45 ?_
        have hi : i = 10 := by omega
        subst hi
        exact V_iret F dJ22_stringSize_46 rfl (Nat.le_refl _) (Nat.le_refl _) ⟨⟨10, ⟨by decide, by decide, hpw, Nat.lt_of_le_of_lt hm31 (by decide)⟩, rfl⟩, rfl⟩
      · have hp31 : 10 ^ i ≤ 2 ^ 31 := Nat.le_trans (Nat.pow_le_pow_right (by decide) (show i ≤ 9 by omega)) (by decide)
        refine V_iload_n (i := 0) F dJ22_stringSize_22 rfl rfl ?_
        refine V_iload_n (i := 2) F dJ22_stringSize_23 rfl rfl ?_
        refine V_icmp_le (tgt := 31) F dJ22_stringSize_24 (by decide) (fun c_24 => ?_) (fun c_24 => ?_)
        · have hc24 : 10 ^ i ≤ m := (ng_le hm31 hp31).mp c_24
          refine V_bipush (v := nI 10) F dJ22_stringSize_31 rfl ?_
          refine V_iload_n (i := 2) F dJ22_stringSize_33 rfl rfl ?_
          refine V_imul F dJ22_stringSize_34 ?_
          refine VV.stk (st' := [.int (-(nI (10 ^ (i + 1))))]) (by rw [Nat.pow_succ, Nat.mul_comm, Int32.mul_neg, ← pk_mul]) ?_
          refine V_istore_n (i := 2) F dJ22_stringSize_35 rfl (Nat.le_of_ble_eq_true rfl) (Nat.le_of_ble_eq_true rfl) ?_
          refine V_iinc (i := 3) (v := nI (i + 1)) F dJ22_stringSize_36 rfl (nI_add (i) 1) (Nat.le_of_ble_eq_true rfl) ?_
          refine V_goto (tgt := 16) F dJ22_stringSize_39 (by decide) ?_
          exact ih (i + 1) (by omega) (by omega) (by omega) (Or.inr hc24)
        · have hc24 : m < 10 ^ i := Nat.not_le.mp (fun z => c_24 ((ng_le hm31 hp31).mpr z))
          refine V_iload_n (i := 3) F dJ22_stringSize_27 rfl rfl ?_
          refine V_iload_n (i := 1) F dJ22_stringSize_28 rfl rfl ?_
          refine V_iaddN F dJ22_stringSize_29 ?_
          exact V_iret F dJ22_stringSize_30 rfl (Nat.le_refl _) (Nat.le_refl _) ⟨⟨i, ⟨h1i, h5i, hpw, hc24⟩, rfl⟩, rfl⟩
  refine V_iconst (v := nI 1) F dJ22_stringSize_0 rfl ?_
  refine V_istore_n (i := 1) F dJ22_stringSize_1 rfl (Nat.le_of_ble_eq_true rfl) (Nat.le_of_ble_eq_true rfl) ?_
  refine V_iload_n (i := 0) F dJ22_stringSize_2 rfl rfl ?_
  rcases hp with ⟨rfl, rfl, hm, hneg⟩ | ⟨rfl, rfl, hm, hneg⟩
  · refine V_if_lt (tgt := 11) F dJ22_stringSize_3 (by decide) (fun z => absurd z hneg) (fun _ => ?_)
    refine V_iconst (v := nI 0) F dJ22_stringSize_6 rfl ?_
    refine V_istore_n (i := 1) F dJ22_stringSize_7 rfl (Nat.le_of_ble_eq_true rfl) (Nat.le_of_ble_eq_true rfl) ?_
    refine V_iload_n (i := 0) F dJ22_stringSize_8 rfl rfl ?_
    refine V_ineg F dJ22_stringSize_9 ?_
    refine V_istore_n (i := 0) F dJ22_stringSize_10 rfl (Nat.le_of_ble_eq_true rfl) (Nat.le_of_ble_eq_true rfl) ?_
    refine V_bipush (v := -10) F dJ22_stringSize_11 rfl ?_
    refine VV.stk (st' := [.int (-(nI (10 ^ 1)))]) rfl ?_
    refine V_istore_n (i := 2) F dJ22_stringSize_13 rfl (Nat.le_of_ble_eq_true rfl) (Nat.le_of_ble_eq_true rfl) ?_
    refine V_iconst (v := nI 1) F dJ22_stringSize_14 rfl ?_
    refine V_istore_n (i := 3) F dJ22_stringSize_15 rfl (Nat.le_of_ble_eq_true rfl) (Nat.le_of_ble_eq_true rfl) ?_
    exact loop 12 1 (by decide) (by decide) (by decide) (Or.inl rfl)
  · refine V_if_lt (tgt := 11) F dJ22_stringSize_3 (by decide) (fun _ => ?_) (fun z => absurd hneg z)
    refine V_bipush (v := -10) F dJ22_stringSize_11 rfl ?_
    refine VV.stk (st' := [.int (-(nI (10 ^ 1)))]) rfl ?_
    refine V_istore_n (i := 2) F dJ22_stringSize_13 rfl (Nat.le_of_ble_eq_true rfl) (Nat.le_of_ble_eq_true rfl) ?_
    refine V_iconst (v := nI 1) F dJ22_stringSize_14 rfl ?_
    refine V_istore_n (i := 3) F dJ22_stringSize_15 rfl (Nat.le_of_ble_eq_true rfl) (Nat.le_of_ble_eq_true rfl) ?_
    exact loop 12 1 (by decide) (by decide) (by decide) (Or.inl rfl)
theorem ct_J22_charsG {G : GG} {l : Launch} {h : AH} {p : Int32} {m k dg e0 b N : Nat} {c : Nat → Nat} (hp : (p = nI m ∧ dg = 0 ∧ m < 2 ^ 31 ∧ ¬ p < 0) ∨ (p = -nI m ∧ dg = 1 ∧ m ≤ 2 ^ 31 ∧ p < 0)) (hk : dK m k) (hb : h b = some (byA G N c)) (heN : e0 + k + dg ≤ N) (hN : N < 1000) (hc8 : by8 c) : Ct G l yJ22_getChars cJ22_getChars 7 (some .int) 0 (0) (0) [.int p, .int (nI (e0 + k + dg)), .ref b] h (fun r h2 => ∃ c2, r = some (.int (nI e0)) ∧ h2 b = some (byA G N c2) ∧ by8 c2 ∧ (∀ i, i < e0 → c2 i = c i) ∧ (∀ i, e0 ≤ i → i < e0 + k + dg → c2 i < 128) ∧ Fr (m1 b) h h2) := by
  refine Ct.of (by decide) (Nat.le_of_ble_eq_true rfl) (cat1 rfl) (fun X hXl F HN => ?_)
  subst hXl
  have hm31 : m ≤ 2 ^ 31 := by rcases hp with ⟨-, -, z, -⟩ | ⟨-, -, z, -⟩ <;> omega
  have hdg : dg = 0 ∨ dg = 1 := by rcases hp with ⟨-, z, -⟩ | ⟨-, z, -⟩ <;> omega
  have hD4 : ∀ hh : AH, rd G hh (ad G 4) (byA G 100 (fun j => 48 + j % 10)) := fun hh => Or.inr F.gb.2.2.2.2.2.2.1
  have hD5 : ∀ hh : AH, rd G hh (ad G 5) (byA G 100 (fun j => 48 + j / 10)) := fun hh => Or.inr F.gb.2.2.2.2.2.2.2.1
  -- the end: from 104 on
  have tail : ∀ (hh : AH) (cc : Nat → Nat) (v0 v3 v4 : Option Value), hh b = some (byA G N cc) → by8 cc → (∀ i, i < e0 → cc i = c i) → (∀ i, e0 + dg ≤ i → i < e0 + k + dg → cc i < 128) → Fr (m1 b) h hh → VV G X 7 (EQ G X 0 0 (fun r h2 => ∃ c2, r = some (.int (nI e0)) ∧ h2 b = some (byA G N c2) ∧ by8 c2 ∧ (∀ i, i < e0 → c2 i = c i) ∧ (∀ i, e0 ≤ i → i < e0 + k + dg → c2 i < 128) ∧ Fr (m1 b) h h2)) hh 0 0 [v0, some (.int (nI (e0 + k + dg))), some (.ref b), v3, v4, some (.int (nI (e0 + dg))), some (.int (nI dg))] [] 104 := by
    intro hh cc v0 v3 v4 q1 q2 q3 q4 q5
    have hk1 := hk.1
    refine V_iload (i := 6) F dJ22_getChars_104 rfl ?_
    refine V_if_eqN (tgt := 118) F dJ22_getChars_106 (by decide) (by omega) (fun z => ?_) (fun z => ?_)
    · refine V_iload (i := 5) F dJ22_getChars_118 rfl ?_
      exact V_iret F dJ22_getChars_120 rfl (Nat.le_refl _) (Nat.le_refl _) ⟨cc, by rw [z]; rfl, q1, q2, q3, fun i h1 h2 => q4 i (by omega) h2, q5⟩
    · have hd1 : dg = 1 := by omega
      subst hd1
      refine V_aload_n (i := 2) F dJ22_getChars_109 rfl rfl ?_
      refine V_iinc (i := 5) (v := nI e0) F dJ22_getChars_110 rfl (nI_sub1 (Nat.succ_pos _)) (Nat.le_of_ble_eq_true rfl) ?_
      refine V_iload (i := 5) F dJ22_getChars_113 rfl ?_
      refine V_bipush (v := nI 45) F dJ22_getChars_115 rfl ?_
      refine V_bastS F dJ22_getChars_117 q1 (by omega) (by omega) (by decide) ?_
      refine V_iload (i := 5) F dJ22_getChars_118 rfl ?_
      exact V_iret F dJ22_getChars_120 rfl (Nat.le_refl _) (Nat.le_refl _) ⟨up cc e0 45, rfl, hset_self, q2.st8 (by decide), fun i hi => (up_n (by omega)).trans (q3 i hi), fun i h1 h2 => by
        by_cases e : i = e0
        · rw [e, up_s]; decide
        · rw [up_n e]; exact q4 i (by omega) h2, q5.put (x := byA G N (up cc e0 45)) q1 ⟨rfl, rfl⟩ rfl (Or.inl rfl)⟩
  -- the loop: from 22 on
  have loop : ∀ (nn kk w : Nat) (hh : AH) (cc : Nat → Nat) (v3 v4 : Option Value), kk < nn → kk ≤ k → dK w kk → w ≤ 2 ^ 31 → hh b = some (byA G N cc) → by8 cc → (∀ i, i < e0 → cc i = c i) → (∀ i, e0 + dg + kk ≤ i → i < e0 + k + dg → cc i < 128) → Fr (m1 b) h hh → VV G X 7 (EQ G X 0 0 (fun r h2 => ∃ c2, r = some (.int (nI e0)) ∧ h2 b = some (byA G N c2) ∧ by8 c2 ∧ (∀ i, i < e0 → c2 i = c i) ∧ (∀ i, e0 ≤ i → i < e0 + k + dg → c2 i < 128) ∧ Fr (m1 b) h h2)) hh 0 0 [some (.int (-(nI w))), some (.int (nI (e0 + k + dg))), some (.ref b), v3, v4, some (.int (nI (e0 + dg + kk))), some (.int (nI dg))] [] 22 := by
    intro nn
    induction nn with
    | zero => intro kk w hh cc v3 v4 h1; exact absurd h1 (Nat.not_lt_zero _)
    | succ nn ih =>
      intro kk w hh cc v3 v4 h1 hkk hw hw31 q1 q2 q3 q4 q5
      obtain ⟨hw1, hw2, hw3, hw4⟩ := hw
      refine V_iload_n (i := 0) F dJ22_getChars_22 rfl rfl ?_
      refine V_bipush (v := -100) F dJ22_getChars_23 rfl ?_
      refine V_icmp_gt (tgt := 72) F dJ22_getChars_25 (by decide) (fun c_25 => ?_) (fun c_25 => ?_)
      · have h100 : w < 100 := (ng_lt (a := 100) (by decide) hw31).mp c_25
        have hk2 : kk ≤ 2 := by
          rcases hw3 with z | z
          · omega
          · refine Nat.not_lt.mp (fun y => ?_)
            have : 10 ^ 2 ≤ 10 ^ (kk - 1) := Nat.pow_le_pow_right (by decide) (by omega)
            omega
        obtain ⟨p1, hp1⟩ : ∃ p, e0 + dg + kk = p + 1 := ⟨e0 + dg + kk - 1, by omega⟩
        refine V_aload_n (i := 2) F dJ22_getChars_72 rfl rfl ?_
        refine V_iinc (i := 5) (v := nI p1) F dJ22_getChars_73 rfl (by rw [hp1]; exact nI_sub1 (Nat.succ_pos _)) (Nat.le_of_ble_eq_true rfl) ?_
        refine V_iload (i := 5) F dJ22_getChars_76 rfl ?_
        refine V_gets F dJ22_getChars_78 (List.mem_of_getElem? (i := 6) rfl) q690 ?_
        refine V_iload_n (i := 0) F dJ22_getChars_81 rfl rfl ?_
        refine V_inegM F dJ22_getChars_82 ?_
        obtain ⟨y1, hy1, hl1⟩ : ∃ y, 48 + w % 10 = y ∧ y < 128 := ⟨_, rfl, by omega⟩
        obtain ⟨y2, hy2, hl2⟩ : ∃ y, 48 + w / 10 = y ∧ y < 128 := ⟨_, rfl, by omega⟩
        refine V_baldS F dJ22_getChars_83 (hD4 hh) h100 (by decide) hy1 hl1 ?_
        refine V_bastS F dJ22_getChars_84 q1 (by omega) (by omega) (Nat.lt_trans hl1 (by decide)) ?_
        have r5 := q5.put (x := byA G N (up cc p1 y1)) q1 ⟨rfl, rfl⟩ rfl (Or.inl rfl)
        refine V_iload_n (i := 0) F dJ22_getChars_85 rfl rfl ?_
        refine V_bipush (v := -9) F dJ22_getChars_86 rfl ?_
        refine V_icmp_ge (tgt := 104) F dJ22_getChars_88 (by decide) (fun c_88 => ?_) (fun c_88 => ?_)
        · have h9 : w ≤ 9 := (ng_le (a := 9) (by decide) hw31).mp c_88
          have hk9 : kk = 1 := by
            rcases hw3 with z | z
            · exact z
            · refine Classical.byContradiction fun y => ?_
              have h22 : kk = 2 := by omega
              subst h22
              omega
          subst hk9
          have hp9 : p1 = e0 + dg := by omega
          subst hp9
          exact tail _ _ _ _ _ hset_self (q2.st8 (by omega)) (fun i hi => (up_n (by omega)).trans (q3 i hi)) (fun i y1 y2 => by
            by_cases e : i = e0 + dg
            · rw [e, up_s]; omega
            · rw [up_n e]; exact q4 i (by omega) y2) r5
        · have h9 : 10 ≤ w := Nat.not_lt.mp (fun z => c_88 ((ng_le (a := 9) (by decide) hw31).mpr (by omega)))
          have hk9 : kk = 2 := by
            refine Classical.byContradiction fun y => ?_
            have h11 : kk = 1 := by omega
            subst h11
            omega
          subst hk9
          have hp9 : p1 = e0 + dg + 1 := by omega
          subst hp9
          refine V_aload_n (i := 2) F dJ22_getChars_91 rfl rfl ?_
          refine V_iinc (i := 5) (v := nI (e0 + dg)) F dJ22_getChars_92 rfl (nI_sub1 (Nat.succ_pos _)) (Nat.le_of_ble_eq_true rfl) ?_
          refine V_iload (i := 5) F dJ22_getChars_95 rfl ?_
          refine V_gets F dJ22_getChars_97 (List.mem_of_getElem? (i := 7) rfl) q692 ?_
          refine V_iload_n (i := 0) F dJ22_getChars_100 rfl rfl ?_
          refine V_inegM F dJ22_getChars_101 ?_
          refine V_baldS F dJ22_getChars_102 (hD5 _) h100 (by decide) hy2 hl2 ?_
          refine V_bastS F dJ22_getChars_103 hset_self (by omega) (by omega) (by omega) ?_
          have r6 := r5.put (x := byA G N (up (up cc (e0 + dg + 1) y1) (e0 + dg) y2)) hset_self ⟨rfl, rfl⟩ rfl (Or.inl rfl)
          exact tail _ _ _ _ _ hset_self ((q2.st8 (by omega)).st8 (by omega)) (fun i hi => (up_n (by omega)).trans ((up_n (by omega)).trans (q3 i hi))) (fun i y1 y2 => by
            by_cases e : i = e0 + dg
            · rw [e, up_s]; omega
            · rw [up_n e]
              by_cases e2 : i = e0 + dg + 1
              · rw [e2, up_s]; omega
              · rw [up_n e2]; exact q4 i (by omega) y2) r6
      · have h100 : 100 ≤ w := Nat.not_lt.mp (fun z => c_25 ((ng_lt (a := 100) (by decide) hw31).mpr z))
        have hk3 : 3 ≤ kk := by
          refine Nat.not_lt.mp (fun y => ?_)
          have : 10 ^ kk ≤ 10 ^ 2 := Nat.pow_le_pow_right (by decide) (by omega)
          omega
        obtain ⟨k3, rfl⟩ : ∃ k3, kk = k3 + 3 := ⟨kk - 3, by omega⟩
        refine V_iload_n (i := 0) F dJ22_getChars_28 rfl rfl ?_
        refine V_bipush (v := nI 100) F dJ22_getChars_29 rfl ?_
        refine V_idivG F dJ22_getChars_31 hw31 ?_
        refine V_istore_n (i := 3) F dJ22_getChars_32 rfl (Nat.le_of_ble_eq_true rfl) (Nat.le_of_ble_eq_true rfl) ?_
        refine V_iload_n (i := 3) F dJ22_getChars_33 rfl rfl ?_
        refine V_bipush (v := nI 100) F dJ22_getChars_34 rfl ?_
        refine V_imul F dJ22_getChars_36 ?_
        refine V_iload_n (i := 0) F dJ22_getChars_37 rfl rfl ?_
        refine V_isubG F dJ22_getChars_38 hw31 ?_
        refine V_istore (i := 4) F dJ22_getChars_39 (Nat.le_of_ble_eq_true rfl) (Nat.le_of_ble_eq_true rfl) ?_
        refine V_iload_n (i := 3) F dJ22_getChars_41 rfl rfl ?_
        refine V_istore_n (i := 0) F dJ22_getChars_42 rfl (Nat.le_of_ble_eq_true rfl) (Nat.le_of_ble_eq_true rfl) ?_
        refine V_aload_n (i := 2) F dJ22_getChars_43 rfl rfl ?_
        refine V_iinc (i := 5) (v := nI (e0 + dg + k3 + 2)) F dJ22_getChars_44 rfl (nI_sub1 (Nat.succ_pos _)) (Nat.le_of_ble_eq_true rfl) ?_
        refine V_iload (i := 5) F dJ22_getChars_47 rfl ?_
        refine V_gets F dJ22_getChars_49 (List.mem_of_getElem? (i := 6) rfl) q690 ?_
        refine V_iload (i := 4) F dJ22_getChars_52 rfl ?_
        obtain ⟨y1, hy1, hl1⟩ : ∃ y, 48 + w % 100 % 10 = y ∧ y < 128 := ⟨_, rfl, by omega⟩
        obtain ⟨y2, hy2, hl2⟩ : ∃ y, 48 + w % 100 / 10 = y ∧ y < 128 := ⟨_, rfl, by omega⟩
        refine V_baldS F dJ22_getChars_54 (hD4 hh) (Nat.mod_lt _ (by decide)) (by decide) hy1 hl1 ?_
        refine V_bastS F dJ22_getChars_55 q1 (by omega) (by omega) (by omega) ?_
        have r5 := q5.put (x := byA G N (up cc (e0 + dg + k3 + 2) y1)) q1 ⟨rfl, rfl⟩ rfl (Or.inl rfl)
        refine V_aload_n (i := 2) F dJ22_getChars_56 rfl rfl ?_
        refine V_iinc (i := 5) (v := nI (e0 + dg + k3 + 1)) F dJ22_getChars_57 rfl (nI_sub1 (Nat.succ_pos _)) (Nat.le_of_ble_eq_true rfl) ?_
        refine V_iload (i := 5) F dJ22_getChars_60 rfl ?_
        refine V_gets F dJ22_getChars_62 (List.mem_of_getElem? (i := 7) rfl) q692 ?_
        refine V_iload (i := 4) F dJ22_getChars_65 rfl ?_
        refine V_baldS F dJ22_getChars_67 (hD5 _) (Nat.mod_lt _ (by decide)) (by decide) hy2 hl2 ?_
        refine V_bastS F dJ22_getChars_68 hset_self (by omega) (by omega) (by omega) ?_
        have r6 := r5.put (x := byA G N (up (up cc (e0 + dg + k3 + 2) y1) (e0 + dg + k3 + 1) y2)) hset_self ⟨rfl, rfl⟩ rfl (Or.inl rfl)
        refine V_goto (tgt := 22) F dJ22_getChars_69 (by decide) ?_
        have hpw : 10 ^ (k3 + 3) = 10 ^ (k3 + 1) * 100 := by rw [Nat.pow_succ, Nat.pow_succ, Nat.mul_assoc]
        refine ih (k3 + 1) (w / 100) _ _ _ _ (by omega) (by omega) ⟨by omega, by omega, ?_, ?_⟩ (by omega) hset_self ((q2.st8 (by omega)).st8 (by omega)) (fun i hi => (up_n (by omega)).trans ((up_n (by omega)).trans (q3 i hi))) (fun i y1 y2 => ?_) r6
        · rcases hw3 with z | z
          · omega
          · have e2 : 10 ^ (k3 + 3 - 1) = 10 ^ k3 * 100 := by rw [show k3 + 3 - 1 = k3 + 2 from rfl, Nat.pow_succ, Nat.pow_succ, Nat.mul_assoc]
            rw [e2] at z
            exact Or.inr ((Nat.le_div_iff_mul_le (by decide)).mpr z)
        · rw [hpw] at hw4
          exact (Nat.div_lt_iff_lt_mul (by decide)).mpr hw4
        · by_cases e : i = e0 + dg + k3 + 1
          · rw [e, up_s]; omega
          · rw [up_n e]
            by_cases e2 : i = e0 + dg + k3 + 2
            · rw [e2, up_s]; omega
            · rw [up_n e2]; exact q4 i (by omega) y2
  have he : e0 + k + dg = e0 + dg + k := by omega
  refine V_iload_n (i := 1) F dJ22_getChars_0 rfl rfl ?_
  refine V_istore (i := 5) F dJ22_getChars_1 (Nat.le_of_ble_eq_true rfl) (Nat.le_of_ble_eq_true rfl) ?_
  refine V_iload_n (i := 0) F dJ22_getChars_3 rfl rfl ?_
  rcases hp with ⟨rfl, rfl, hm, hneg⟩ | ⟨rfl, rfl, hm, hneg⟩
  · refine V_if_ge (tgt := 11) F dJ22_getChars_4 (by decide) (fun _ => ?_) (fun z => absurd (Int32.not_lt.mp hneg) z)
    refine V_iconst (v := nI 0) F dJ22_getChars_11 rfl ?_
    refine V_istore (i := 6) F dJ22_getChars_12 (Nat.le_of_ble_eq_true rfl) (Nat.le_of_ble_eq_true rfl) ?_
    refine V_iload (i := 6) F dJ22_getChars_14 rfl ?_
    refine V_if_neN (tgt := 22) F dJ22_getChars_16 (by decide) (by decide) (fun z => absurd z (Nat.lt_irrefl 0)) (fun _ => ?_)
    refine V_iload_n (i := 0) F dJ22_getChars_19 rfl rfl ?_
    refine V_ineg F dJ22_getChars_20 ?_
    refine V_istore_n (i := 0) F dJ22_getChars_21 rfl (Nat.le_of_ble_eq_true rfl) (Nat.le_of_ble_eq_true rfl) ?_
    exact loop (k + 1) k m h c _ _ (by omega) (Nat.le_refl _) hk hm31 hb hc8 (fun _ _ => rfl) (fun i y1 y2 => absurd y2 (by omega)) Fr.rf
  · refine V_if_ge (tgt := 11) F dJ22_getChars_4 (by decide) (fun z => absurd hneg (Int32.not_lt.mpr z)) (fun _ => ?_)
    refine V_iconst (v := nI 1) F dJ22_getChars_7 rfl ?_
    refine V_goto (tgt := 12) F dJ22_getChars_8 (by decide) ?_
    refine V_istore (i := 6) F dJ22_getChars_12 (Nat.le_of_ble_eq_true rfl) (Nat.le_of_ble_eq_true rfl) ?_
    refine V_iload (i := 6) F dJ22_getChars_14 rfl ?_
    refine V_if_neN (tgt := 22) F dJ22_getChars_16 (by decide) (by decide) (fun _ => ?_) (fun z => absurd z (by decide))
    refine VV.weak (L' := [some (.int (-(nI m))), some (.int (nI (e0 + k + 1))), some (.ref b), none, none, some (.int (nI (e0 + 1 + k))), some (.int (nI 1))]) (by rw [he]; exact LW.c1 (LW.c1 (LW.c1 (LW.c1 (LW.c1 (LW.c1 (LW.c1 LW.nil))))))) ?_
    exact loop (k + 1) k m h c _ _ (by omega) (Nat.le_refl _) hk hm31 hb hc8 (fun _ _ => rfl) (fun i y1 y2 => absurd y2 (by omega)) Fr.rf
