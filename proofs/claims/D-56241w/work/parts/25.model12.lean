set_option maxRecDepth 100000
theorem V_ishlN {G : GG} {X : CX} {cc : ByteArray} {nL : Nat} {own : String} {ret : Option FieldType} {d MC MS : Nat} {Q : State → Prop} {h : AH} {kc n : Nat} {L : LV} {st : List Value} {pc b : Nat} (F : Fx G X cc nL own ret d MC MS) (hd : decode cc pc = .ok (.ishl, 1)) (hb : b < 12) (k : VV G X nL Q h kc n L (.int (nI (2 ^ b)) :: st) (pc + 1)) : VV G X nL Q h kc n L (.int (nI b) :: .int (nI 1) :: st) pc := V_ishl F hd (by rw [sh_l hb]; exact k)
theorem V_ishrN {G : GG} {X : CX} {cc : ByteArray} {nL : Nat} {own : String} {ret : Option FieldType} {d MC MS : Nat} {Q : State → Prop} {h : AH} {kc n : Nat} {L : LV} {st : List Value} {pc u b : Nat} (F : Fx G X cc nL own ret d MC MS) (hd : decode cc pc = .ok (.ishr, 1)) (hb : b < 12) (hu : u < 2 ^ 31) (k : VV G X nL Q h kc n L (.int (nI (u / 2 ^ b)) :: st) (pc + 1)) : VV G X nL Q h kc n L (.int (nI b) :: .int (nI u) :: st) pc := V_ishr F hd (by rw [sh_r hb hu]; exact k)
theorem V_iorN {G : GG} {X : CX} {cc : ByteArray} {nL : Nat} {own : String} {ret : Option FieldType} {d MC MS : Nat} {Q : State → Prop} {h : AH} {kc n : Nat} {L : LV} {st : List Value} {pc u v : Nat} (F : Fx G X cc nL own ret d MC MS) (hd : decode cc pc = .ok (.ior, 1)) (k : VV G X nL Q h kc n L (.int (nI (u ||| v)) :: st) (pc + 1)) : VV G X nL Q h kc n L (.int (nI v) :: .int (nI u) :: st) pc := V_ior F hd (by rw [nI_or]; exact k)
theorem V_iand1 {G : GG} {X : CX} {cc : ByteArray} {nL : Nat} {own : String} {ret : Option FieldType} {d MC MS : Nat} {Q : State → Prop} {h : AH} {kc n : Nat} {L : LV} {st : List Value} {pc u : Nat} (F : Fx G X cc nL own ret d MC MS) (hd : decode cc pc = .ok (.iand, 1)) (hu : u < 2 ^ 31) (k : VV G X nL Q h kc n L (.int (nI (u % 2)) :: st) (pc + 1)) : VV G X nL Q h kc n L (.int (nI 1) :: .int (nI u) :: st) pc := V_iand F hd (by rw [an_1 hu]; exact k)
def ctB (u : Nat) : Nat → Nat
  | 0 => 0
  | b + 1 => ctB u b + u / 2 ^ b % 2
theorem bt_or {u c b : Nat} : (u ||| 2 ^ c) / 2 ^ b % 2 ≤ u / 2 ^ b % 2 + if c = b then 1 else 0 := by
  have h1 := Nat.testBit_or u (2 ^ c) b
  rw [Nat.testBit_two_pow, Nat.testBit_eq_decide_div_mod_eq, Nat.testBit_eq_decide_div_mod_eq] at h1
  by_cases q : c = b
  · rw [if_pos q]; omega
  · rw [if_neg q]
    rw [decide_eq_false q, Bool.or_false] at h1
    have h2 := decide_eq_decide.mp h1
    omega
theorem ctB_or {u c : Nat} : ∀ b, ctB (u ||| 2 ^ c) b ≤ ctB u b + if c < b then 1 else 0
  | 0 => Nat.zero_le _
  | b + 1 => by
    have h1 := ctB_or (u := u) (c := c) b
    have h2 := bt_or (u := u) (c := c) (b := b)
    unfold ctB
    by_cases q : c = b
    · rw [if_neg (by omega)] at h1; rw [if_pos q] at h2; rw [if_pos (by omega)]; omega
    · rw [if_neg q] at h2
      by_cases w : c < b
      · rw [if_pos w] at h1; rw [if_pos (by omega)]; omega
      · rw [if_neg w] at h1; rw [if_neg (by omega)]; omega
theorem ctB_0 : ∀ b, ctB 0 b = 0
  | 0 => rfl
  | b + 1 => by unfold ctB; rw [ctB_0 b, Nat.zero_div]
theorem ctB_all {u : Nat} : ∀ b, (∀ i, i < b → u / 2 ^ i % 2 = 1) → ctB u b = b
  | 0, _ => rfl
  | b + 1, h => by unfold ctB; rw [ctB_all b (fun i hi => h i (by omega)), h b (by omega)]
/-- the berths used behind a stop, as bits -/
def usG (g β : Nat → Nat) (s : Nat) : Nat → Nat
  | 0 => 0
  | o + 1 => if β o ≠ 0 ∧ s < g (264 + 4 * o + 3) then usG g β s o ||| 2 ^ (β o - 1) else usG g β s o
theorem usG_lt {g β : Nat → Nat} {s : Nat} : ∀ n, (∀ i, i < n → β i ≤ 11) → usG g β s n < 2 ^ 11
  | 0, _ => (show 0 < 2 ^ 11 by decide)
  | n + 1, h => by
    have h1 := usG_lt (g := g) (β := β) (s := s) n (fun i hi => h i (by omega))
    unfold usG; split
    · exact Nat.or_lt_two_pow h1 (Nat.pow_lt_pow_right (by decide) (by have := h n (by omega); omega))
    · exact h1
theorem usG_ct {g β : Nat → Nat} {s b : Nat} : ∀ n, ctB (usG g β s n) b ≤ n
  | 0 => by unfold usG; rw [ctB_0]; exact Nat.le_refl _
  | n + 1 => by
    have h1 := usG_ct (g := g) (β := β) (s := s) (b := b) n
    unfold usG; split
    · have := ctB_or (u := usG g β s n) (c := β n - 1) b
      have : (if β n - 1 < b then 1 else 0) ≤ 1 := by split <;> omega
      omega
    · omega
/-- the first bit from b on that is not set -/
def fsB (u : Nat) : Nat → Nat → Nat
  | 0, b => b
  | K + 1, b => if u / 2 ^ b % 2 = 1 then fsB u K (b + 1) else b
theorem fsB_all {u : Nat} : ∀ K b, (∀ i, i < b → u / 2 ^ i % 2 = 1) → ∀ i, i < fsB u K b → u / 2 ^ i % 2 = 1
  | 0, b, h => h
  | K + 1, b, h => by
    unfold fsB; split
    · next q => exact fsB_all K (b + 1) (fun i hi => by by_cases w : i = b; rw [w]; exact q; exact h i (by omega))
    · exact h
theorem fsB_le {g β : Nat → Nat} {s n : Nat} : fsB (usG g β s n) 12 0 ≤ n := by
  have h1 := ctB_all (fsB (usG g β s n) 12 0) (fsB_all 12 0 (fun i hi => absurd hi (Nat.not_lt_zero i)))
  have h2 := usG_ct (g := g) (β := β) (s := s) (b := fsB (usG g β s n) 12 0) n
  omega
/-- one stop's bookings given their berths; all stops' -/
def gvK (g : Nat → Nat) (t s : Nat) (β : Nat → Nat) : Nat → Nat → Nat
  | 0 => β
  | k + 1 => if g (264 + 4 * k + 1) = t ∧ g (264 + 4 * k + 2) = s then up (gvK g t s β k) k (fsB (usG g (gvK g t s β k) s (g 3)) 12 0 + 1) else gvK g t s β k
def gvS (g : Nat → Nat) (t : Nat) (β : Nat → Nat) : Nat → Nat → Nat
  | 0 => β
  | s + 1 => gvK g t s (gvS g t β s) (g 3)
def zbN (β : Nat → Nat) (n : Nat) : Nat → Nat := fun i => if i < n then 0 else β i
theorem zbN_0 {β : Nat → Nat} : zbN β 0 = β := by funext i; exact if_neg (Nat.not_lt_zero _)
theorem zbN_s {β : Nat → Nat} {n : Nat} : up (zbN β n) n 0 = zbN β (n + 1) := by
  funext i; unfold up zbN
  by_cases h1 : i = n
  · rw [if_pos h1, if_pos (by omega)]
  · rw [if_neg h1]
    by_cases h2 : i < n
    · rw [if_pos h2, if_pos (show i < n + 1 by omega)]
    · rw [if_neg h2, if_neg (by omega)]
def gvB (g : Nat → Nat) (t : Nat) (β : Nat → Nat) : Nat → Nat := gvS g t (zbN β (g 3)) 8
theorem gvK_ok {g : Nat → Nat} {t s : Nat} {β : Nat → Nat} (h3 : g 3 ≤ 10) (h : ∀ i, i < g 3 → β i ≤ 11) : ∀ k i, i < g 3 → gvK g t s β k i ≤ 11
  | 0 => h
  | k + 1 => by
    intro i hi
    unfold gvK; split
    · unfold up; split
      · have := fsB_le (g := g) (β := gvK g t s β k) (s := s) (n := g 3); omega
      · exact gvK_ok h3 h k i hi
    · exact gvK_ok h3 h k i hi

theorem ct_gives {G : GG} {l : Launch} {h : AH} {m : Nat} {fs : List Value} {aG : Nat} {g : Nat → Nat} {t : Nat} {aQ : Nat} {b0 : Nat → Nat} (hm : h m = some (.inr (0, fs))) (h_g : fs[0]? = some (.ref aG)) (hg : h aG = some (iA G 304 (fun i => nI (g i)))) (h_berths : fs[21]? = some (.ref aQ)) (hbe : h aQ = some (iA G 10 (fun i => rP (b0 i)))) (hGQ : aG ≠ aQ) (hI : GW g) (ht : t < 2 ^ 31) : Ct G l yX4_gives cX4_gives 6 none 1 0 0 [.ref m, .int (nI t)] h (PV (hset h aQ (iA G 10 (fun i => rP (gvB g t b0 i))))) := by
  refine Ct.of (by decide) (Nat.le_of_ble_eq_true rfl) (cat1 rfl) (fun X hXl F HN => ?_)
  subst hXl
  obtain ⟨hB, hn0, hn1, hn2, hn3, hst, hpl⟩ := hI
  refine V_iconst (v := nI 0) F dX4_gives_0 rfl ?_
  refine V_istore_n (i := 2) F dX4_gives_1 rfl (Nat.le_of_ble_eq_true rfl) (Nat.le_of_ble_eq_true rfl) ?_
  have loop_2 : ∀ (nn : Nat) (j : Nat), g 3 < j + nn → j ≤ g 3 → VV G X 6 (EQ G X 0 0 (PV (hset h aQ (iA G 10 (fun i => rP (gvB g t b0 i)))))) (hset h aQ (iA G 10 (fun i => rP ((zbN b0 j) i)))) 0 0 [some (.ref (m)), some (.int (nI (t))), some (.int (nI (j))), none, none, none] [] 2 := by
    intro nn
    induction nn with
    | zero => intro j hn hj; exact absurd hn (by omega)
    | succ nn ih_2 =>
      intro j hn hj
      refine V_iload_n (i := 2) F dX4_gives_2 rfl rfl ?_
      refine V_aload_n (i := 0) F dX4_gives_3 rfl rfl ?_
      refine V_getf F dX4_gives_4 fc_X4_7_X4 (.inl ((hset_ne (ne_oa hm hbe)).trans hm)) h_g ?_
      refine V_iconst (v := nI 3) F dX4_gives_7 rfl ?_
      refine V_ialdG F dX4_gives_8 (.inl ((hset_ne hGQ).trans hg)) (by omega) (by decide) rfl ?_
      refine V_icmp_geN (tgt := 25) F dX4_gives_9 (by decide) (by omega) hB.lt (fun c_9 => ?_) (fun c_9 => ?_)
      · refine V_iconst (v := nI 0) F dX4_gives_25 rfl ?_
        refine V_istore_n (i := 2) F dX4_gives_26 rfl (Nat.le_of_ble_eq_true rfl) (Nat.le_of_ble_eq_true rfl) ?_
        have loop_27 : ∀ (nn : Nat) (s9 : Nat) (B : Nat → Nat), 8 < s9 + nn → s9 ≤ 8 → gvS g t (zbN b0 (g 3)) s9 = B → (∀ i, i < g 3 → B i ≤ 11) → VV G X 6 (EQ G X 0 0 (PV (hset h aQ (iA G 10 (fun i => rP (gvB g t b0 i)))))) (hset h aQ (iA G 10 (fun i => rP (B i)))) 0 0 [some (.ref (m)), some (.int (nI (t))), some (.int (nI (s9))), none, none, none] [] 27 := by
          intro nn
          induction nn with
          | zero => intro s9 B hn2 hs9 hx hB9; exact absurd hn2 (by omega)
          | succ nn ih_27 =>
            intro s9 B hn2 hs9 hx hB9
            refine V_iload_n (i := 2) F dX4_gives_27 rfl rfl ?_
            refine V_bipush (v := nI 8) F dX4_gives_28 rfl ?_
            refine V_icmp_geN (tgt := 166) F dX4_gives_30 (by decide) (by omega) (by decide) (fun c_30 => ?_) (fun c_30 => ?_)
            · exact V_vret F dX4_gives_166 (Nat.le_of_ble_eq_true rfl) (Nat.le_of_ble_eq_true rfl) ⟨rfl, by rw [← hx, show s9 = 8 by omega]; rfl⟩
            · refine V_iconst (v := nI 0) F dX4_gives_33 rfl ?_
              refine V_istore_n (i := 3) F dX4_gives_34 rfl (Nat.le_of_ble_eq_true rfl) (Nat.le_of_ble_eq_true rfl) ?_
              have loop_35 : ∀ (nn : Nat) (k : Nat) (C : Nat → Nat), g 3 < k + nn → k ≤ g 3 → gvK g t s9 B k = C → (∀ i, i < g 3 → C i ≤ 11) → VV G X 6 (EQ G X 0 0 (PV (hset h aQ (iA G 10 (fun i => rP (gvB g t b0 i)))))) (hset h aQ (iA G 10 (fun i => rP (C i)))) 0 0 [some (.ref (m)), some (.int (nI (t))), some (.int (nI (s9))), some (.int (nI (k))), none, none] [] 35 := by
                intro nn
                induction nn with
                | zero => intro k C hn5 hk hy hC9; exact absurd hn5 (by omega)
                | succ nn ih_35 =>
                  intro k C hn5 hk hy hC9
                  refine V_iload_n (i := 3) F dX4_gives_35 rfl rfl ?_
                  refine V_aload_n (i := 0) F dX4_gives_36 rfl rfl ?_
                  refine V_getf F dX4_gives_37 fc_X4_7_X4 (.inl ((hset_ne (ne_oa hm hbe)).trans hm)) h_g ?_
                  refine V_iconst (v := nI 3) F dX4_gives_40 rfl ?_
                  refine V_ialdG F dX4_gives_41 (.inl ((hset_ne hGQ).trans hg)) (by omega) (by decide) rfl ?_
                  refine V_icmp_geN (tgt := 160) F dX4_gives_42 (by decide) (by omega) hB.lt (fun c_42 => ?_) (fun c_42 => ?_)
                  · refine V_iinc (i := 2) (v := nI (s9 + 1)) F dX4_gives_160 rfl (nI_add (s9) 1) (Nat.le_of_ble_eq_true rfl) ?_
                    refine V_goto (tgt := 27) F dX4_gives_163 (by decide) ?_
                    refine VV.weak (L' := [some (.ref (m)), some (.int (nI (t))), some (.int (nI (s9 + 1))), none, none, none]) (LW.c1 (LW.c1 (LW.c1 (LW.c0 (LW.c0 (LW.c0 LW.nil)))))) ?_
                    exact ih_27 (s9 + 1) C (by omega) (by omega) (by show gvK g t s9 (gvS g t (zbN b0 (g 3)) s9) (g 3) = C; rw [hx]; exact (show k = g 3 by omega) ▸ hy) hC9
                  · refine V_aload_n (i := 0) F dX4_gives_45 rfl rfl ?_
                    refine V_iload_n (i := 3) F dX4_gives_46 rfl rfl ?_
                    refine V_iconst (v := nI 1) F dX4_gives_47 rfl ?_
                    refine V_cV2r F dX4_gives_48 lk_X4_83 (ct_by ((hset_ne (ne_oa hm hbe)).trans hm) h_g ((hset_ne hGQ).trans hg) (by omega)) ⟨0, _, _, _, rfl, (.inl ((hset_ne (ne_oa hm hbe)).trans hm))⟩ (Nat.le_of_ble_eq_true rfl) (Nat.le_of_ble_eq_true rfl) (Nat.le_of_ble_eq_true rfl) (Nat.le_of_ble_eq_true rfl) (Nat.le_of_ble_eq_true rfl) ?_
                    refine V_iload_n (i := 1) F dX4_gives_51 rfl rfl ?_
                    refine V_icmp_neN (tgt := 154) F dX4_gives_52 (by decide) hB.lt ht (fun c_52 => ?_) (fun c_52 => ?_)
                    · refine V_iinc (i := 3) (v := nI (k + 1)) F dX4_gives_154 rfl (nI_add (k) 1) (Nat.le_of_ble_eq_true rfl) ?_
                      refine V_goto (tgt := 35) F dX4_gives_157 (by decide) ?_
                      refine VV.weak (L' := [some (.ref (m)), some (.int (nI (t))), some (.int (nI (s9))), some (.int (nI (k + 1))), none, none]) (LW.c1 (LW.c1 (LW.c1 (LW.c1 (LW.c0 (LW.c0 LW.nil)))))) ?_
                      exact ih_35 (k + 1) C (by omega) (by omega) (by show (if _ then _ else _) = _; rw [if_neg (fun z => by first | exact c_52 z.1 | exact c_62 z.2)]; exact hy) hC9
                    · refine V_aload_n (i := 0) F dX4_gives_55 rfl rfl ?_
                      refine V_iload_n (i := 3) F dX4_gives_56 rfl rfl ?_
                      refine V_iconst (v := nI 2) F dX4_gives_57 rfl ?_
                      refine V_cV2r F dX4_gives_58 lk_X4_83 (ct_by ((hset_ne (ne_oa hm hbe)).trans hm) h_g ((hset_ne hGQ).trans hg) (by omega)) ⟨0, _, _, _, rfl, (.inl ((hset_ne (ne_oa hm hbe)).trans hm))⟩ (Nat.le_of_ble_eq_true rfl) (Nat.le_of_ble_eq_true rfl) (Nat.le_of_ble_eq_true rfl) (Nat.le_of_ble_eq_true rfl) (Nat.le_of_ble_eq_true rfl) ?_
                      refine V_iload_n (i := 2) F dX4_gives_61 rfl rfl ?_
                      refine V_icmp_eqN (tgt := 68) F dX4_gives_62 (by decide) hB.lt (by omega) (fun c_62 => ?_) (fun c_62 => ?_)
                      · refine V_iconst (v := nI 0) F dX4_gives_68 rfl ?_
                        refine V_istore (i := 4) F dX4_gives_69 (Nat.le_of_ble_eq_true rfl) (Nat.le_of_ble_eq_true rfl) ?_
                        refine V_iconst (v := nI 0) F dX4_gives_71 rfl ?_
                        refine V_istore (i := 5) F dX4_gives_72 (Nat.le_of_ble_eq_true rfl) (Nat.le_of_ble_eq_true rfl) ?_
                        have loop_74 : ∀ (nn : Nat) (o u9 : Nat), g 3 < o + nn → o ≤ g 3 → usG g C s9 o = u9 → u9 < 2 ^ 11 → VV G X 6 (EQ G X 0 0 (PV (hset h aQ (iA G 10 (fun i => rP (gvB g t b0 i)))))) (hset h aQ (iA G 10 (fun i => rP (C i)))) 0 0 [some (.ref (m)), some (.int (nI (t))), some (.int (nI (s9))), some (.int (nI (k))), some (.int (nI (u9))), some (.int (nI (o)))] [] 74 := by
                          intro nn
                          induction nn with
                          | zero => intro o u9 hn6 ho hu hu9; exact absurd hn6 (by omega)
                          | succ nn ih_74 =>
                            intro o u9 hn6 ho hu hu9
                            refine V_iload (i := 5) F dX4_gives_74 rfl ?_
                            refine V_aload_n (i := 0) F dX4_gives_76 rfl rfl ?_
                            refine V_getf F dX4_gives_77 fc_X4_7_X4 (.inl ((hset_ne (ne_oa hm hbe)).trans hm)) h_g ?_
                            refine V_iconst (v := nI 3) F dX4_gives_80 rfl ?_
                            refine V_ialdG F dX4_gives_81 (.inl ((hset_ne hGQ).trans hg)) (by omega) (by decide) rfl ?_
                            refine V_icmp_geN (tgt := 126) F dX4_gives_82 (by decide) (by omega) hB.lt (fun c_82 => ?_) (fun c_82 => ?_)
                            · obtain rfl : o = g 3 := by omega
                              refine V_iconst (v := nI 0) F dX4_gives_126 rfl ?_
                              refine V_istore (i := 5) F dX4_gives_127 (Nat.le_of_ble_eq_true rfl) (Nat.le_of_ble_eq_true rfl) ?_
                              have loop_129 : ∀ (nn : Nat) (b K : Nat), 12 < b + nn → K + b = 12 → (∀ i, i < b → u9 / 2 ^ i % 2 = 1) → fsB u9 K b = fsB u9 12 0 → VV G X 6 (EQ G X 0 0 (PV (hset h aQ (iA G 10 (fun i => rP (gvB g t b0 i)))))) (hset h aQ (iA G 10 (fun i => rP (C i)))) 0 0 [some (.ref (m)), some (.int (nI (t))), some (.int (nI (s9))), some (.int (nI (k))), some (.int (nI (u9))), some (.int (nI (b)))] [] 129 := by
                                intro nn
                                induction nn with
                                | zero => intro b K hn7 hK hA hR; exact absurd hn7 (by omega)
                                | succ nn ih_129 =>
                                  intro b K hn7 hK hA hR
                                  have hb10 : b ≤ 10 := by
                                    have h1 := ctB_all b hA
                                    have h2 := usG_ct (g := g) (β := C) (s := s9) (b := b) (g 3)
                                    rw [hu] at h2; omega
                                  refine V_iload (i := 4) F dX4_gives_129 rfl ?_
                                  refine V_iload (i := 5) F dX4_gives_131 rfl ?_
                                  refine V_ishrN F dX4_gives_133 (by omega) (by omega) ?_
                                  refine V_iconst (v := nI 1) F dX4_gives_134 rfl ?_
                                  refine V_iand1 F dX4_gives_135 (Nat.lt_of_le_of_lt (Nat.div_le_self _ _) (by omega)) ?_
                                  refine V_iconst (v := nI 1) F dX4_gives_136 rfl ?_
                                  refine V_icmp_neN (tgt := 146) F dX4_gives_137 (by decide) (by omega) (by decide) (fun c_137 => ?_) (fun c_137 => ?_)
                                  · have hfb : b = fsB u9 12 0 := by
                                      obtain ⟨K2, rfl⟩ : ∃ K2, K = K2 + 1 := ⟨K - 1, by omega⟩
                                      rw [← hR]; exact (if_neg c_137).symm
                                    refine V_aload_n (i := 0) F dX4_gives_146 rfl rfl ?_
                                    refine V_getf F dX4_gives_147 fc_X4_48_X4 (.inl ((hset_ne (ne_oa hm hbe)).trans hm)) h_berths ?_
                                    refine V_iload_n (i := 3) F dX4_gives_150 rfl rfl ?_
                                    refine V_iload (i := 5) F dX4_gives_151 rfl ?_
                                    refine V_iastP (v := b + 1) F dX4_gives_153 hset_self (by omega) (by decide) ?_
                                    refine V_iinc (i := 3) (v := nI (k + 1)) F dX4_gives_154 rfl (nI_add (k) 1) (Nat.le_of_ble_eq_true rfl) ?_
                                    refine V_goto (tgt := 35) F dX4_gives_157 (by decide) ?_
                                    refine VV.weak (L' := [some (.ref (m)), some (.int (nI (t))), some (.int (nI (s9))), some (.int (nI (k + 1))), none, none]) (LW.c1 (LW.c1 (LW.c1 (LW.c1 (LW.c0 (LW.c0 LW.nil)))))) ?_
                                    refine VV.heap hset_hset ?_
                                    exact ih_35 (k + 1) (up C k (b + 1)) (by omega) (by omega) (by show (if _ then _ else _) = _; rw [if_pos ⟨c_52, c_62⟩, hy, hu]; rw [← hfb]) (fun i hi => by unfold up; split; omega; exact hC9 i hi)
                                  · refine V_iinc (i := 5) (v := nI (b + 1)) F dX4_gives_140 rfl (nI_add (b) 1) (Nat.le_of_ble_eq_true rfl) ?_
                                    refine V_goto (tgt := 129) F dX4_gives_143 (by decide) ?_
                                    refine VV.weak (L' := [some (.ref (m)), some (.int (nI (t))), some (.int (nI (s9))), some (.int (nI (k))), some (.int (nI (u9))), some (.int (nI (b + 1)))]) (LW.c1 (LW.c1 (LW.c1 (LW.c1 (LW.c1 (LW.c1 LW.nil)))))) ?_
                                    obtain ⟨K2, rfl⟩ : ∃ K2, K = K2 + 1 := ⟨K - 1, by omega⟩
                                    exact ih_129 (b + 1) K2 (by omega) (by omega) (fun i hi => by by_cases z : i = b; rw [z]; exact c_137; exact hA i (by omega)) ((if_pos c_137).symm.trans hR)
                              refine VV.weak (L' := [some (.ref (m)), some (.int (nI (t))), some (.int (nI (s9))), some (.int (nI (k))), some (.int (nI (u9))), some (.int (nI (0)))]) (LW.c1 (LW.c1 (LW.c1 (LW.c1 (LW.c1 (LW.c1 LW.nil)))))) ?_
                              exact loop_129 13 0 12 (by omega) (by omega) (fun i hi => absurd hi (Nat.not_lt_zero i)) rfl
                            · refine V_aload_n (i := 0) F dX4_gives_85 rfl rfl ?_
                              refine V_getf F dX4_gives_86 fc_X4_48_X4 (.inl ((hset_ne (ne_oa hm hbe)).trans hm)) h_berths ?_
                              refine V_iload (i := 5) F dX4_gives_89 rfl ?_
                              refine V_ialdN F 0 dX4_gives_91 rfl (.inl hset_self) (by omega) (by decide) ?_
                              rcases hbo : C o with _ | b9
                              · refine V_if_lt (tgt := 120) F dX4_gives_92 (by decide) (fun c_92 => ?_) (fun c_92 => absurd (show (-1 : Int32) < 0 by decide) c_92)
                                refine V_iinc (i := 5) (v := nI (o + 1)) F dX4_gives_120 rfl (nI_add (o) 1) (Nat.le_of_ble_eq_true rfl) ?_
                                refine V_goto (tgt := 74) F dX4_gives_123 (by decide) ?_
                                refine VV.weak (L' := [some (.ref (m)), some (.int (nI (t))), some (.int (nI (s9))), some (.int (nI (k))), some (.int (nI (u9))), some (.int (nI (o + 1)))]) (LW.c1 (LW.c1 (LW.c1 (LW.c1 (LW.c1 (LW.c1 LW.nil)))))) ?_
                                exact ih_74 (o + 1) (u9) (by omega) (by omega) ((if_neg (fun z => z.1 hbo)).trans hu) hu9
                              · refine V_if_ltN (tgt := 120) F dX4_gives_92 (by decide) (by have := hC9 o (by omega); omega) ?_
                                refine V_aload_n (i := 0) F dX4_gives_95 rfl rfl ?_
                                refine V_iload (i := 5) F dX4_gives_96 rfl ?_
                                refine V_iconst (v := nI 3) F dX4_gives_98 rfl ?_
                                refine V_cV2r F dX4_gives_99 lk_X4_83 (ct_by ((hset_ne (ne_oa hm hbe)).trans hm) h_g ((hset_ne hGQ).trans hg) (by omega)) ⟨0, _, _, _, rfl, (.inl ((hset_ne (ne_oa hm hbe)).trans hm))⟩ (Nat.le_of_ble_eq_true rfl) (Nat.le_of_ble_eq_true rfl) (Nat.le_of_ble_eq_true rfl) (Nat.le_of_ble_eq_true rfl) (Nat.le_of_ble_eq_true rfl) ?_
                                refine V_iload_n (i := 2) F dX4_gives_102 rfl rfl ?_
                                refine V_icmp_leN (tgt := 120) F dX4_gives_103 (by decide) hB.lt (by omega) (fun c_103 => ?_) (fun c_103 => ?_)
                                · refine V_iinc (i := 5) (v := nI (o + 1)) F dX4_gives_120 rfl (nI_add (o) 1) (Nat.le_of_ble_eq_true rfl) ?_
                                  refine V_goto (tgt := 74) F dX4_gives_123 (by decide) ?_
                                  refine VV.weak (L' := [some (.ref (m)), some (.int (nI (t))), some (.int (nI (s9))), some (.int (nI (k))), some (.int (nI (u9))), some (.int (nI (o + 1)))]) (LW.c1 (LW.c1 (LW.c1 (LW.c1 (LW.c1 (LW.c1 LW.nil)))))) ?_
                                  exact ih_74 (o + 1) (u9) (by omega) (by omega) ((if_neg (fun z => by omega)).trans hu) hu9
                                · refine V_iload (i := 4) F dX4_gives_106 rfl ?_
                                  refine V_iconst (v := nI 1) F dX4_gives_108 rfl ?_
                                  refine V_aload_n (i := 0) F dX4_gives_109 rfl rfl ?_
                                  refine V_getf F dX4_gives_110 fc_X4_48_X4 (.inl ((hset_ne (ne_oa hm hbe)).trans hm)) h_berths ?_
                                  refine V_iload (i := 5) F dX4_gives_113 rfl ?_
                                  refine V_ialdN F 0 dX4_gives_115 rfl (.inl hset_self) (by omega) (by decide) ?_
                                  refine VV.stk (st' := [.int (nI b9), .int (nI 1), .int (nI u9)]) (by rw [hbo]; rfl) ?_
                                  refine V_ishlN F dX4_gives_116 (by have := hC9 o (by omega); omega) ?_
                                  refine V_iorN F dX4_gives_117 ?_
                                  refine V_istore (i := 4) F dX4_gives_118 (Nat.le_of_ble_eq_true rfl) (Nat.le_of_ble_eq_true rfl) ?_
                                  refine V_iinc (i := 5) (v := nI (o + 1)) F dX4_gives_120 rfl (nI_add (o) 1) (Nat.le_of_ble_eq_true rfl) ?_
                                  refine V_goto (tgt := 74) F dX4_gives_123 (by decide) ?_
                                  refine VV.weak (L' := [some (.ref (m)), some (.int (nI (t))), some (.int (nI (s9))), some (.int (nI (k))), some (.int (nI (u9 ||| 2 ^ b9))), some (.int (nI (o + 1)))]) (LW.c1 (LW.c1 (LW.c1 (LW.c1 (LW.c1 (LW.c1 LW.nil)))))) ?_
                                  exact ih_74 (o + 1) (u9 ||| 2 ^ b9) (by omega) (by omega) (by unfold usG; rw [if_pos ⟨by omega, by omega⟩, hu, hbo]; rfl) (Nat.or_lt_two_pow hu9 (Nat.pow_lt_pow_right (by decide) (by have := hC9 o (by omega); omega)))
                        refine VV.weak (L' := [some (.ref (m)), some (.int (nI (t))), some (.int (nI (s9))), some (.int (nI (k))), some (.int (nI (0))), some (.int (nI (0)))]) (LW.c1 (LW.c1 (LW.c1 (LW.c1 (LW.c1 (LW.c1 LW.nil)))))) ?_
                        exact loop_74 (g 3 + 1) 0 0 (by omega) (by omega) rfl (by decide)
                      · refine V_goto (tgt := 154) F dX4_gives_65 (by decide) ?_
                        refine V_iinc (i := 3) (v := nI (k + 1)) F dX4_gives_154 rfl (nI_add (k) 1) (Nat.le_of_ble_eq_true rfl) ?_
                        refine V_goto (tgt := 35) F dX4_gives_157 (by decide) ?_
                        refine VV.weak (L' := [some (.ref (m)), some (.int (nI (t))), some (.int (nI (s9))), some (.int (nI (k + 1))), none, none]) (LW.c1 (LW.c1 (LW.c1 (LW.c1 (LW.c0 (LW.c0 LW.nil)))))) ?_
                        exact ih_35 (k + 1) C (by omega) (by omega) (by show (if _ then _ else _) = _; rw [if_neg (fun z => by first | exact c_52 z.1 | exact c_62 z.2)]; exact hy) hC9
              refine VV.weak (L' := [some (.ref (m)), some (.int (nI (t))), some (.int (nI (s9))), some (.int (nI (0))), none, none]) (LW.c1 (LW.c1 (LW.c1 (LW.c1 (LW.c0 (LW.c0 LW.nil)))))) ?_
              exact loop_35 (g 3 + 1) 0 B (by omega) (by omega) rfl hB9
        refine VV.weak (L' := [some (.ref (m)), some (.int (nI (t))), some (.int (nI (0))), none, none, none]) (LW.c1 (LW.c1 (LW.c1 (LW.c0 (LW.c0 (LW.c0 LW.nil)))))) ?_
        obtain rfl : j = g 3 := by omega
        exact loop_27 9 0 (zbN b0 (g 3)) (by omega) (by omega) rfl (fun i hi => by unfold zbN; rw [if_pos hi]; omega)
      · refine V_aload_n (i := 0) F dX4_gives_12 rfl rfl ?_
        refine V_getf F dX4_gives_13 fc_X4_48_X4 (.inl ((hset_ne (ne_oa hm hbe)).trans hm)) h_berths ?_
        refine V_iload_n (i := 2) F dX4_gives_16 rfl rfl ?_
        refine V_iconst (v := -1) F dX4_gives_17 rfl ?_
        refine V_iastP (v := 0) F dX4_gives_18 hset_self (by omega) (by decide) ?_
        refine V_iinc (i := 2) (v := nI (j + 1)) F dX4_gives_19 rfl (nI_add (j) 1) (Nat.le_of_ble_eq_true rfl) ?_
        refine V_goto (tgt := 2) F dX4_gives_22 (by decide) ?_
        refine VV.weak (L' := [some (.ref (m)), some (.int (nI (t))), some (.int (nI (j + 1))), none, none, none]) (LW.c1 (LW.c1 (LW.c1 (LW.c0 (LW.c0 (LW.c0 LW.nil)))))) ?_
        refine VV.heap (by rw [hset_hset, zbN_s]) ?_
        exact ih_2 (j + 1) (by omega) (by omega)
  refine VV.weak (L' := [some (.ref (m)), some (.int (nI (t))), some (.int (nI (0))), none, none, none]) (LW.c1 (LW.c1 (LW.c1 (LW.c0 (LW.c0 (LW.c0 LW.nil)))))) ?_
  refine VV.heap (h' := hset h aQ (iA G 10 (fun i => rP (zbN b0 0 i)))) (by rw [zbN_0]; exact (hset_id hbe).symm) ?_
  exact loop_2 (g 3 + 1) 0 (by omega) (by omega)
theorem ct_berthOfN {G : GG} {l : Launch} {h : AH} {m : Nat} {fs : List Value} {aG : Nat} {g : Nat → Nat} {p : Int32} (hm : h m = some (.inr (0, fs))) (h_g : fs[0]? = some (.ref aG)) (hg : h aG = some (iA G 304 (fun i => nI (g i)))) (hlen : fs.length = 25) (hI : GW g) (hfo : fdO g 264 p (g 3) = none) : Ct G l yX4_berthOf cX4_berthOf 3 (some .int) 2 0 0 [.ref m, .int p] h (PR (.int (nI 0)) (hset h m (.inr (0, fs.set 7 (.int (nI 1)))))) := by
  refine Ct.of (by decide) (Nat.le_of_ble_eq_true rfl) (cat1 rfl) (fun X hXl F HN => ?_)
  subst hXl
  obtain ⟨hB, hn0, hn1, hn2, hn3, hst, hpl⟩ := hI
  refine V_aload_n (i := 0) F dX4_berthOf_0 rfl rfl ?_
  refine V_iload_n (i := 1) F dX4_berthOf_1 rfl rfl ?_
  refine V_cV1r F dX4_berthOf_2 lk_X4_167 (ct_placedN hm h_g hg hn3 hB hfo) ⟨0, _, _, _, rfl, (.inl hm)⟩ (Nat.le_of_ble_eq_true rfl) (Nat.le_of_ble_eq_true rfl) (Nat.le_of_ble_eq_true rfl) (Nat.le_of_ble_eq_true rfl) (Nat.le_of_ble_eq_true rfl) ?_
  refine V_istore_n (i := 2) F dX4_berthOf_5 rfl (Nat.le_of_ble_eq_true rfl) (Nat.le_of_ble_eq_true rfl) ?_
  refine V_aload_n (i := 0) F dX4_berthOf_6 rfl rfl ?_
  refine V_iload_n (i := 2) F dX4_berthOf_7 rfl rfl ?_
  refine V_if_ge (tgt := 15) F dX4_berthOf_8 (by decide) (fun c_8 => absurd c_8 (by decide)) (fun c_8 => ?_)
  refine V_iconst (v := nI 1) F dX4_berthOf_11 rfl ?_
  refine V_goto (tgt := 16) F dX4_berthOf_12 (by decide) ?_
  refine V_cV1r F dX4_berthOf_16 lk_X4_92 (ct_failsP 1 hm hlen (by decide)) ⟨0, _, _, _, rfl, (.inl hm)⟩ (Nat.le_of_ble_eq_true rfl) (Nat.le_of_ble_eq_true rfl) (Nat.le_of_ble_eq_true rfl) (Nat.le_of_ble_eq_true rfl) (Nat.le_of_ble_eq_true rfl) ?_
  refine V_if_eqN (tgt := 24) F dX4_berthOf_19 (by decide) (by omega) (fun c_19 => absurd c_19 (by decide)) (fun c_19 => ?_)
  refine V_iconst (v := nI 0) F dX4_berthOf_22 rfl ?_
  exact V_iret F dX4_berthOf_23 rfl (Nat.le_of_ble_eq_true rfl) (Nat.le_of_ble_eq_true rfl) ⟨rfl, rfl⟩
theorem ct_berthOfS {G : GG} {l : Launch} {h : AH} {m : Nat} {fs : List Value} {aG : Nat} {g : Nat → Nat} {p : Int32} {k : Nat} {aQ : Nat} {b0 : Nat → Nat} (hm : h m = some (.inr (0, fs))) (h_g : fs[0]? = some (.ref aG)) (hg : h aG = some (iA G 304 (fun i => nI (g i)))) (h_berths : fs[21]? = some (.ref aQ)) (hbe : h aQ = some (iA G 10 (fun i => rP (b0 i)))) (hGQ : aG ≠ aQ) (hlen : fs.length = 25) (hI : GW g) (hfo : fdO g 264 p (g 3) = some k) : Ct G l yX4_berthOf cX4_berthOf 3 (some .int) 2 0 0 [.ref m, .int p] h (PR (.int (rP (gvB g (g (264 + 4 * k + 1)) b0 k))) (hset (hset h m (.inr (0, fs.set 7 (.int (nI 0))))) aQ (iA G 10 (fun i => rP (gvB g (g (264 + 4 * k + 1)) b0 i))))) := by
  refine Ct.of (by decide) (Nat.le_of_ble_eq_true rfl) (cat1 rfl) (fun X hXl F HN => ?_)
  subst hXl
  have hI9 := hI
  obtain ⟨hB, hn0, hn1, hn2, hn3, hst, hpl⟩ := hI
  refine V_aload_n (i := 0) F dX4_berthOf_0 rfl rfl ?_
  refine V_iload_n (i := 1) F dX4_berthOf_1 rfl rfl ?_
  refine V_cV1r F dX4_berthOf_2 lk_X4_167 (ct_placedS hm h_g hg hn3 hB hfo) ⟨0, _, _, _, rfl, (.inl hm)⟩ (Nat.le_of_ble_eq_true rfl) (Nat.le_of_ble_eq_true rfl) (Nat.le_of_ble_eq_true rfl) (Nat.le_of_ble_eq_true rfl) (Nat.le_of_ble_eq_true rfl) ?_
  refine V_istore_n (i := 2) F dX4_berthOf_5 rfl (Nat.le_of_ble_eq_true rfl) (Nat.le_of_ble_eq_true rfl) ?_
  have hk3 := (fdO_lt hfo).1
  refine V_aload_n (i := 0) F dX4_berthOf_6 rfl rfl ?_
  refine V_iload_n (i := 2) F dX4_berthOf_7 rfl rfl ?_
  refine V_if_geN (tgt := 15) F dX4_berthOf_8 (by decide) (by omega) ?_
  refine V_iconst (v := nI 0) F dX4_berthOf_15 rfl ?_
  refine V_cV1r F dX4_berthOf_16 lk_X4_92 (ct_fails0 hm hlen) ⟨0, _, _, _, rfl, (.inl hm)⟩ (Nat.le_of_ble_eq_true rfl) (Nat.le_of_ble_eq_true rfl) (Nat.le_of_ble_eq_true rfl) (Nat.le_of_ble_eq_true rfl) (Nat.le_of_ble_eq_true rfl) ?_
  refine V_if_eqN (tgt := 24) F dX4_berthOf_19 (by decide) (by omega) (fun c_19 => ?_) (fun c_19 => absurd c_19 (by decide))
  refine V_aload_n (i := 0) F dX4_berthOf_24 rfl rfl ?_
  refine V_aload_n (i := 0) F dX4_berthOf_25 rfl rfl ?_
  refine V_iload_n (i := 2) F dX4_berthOf_26 rfl rfl ?_
  refine V_iconst (v := nI 1) F dX4_berthOf_27 rfl ?_
  refine V_cV2r F dX4_berthOf_28 lk_X4_83 (ct_by hset_self (gset h_g (by decide)) ((hset_ne (ne_ao hg hm)).trans hg) (by omega)) ⟨0, _, _, _, rfl, (.inl hset_self)⟩ (Nat.le_of_ble_eq_true rfl) (Nat.le_of_ble_eq_true rfl) (Nat.le_of_ble_eq_true rfl) (Nat.le_of_ble_eq_true rfl) (Nat.le_of_ble_eq_true rfl) ?_
  refine V_cV1v F dX4_berthOf_31 lk_X4_182 (ct_gives hset_self (gset h_g (by decide)) ((hset_ne (ne_ao hg hm)).trans hg) (gset h_berths (by decide)) ((hset_ne (ne_ao hbe hm)).trans hbe) hGQ hI9 hB.lt) ⟨0, _, _, _, rfl, (.inl hset_self)⟩ (Nat.le_of_ble_eq_true rfl) (Nat.le_of_ble_eq_true rfl) (Nat.le_of_ble_eq_true rfl) (Nat.le_of_ble_eq_true rfl) (Nat.le_of_ble_eq_true rfl) ?_
  refine V_aload_n (i := 0) F dX4_berthOf_34 rfl rfl ?_
  refine V_getf F dX4_berthOf_35 fc_X4_48_X4 (.inl ((hset_ne (ne_oa hm hbe)).trans hset_self)) (gset h_berths (by decide)) ?_
  refine V_iload_n (i := 2) F dX4_berthOf_38 rfl rfl ?_
  refine V_ialdN F 0 dX4_berthOf_39 rfl (.inl hset_self) (by omega) (by decide) ?_
  exact V_iret F dX4_berthOf_40 rfl (Nat.le_of_ble_eq_true rfl) (Nat.le_of_ble_eq_true rfl) ⟨rfl, rfl⟩
