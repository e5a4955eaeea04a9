set_option maxRecDepth 100000
/-! ===== the parser's words ===== -/
def WDT : List Nat := [32, 115, 116, 97, 116, 105, 111, 110, 32, 116, 114, 97, 105, 110, 32, 115, 116, 111, 112, 32, 108, 97, 116, 101, 32, 99, 97, 115, 101, 32, 108, 97, 98, 101, 108, 32, 115, 101, 110, 100, 32, 116, 97, 107, 101, 32, 98, 111, 111, 107, 32, 100, 114, 111, 112, 32]
theorem txc_WD : txl " station train stop late case label send take book drop " = WDT := by decide +kernel
/-- letters from a on are joined to w, while they begin a word -/
def wdL (l : List Nat) : Nat → List Nat → Nat → Nat ⊕ (List Nat × Nat)
  | 0, w, a => .inr (w, a)
  | n + 1, w, a => if 97 ≤ curP l a ∧ curP l a ≤ 122 then (if subB WDT ([32] ++ w ++ [curP l a]) = true then wdL l n (w ++ [curP l a]) (a + 1) else .inl a) else .inr (w, a)
def wdP (l : List Nat) (a : Nat) : Nat ⊕ (List Nat × Nat) := match wdL l (l.length + 1) [] a with
  | .inl e => .inl e
  | .inr (w, a1) => if 0 < w.length ∧ subB WDT ([32] ++ w ++ [32]) = true then .inr (w, a1) else .inl a1
def isLt (w : List Nat) : Prop := ∀ c, c ∈ w → 97 ≤ c ∧ c ≤ 122
theorem wk7 : ((List.range 57).all fun k => (List.range 8).any fun j => !decide (97 ≤ WDT.getD (k + 1 + j) 0 ∧ WDT.getD (k + 1 + j) 0 ≤ 122)) = true := by decide +kernel
theorem w7 {w : List Nat} (hs : subB WDT ([32] ++ w) = true) (hw : isLt w) : w.length ≤ 7 := by
  obtain ⟨k, h1, h2⟩ := subB_iff.mp hs
  by_cases q : w.length ≤ 7
  · exact q
  · exfalso
    have hl : WDT.length = 56 := rfl
    rw [hl, List.length_append, List.length_singleton] at h1
    obtain ⟨j, hj, hn⟩ := List.any_eq_true.mp (List.all_eq_true.mp wk7 k (List.mem_range.mpr (by omega)))
    have hj8 := List.mem_range.mp hj
    have h3 := h2 (j + 1) (by rw [List.length_append, List.length_singleton]; omega)
    have h4 : ([32] ++ w).getD (j + 1) 0 = w.getD j 0 := rfl
    rw [h4] at h3
    have h5 := hw (w.getD j 0) (getD_mem (by omega))
    rw [← h3, show k + (j + 1) = k + 1 + j by omega] at h5
    rw [decide_eq_true h5] at hn
    cases hn
def WLS : List (List Nat) := (List.range 10).map fun k => txl (wdS k)
theorem wk10 : ((List.range 57).all fun k => (List.range 8).all fun n => decide (n = 0) || !(WDT.getD (k + 1 + n) 0 == 32) || (List.range n).any (fun j => WDT.getD (k + 1 + j) 0 == 32) || !(WDT.getD k 0 == 32) || WLS.contains ((WDT.drop (k + 1)).take n)) = true := by decide +kernel
theorem wd10 {w : List Nat} (hs : subB WDT ([32] ++ w ++ [32]) = true) (h0 : 0 < w.length) (hw : isLt w) (h7 : w.length ≤ 7) : ∃ k, k < 10 ∧ w = txl (wdS k) := by
  obtain ⟨k, h1, h2⟩ := subB_iff.mp hs
  have hl : WDT.length = 56 := rfl
  rw [hl, List.length_append, List.length_append, List.length_singleton] at h1
  have hlen : ([32] ++ w ++ [32]).length = w.length + 2 := by rw [List.length_append, List.length_append, List.length_singleton]; omega
  have g0 := h2 0 (by omega)
  have gn := h2 (w.length + 1) (by omega)
  have gj : ∀ j, j < w.length → WDT.getD (k + 1 + j) 0 = w.getD j 0 := by
    intro j hj
    have := h2 (j + 1) (by omega)
    rw [show k + (j + 1) = k + 1 + j by omega] at this
    rw [this, List.getD_eq_getElem?_getD, List.getElem?_append_left (by rw [List.length_append, List.length_singleton]; omega), List.getD_eq_getElem?_getD]
    rfl
  have e0 : WDT.getD k 0 = 32 := g0
  have en : WDT.getD (k + 1 + w.length) 0 = 32 := by
    rw [show k + (w.length + 1) = k + 1 + w.length by omega] at gn
    rw [gn, List.getD_eq_getElem?_getD, List.getElem?_append_right (by rw [List.length_append, List.length_singleton]; omega), List.length_append, List.length_singleton, show w.length + 1 - (1 + w.length) = 0 by omega]
    rfl
  have ew : (WDT.drop (k + 1)).take w.length = w := by
    apply List.ext_getElem
    · rw [List.length_take, List.length_drop, hl]; omega
    · intro j hj1 hj2
      rw [List.getElem_take, List.getElem_drop]
      have := gj j hj2
      rw [List.getD_eq_getElem?_getD, List.getD_eq_getElem?_getD, List.getElem?_eq_getElem hj2, List.getElem?_eq_getElem (by rw [hl]; omega)] at this
      exact this
  have hk := List.all_eq_true.mp (List.all_eq_true.mp wk10 k (List.mem_range.mpr (by omega))) w.length (List.mem_range.mpr (by omega))
  have hno : ((List.range w.length).any (fun j => WDT.getD (k + 1 + j) 0 == 32)) = false := by
    rw [List.any_eq_false]
    intro j hj
    have hj := List.mem_range.mp hj
    rw [gj j hj]
    have := hw (w.getD j 0) (getD_mem hj)
    simp only [beq_iff_eq]
    omega
  rw [hno, en, e0, ew, decide_eq_false (show ¬ w.length = 0 by omega)] at hk
  have hc : WLS.contains w = true := by simpa using hk
  have hm : w ∈ WLS := by simpa using hc
  obtain ⟨i, hi, e⟩ := List.mem_map.mp hm
  exact ⟨i, List.mem_range.mp hi, e.symm⟩
theorem subB_pre {l w : List Nat} {c : Nat} (h : subB l (w ++ [c]) = true) : subB l w = true := by
  obtain ⟨k, h1, h2⟩ := subB_iff.mp h
  rw [List.length_append, List.length_singleton] at h1 h2
  refine subB_iff.mpr ⟨k, by omega, fun j hj => ?_⟩
  rw [h2 j (by omega), List.getD_eq_getElem?_getD, List.getElem?_append_left hj, ← List.getD_eq_getElem?_getD]
theorem subB_len {l w : List Nat} (h : subB l w = true) : w.length ≤ l.length := by
  obtain ⟨k, h1, -⟩ := subB_iff.mp h
  omega
theorem isLt.snoc {w : List Nat} {c : Nat} (h : isLt w) (hc : 97 ≤ c ∧ c ≤ 122) : isLt (w ++ [c]) := fun x hx => (List.mem_append.mp hx).elim (h x) (fun z => by rw [List.mem_singleton.mp z]; exact hc)
theorem isLt.asc {w : List Nat} (h : isLt w) : asc w := fun c hc => by have := h c hc; omega

theorem ct_X17_word {G : GG} {l : Launch} {h : AH} {p tx a0 : Nat} {l0 : List Nat}  (hl0 : l.stackTraces = false) (hp : h p = some (.inr (14, [.ref tx, .int (nI a0)]))) (hS : STR G h tx l0) (ha : a0 ≤ l0.length)  : CtX G l yX17_word cX17_word 2 (some (.object "java/lang/String")) 13 (120) (12000) [.ref p] h (fun r h2 => ∃ w2 a2 o k, wdP l0 a0 = .inr (w2, a2) ∧ r = some (.ref o) ∧ h o = none ∧ STR G h2 o w2 ∧ k < 10 ∧ w2 = txl (wdS k) ∧ h2 p = some (.inr (14, [.ref tx, .int (nI a2)])) ∧ a2 ≤ l0.length ∧ a0 + w2.length ≤ a2 ∧ Fr (m1 p) h h2) (PF h p (fun pos => wdP l0 a0 = .inl pos)) := by
  refine CtX.of (by decide) (Nat.le_of_ble_eq_true rfl) (cat1 rfl) (fun X hXl F HT => ?_)
  subst hXl
  obtain ⟨-, -, -, -, -, -, -, -, hasl, hl200, -⟩ := id hS
  refine V_new F dX17_word_0 nw_X17_54 (by omega) (by omega) ?_
  intro s1 hfs1 hbs1
  refine V_dup F dX17_word_3 rfl ?_
  refine V_callI (st := [.ref (s1)]) (nn := 0) F dX17_word_4 lk_X17_56 (ct_J5_init (hset_self (e := .inr (21, [.null, .int 0, .int 0, .int 0])))) rfl rfl (Nat.le_of_ble_eq_true rfl) (Nat.le_of_ble_eq_true rfl) (Nat.le_of_ble_eq_true rfl) (by omega) (by omega) ?_
  rintro _ hh1 ⟨rfl, b1, hb1, hS1, hx1⟩
  have hF1 : Fr nM h hh1 := ((Fr.rf (M := nM) (h := h)).nw (x := .inr (21, [.null, .int 0, .int 0, .int 0])) hfs1).cal hx1 (Yo.m1 (Or.inr hfs1))
  have hB1 : h b1 = none := ((Fr.rf (M := nM) (h := h)).nw (x := .inr (21, [.null, .int 0, .int 0, .int 0])) hfs1).none hb1
  refine V_astore_n (i := 1) F dX17_word_7 rfl (Nat.le_of_ble_eq_true rfl) (Nat.le_of_ble_eq_true rfl) ?_
  have loop_8 : ∀ (nn : Nat) (nf a : Nat) (w : List Nat) (hh : AH) (b N : Nat), nf < nn → l0.length < nf + a → nf ≤ l0.length + 1 → hh p = some (.inr (14, [.ref tx, .int (nI a)])) → STR G hh tx l0 → a ≤ l0.length → Fr (m1 p) h hh → SBs G hh s1 b N w → h b = none → isLt w → w.length ≤ 7 → a0 + w.length ≤ a → wdL l0 (l0.length + 1) [] a0 = wdL l0 nf w a → VV G X 2 ((EQX G X (120) (12000) (fun r h2 => ∃ w2 a2 o k, wdP l0 a0 = .inr (w2, a2) ∧ r = some (.ref o) ∧ h o = none ∧ STR G h2 o w2 ∧ k < 10 ∧ w2 = txl (wdS k) ∧ h2 p = some (.inr (14, [.ref tx, .int (nI a2)])) ∧ a2 ≤ l0.length ∧ a0 + w2.length ≤ a2 ∧ Fr (m1 p) h h2) (PF h p (fun pos => wdP l0 a0 = .inl pos)))) hh (4 + 12 * w.length) (40 + 1300 * w.length) [some (.ref (p)), some (.ref (s1))] [] 8 := by
    intro nn
    induction nn with
    | zero => intro nf a w hh b N hm hf hfa hpj hSj haj hFj hsb hbj hwl hw7 haw heq; exact absurd hm (by omega)
    | succ nn ih_8 =>
      intro nf a w hh b N hm hf hfa hpj hSj haj hFj hsb hbj hwl hw7 haw heq
      have hc128 := curP_128 (a := a) hasl
      have hs1 : h s1 = none := hfs1
      refine V_aload_n (i := 0) F dX17_word_8 rfl rfl ?_
      refine V_callV (st := []) (nn := 0) F dX17_word_9 lk_X17_32 (ct_X17_current hpj hSj haj) ⟨14, _, _, _, rfl, .inl hpj⟩ rfl rfl (Nat.le_of_ble_eq_true rfl) (Nat.le_of_ble_eq_true rfl) (Nat.le_of_ble_eq_true rfl) (by omega) (by omega) ?_
      refine PRk ?_
      refine V_bipush (v := nI 97) F dX17_word_12 rfl ?_
      refine V_icmp_ltN (tgt := 83) F dX17_word_14 (by decide) (by omega) (by decide) (fun c_14 => ?_) (fun c_14 => ?_)
      · have hnl : ¬ (97 ≤ curP l0 a ∧ curP l0 a ≤ 122) := by omega
        have hwe : wdL l0 (l0.length + 1) [] a0 = .inr (w, a) := by
          rw [heq]
          cases nf with
          | zero => rfl
          | succ m => show (if _ then _ else _) = _; rw [if_neg hnl]
        refine V_aload_n (i := 0) F dX17_word_83 rfl rfl ?_
        refine V_aload_n (i := 1) F dX17_word_84 rfl rfl ?_
        refine V_callV (st := [.ref (p)]) (nn := 0) F dX17_word_85 lk_X17_79 (ct_J5_length hsb) hsb.isC rfl rfl (Nat.le_of_ble_eq_true rfl) (Nat.le_of_ble_eq_true rfl) (Nat.le_of_ble_eq_true rfl) (by omega) (by omega) ?_
        refine PRk ?_
        refine V_if_leN (tgt := 127) F dX17_word_88 (by decide) (by omega) (fun c_88 => ?_) (fun c_88 => ?_)
        · refine V_iconst (v := nI 0) F dX17_word_127 rfl ?_
          refine V_xcV (st := []) (nn := 1) F dX17_word_128 lk_X17_36 (ct_X17_require hl0 hpj) ⟨14, _, _, _, rfl, .inl hpj⟩ rfl rfl (Nat.le_of_ble_eq_true rfl) (Nat.le_of_ble_eq_true rfl) (Nat.le_of_ble_eq_true rfl) (by omega) (by omega) ?_ ?_
          · rintro _ _ ⟨rfl, rfl, hd⟩
            exact absurd rfl hd
          · exact fun E q h2 hp9 => V_xout F (HT _) (by omega) (by omega) (PF.rq hFj hp9 (fun hz => by unfold wdP; rw [hwe]; show (if _ then _ else _) = _; rw [if_neg (fun z => by first | exact absurd z.1 (by omega) | exact c_120 z.2)]))
        · refine V_ldcS F dX17_word_91 q3455 ?_
          intro w1 hGw1
          refine V_new F dX17_word_93 nw_X17_54 (by omega) (by omega) ?_
          intro s3 hfs3 hbs3
          refine V_dup F dX17_word_96 rfl ?_
          refine V_callI (st := [.ref (s3), .ref (w1), .ref (p)]) (nn := 0) F dX17_word_97 lk_X17_56 (ct_J5_init (hset_self (e := .inr (21, [.null, .int 0, .int 0, .int 0])))) rfl rfl (Nat.le_of_ble_eq_true rfl) (Nat.le_of_ble_eq_true rfl) (Nat.le_of_ble_eq_true rfl) (by omega) (by omega) ?_
          rintro _ hh2 ⟨rfl, b2, hb2, hS2, hx2⟩
          have hF2 : Fr nM hh hh2 := ((Fr.rf (M := nM) (h := hh)).nw (x := .inr (21, [.null, .int 0, .int 0, .int 0])) hfs3).cal hx2 (Yo.m1 (Or.inr hfs3))
          have hB2 : hh b2 = none := ((Fr.rf (M := nM) (h := hh)).nw (x := .inr (21, [.null, .int 0, .int 0, .int 0])) hfs3).none hb2
          refine V_ldcS F dX17_word_100 q3456 ?_
          intro w3 hGw3
          refine V_callV (st := [.ref (w1), .ref (p)]) (nn := 1) F dX17_word_102 lk_X17_61 (ct_J5_append hS2 (hGw3.str (asc_of (by decide +kernel)) (by decide +kernel)) (by simp only [List.length_append, List.length_nil, List.length_cons, txc_0, txc_45, txc_43, txc_64, txc_62, txc_116, txc_58, txc_32]; omega)) hS2.isC rfl rfl (Nat.le_of_ble_eq_true rfl) (Nat.le_of_ble_eq_true rfl) (Nat.le_of_ble_eq_true rfl) (by omega) (by omega) ?_
          rintro _ hh4 ⟨rfl, b4, N4, hS4, hbb4, hx4⟩
          have hF4 : Fr nM hh hh4 := hF2.cal hx4 (Yo.m2 (Or.inr hfs3) (Or.inr hB2))
          have hB4 : hh b4 = none := hbb4.elim (fun z => z.1 ▸ hB2) hF2.none
          refine V_aload_n (i := 1) F dX17_word_105 rfl rfl ?_
          refine V_callV (st := [.ref (w1), .ref (p)]) (nn := 1) F dX17_word_106 lk_X17_65 (ct_J5_appendO hS4 (hsb.fr0 hF4) (by omega) (by simp only [List.length_append, List.length_nil, List.length_cons, txc_0, txc_45, txc_43, txc_64, txc_62, txc_116, txc_58, txc_32]; omega)) hS4.isC rfl rfl (Nat.le_of_ble_eq_true rfl) (Nat.le_of_ble_eq_true rfl) (Nat.le_of_ble_eq_true rfl) (by omega) (by omega) ?_
          rintro _ hh5 ⟨rfl, b5, N5, hS5, hbb5, hx5⟩
          have hF5 : Fr nM hh hh5 := hF4.cal hx5 (Yo.m2 (Or.inr hfs3) (Or.inr hB4))
          have hB5 : hh b5 = none := hbb5.elim (fun z => z.1 ▸ hB4) hF4.none
          refine V_ldcS F dX17_word_109 q3456 ?_
          intro w6 hGw6
          refine V_callV (st := [.ref (w1), .ref (p)]) (nn := 1) F dX17_word_111 lk_X17_61 (ct_J5_append hS5 (hGw6.str (asc_of (by decide +kernel)) (by decide +kernel)) (by simp only [List.length_append, List.length_nil, List.length_cons, txc_0, txc_45, txc_43, txc_64, txc_62, txc_116, txc_58, txc_32]; omega)) hS5.isC rfl rfl (Nat.le_of_ble_eq_true rfl) (Nat.le_of_ble_eq_true rfl) (Nat.le_of_ble_eq_true rfl) (by omega) (by omega) ?_
          rintro _ hh7 ⟨rfl, b7, N7, hS7, hbb7, hx7⟩
          have hF7 : Fr nM hh hh7 := hF5.cal hx7 (Yo.m2 (Or.inr hfs3) (Or.inr hB5))
          have hB7 : hh b7 = none := hbb7.elim (fun z => z.1 ▸ hB5) hF5.none
          refine V_callV (st := [.ref (w1), .ref (p)]) (nn := 0) F dX17_word_114 lk_X17_71 (ct_J5_toString hS7 (by simp only [List.length_append, List.length_nil, List.length_cons, txc_0, txc_45, txc_43, txc_64, txc_62, txc_116, txc_58, txc_32]; omega)) hS7.isC rfl rfl (Nat.le_of_ble_eq_true rfl) (Nat.le_of_ble_eq_true rfl) (Nat.le_of_ble_eq_true rfl) (by omega) (by omega) ?_
          rintro _ hh8 ⟨o8, rfl, ho8, hT8, hv8, hx8⟩
          have hF8 : Fr nM hh hh8 := hF7.cal0 hx8
          have et : (((([] : List Nat) ++ txl " ") ++ w) ++ txl " ") = [32] ++ w ++ [32] := by simp only [txc_32, List.nil_append]
          rw [et] at hT8
          have hWD : STR G hh8 w1 WDT := by rw [← txc_WD]; exact hGw1.str (asc_of (by decide +kernel)) (by decide +kernel)
          refine V_callV (st := [.ref (p)]) (nn := 1) F dX17_word_117 lk_X17_75 (ct_J6_contains hWD hT8 (by simp only [List.length_append, List.length_singleton]; omega) (by simp only [List.length_append, List.length_singleton]; show _ ≤ 56; omega)) hWD.isC rfl rfl (Nat.le_of_ble_eq_true rfl) (Nat.le_of_ble_eq_true rfl) (Nat.le_of_ble_eq_true rfl) (by omega) (by omega) ?_
          refine PRk ?_
          refine V_if_eqB (tgt := 127) F dX17_word_120 (by decide) (fun c_120 => ?_) (fun c_120 => ?_)
          · refine V_iconst (v := nI 0) F dX17_word_127 rfl ?_
            refine V_xcV (st := []) (nn := 1) F dX17_word_128 lk_X17_36 (ct_X17_require hl0 (hF8.get hpj id rfl)) ⟨14, _, _, _, rfl, .inl (hF8.get hpj id rfl)⟩ rfl rfl (Nat.le_of_ble_eq_true rfl) (Nat.le_of_ble_eq_true rfl) (Nat.le_of_ble_eq_true rfl) (by omega) (by omega) ?_ ?_
            · rintro _ _ ⟨rfl, rfl, hd⟩
              exact absurd rfl hd
            · exact fun E q h2 hp9 => V_xout F (HT _) (by omega) (by omega) (PF.rq (hFj.cal hF8 (fun _ z => z.elim)) hp9 (fun hz => by unfold wdP; rw [hwe]; show (if _ then _ else _) = _; rw [if_neg (fun z => by first | exact absurd z.1 (by omega) | exact c_120 z.2)]))
          · refine V_iconst (v := nI 1) F dX17_word_123 rfl ?_
            refine V_goto (tgt := 128) F dX17_word_124 (by decide) ?_
            refine V_xcV (st := []) (nn := 1) F dX17_word_128 lk_X17_36 (ct_X17_require hl0 (hF8.get hpj id rfl)) ⟨14, _, _, _, rfl, .inl (hF8.get hpj id rfl)⟩ rfl rfl (Nat.le_of_ble_eq_true rfl) (Nat.le_of_ble_eq_true rfl) (Nat.le_of_ble_eq_true rfl) (by omega) (by omega) ?_ ?_
            · rintro _ _ ⟨rfl, rfl, hd⟩
              refine V_aload_n (i := 1) F dX17_word_131 rfl rfl ?_
              refine V_callV (st := []) (nn := 0) F dX17_word_132 lk_X17_71 (ct_J5_toString (hsb.fr0 hF8) (by omega)) (hsb.fr0 hF8).isC rfl rfl (Nat.le_of_ble_eq_true rfl) (Nat.le_of_ble_eq_true rfl) (Nat.le_of_ble_eq_true rfl) (by omega) (by omega) ?_
              rintro _ hz ⟨oz, rfl, hoz, hTz, -, hxz⟩
              have hFz : Fr (m1 p) h hz := (hFj.cal0 hF8).cal0 hxz
              obtain ⟨kz, hkz, hez⟩ := wd10 (w := w) c_120 (by omega) hwl hw7
              exact VV.rx (V_aret F dX17_word_135 (Or.inl ⟨_, rfl⟩) (Or.inr ⟨_, rfl⟩) (by first | exact Nat.le_of_ble_eq_true rfl | omega) (by first | exact Nat.le_of_ble_eq_true rfl | omega) ⟨w, a, oz, kz, by unfold wdP; rw [hwe]; show (if _ then _ else _) = _; rw [if_pos ⟨by omega, c_120⟩], rfl, (hFj.cal0 hF8).none hoz, hTz, hkz, hez, hxz.get (hF8.get hpj id rfl) id rfl, haj, haw, hFz⟩)
            · exact fun E q h2 hp9 => absurd hp9.1 (by decide)
      · refine V_aload_n (i := 0) F dX17_word_17 rfl rfl ?_
        refine V_callV (st := []) (nn := 0) F dX17_word_18 lk_X17_32 (ct_X17_current hpj hSj haj) ⟨14, _, _, _, rfl, .inl hpj⟩ rfl rfl (Nat.le_of_ble_eq_true rfl) (Nat.le_of_ble_eq_true rfl) (Nat.le_of_ble_eq_true rfl) (by omega) (by omega) ?_
        refine PRk ?_
        refine V_bipush (v := nI 122) F dX17_word_21 rfl ?_
        refine V_icmp_gtN (tgt := 83) F dX17_word_23 (by decide) (by omega) (by decide) (fun c_23 => ?_) (fun c_23 => ?_)
        · have hnl : ¬ (97 ≤ curP l0 a ∧ curP l0 a ≤ 122) := by omega
          have hwe : wdL l0 (l0.length + 1) [] a0 = .inr (w, a) := by
            rw [heq]
            cases nf with
            | zero => rfl
            | succ m => show (if _ then _ else _) = _; rw [if_neg hnl]
          refine V_aload_n (i := 0) F dX17_word_83 rfl rfl ?_
          refine V_aload_n (i := 1) F dX17_word_84 rfl rfl ?_
          refine V_callV (st := [.ref (p)]) (nn := 0) F dX17_word_85 lk_X17_79 (ct_J5_length hsb) hsb.isC rfl rfl (Nat.le_of_ble_eq_true rfl) (Nat.le_of_ble_eq_true rfl) (Nat.le_of_ble_eq_true rfl) (by omega) (by omega) ?_
          refine PRk ?_
          refine V_if_leN (tgt := 127) F dX17_word_88 (by decide) (by omega) (fun c_88 => ?_) (fun c_88 => ?_)
          · refine V_iconst (v := nI 0) F dX17_word_127 rfl ?_
            refine V_xcV (st := []) (nn := 1) F dX17_word_128 lk_X17_36 (ct_X17_require hl0 hpj) ⟨14, _, _, _, rfl, .inl hpj⟩ rfl rfl (Nat.le_of_ble_eq_true rfl) (Nat.le_of_ble_eq_true rfl) (Nat.le_of_ble_eq_true rfl) (by omega) (by omega) ?_ ?_
            · rintro _ _ ⟨rfl, rfl, hd⟩
              exact absurd rfl hd
            · exact fun E q h2 hp9 => V_xout F (HT _) (by omega) (by omega) (PF.rq hFj hp9 (fun hz => by unfold wdP; rw [hwe]; show (if _ then _ else _) = _; rw [if_neg (fun z => by first | exact absurd z.1 (by omega) | exact c_120 z.2)]))
          · refine V_ldcS F dX17_word_91 q3455 ?_
            intro w9 hGw9
            refine V_new F dX17_word_93 nw_X17_54 (by omega) (by omega) ?_
            intro s3 hfs3 hbs3
            refine V_dup F dX17_word_96 rfl ?_
            refine V_callI (st := [.ref (s3), .ref (w9), .ref (p)]) (nn := 0) F dX17_word_97 lk_X17_56 (ct_J5_init (hset_self (e := .inr (21, [.null, .int 0, .int 0, .int 0])))) rfl rfl (Nat.le_of_ble_eq_true rfl) (Nat.le_of_ble_eq_true rfl) (Nat.le_of_ble_eq_true rfl) (by omega) (by omega) ?_
            rintro _ hh10 ⟨rfl, b10, hb10, hS10, hx10⟩
            have hF10 : Fr nM hh hh10 := ((Fr.rf (M := nM) (h := hh)).nw (x := .inr (21, [.null, .int 0, .int 0, .int 0])) hfs3).cal hx10 (Yo.m1 (Or.inr hfs3))
            have hB10 : hh b10 = none := ((Fr.rf (M := nM) (h := hh)).nw (x := .inr (21, [.null, .int 0, .int 0, .int 0])) hfs3).none hb10
            refine V_ldcS F dX17_word_100 q3456 ?_
            intro w11 hGw11
            refine V_callV (st := [.ref (w9), .ref (p)]) (nn := 1) F dX17_word_102 lk_X17_61 (ct_J5_append hS10 (hGw11.str (asc_of (by decide +kernel)) (by decide +kernel)) (by simp only [List.length_append, List.length_nil, List.length_cons, txc_0, txc_45, txc_43, txc_64, txc_62, txc_116, txc_58, txc_32]; omega)) hS10.isC rfl rfl (Nat.le_of_ble_eq_true rfl) (Nat.le_of_ble_eq_true rfl) (Nat.le_of_ble_eq_true rfl) (by omega) (by omega) ?_
            rintro _ hh12 ⟨rfl, b12, N12, hS12, hbb12, hx12⟩
            have hF12 : Fr nM hh hh12 := hF10.cal hx12 (Yo.m2 (Or.inr hfs3) (Or.inr hB10))
            have hB12 : hh b12 = none := hbb12.elim (fun z => z.1 ▸ hB10) hF10.none
            refine V_aload_n (i := 1) F dX17_word_105 rfl rfl ?_
            refine V_callV (st := [.ref (w9), .ref (p)]) (nn := 1) F dX17_word_106 lk_X17_65 (ct_J5_appendO hS12 (hsb.fr0 hF12) (by omega) (by simp only [List.length_append, List.length_nil, List.length_cons, txc_0, txc_45, txc_43, txc_64, txc_62, txc_116, txc_58, txc_32]; omega)) hS12.isC rfl rfl (Nat.le_of_ble_eq_true rfl) (Nat.le_of_ble_eq_true rfl) (Nat.le_of_ble_eq_true rfl) (by omega) (by omega) ?_
            rintro _ hh13 ⟨rfl, b13, N13, hS13, hbb13, hx13⟩
            have hF13 : Fr nM hh hh13 := hF12.cal hx13 (Yo.m2 (Or.inr hfs3) (Or.inr hB12))
            have hB13 : hh b13 = none := hbb13.elim (fun z => z.1 ▸ hB12) hF12.none
            refine V_ldcS F dX17_word_109 q3456 ?_
            intro w14 hGw14
            refine V_callV (st := [.ref (w9), .ref (p)]) (nn := 1) F dX17_word_111 lk_X17_61 (ct_J5_append hS13 (hGw14.str (asc_of (by decide +kernel)) (by decide +kernel)) (by simp only [List.length_append, List.length_nil, List.length_cons, txc_0, txc_45, txc_43, txc_64, txc_62, txc_116, txc_58, txc_32]; omega)) hS13.isC rfl rfl (Nat.le_of_ble_eq_true rfl) (Nat.le_of_ble_eq_true rfl) (Nat.le_of_ble_eq_true rfl) (by omega) (by omega) ?_
            rintro _ hh15 ⟨rfl, b15, N15, hS15, hbb15, hx15⟩
            have hF15 : Fr nM hh hh15 := hF13.cal hx15 (Yo.m2 (Or.inr hfs3) (Or.inr hB13))
            have hB15 : hh b15 = none := hbb15.elim (fun z => z.1 ▸ hB13) hF13.none
            refine V_callV (st := [.ref (w9), .ref (p)]) (nn := 0) F dX17_word_114 lk_X17_71 (ct_J5_toString hS15 (by simp only [List.length_append, List.length_nil, List.length_cons, txc_0, txc_45, txc_43, txc_64, txc_62, txc_116, txc_58, txc_32]; omega)) hS15.isC rfl rfl (Nat.le_of_ble_eq_true rfl) (Nat.le_of_ble_eq_true rfl) (Nat.le_of_ble_eq_true rfl) (by omega) (by omega) ?_
            rintro _ hh16 ⟨o16, rfl, ho16, hT16, hv16, hx16⟩
            have hF16 : Fr nM hh hh16 := hF15.cal0 hx16
            have et : (((([] : List Nat) ++ txl " ") ++ w) ++ txl " ") = [32] ++ w ++ [32] := by simp only [txc_32, List.nil_append]
            rw [et] at hT16
            have hWD : STR G hh16 w9 WDT := by rw [← txc_WD]; exact hGw9.str (asc_of (by decide +kernel)) (by decide +kernel)
            refine V_callV (st := [.ref (p)]) (nn := 1) F dX17_word_117 lk_X17_75 (ct_J6_contains hWD hT16 (by simp only [List.length_append, List.length_singleton]; omega) (by simp only [List.length_append, List.length_singleton]; show _ ≤ 56; omega)) hWD.isC rfl rfl (Nat.le_of_ble_eq_true rfl) (Nat.le_of_ble_eq_true rfl) (Nat.le_of_ble_eq_true rfl) (by omega) (by omega) ?_
            refine PRk ?_
            refine V_if_eqB (tgt := 127) F dX17_word_120 (by decide) (fun c_120 => ?_) (fun c_120 => ?_)
            · refine V_iconst (v := nI 0) F dX17_word_127 rfl ?_
              refine V_xcV (st := []) (nn := 1) F dX17_word_128 lk_X17_36 (ct_X17_require hl0 (hF16.get hpj id rfl)) ⟨14, _, _, _, rfl, .inl (hF16.get hpj id rfl)⟩ rfl rfl (Nat.le_of_ble_eq_true rfl) (Nat.le_of_ble_eq_true rfl) (Nat.le_of_ble_eq_true rfl) (by omega) (by omega) ?_ ?_
              · rintro _ _ ⟨rfl, rfl, hd⟩
                exact absurd rfl hd
              · exact fun E q h2 hp9 => V_xout F (HT _) (by omega) (by omega) (PF.rq (hFj.cal hF16 (fun _ z => z.elim)) hp9 (fun hz => by unfold wdP; rw [hwe]; show (if _ then _ else _) = _; rw [if_neg (fun z => by first | exact absurd z.1 (by omega) | exact c_120 z.2)]))
            · refine V_iconst (v := nI 1) F dX17_word_123 rfl ?_
              refine V_goto (tgt := 128) F dX17_word_124 (by decide) ?_
              refine V_xcV (st := []) (nn := 1) F dX17_word_128 lk_X17_36 (ct_X17_require hl0 (hF16.get hpj id rfl)) ⟨14, _, _, _, rfl, .inl (hF16.get hpj id rfl)⟩ rfl rfl (Nat.le_of_ble_eq_true rfl) (Nat.le_of_ble_eq_true rfl) (Nat.le_of_ble_eq_true rfl) (by omega) (by omega) ?_ ?_
              · rintro _ _ ⟨rfl, rfl, hd⟩
                refine V_aload_n (i := 1) F dX17_word_131 rfl rfl ?_
                refine V_callV (st := []) (nn := 0) F dX17_word_132 lk_X17_71 (ct_J5_toString (hsb.fr0 hF16) (by omega)) (hsb.fr0 hF16).isC rfl rfl (Nat.le_of_ble_eq_true rfl) (Nat.le_of_ble_eq_true rfl) (Nat.le_of_ble_eq_true rfl) (by omega) (by omega) ?_
                rintro _ hz ⟨oz, rfl, hoz, hTz, -, hxz⟩
                have hFz : Fr (m1 p) h hz := (hFj.cal0 hF16).cal0 hxz
                obtain ⟨kz, hkz, hez⟩ := wd10 (w := w) c_120 (by omega) hwl hw7
                exact VV.rx (V_aret F dX17_word_135 (Or.inl ⟨_, rfl⟩) (Or.inr ⟨_, rfl⟩) (by first | exact Nat.le_of_ble_eq_true rfl | omega) (by first | exact Nat.le_of_ble_eq_true rfl | omega) ⟨w, a, oz, kz, by unfold wdP; rw [hwe]; show (if _ then _ else _) = _; rw [if_pos ⟨by omega, c_120⟩], rfl, (hFj.cal0 hF16).none hoz, hTz, hkz, hez, hxz.get (hF16.get hpj id rfl) id rfl, haj, haw, hFz⟩)
              · exact fun E q h2 hp9 => absurd hp9.1 (by decide)
        · have hw5 : 97 ≤ curP l0 a ∧ curP l0 a ≤ 122 := ⟨by omega, by omega⟩
          have hlt := curP_lt (l := l0) (a := a) rfl (by omega)
          obtain ⟨f, rfl⟩ : ∃ m, nf = m + 1 := ⟨nf - 1, by omega⟩
          refine V_aload_n (i := 0) F dX17_word_26 rfl rfl ?_
          refine V_ldcS F dX17_word_27 q3455 ?_
          intro w17 hGw17
          refine V_new F dX17_word_29 nw_X17_54 (by omega) (by omega) ?_
          intro s2 hfs2 hbs2
          refine V_dup F dX17_word_32 rfl ?_
          refine V_callI (st := [.ref (s2), .ref (w17), .ref (p)]) (nn := 0) F dX17_word_33 lk_X17_56 (ct_J5_init (hset_self (e := .inr (21, [.null, .int 0, .int 0, .int 0])))) rfl rfl (Nat.le_of_ble_eq_true rfl) (Nat.le_of_ble_eq_true rfl) (Nat.le_of_ble_eq_true rfl) (by omega) (by omega) ?_
          rintro _ hh18 ⟨rfl, b18, hb18, hS18, hx18⟩
          have hF18 : Fr nM hh hh18 := ((Fr.rf (M := nM) (h := hh)).nw (x := .inr (21, [.null, .int 0, .int 0, .int 0])) hfs2).cal hx18 (Yo.m1 (Or.inr hfs2))
          have hB18 : hh b18 = none := ((Fr.rf (M := nM) (h := hh)).nw (x := .inr (21, [.null, .int 0, .int 0, .int 0])) hfs2).none hb18
          refine V_ldcS F dX17_word_36 q3456 ?_
          intro w19 hGw19
          refine V_callV (st := [.ref (w17), .ref (p)]) (nn := 1) F dX17_word_38 lk_X17_61 (ct_J5_append hS18 (hGw19.str (asc_of (by decide +kernel)) (by decide +kernel)) (by simp only [List.length_append, List.length_nil, List.length_cons, txc_0, txc_45, txc_43, txc_64, txc_62, txc_116, txc_58, txc_32]; omega)) hS18.isC rfl rfl (Nat.le_of_ble_eq_true rfl) (Nat.le_of_ble_eq_true rfl) (Nat.le_of_ble_eq_true rfl) (by omega) (by omega) ?_
          rintro _ hh20 ⟨rfl, b20, N20, hS20, hbb20, hx20⟩
          have hF20 : Fr nM hh hh20 := hF18.cal hx20 (Yo.m2 (Or.inr hfs2) (Or.inr hB18))
          have hB20 : hh b20 = none := hbb20.elim (fun z => z.1 ▸ hB18) hF18.none
          refine V_aload_n (i := 1) F dX17_word_41 rfl rfl ?_
          refine V_callV (st := [.ref (w17), .ref (p)]) (nn := 1) F dX17_word_42 lk_X17_65 (ct_J5_appendO hS20 (hsb.fr0 hF20) (by omega) (by simp only [List.length_append, List.length_nil, List.length_cons, txc_0, txc_45, txc_43, txc_64, txc_62, txc_116, txc_58, txc_32]; omega)) hS20.isC rfl rfl (Nat.le_of_ble_eq_true rfl) (Nat.le_of_ble_eq_true rfl) (Nat.le_of_ble_eq_true rfl) (by omega) (by omega) ?_
          rintro _ hh21 ⟨rfl, b21, N21, hS21, hbb21, hx21⟩
          have hF21 : Fr nM hh hh21 := hF20.cal hx21 (Yo.m2 (Or.inr hfs2) (Or.inr hB20))
          have hB21 : hh b21 = none := hbb21.elim (fun z => z.1 ▸ hB20) hF20.none
          refine V_aload_n (i := 0) F dX17_word_45 rfl rfl ?_
          refine V_callV (st := [.ref (s2), .ref (w17), .ref (p)]) (nn := 0) F dX17_word_46 lk_X17_32 (ct_X17_current (hF21.get hpj id rfl) (hSj.fr0 hF21) haj) ⟨14, _, _, _, rfl, .inl (hF21.get hpj id rfl)⟩ rfl rfl (Nat.le_of_ble_eq_true rfl) (Nat.le_of_ble_eq_true rfl) (Nat.le_of_ble_eq_true rfl) (by omega) (by omega) ?_
          refine PRk ?_
          refine V_callV (st := [.ref (w17), .ref (p)]) (nn := 1) F dX17_word_49 lk_X17_68 (ct_J5_appendC hS21 (by omega) (by simp only [List.length_append, List.length_nil, List.length_cons, txc_0, txc_45, txc_43, txc_64, txc_62, txc_116, txc_58, txc_32]; omega)) hS21.isC rfl rfl (Nat.le_of_ble_eq_true rfl) (Nat.le_of_ble_eq_true rfl) (Nat.le_of_ble_eq_true rfl) (by omega) (by omega) ?_
          rintro _ hh22 ⟨rfl, b22, N22, hS22, hbb22, hx22⟩
          have hF22 : Fr nM hh hh22 := hF21.cal hx22 (Yo.m2 (Or.inr hfs2) (Or.inr hB21))
          have hB22 : hh b22 = none := hbb22.elim (fun z => z.1 ▸ hB21) hF21.none
          refine V_callV (st := [.ref (w17), .ref (p)]) (nn := 0) F dX17_word_52 lk_X17_71 (ct_J5_toString hS22 (by simp only [List.length_append, List.length_nil, List.length_cons, txc_0, txc_45, txc_43, txc_64, txc_62, txc_116, txc_58, txc_32]; omega)) hS22.isC rfl rfl (Nat.le_of_ble_eq_true rfl) (Nat.le_of_ble_eq_true rfl) (Nat.le_of_ble_eq_true rfl) (by omega) (by omega) ?_
          rintro _ hh23 ⟨o23, rfl, ho23, hT23, hv23, hx23⟩
          have hF23 : Fr nM hh hh23 := hF22.cal0 hx23
          have et : (((([] : List Nat) ++ txl " ") ++ w) ++ [curP l0 a]) = [32] ++ w ++ [curP l0 a] := by simp only [txc_32, List.nil_append]
          rw [et] at hT23
          have hWD : STR G hh23 w17 WDT := by rw [← txc_WD]; exact hGw17.str (asc_of (by decide +kernel)) (by decide +kernel)
          refine V_callV (st := [.ref (p)]) (nn := 1) F dX17_word_55 lk_X17_75 (ct_J6_contains hWD hT23 (by simp only [List.length_append, List.length_singleton]; omega) (by simp only [List.length_append, List.length_singleton]; show _ ≤ 56; omega)) hWD.isC rfl rfl (Nat.le_of_ble_eq_true rfl) (Nat.le_of_ble_eq_true rfl) (Nat.le_of_ble_eq_true rfl) (by omega) (by omega) ?_
          refine PRk ?_
          refine V_xcV (st := []) (nn := 1) F dX17_word_58 lk_X17_36 (ct_X17_require hl0 (hF23.get hpj id rfl)) ⟨14, _, _, _, rfl, .inl (hF23.get hpj id rfl)⟩ rfl rfl (Nat.le_of_ble_eq_true rfl) (Nat.le_of_ble_eq_true rfl) (Nat.le_of_ble_eq_true rfl) (by omega) (by omega) ?_ ?_
          · rintro _ _ ⟨rfl, rfl, hd⟩
            have hP_58 : subB WDT ([32] ++ w ++ [curP l0 a]) = true := b2_nz hd
            refine V_aload_n (i := 1) F dX17_word_61 rfl rfl ?_
            refine V_aload_n (i := 0) F dX17_word_62 rfl rfl ?_
            refine V_callV (st := [.ref (s1)]) (nn := 0) F dX17_word_63 lk_X17_32 (ct_X17_current (hF23.get hpj id rfl) (hSj.fr0 hF23) haj) ⟨14, _, _, _, rfl, .inl (hF23.get hpj id rfl)⟩ rfl rfl (Nat.le_of_ble_eq_true rfl) (Nat.le_of_ble_eq_true rfl) (Nat.le_of_ble_eq_true rfl) (by omega) (by omega) ?_
            refine PRk ?_
            refine V_callV (st := []) (nn := 1) F dX17_word_66 lk_X17_68 (ct_J5_appendC (hsb.fr0 hF23) (by omega) (by omega)) (hsb.fr0 hF23).isC rfl rfl (Nat.le_of_ble_eq_true rfl) (Nat.le_of_ble_eq_true rfl) (Nat.le_of_ble_eq_true rfl) (by omega) (by omega) ?_
            rintro _ hh24 ⟨rfl, b24, N24, hS24, hbb24, hx24⟩
            have hL24 : Fr nM hh _ := hF23
            have hbn24 : h b24 = none := hbb24.elim (fun z => z.1 ▸ hbj) (fun z => hFj.none (hL24.none z))
            have hp24 := hx24.get (hL24.get hpj id rfl) ((hsb.fr0 hL24).off (c := 14) (by decide) |>.o (hL24.get hpj id rfl)) rfl
            have hG24 : Fr (m1 p) h hh24 := (hFj.cal0 hL24).cal hx24 (Yo.m2 (Or.inr hs1) (Or.inr hbj))
            refine V_pop F dX17_word_69 rfl ?_
            refine V_aload_n (i := 0) F dX17_word_70 rfl rfl ?_
            refine V_dup F dX17_word_71 rfl ?_
            refine V_getf F dX17_word_72 fc_X17_13_X17 (.inl hp24) rfl ?_
            refine V_iconst (v := nI 1) F dX17_word_75 rfl ?_
            refine V_iaddN F dX17_word_76 ?_
            refine V_putf F dX17_word_77 fp_X17_13_X17 hp24 rfl rfl (Nat.le_of_ble_eq_true rfl) ?_
            refine VV.heap (h' := (hset hh24 (p) (.inr (14, [.ref (tx), .int (nI (a + 1))])))) rfl ?_
            refine V_goto (tgt := 8) F dX17_word_80 (by decide) ?_
            have qp : (hset hh24 (p) (.inr (14, [.ref (tx), .int (nI (a + 1))]))) p = some (.inr (14, [.ref (tx), .int (nI (a + 1))])) := (hset_self (e := .inr (14, [.ref (tx), .int (nI (a + 1))])))
            have qf := (hG24.put (x := .inr (14, [.ref (tx), .int (nI (a + 1))])) hp24 rfl rfl (Or.inl rfl))
            have k9 : Fr (m1 p) hh24 ((hset hh24 (p) (.inr (14, [.ref (tx), .int (nI (a + 1))])))) := Fr.rf.put (x := .inr (14, [.ref (tx), .int (nI (a + 1))])) hp24 rfl rfl (Or.inl rfl)
            have hS9 : STR G ((hset hh24 (p) (.inr (14, [.ref (tx), .int (nI (a + 1))])))) tx l0 := hS.fr qf (offK.m1 hp (kO_ne (by decide))) (fun v n c q _ e => ne_ao q hp e)
            have hb9 : SBs G ((hset hh24 (p) (.inr (14, [.ref (tx), .int (nI (a + 1))])))) s1 b24 N24 (w ++ [curP l0 a]) := hS24.fr k9 (fun e => by obtain ⟨ml, c, z1, -⟩ := hS24; exact ne_oo z1 hp24 (by decide) e) (fun e => by obtain ⟨ml, c, z1, z2, -⟩ := hS24; exact ne_ao z2 hp24 e)
            have hw9 := w7 (w := w ++ [curP l0 a]) (by rw [← List.append_assoc]; exact hP_58) (hwl.snoc hw5)
            rw [List.length_append, List.length_singleton] at hw9
            refine VV.wide (by rw [List.length_append, List.length_singleton]; omega) (by rw [List.length_append, List.length_singleton]; omega) (ih_8 f (a + 1) (w ++ [curP l0 a]) _ _ _ (by omega) (by omega) (by omega) qp hS9 (by omega) qf hb9 hbn24 (hwl.snoc hw5) (by rw [List.length_append, List.length_singleton]; omega) (by rw [List.length_append, List.length_singleton]; omega) (by rw [heq]; show (if _ then _ else _) = _; rw [if_pos hw5, if_pos hP_58]))
          · exact fun E q h2 hp9 => V_xout F (HT _) (by omega) (by omega) (PF.rq (hFj.cal hF23 (fun _ z => z.elim)) hp9 (fun hz => by unfold wdP; rw [heq]; show (match wdL l0 (f + 1) w a with | .inl e => Sum.inl e | .inr (w, a1) => _) = _; rw [show wdL l0 (f + 1) w a = .inl a by show (if _ then _ else _) = _; rw [if_pos hw5, if_neg (b2_z hz)]]))
  refine VV.weak (L' := [some (.ref (p)), some (.ref (s1))]) (LW.c1 (LW.c1 LW.nil)) ?_
  exact VV.wide (by simp) (by simp) (loop_8 (l0.length + 2) (l0.length + 1) a0 [] _ _ _ (by omega) (by omega) (by omega) (hF1.get hp id rfl) (hS.fr0 hF1) ha (hF1.mono (fun _ z => z.elim)) hS1 hB1 (fun c hc => by cases hc) (by decide) (by simp) rfl)
