/-- a TreeSet at s over the map t: the keys alone tell -/
def TSp (G : GG) (h : AH) (s t mc n : Nat) (A K : Nat → Nat) : Prop := h s = some (.inr (32, [.ref t])) ∧ TMp h t mc n A K (fun _ => ad G 2)
theorem TSp.cell {G : GG} {h : AH} {s t mc n : Nat} {A K : Nat → Nat} (hS : TSp G h s t mc n A K) : ∃ f, h t = some (.inr (23, f)) := by
  obtain ⟨-, -, rt, L, R, P, C, lo, hi, ⟨x0, x1, x6, x7, x8, ht, -⟩, -⟩ := hS
  exact ⟨_, ht⟩
theorem TSp.notM {G : GG} {h : AH} {s t mc n : Nat} {A K : Nat → Nat} (hS : TSp G h s t mc n A K) : ¬ mT t n A s := by
  obtain ⟨hs, -, rt, L, R, P, C, lo, hi, ⟨x0, x1, x6, x7, x8, ht, -⟩, hT, -⟩ := hS
  rintro (q | ⟨i, hi, q⟩)
  · rw [q, ht] at hs; cases hs
  · rw [q, hT i hi] at hs; cases hs

theorem lkng_put : LkG "java/util/TreeSet" 69 "java/util/TreeMap" "java/util/Map" ⟨"java/util/NavigableMap", "put", "(Ljava/lang/Object;Ljava/lang/Object;)Ljava/lang/Object;"⟩ yJ10_put cJ10_put 3 (some (.object "java/lang/Object")) 2 := ⟨lw_G q2098 q2100 q114 q2102, ⟨⟨(by decide +kernel), q2097, List.mem_append_right _ (by decide +kernel)⟩, q2096, q2101, q2099, q1771⟩, (by unfold vg_pl; decide +kernel)⟩
theorem lkng_rem : LkG "java/util/TreeSet" 73 "java/util/TreeMap" "java/util/Map" ⟨"java/util/NavigableMap", "remove", "(Ljava/lang/Object;)Ljava/lang/Object;"⟩ yJ10_remove cJ10_remove 4 (some (.object "java/lang/Object")) 1 := ⟨lw_G q2192 q2194 q114 q2196, ⟨⟨(by decide +kernel), q2191, List.mem_append_right _ (by decide +kernel)⟩, q2190, q2195, q2193, q1771⟩, (by unfold vg_pl; decide +kernel)⟩
theorem lkng_fir : LkG "java/util/TreeSet" 118 "java/util/TreeMap" "java/util/SortedMap" ⟨"java/util/NavigableMap", "firstKey", "()Ljava/lang/Object;"⟩ yJ10_firstKey cJ10_firstKey 1 (some (.object "java/lang/Object")) 0 := ⟨lw_G q2221 q2223 q114 q2225, ⟨⟨(by decide +kernel), q2220, List.mem_append_right _ (by decide +kernel)⟩, q2219, q2224, q2222, q1771⟩, (by unfold vg_pl; decide +kernel)⟩
theorem ct_TS_init2 {G : GG} {l : Launch} {h : AH} {s t : Nat} (hs : h s = some (.inr (32, [.null]))) : Ct G l yJ47_init_2 cJ47_init_2 2 none 3 (0) (0) [.ref s, .ref t] h (fun r h2 => r = none ∧ h2 s = some (.inr (32, [.ref t])) ∧ Fr (m1 s) h h2) := by
  refine Ct.of (by decide) (Nat.le_of_ble_eq_true rfl) (cat1 rfl) (fun X hXl F HN => ?_)
  subst hXl
  refine V_aload_n (i := 0) F dJ47_init_2_0 rfl rfl ?_
  refine V_callI (st := []) F dJ47_init_2_1 lk_J47_1 (ct_J34_init) rfl rfl (Nat.le_of_ble_eq_true rfl) (Nat.le_of_ble_eq_true rfl) (Nat.le_of_ble_eq_true rfl) (by first | exact Nat.le_of_ble_eq_true rfl | omega) (by first | exact Nat.le_of_ble_eq_true rfl | omega) ?_
  refine PVk ?_
  refine V_aload_n (i := 0) F dJ47_init_2_4 rfl rfl ?_
  refine V_aload_n (i := 1) F dJ47_init_2_5 rfl rfl ?_
  refine V_putf F dJ47_init_2_6 fp_J47_7_J47 hs rfl rfl (Nat.le_of_ble_eq_true rfl) ?_
  refine VV.heap (h' := (hset h (s) (.inr (32, [.ref (t)])))) rfl ?_
  exact V_vret F dJ47_init_2_9 (by first | exact Nat.le_of_ble_eq_true rfl | omega) (by first | exact Nat.le_of_ble_eq_true rfl | omega) ⟨rfl, (hset_self (e := .inr (32, [.ref (t)]))), ((Fr.rf (M := m1 s) (h := h)).put (x := .inr (32, [.ref (t)])) hs rfl rfl (Or.inl rfl))⟩
theorem TMp.notS {h : AH} {s t mc n : Nat} {A K V : Nat → Nat} {f : List Value} (hM : TMp h t mc n A K V) (hs : h s = some (.inr (32, f))) (z : t = s) : False := by
  obtain ⟨-, rt, L, R, P, C, lo, hi, ⟨x0, x1, x6, x7, x8, ht, -⟩, -⟩ := hM
  rw [z, hs] at ht; cases ht
theorem ct_TS_init {G : GG} {l : Launch} {h : AH} {s : Nat} (K : Nat → Nat) (hs : h s = some (.inr (32, [.null]))) : Ct G l yJ47_init cJ47_init 1 none 4 (1) (9) [.ref s] h (fun r h2 => r = none ∧ ∃ t, h t = none ∧ ∃ A, TSp G h2 s t 0 0 A K ∧ Fr (m1 s) h h2) := by
  refine Ct.of (by decide) (Nat.le_of_ble_eq_true rfl) (cat1 rfl) (fun X hXl F HN => ?_)
  subst hXl
  refine V_aload_n (i := 0) F dJ47_init_0 rfl rfl ?_
  refine V_new F dJ47_init_1 nw_J47_13 (by first | exact Nat.le_of_ble_eq_true rfl | omega) (by first | exact Nat.le_of_ble_eq_true rfl | omega) ?_
  intro t hft hbt
  refine V_dup F dJ47_init_4 rfl ?_
  refine V_callI (st := [.ref (t), .ref (s)]) F dJ47_init_5 lk_J47_15 (ct_TM_init (fun _ => 0) K (fun _ => ad G 2) (hset_self (e := .inr (23, [.null, .null, .null, .null, .int 0, .int 0, .null, .null, .null])))) rfl rfl (Nat.le_of_ble_eq_true rfl) (Nat.le_of_ble_eq_true rfl) (Nat.le_of_ble_eq_true rfl) (by first | exact Nat.le_of_ble_eq_true rfl | omega) (by first | exact Nat.le_of_ble_eq_true rfl | omega) ?_
  rintro _ h2 ⟨rfl, hM2, hx2⟩
  have p1 := hx2.get ((hset_ne (ne_nw hs hft)).trans hs) (ne_nw hs hft) rfl
  have f2 : Fr (m1 s) h h2 := ((Fr.rf (M := m1 s) (h := h)).nw (x := .inr (23, [.null, .null, .null, .null, .int 0, .int 0, .null, .null, .null])) hft).cal hx2 (Yo.m1 ((Fr.rf (M := m1 s) (h := h)).yo hft))
  refine V_callI (st := []) F dJ47_init_8 lk_J47_16 (ct_TS_init2 (t := t) p1) rfl rfl (Nat.le_of_ble_eq_true rfl) (Nat.le_of_ble_eq_true rfl) (Nat.le_of_ble_eq_true rfl) (by first | exact Nat.le_of_ble_eq_true rfl | omega) (by first | exact Nat.le_of_ble_eq_true rfl | omega) ?_
  rintro _ h3 ⟨rfl, hs3, hx3⟩
  have hfz : Fr (m1 s) h h3 := f2.cal hx3 (fun _ q => Or.inl q)
  exact V_vret F dJ47_init_11 (by first | exact Nat.le_of_ble_eq_true rfl | omega) (by first | exact Nat.le_of_ble_eq_true rfl | omega) ⟨rfl, t, hft, fun _ => 0, ⟨hs3, hM2.fr hx3 (fun z => hM2.notS p1 z) (fun i hi => absurd hi (by omega))⟩, hfz⟩
theorem insF_const {pos v : Nat} (i : Nat) : insF (fun _ => v) pos v i = v := by unfold insF; split <;> rfl
theorem ct_TS_add {G : GG} {l : Launch} {h : AH} {t mc n : Nat} {A K : Nat → Nat} {s : Nat} {k pos mL dC : Nat} {fd : Bool} {D : String} {y : MethodName} {cc : ByteArray}  (hS : TSp G h s t mc n A K) (hcm : CMP G l h k n pos fd K D y cc mL dC) (hfd0 : fd = false) (hkk : CKK G l h k D y cc mL dC) : Ct G l yJ47_add cJ47_add 2 (some .boolean) 9 (1) (6) [.ref s, .ref k] h (fun r h2 => r = some (.int (nI 1)) ∧ ∃ A2, TSp G h2 s t (mc + 1) (n + 1) A2 (insF K pos k) ∧ NF h n (n + 1) A A2 ∧ Fr (mT t n A) h h2) := by
  refine Ct.of (by decide) (Nat.le_of_ble_eq_true rfl) (cat1 rfl) (fun X hXl F HN => ?_)
  subst hXl
  obtain ⟨f, ht⟩ := hS.cell
  refine V_aload_n (i := 0) F dJ47_add_0 rfl rfl ?_
  refine V_getf F dJ47_add_1 fc_J47_7_J47 (.inl hS.1) rfl ?_
  refine V_aload_n (i := 1) F dJ47_add_4 rfl rfl ?_
  refine V_gets F dJ47_add_5 (List.mem_of_getElem? (i := 5) rfl) q2093 ?_
  refine V_callG (st := []) F dJ47_add_8 lkng_put (ct_TM_add (v := ad G 2) hS.2 hcm hfd0 hkk) ⟨23, _, _, _, rfl, (.inl ht)⟩ rfl rfl (Nat.le_of_ble_eq_true rfl) (Nat.le_of_ble_eq_true rfl) (Nat.le_of_ble_eq_true rfl) (by first | exact Nat.le_of_ble_eq_true rfl | omega) (by first | exact Nat.le_of_ble_eq_true rfl | omega) ?_
  rintro _ h2 ⟨rfl, A2, hM2, hN2, hx2⟩
  refine VV.stk (st' := [.null]) rfl ?_
  refine V_ifnonnullN F dJ47_add_13 ?_
  refine V_iconst (v := nI 1) F dJ47_add_16 rfl ?_
  refine V_goto (tgt := 21) F dJ47_add_17 (by decide) ?_
  exact V_iret F dJ47_add_21 rfl (by first | exact Nat.le_of_ble_eq_true rfl | omega) (by first | exact Nat.le_of_ble_eq_true rfl | omega) ⟨rfl, A2, ⟨hx2.get hS.1 hS.notM rfl, hM2.ext (fun _ _ => rfl) (fun i hi => (insF_const i).symm)⟩, hN2, hx2⟩
theorem ct_TS_remove {G : GG} {l : Launch} {h : AH} {t mc n : Nat} {A K : Nat → Nat} {s : Nat} {k pos mL dC : Nat} {fd : Bool} {D : String} {y : MethodName} {cc : ByteArray}  (hS : TSp G h s t mc n A K) (hcm : CMP G l h k n pos fd K D y cc mL dC) (hfd0 : fd = true) : Ct G l yJ47_remove cJ47_remove 2 (some .boolean) 8 (0) (0) [.ref s, .ref k] h (fun r h2 => r = some (.int (nI 1)) ∧ ∃ A2, TSp G h2 s t (mc + 1) (n - 1) A2 (fun j => K (sk pos j)) ∧ NS n (n - 1) A A2 ∧ Fr (mT t n A) h h2) := by
  refine Ct.of (by decide) (Nat.le_of_ble_eq_true rfl) (cat1 rfl) (fun X hXl F HN => ?_)
  subst hXl
  obtain ⟨f, ht⟩ := hS.cell
  refine V_aload_n (i := 0) F dJ47_remove_0 rfl rfl ?_
  refine V_getf F dJ47_remove_1 fc_J47_7_J47 (.inl hS.1) rfl ?_
  refine V_aload_n (i := 1) F dJ47_remove_4 rfl rfl ?_
  refine V_callG (st := []) F dJ47_remove_5 lkng_rem (ct_TM_remove hS.2 hcm hfd0) ⟨23, _, _, _, rfl, (.inl ht)⟩ rfl rfl (Nat.le_of_ble_eq_true rfl) (Nat.le_of_ble_eq_true rfl) (Nat.le_of_ble_eq_true rfl) (by first | exact Nat.le_of_ble_eq_true rfl | omega) (by first | exact Nat.le_of_ble_eq_true rfl | omega) ?_
  rintro _ h2 ⟨rfl, A2, hM2, hN2, hx2⟩
  refine VV.stk (st' := [.ref (ad G 2)]) rfl ?_
  refine V_gets F dJ47_remove_10 (List.mem_of_getElem? (i := 5) rfl) q2093 ?_
  refine V_acmp_ne (rx := some (ad G 2)) (ry := some (ad G 2)) (tgt := 20) F dJ47_remove_13 (by decide) (fun c_13 => absurd rfl c_13) (fun c_13 => ?_)
  refine V_iconst (v := nI 1) F dJ47_remove_16 rfl ?_
  refine V_goto (tgt := 21) F dJ47_remove_17 (by decide) ?_
  exact V_iret F dJ47_remove_21 rfl (by first | exact Nat.le_of_ble_eq_true rfl | omega) (by first | exact Nat.le_of_ble_eq_true rfl | omega) ⟨rfl, A2, ⟨hx2.get hS.1 hS.notM rfl, hM2⟩, hN2, hx2⟩
theorem ct_TS_removeN {G : GG} {l : Launch} {h : AH} {t mc n : Nat} {A K : Nat → Nat} {s : Nat} {k pos mL dC : Nat} {fd : Bool} {D : String} {y : MethodName} {cc : ByteArray}  (hS : TSp G h s t mc n A K) (hcm : CMP G l h k n pos fd K D y cc mL dC) (hfd0 : fd = false) : Ct G l yJ47_remove cJ47_remove 2 (some .boolean) 8 (0) (0) [.ref s, .ref k] h (PR (.int (nI 0)) h) := by
  refine Ct.of (by decide) (Nat.le_of_ble_eq_true rfl) (cat1 rfl) (fun X hXl F HN => ?_)
  subst hXl
  obtain ⟨f, ht⟩ := hS.cell
  refine V_aload_n (i := 0) F dJ47_remove_0 rfl rfl ?_
  refine V_getf F dJ47_remove_1 fc_J47_7_J47 (.inl hS.1) rfl ?_
  refine V_aload_n (i := 1) F dJ47_remove_4 rfl rfl ?_
  refine V_callG (st := []) F dJ47_remove_5 lkng_rem (ct_TM_removeN hS.2 hcm hfd0) ⟨23, _, _, _, rfl, (.inl ht)⟩ rfl rfl (Nat.le_of_ble_eq_true rfl) (Nat.le_of_ble_eq_true rfl) (Nat.le_of_ble_eq_true rfl) (by first | exact Nat.le_of_ble_eq_true rfl | omega) (by first | exact Nat.le_of_ble_eq_true rfl | omega) ?_
  refine PRk ?_
  refine V_gets F dJ47_remove_10 (List.mem_of_getElem? (i := 5) rfl) q2093 ?_
  refine V_acmp_ne (rx := none) (ry := some (ad G 2)) (tgt := 20) F dJ47_remove_13 (by decide) (fun c_13 => ?_) (fun c_13 => nomatch c_13)
  refine V_iconst (v := nI 0) F dJ47_remove_20 rfl ?_
  exact V_iret F dJ47_remove_21 rfl (by first | exact Nat.le_of_ble_eq_true rfl | omega) (by first | exact Nat.le_of_ble_eq_true rfl | omega) ⟨rfl, rfl⟩
theorem ct_TS_first {G : GG} {l : Launch} {h : AH} {t mc n : Nat} {A K : Nat → Nat} {s : Nat}  (hS : TSp G h s t mc n A K) (hn0 : 0 < n) : Ct G l yJ47_first cJ47_first 1 (some (.object "java/lang/Object")) 2 (0) (0) [.ref s] h (PR (.ref (K 0)) h) := by
  refine Ct.of (by decide) (Nat.le_of_ble_eq_true rfl) (cat1 rfl) (fun X hXl F HN => ?_)
  subst hXl
  obtain ⟨f, ht⟩ := hS.cell
  refine V_aload_n (i := 0) F dJ47_first_0 rfl rfl ?_
  refine V_getf F dJ47_first_1 fc_J47_7_J47 (.inl hS.1) rfl ?_
  refine V_callG (st := []) F dJ47_first_4 lkng_fir (ct_TM_firstKey hS.2 hn0) ⟨23, _, _, _, rfl, (.inl ht)⟩ rfl rfl (Nat.le_of_ble_eq_true rfl) (Nat.le_of_ble_eq_true rfl) (Nat.le_of_ble_eq_true rfl) (by first | exact Nat.le_of_ble_eq_true rfl | omega) (by first | exact Nat.le_of_ble_eq_true rfl | omega) ?_
  refine PRk ?_
  exact V_aret F dJ47_first_9 (Or.inl ⟨_, rfl⟩) (Or.inr ⟨_, rfl⟩) (by first | exact Nat.le_of_ble_eq_true rfl | omega) (by first | exact Nat.le_of_ble_eq_true rfl | omega) ⟨rfl, rfl⟩
