theorem nx_succ {n i : Nat} (h : i < n) : nx n i = some i := if_pos h
theorem nx_none {n i : Nat} (h : ¬ i < n) : nx n i = none := if_neg h
section VIEW
variable {h : AH} {o t : Nat} {x0 x1 x2 x3 x4 x5 x6 x7 x8 : Value} {e0 : va_E}
theorem Fr.vals (ho : h o = Option.none) (ht : h t = some (.inr (23, [x0, x1, x2, x3, x4, x5, x6, x7, x8]))) : Fr nM h (hset (hset (hset h o (.inr (25, [.null]))) o (.inr (25, [.ref t]))) t (.inr (23, [x0, .ref o, x2, x3, x4, x5, x6, x7, x8]))) := by
  have hot : t ≠ o := fun z => by rw [z, ho] at ht; cases ht
  have h1 : Fr nM h (hset (hset h o (.inr (25, [.null]))) o (.inr (25, [.ref t]))) := (Fr.rf.nw (x := .inr (25, [.null])) ho).putF (e0 := .inr (25, [.null])) hset_self rfl (fun b => ⟨(fun z => by cases z), (fun z => by cases z)⟩) ho
  have h2 : (hset (hset h o (.inr (25, [.null]))) o (.inr (25, [.ref t]))) t = some (.inr (23, [x0, x1, x2, x3, x4, x5, x6, x7, x8])) := (hset_ne hot).trans ((hset_ne hot).trans ht)
  refine h1.tmput h2 rfl (fun k k1 k7 => ?_) (Or.inr ⟨o, rfl, hset_self⟩) (Or.inl rfl)
  match k with
  | 0 => rfl
  | 1 => exact absurd rfl k1
  | (k + 2) => rfl
theorem Fr.keys (ho : h o = Option.none) (ht : h t = some (.inr (23, [x0, x1, x2, x3, x4, x5, x6, x7, x8]))) : Fr nM h (hset (hset (hset h o (.inr (30, [.null]))) o (.inr (30, [.ref t]))) t (.inr (23, [x0, x1, x2, x3, x4, x5, x6, .ref o, x8]))) := by
  have hot : t ≠ o := fun z => by rw [z, ho] at ht; cases ht
  have h1 : Fr nM h (hset (hset h o (.inr (30, [.null]))) o (.inr (30, [.ref t]))) := (Fr.rf.nw (x := .inr (30, [.null])) ho).putF (e0 := .inr (30, [.null])) hset_self rfl (fun b => ⟨(fun z => by cases z), (fun z => by cases z)⟩) ho
  have h2 : (hset (hset h o (.inr (30, [.null]))) o (.inr (30, [.ref t]))) t = some (.inr (23, [x0, x1, x2, x3, x4, x5, x6, x7, x8])) := (hset_ne hot).trans ((hset_ne hot).trans ht)
  refine h1.tmput h2 rfl (fun k k1 k7 => ?_) (Or.inl rfl) (Or.inr ⟨o, rfl, hset_self⟩)
  match k with
  | 0 => rfl
  | 1 => rfl
  | 2 => rfl
  | 3 => rfl
  | 4 => rfl
  | 5 => rfl
  | 6 => rfl
  | 7 => exact absurd rfl k7
  | (k + 8) => rfl
end VIEW

theorem ct_J34_init {G : GG} {l : Launch} {h : AH} {a : Nat}  : Ct G l yJ34_init cJ34_init 1 none 2 (0) (0) [.ref a] h (PV h) := by
  refine Ct.of (by decide) (Nat.le_of_ble_eq_true rfl) (cat1 rfl) (fun X hXl F HN => ?_)
  subst hXl
  refine V_aload_n (i := 0) F dJ34_init_0 rfl rfl ?_
  refine V_callI (st := []) F dJ34_init_1 lk_J34_1 (ct_J0_init) rfl rfl (Nat.le_of_ble_eq_true rfl) (Nat.le_of_ble_eq_true rfl) (Nat.le_of_ble_eq_true rfl) (by first | exact Nat.le_of_ble_eq_true rfl | omega) (by first | exact Nat.le_of_ble_eq_true rfl | omega) ?_
  refine PVk ?_
  exact V_vret F dJ34_init_4 (by first | exact Nat.le_of_ble_eq_true rfl | omega) (by first | exact Nat.le_of_ble_eq_true rfl | omega) ⟨rfl, rfl⟩
theorem ct_Values_init {G : GG} {l : Launch} {h : AH} {v t : Nat} (hv : h v = some (.inr (25, [.null]))) : Ct G l yJ25_init cJ25_init 2 none 2 (0) (0) [.ref v, .ref t] h (fun r h2 => r = none ∧ h2 = hset h v (.inr (25, [.ref t]))) := by
  refine Ct.of (by decide) (Nat.le_of_ble_eq_true rfl) (cat1 rfl) (fun X hXl F HN => ?_)
  subst hXl
  refine V_aload_n (i := 0) F dJ25_init_0 rfl rfl ?_
  refine V_aload_n (i := 1) F dJ25_init_1 rfl rfl ?_
  refine V_putF F dJ25_init_2 ff_J25_1_J25 hv HN rfl rfl (Nat.le_of_ble_eq_true rfl) ?_
  refine VV.heap (h' := (hset h (v) (.inr (25, [.ref (t)])))) rfl ?_
  refine V_aload_n (i := 0) F dJ25_init_5 rfl rfl ?_
  refine V_callI (st := []) F dJ25_init_6 lk_J25_7 (ct_J0_init) rfl rfl (Nat.le_of_ble_eq_true rfl) (Nat.le_of_ble_eq_true rfl) (Nat.le_of_ble_eq_true rfl) (by first | exact Nat.le_of_ble_eq_true rfl | omega) (by first | exact Nat.le_of_ble_eq_true rfl | omega) ?_
  refine PVk ?_
  exact V_vret F dJ25_init_9 (by first | exact Nat.le_of_ble_eq_true rfl | omega) (by first | exact Nat.le_of_ble_eq_true rfl | omega) ⟨rfl, rfl⟩
theorem ct_KeySet_init {G : GG} {l : Launch} {h : AH} {v t : Nat} (hv : h v = some (.inr (30, [.null]))) : Ct G l yJ35_init cJ35_init 2 none 3 (0) (0) [.ref v, .ref t] h (fun r h2 => r = none ∧ h2 = hset h v (.inr (30, [.ref t]))) := by
  refine Ct.of (by decide) (Nat.le_of_ble_eq_true rfl) (cat1 rfl) (fun X hXl F HN => ?_)
  subst hXl
  refine V_aload_n (i := 0) F dJ35_init_0 rfl rfl ?_
  refine V_callI (st := []) F dJ35_init_1 lk_J35_1 (ct_J34_init) rfl rfl (Nat.le_of_ble_eq_true rfl) (Nat.le_of_ble_eq_true rfl) (Nat.le_of_ble_eq_true rfl) (by first | exact Nat.le_of_ble_eq_true rfl | omega) (by first | exact Nat.le_of_ble_eq_true rfl | omega) ?_
  refine PVk ?_
  refine V_aload_n (i := 0) F dJ35_init_4 rfl rfl ?_
  refine V_aload_n (i := 1) F dJ35_init_5 rfl rfl ?_
  refine V_putF F dJ35_init_6 ff_J35_7_J35 hv HN rfl rfl (Nat.le_of_ble_eq_true rfl) ?_
  refine VV.heap (h' := (hset h (v) (.inr (30, [.ref (t)])))) rfl ?_
  exact V_vret F dJ35_init_9 (by first | exact Nat.le_of_ble_eq_true rfl | omega) (by first | exact Nat.le_of_ble_eq_true rfl | omega) ⟨rfl, rfl⟩
theorem ct_TM_values {G : GG} {l : Launch} {h : AH} {t mc n : Nat} {A K V : Nat → Nat}  (hM : TMp h t mc n A K V) : Ct G l yJ10_values cJ10_values 2 (some (.object "java/util/Collection")) 3 (1) (1) [.ref t] h (fun r h2 => ∃ v, r = some (.ref v) ∧ h2 v = some (.inr (25, [.ref t])) ∧ TMp h2 t mc n A K V ∧ Fr nM h h2) := by
  refine Ct.of (by decide) (Nat.le_of_ble_eq_true rfl) (cat1 rfl) (fun X hXl F HN => ?_)
  subst hXl
  have hM0 := hM
  obtain ⟨hAI, rt, L, R, P, C, lo, hi, hC, hT, hw⟩ := hM0
  obtain ⟨x0, x1, x6, x7, x8, ht, hv1, hv7⟩ := id hC
  rcases id hv1 with hx | ⟨v, hx, hv⟩
  · refine V_aload_n (i := 0) F dJ10_values_0 rfl rfl ?_
    refine V_getf F dJ10_values_1 fc_J10_233_J10 (.inl ht) (by rw [hx]; rfl) ?_
    refine V_astore_nN (i := 1) F dJ10_values_4 rfl (Nat.le_of_ble_eq_true rfl) (Nat.le_of_ble_eq_true rfl) ?_
    refine V_aload_nN (i := 1) F dJ10_values_5 rfl rfl ?_
    refine V_ifnonnullN F dJ10_values_6 ?_
    refine V_new F dJ10_values_9 nw_J10_237 (by first | exact Nat.le_of_ble_eq_true rfl | omega) (by first | exact Nat.le_of_ble_eq_true rfl | omega) ?_
    intro o1 hfo1 hbo1
    refine V_dup F dJ10_values_12 rfl ?_
    refine V_aload_n (i := 0) F dJ10_values_13 rfl rfl ?_
    refine V_callI (st := [.ref (o1)]) F dJ10_values_14 lk_J10_239 (ct_Values_init (hset_self (e := .inr (25, [.null])))) rfl rfl (Nat.le_of_ble_eq_true rfl) (Nat.le_of_ble_eq_true rfl) (Nat.le_of_ble_eq_true rfl) (by first | exact Nat.le_of_ble_eq_true rfl | omega) (by first | exact Nat.le_of_ble_eq_true rfl | omega) ?_
    rintro _ _ ⟨rfl, rfl⟩
    refine V_astore_n (i := 1) F dJ10_values_17 rfl (Nat.le_of_ble_eq_true rfl) (Nat.le_of_ble_eq_true rfl) ?_
    refine V_aload_n (i := 0) F dJ10_values_18 rfl rfl ?_
    refine V_aload_n (i := 1) F dJ10_values_19 rfl rfl ?_
    refine V_putf F dJ10_values_20 fp_J10_233_J10 ((hset_ne (ne_nw ht hfo1)).trans ((hset_ne (ne_nw ht hfo1)).trans ht)) rfl rfl (Nat.le_of_ble_eq_true rfl) ?_
    refine VV.heap (h' := (hset (hset (hset h o1 (.inr (25, [.null]))) o1 (.inr (25, [.ref t]))) (t) (.inr (23, [x0, .ref (o1), .null, va_rf ((rt).map A), .int (nI (n)), .int (nI (mc)), x6, x7, x8])))) rfl ?_
    refine V_aload_n (i := 1) F dJ10_values_23 rfl rfl ?_
    have hfz := Fr.vals hfo1 ht
    have hot : o1 ≠ t := fun z => by rw [← z, hfo1] at ht; cases ht
    have hzo : (hset (hset (hset h o1 (.inr (25, [.null]))) o1 (.inr (25, [.ref t]))) (t) (.inr (23, [x0, .ref (o1), .null, va_rf ((rt).map A), .int (nI (n)), .int (nI (mc)), x6, x7, x8]))) o1 = some (.inr (25, [.ref t])) := (hset_ne hot).trans hset_self
    exact V_aret F dJ10_values_24 (Or.inl ⟨_, rfl⟩) (Or.inr ⟨_, rfl⟩) (by first | exact Nat.le_of_ble_eq_true rfl | omega) (by first | exact Nat.le_of_ble_eq_true rfl | omega) ⟨o1, rfl, hzo, ⟨hAI, rt, L, R, P, C, lo, hi, ⟨x0, .ref o1, x6, x7, x8, hset_self, Or.inr ⟨o1, rfl, hzo⟩, vw_fr hv7 hfz rfl⟩, hT.fr hfz (fun i hi => id), hw⟩, hfz⟩
  · refine V_aload_n (i := 0) F dJ10_values_0 rfl rfl ?_
    refine V_getf F dJ10_values_1 fc_J10_233_J10 (.inl ht) (by rw [hx]; rfl) ?_
    refine V_astore_n (i := 1) F dJ10_values_4 rfl (Nat.le_of_ble_eq_true rfl) (Nat.le_of_ble_eq_true rfl) ?_
    refine V_aload_n (i := 1) F dJ10_values_5 rfl rfl ?_
    refine V_ifnonnull (tgt := 23) F dJ10_values_6 (by decide) ?_
    refine V_aload_n (i := 1) F dJ10_values_23 rfl rfl ?_
    exact V_aret F dJ10_values_24 (Or.inl ⟨_, rfl⟩) (Or.inr ⟨_, rfl⟩) (by first | exact Nat.le_of_ble_eq_true rfl | omega) (by first | exact Nat.le_of_ble_eq_true rfl | omega) ⟨v, rfl, hv, hM, Fr.rf⟩
theorem ct_TM_keys {G : GG} {l : Launch} {h : AH} {t mc n : Nat} {A K V : Nat → Nat}  (hM : TMp h t mc n A K V) : Ct G l yJ10_navigableKeySet cJ10_navigableKeySet 2 (some (.object "java/util/NavigableSet")) 4 (1) (1) [.ref t] h (fun r h2 => ∃ v, r = some (.ref v) ∧ h2 v = some (.inr (30, [.ref t])) ∧ TMp h2 t mc n A K V ∧ Fr nM h h2) := by
  refine Ct.of (by decide) (Nat.le_of_ble_eq_true rfl) (cat1 rfl) (fun X hXl F HN => ?_)
  subst hXl
  have hM0 := hM
  obtain ⟨hAI, rt, L, R, P, C, lo, hi, hC, hT, hw⟩ := hM0
  obtain ⟨x0, x1, x6, x7, x8, ht, hv1, hv7⟩ := id hC
  rcases id hv7 with hx | ⟨v, hx, hv⟩
  · refine V_aload_n (i := 0) F dJ10_navigableKeySet_0 rfl rfl ?_
    refine V_getf F dJ10_navigableKeySet_1 fc_J10_191_J10 (.inl ht) (by rw [hx]; rfl) ?_
    refine V_astore_nN (i := 1) F dJ10_navigableKeySet_4 rfl (Nat.le_of_ble_eq_true rfl) (Nat.le_of_ble_eq_true rfl) ?_
    refine V_aload_nN (i := 1) F dJ10_navigableKeySet_5 rfl rfl ?_
    refine V_ifnullN (tgt := 13) F dJ10_navigableKeySet_6 (by decide) ?_
    refine V_aload_n (i := 0) F dJ10_navigableKeySet_13 rfl rfl ?_
    refine V_new F dJ10_navigableKeySet_14 nw_J10_222 (by first | exact Nat.le_of_ble_eq_true rfl | omega) (by first | exact Nat.le_of_ble_eq_true rfl | omega) ?_
    intro o1 hfo1 hbo1
    refine V_dup F dJ10_navigableKeySet_17 rfl ?_
    refine V_aload_n (i := 0) F dJ10_navigableKeySet_18 rfl rfl ?_
    refine V_callI (st := [.ref (o1), .ref (t)]) F dJ10_navigableKeySet_19 lk_J10_224 (ct_KeySet_init (hset_self (e := .inr (30, [.null])))) rfl rfl (Nat.le_of_ble_eq_true rfl) (Nat.le_of_ble_eq_true rfl) (Nat.le_of_ble_eq_true rfl) (by first | exact Nat.le_of_ble_eq_true rfl | omega) (by first | exact Nat.le_of_ble_eq_true rfl | omega) ?_
    rintro _ _ ⟨rfl, rfl⟩
    refine V_dup_x1 F dJ10_navigableKeySet_22 rfl rfl ?_
    refine V_putf F dJ10_navigableKeySet_23 fp_J10_191_J10 ((hset_ne (ne_nw ht hfo1)).trans ((hset_ne (ne_nw ht hfo1)).trans ht)) rfl rfl (Nat.le_of_ble_eq_true rfl) ?_
    refine VV.heap (h' := (hset (hset (hset h o1 (.inr (30, [.null]))) o1 (.inr (30, [.ref t]))) (t) (.inr (23, [x0, x1, .null, va_rf ((rt).map A), .int (nI (n)), .int (nI (mc)), x6, .ref (o1), x8])))) rfl ?_
    have hfz := Fr.keys hfo1 ht
    have hot : o1 ≠ t := fun z => by rw [← z, hfo1] at ht; cases ht
    have hzo : (hset (hset (hset h o1 (.inr (30, [.null]))) o1 (.inr (30, [.ref t]))) (t) (.inr (23, [x0, x1, .null, va_rf ((rt).map A), .int (nI (n)), .int (nI (mc)), x6, .ref (o1), x8]))) o1 = some (.inr (30, [.ref t])) := (hset_ne hot).trans hset_self
    exact V_aret F dJ10_navigableKeySet_26 (Or.inl ⟨_, rfl⟩) (Or.inr ⟨_, rfl⟩) (by first | exact Nat.le_of_ble_eq_true rfl | omega) (by first | exact Nat.le_of_ble_eq_true rfl | omega) ⟨o1, rfl, hzo, ⟨hAI, rt, L, R, P, C, lo, hi, ⟨x0, x1, x6, .ref o1, x8, hset_self, vw_fr hv1 hfz rfl, Or.inr ⟨o1, rfl, hzo⟩⟩, hT.fr hfz (fun i hi => id), hw⟩, hfz⟩
  · refine V_aload_n (i := 0) F dJ10_navigableKeySet_0 rfl rfl ?_
    refine V_getf F dJ10_navigableKeySet_1 fc_J10_191_J10 (.inl ht) (by rw [hx]; rfl) ?_
    refine V_astore_n (i := 1) F dJ10_navigableKeySet_4 rfl (Nat.le_of_ble_eq_true rfl) (Nat.le_of_ble_eq_true rfl) ?_
    refine V_aload_n (i := 1) F dJ10_navigableKeySet_5 rfl rfl ?_
    refine V_ifnull F dJ10_navigableKeySet_6 ?_
    refine V_aload_n (i := 1) F dJ10_navigableKeySet_9 rfl rfl ?_
    refine V_goto (tgt := 26) F dJ10_navigableKeySet_10 (by decide) ?_
    exact V_aret F dJ10_navigableKeySet_26 (Or.inl ⟨_, rfl⟩) (Or.inr ⟨_, rfl⟩) (by first | exact Nat.le_of_ble_eq_true rfl | omega) (by first | exact Nat.le_of_ble_eq_true rfl | omega) ⟨v, rfl, hv, hM, Fr.rf⟩
theorem ct_Values_size {G : GG} {l : Launch} {h : AH} {t mc n : Nat} {A K V : Nat → Nat} {v : Nat} (hM : TMp h t mc n A K V) (hv : h v = some (.inr (25, [.ref t]))) : Ct G l yJ25_size cJ25_size 1 (some .int) 1 (0) (0) [.ref v] h (PR (.int (nI n)) h) := by
  refine Ct.of (by decide) (Nat.le_of_ble_eq_true rfl) (cat1 rfl) (fun X hXl F HN => ?_)
  subst hXl
  have hM0 := hM
  obtain ⟨hAI, rt, L, R, P, C, lo, hi, hC, hT, hw⟩ := hM0
  obtain ⟨x0, x1, x6, x7, x8, ht, hv1, hv7⟩ := id hC
  refine V_aload_n (i := 0) F dJ25_size_0 rfl rfl ?_
  refine V_getf F dJ25_size_1 fc_J25_1_J25 (.inl hv) rfl ?_
  refine V_callV (st := []) F dJ25_size_4 lk_J25_24 (ct_TM_size hM) ⟨23, _, _, _, rfl, (.inl ht)⟩ rfl rfl (Nat.le_of_ble_eq_true rfl) (Nat.le_of_ble_eq_true rfl) (Nat.le_of_ble_eq_true rfl) (by first | exact Nat.le_of_ble_eq_true rfl | omega) (by first | exact Nat.le_of_ble_eq_true rfl | omega) ?_
  refine PRk ?_
  exact V_iret F dJ25_size_7 rfl (by first | exact Nat.le_of_ble_eq_true rfl | omega) (by first | exact Nat.le_of_ble_eq_true rfl | omega) ⟨rfl, rfl⟩
theorem ct_VI_init0 {G : GG} {l : Launch} {h : AH} {t mc n : Nat} {A K V : Nat → Nat} {it : Nat} {q : Option Nat} (hM : TMp h t mc n A K V) (hit : h it = some (.inr (28, [.null, .null, .int 0, .null]))) : Ct G l yJ31_init cJ31_init 3 none 1 (0) (0) [.ref it, .ref t, va_rf q] h (fun r h2 => r = none ∧ h2 it = some (.inr (28, [va_rf q, .null, .int (nI mc), .ref t])) ∧ Fr (m1 it) h h2) := by
  refine Ct.of (by decide) (by cases q <;> exact Nat.le_of_ble_eq_true rfl) (fun v hv => by simp only [List.mem_cons, List.not_mem_nil, or_false] at hv; rcases hv with rfl | rfl | rfl <;> first | rfl | exact cat_rf _) (fun X hXl F HN => ?_)
  subst hXl
  have hM0 := hM
  obtain ⟨hAI, rt, L, R, P, C, lo, hi, hC, hT, hw⟩ := hM0
  obtain ⟨x0, x1, x6, x7, x8, ht, hv1, hv7⟩ := id hC
  refine V_aload_n (i := 0) F dJ31_init_0 rfl rfl ?_
  refine V_aload_n (i := 1) F dJ31_init_1 rfl rfl ?_
  refine V_putF F dJ31_init_2 ff_J31_1_J33 hit HN rfl rfl (Nat.le_of_ble_eq_true rfl) ?_
  refine VV.heap (h' := (hset h (it) (.inr (28, [.null, .null, .int (0), .ref (t)])))) rfl ?_
  refine V_aload_n (i := 0) F dJ31_init_5 rfl rfl ?_
  refine V_objInit F dJ31_init_6 q1955 q180 q181 (Nat.le_of_ble_eq_true rfl) (Nat.le_of_ble_eq_true rfl) ?_
  refine V_aload_n (i := 0) F dJ31_init_9 rfl rfl ?_
  refine V_aload_n (i := 1) F dJ31_init_10 rfl rfl ?_
  refine V_getn F dJ31_init_11 fc_J31_13_J10 (.inl ((hset_ne (ne_oo ht hit (by decide))).trans ht)) rfl ?_
  refine V_putf F dJ31_init_14 fp_J31_19_J33 (hset_self (e := .inr (28, [.null, .null, .int (0), .ref (t)]))) rfl rfl (Nat.le_of_ble_eq_true rfl) ?_
  refine VV.heap (h' := (hset (hset h (it) (.inr (28, [.null, .null, .int (0), .ref (t)]))) (it) (.inr (28, [.null, .null, .int (nI (mc)), .ref (t)])))) rfl ?_
  refine V_aload_n (i := 0) F dJ31_init_17 rfl rfl ?_
  refine V_null F dJ31_init_18 ?_
  refine V_putf F dJ31_init_19 fp_J31_22_J33 (hset_self (e := .inr (28, [.null, .null, .int (nI (mc)), .ref (t)]))) rfl rfl (Nat.le_of_ble_eq_true rfl) ?_
  refine VV.heap (h' := (hset (hset (hset h (it) (.inr (28, [.null, .null, .int (0), .ref (t)]))) (it) (.inr (28, [.null, .null, .int (nI (mc)), .ref (t)]))) (it) (.inr (28, [.null, .null, .int (nI (mc)), .ref (t)])))) rfl ?_
  refine V_aload_n (i := 0) F dJ31_init_22 rfl rfl ?_
  refine V_aload_nQ (i := 2) F dJ31_init_23 rfl rfl ?_
  refine V_putf F dJ31_init_24 fp_J31_26_J33 (hset_self (e := .inr (28, [.null, .null, .int (nI (mc)), .ref (t)]))) (nar_rfO _ _) (fit_rfO _ _) (Nat.le_of_ble_eq_true rfl) ?_
  refine VV.heap (h' := (hset (hset (hset (hset h (it) (.inr (28, [.null, .null, .int (0), .ref (t)]))) (it) (.inr (28, [.null, .null, .int (nI (mc)), .ref (t)]))) (it) (.inr (28, [.null, .null, .int (nI (mc)), .ref (t)]))) (it) (.inr (28, [va_rf (q), .null, .int (nI (mc)), .ref (t)])))) rfl ?_
  exact V_vret F dJ31_init_27 (by first | exact Nat.le_of_ble_eq_true rfl | omega) (by first | exact Nat.le_of_ble_eq_true rfl | omega) ⟨rfl, (hset_self (e := .inr (28, [va_rf (q), .null, .int (nI (mc)), .ref (t)]))), (((((Fr.rf (M := m1 it) (h := h)).put (x := .inr (28, [.null, .null, .int (0), .ref (t)])) hit rfl rfl (Or.inl rfl)).put (x := .inr (28, [.null, .null, .int (nI (mc)), .ref (t)])) (hset_self (e := .inr (28, [.null, .null, .int (0), .ref (t)]))) rfl rfl (Or.inl rfl)).put (x := .inr (28, [.null, .null, .int (nI (mc)), .ref (t)])) (hset_self (e := .inr (28, [.null, .null, .int (nI (mc)), .ref (t)]))) rfl rfl (Or.inl rfl)).put (x := .inr (28, [va_rf (q), .null, .int (nI (mc)), .ref (t)])) (hset_self (e := .inr (28, [.null, .null, .int (nI (mc)), .ref (t)]))) rfl rfl (Or.inl rfl))⟩
theorem ct_VI_init {G : GG} {l : Launch} {h : AH} {t mc n : Nat} {A K V : Nat → Nat} {it : Nat} {q : Option Nat} (hM : TMp h t mc n A K V) (hit : h it = some (.inr (28, [.null, .null, .int 0, .null]))) : Ct G l yJ33_init cJ33_init 3 none 2 (0) (0) [.ref it, .ref t, va_rf q] h (fun r h2 => r = none ∧ h2 it = some (.inr (28, [va_rf q, .null, .int (nI mc), .ref t])) ∧ Fr (m1 it) h h2) := by
  refine Ct.of (by decide) (by cases q <;> exact Nat.le_of_ble_eq_true rfl) (fun v hv => by simp only [List.mem_cons, List.not_mem_nil, or_false] at hv; rcases hv with rfl | rfl | rfl <;> first | rfl | exact cat_rf _) (fun X hXl F HN => ?_)
  subst hXl
  have hM0 := hM
  obtain ⟨hAI, rt, L, R, P, C, lo, hi, hC, hT, hw⟩ := hM0
  obtain ⟨x0, x1, x6, x7, x8, ht, hv1, hv7⟩ := id hC
  refine V_aload_n (i := 0) F dJ33_init_0 rfl rfl ?_
  refine V_aload_n (i := 1) F dJ33_init_1 rfl rfl ?_
  refine V_aload_nQ (i := 2) F dJ33_init_2 rfl rfl ?_
  refine V_callI (st := []) F dJ33_init_3 lk_J33_1 (ct_VI_init0 (q := q) hM hit) rfl rfl (Nat.le_of_ble_eq_true rfl) (Nat.le_of_ble_eq_true rfl) (Nat.le_of_ble_eq_true rfl) (by first | exact Nat.le_of_ble_eq_true rfl | omega) (by first | exact Nat.le_of_ble_eq_true rfl | omega) ?_
  rintro _ h2 ⟨rfl, hi2, hx2⟩
  exact V_vret F dJ33_init_6 (by first | exact Nat.le_of_ble_eq_true rfl | omega) (by first | exact Nat.le_of_ble_eq_true rfl | omega) ⟨rfl, hi2, hx2⟩
theorem ct_Values_iterator {G : GG} {l : Launch} {h : AH} {t mc n : Nat} {A K V : Nat → Nat} {v : Nat} (hM : TMp h t mc n A K V) (hv : h v = some (.inr (25, [.ref t]))) : Ct G l yJ25_iterator cJ25_iterator 1 (some (.object "java/util/Iterator")) 3 (1) (4) [.ref v] h (fun r h2 => ∃ q, r = some (.ref q) ∧ h q = none ∧ bz G ≤ q ∧ VIT 28 h2 q t mc n 0 A ∧ Fr nM h h2) := by
  refine Ct.of (by decide) (Nat.le_of_ble_eq_true rfl) (cat1 rfl) (fun X hXl F HN => ?_)
  subst hXl
  have hM0 := hM
  obtain ⟨hAI, rt, L, R, P, C, lo, hi, hC, hT, hw⟩ := hM0
  obtain ⟨x0, x1, x6, x7, x8, ht, hv1, hv7⟩ := id hC
  refine V_new F dJ25_iterator_0 nw_J25_13 (by first | exact Nat.le_of_ble_eq_true rfl | omega) (by first | exact Nat.le_of_ble_eq_true rfl | omega) ?_
  intro o hfo hbo
  refine V_dup F dJ25_iterator_3 rfl ?_
  have hM2 := hM.fr ((Fr.rf (M := nM) (h := h)).nw (x := .inr (28, [.null, .null, .int 0, .null])) hfo) id (fun _ _ => id)
  refine V_aload_n (i := 0) F dJ25_iterator_4 rfl rfl ?_
  refine V_getf F dJ25_iterator_5 fc_J25_1_J25 (.inl ((hset_ne (ne_nw hv hfo)).trans hv)) rfl ?_
  refine V_aload_n (i := 0) F dJ25_iterator_8 rfl rfl ?_
  refine V_getf F dJ25_iterator_9 fc_J25_1_J25 (.inl ((hset_ne (ne_nw hv hfo)).trans hv)) rfl ?_
  refine V_callV (st := [.ref (t), .ref (o), .ref (o)]) F dJ25_iterator_12 lk_J25_15 (ct_firstEntry hM2) ⟨23, _, _, _, rfl, (.inl ((hset_ne (ne_nw ht hfo)).trans ht))⟩ rfl rfl (Nat.le_of_ble_eq_true rfl) (Nat.le_of_ble_eq_true rfl) (Nat.le_of_ble_eq_true rfl) (by first | exact Nat.le_of_ble_eq_true rfl | omega) (by first | exact Nat.le_of_ble_eq_true rfl | omega) ?_
  refine PRk ?_
  refine V_callI (st := [.ref (o)]) F dJ25_iterator_15 lk_J25_21 (ct_VI_init (q := (nx n 0).map A) hM2 (hset_self (e := .inr (28, [.null, .null, .int 0, .null])))) rfl rfl (Nat.le_of_ble_eq_true rfl) (Nat.le_of_ble_eq_true rfl) (Nat.le_of_ble_eq_true rfl) (by first | exact Nat.le_of_ble_eq_true rfl | omega) (by first | exact Nat.le_of_ble_eq_true rfl | omega) ?_
  rintro _ h2 ⟨rfl, hi2, hx2⟩
  have hfz : Fr nM h h2 := ((Fr.rf (M := nM) (h := h)).nw (x := .inr (28, [.null, .null, .int 0, .null])) hfo).cal hx2 (Yo.m1 ((Fr.rf (M := nM) (h := h)).yo hfo))
  exact V_aret F dJ25_iterator_18 (Or.inl ⟨_, rfl⟩) (Or.inr ⟨_, rfl⟩) (by first | exact Nat.le_of_ble_eq_true rfl | omega) (by first | exact Nat.le_of_ble_eq_true rfl | omega) ⟨o, rfl, hfo, hbo, ⟨.null, hi2⟩, hfz⟩
theorem ct_VI_hasNext {G : GG} {l : Launch} {h : AH} {t mc n : Nat} {A K V : Nat → Nat} {it i : Nat} (hI : VIT 28 h it t mc n i A) : Ct G l yJ31_hasNext cJ31_hasNext 1 (some .boolean) 0 (0) (0) [.ref it] h (PR (.int (b2 (i < n))) h) := by
  refine Ct.of (by decide) (Nat.le_of_ble_eq_true rfl) (cat1 rfl) (fun X hXl F HN => ?_)
  subst hXl
  obtain ⟨lr, hit⟩ := hI
  by_cases hin : i < n
  · refine V_aload_n (i := 0) F dJ31_hasNext_0 rfl rfl ?_
    refine V_getf F dJ31_hasNext_1 fc_J31_26_J33 (.inl hit) (by rw [nx_succ hin]; rfl) ?_
    refine V_ifnull F dJ31_hasNext_4 ?_
    refine V_iconst (v := nI 1) F dJ31_hasNext_7 rfl ?_
    refine V_goto (tgt := 12) F dJ31_hasNext_8 (by decide) ?_
    exact V_iret F dJ31_hasNext_12 rfl (by first | exact Nat.le_of_ble_eq_true rfl | omega) (by first | exact Nat.le_of_ble_eq_true rfl | omega) ⟨by rw [b2_t hin]; rfl, rfl⟩
  · refine V_aload_n (i := 0) F dJ31_hasNext_0 rfl rfl ?_
    refine V_getf F dJ31_hasNext_1 fc_J31_26_J33 (.inl hit) (by rw [nx_none hin]; rfl) ?_
    refine V_ifnullN (tgt := 11) F dJ31_hasNext_4 (by decide) ?_
    refine V_iconst (v := nI 0) F dJ31_hasNext_11 rfl ?_
    exact V_iret F dJ31_hasNext_12 rfl (by first | exact Nat.le_of_ble_eq_true rfl | omega) (by first | exact Nat.le_of_ble_eq_true rfl | omega) ⟨by rw [b2_f hin]; rfl, rfl⟩
theorem ct_VI_nextEntry {G : GG} {l : Launch} {h : AH} {t mc n : Nat} {A K V : Nat → Nat} {it i : Nat} (hM : TMp h t mc n A K V) (hI : VIT 28 h it t mc n i A) (hmc : mc < 2 ^ 31) (hin : i < n) : Ct G l yJ31_nextEntry cJ31_nextEntry 2 (some (.object "java/util/TreeMap$Entry")) 1 (0) (0) [.ref it] h (fun r h2 => r = some (.ref (A i)) ∧ VIT 28 h2 it t mc n (i + 1) A ∧ Fr (m1 it) h h2) := by
  refine Ct.of (by decide) (Nat.le_of_ble_eq_true rfl) (cat1 rfl) (fun X hXl F HN => ?_)
  subst hXl
  have hM0 := hM
  obtain ⟨hAI, rt, L, R, P, C, lo, hi, hC, hT, hw⟩ := hM0
  obtain ⟨x0, x1, x6, x7, x8, ht, hv1, hv7⟩ := id hC
  obtain ⟨lr, hit⟩ := id hI
  refine V_aload_n (i := 0) F dJ31_nextEntry_0 rfl rfl ?_
  refine V_getf F dJ31_nextEntry_1 fc_J31_26_J33 (.inl hit) (by rw [nx_succ hin]; rfl) ?_
  refine V_astore_n (i := 1) F dJ31_nextEntry_4 rfl (Nat.le_of_ble_eq_true rfl) (Nat.le_of_ble_eq_true rfl) ?_
  refine V_aload_n (i := 1) F dJ31_nextEntry_5 rfl rfl ?_
  refine V_ifnonnull (tgt := 17) F dJ31_nextEntry_6 (by decide) ?_
  refine V_aload_n (i := 0) F dJ31_nextEntry_17 rfl rfl ?_
  refine V_getf F dJ31_nextEntry_18 fc_J31_1_J33 (.inl hit) rfl ?_
  refine V_getn F dJ31_nextEntry_21 fc_J31_13_J10 (.inl ht) rfl ?_
  refine V_aload_n (i := 0) F dJ31_nextEntry_24 rfl rfl ?_
  refine V_getf F dJ31_nextEntry_25 fc_J31_19_J33 (.inl hit) rfl ?_
  refine V_icmp_eqN (tgt := 39) F dJ31_nextEntry_28 (by decide) hmc hmc (fun c_28 => ?_) (fun c_28 => absurd rfl c_28)
  refine V_aload_n (i := 0) F dJ31_nextEntry_39 rfl rfl ?_
  refine V_aload_n (i := 1) F dJ31_nextEntry_40 rfl rfl ?_
  refine V_callS (st := [.ref (it)]) F dJ31_nextEntry_41 lk_J31_35 (ct_successor hC hT hAI hw hin) rfl rfl (Nat.le_of_ble_eq_true rfl) (Nat.le_of_ble_eq_true rfl) (Nat.le_of_ble_eq_true rfl) (by first | exact Nat.le_of_ble_eq_true rfl | omega) (by first | exact Nat.le_of_ble_eq_true rfl | omega) ?_
  refine PRk ?_
  refine V_putf F dJ31_nextEntry_44 fp_J31_26_J33 hit (nar_rfO _ _) (fit_rfO _ _) (Nat.le_of_ble_eq_true rfl) ?_
  refine VV.heap (h' := (hset h (it) (.inr (28, [va_rf ((nx n (i + 1)).map A), lr, .int (nI mc), .ref t])))) rfl ?_
  refine V_aload_n (i := 0) F dJ31_nextEntry_47 rfl rfl ?_
  refine V_aload_n (i := 1) F dJ31_nextEntry_48 rfl rfl ?_
  refine V_putf F dJ31_nextEntry_49 fp_J31_22_J33 (hset_self (e := .inr (28, [va_rf ((nx n (i + 1)).map A), lr, .int (nI mc), .ref t]))) rfl rfl (Nat.le_of_ble_eq_true rfl) ?_
  refine VV.heap (h' := (hset (hset h (it) (.inr (28, [va_rf ((nx n (i + 1)).map A), lr, .int (nI mc), .ref t]))) (it) (.inr (28, [va_rf ((nx n (i + 1)).map A), .ref (A i), .int (nI mc), .ref t])))) rfl ?_
  refine V_aload_n (i := 1) F dJ31_nextEntry_52 rfl rfl ?_
  exact V_aret F dJ31_nextEntry_53 (Or.inl ⟨_, rfl⟩) (Or.inr ⟨_, rfl⟩) (by first | exact Nat.le_of_ble_eq_true rfl | omega) (by first | exact Nat.le_of_ble_eq_true rfl | omega) ⟨rfl, ⟨_, (hset_self (e := .inr (28, [va_rf ((nx n (i + 1)).map A), .ref (A i), .int (nI mc), .ref t])))⟩, (((Fr.rf (M := m1 it) (h := h)).put (x := .inr (28, [va_rf ((nx n (i + 1)).map A), lr, .int (nI mc), .ref t])) hit rfl rfl (Or.inl rfl)).put (x := .inr (28, [va_rf ((nx n (i + 1)).map A), .ref (A i), .int (nI mc), .ref t])) (hset_self (e := .inr (28, [va_rf ((nx n (i + 1)).map A), lr, .int (nI mc), .ref t]))) rfl rfl (Or.inl rfl))⟩
theorem ct_VI_next {G : GG} {l : Launch} {h : AH} {t mc n : Nat} {A K V : Nat → Nat} {it i : Nat} (hM : TMp h t mc n A K V) (hI : VIT 28 h it t mc n i A) (hmc : mc < 2 ^ 31) (hin : i < n) : Ct G l yJ33_next cJ33_next 1 (some (.object "java/lang/Object")) 2 (0) (0) [.ref it] h (fun r h2 => r = some (.ref (V i)) ∧ VIT 28 h2 it t mc n (i + 1) A ∧ Fr (m1 it) h h2) := by
  refine Ct.of (by decide) (Nat.le_of_ble_eq_true rfl) (cat1 rfl) (fun X hXl F HN => ?_)
  subst hXl
  have hM0 := hM
  obtain ⟨hAI, rt, L, R, P, C, lo, hi, hC, hT, hw⟩ := hM0
  obtain ⟨x0, x1, x6, x7, x8, ht, hv1, hv7⟩ := id hC
  obtain ⟨lr, hit⟩ := id hI
  refine V_aload_n (i := 0) F dJ33_next_0 rfl rfl ?_
  refine V_callU (st := []) F dJ33_next_1 ⟨lw_U q1141 q1142 q1143 q1129 q139 q1130, q1127, (by decide +kernel)⟩ (ct_VI_nextEntry hM hI hmc hin) ⟨28, _, _, _, rfl, (.inl hit)⟩ rfl rfl (Nat.le_of_ble_eq_true rfl) (Nat.le_of_ble_eq_true rfl) (Nat.le_of_ble_eq_true rfl) (by first | exact Nat.le_of_ble_eq_true rfl | omega) (by first | exact Nat.le_of_ble_eq_true rfl | omega) ?_
  rintro _ h2 ⟨rfl, hI2, hx2⟩
  have f1 : Fr (m1 it) h h2 := (Fr.rf (M := m1 it) (h := h)).cal hx2 (Yo.m1 (Or.inl rfl))
  have g2 := (Fr.rf (M := fun _ => True) (h := h)).cal hx2 (fun _ _ => Or.inl trivial)
  have hT3 := hT.fr hx2 (fun i hi => (ne_oo (hT i hi) hit (by decide)))
  refine VV.stk (st' := [.ref (A i)]) rfl ?_
  refine V_getf F dJ33_next_4 fc_J33_13_J41 (.inl (hT3 i hin)) rfl ?_
  exact V_aret F dJ33_next_7 (Or.inl ⟨_, rfl⟩) (Or.inr ⟨_, rfl⟩) (by first | exact Nat.le_of_ble_eq_true rfl | omega) (by first | exact Nat.le_of_ble_eq_true rfl | omega) ⟨rfl, hI2, hx2⟩
theorem ct_KI_init0 {G : GG} {l : Launch} {h : AH} {t mc n : Nat} {A K V : Nat → Nat} {it : Nat} {q : Option Nat} (hM : TMp h t mc n A K V) (hit : h it = some (.inr (29, [.null, .null, .int 0, .null]))) : Ct G l yJ31_init cJ31_init 3 none 1 (0) (0) [.ref it, .ref t, va_rf q] h (fun r h2 => r = none ∧ h2 it = some (.inr (29, [va_rf q, .null, .int (nI mc), .ref t])) ∧ Fr (m1 it) h h2) := by
  refine Ct.of (by decide) (by cases q <;> exact Nat.le_of_ble_eq_true rfl) (fun v hv => by simp only [List.mem_cons, List.not_mem_nil, or_false] at hv; rcases hv with rfl | rfl | rfl <;> first | rfl | exact cat_rf _) (fun X hXl F HN => ?_)
  subst hXl
  have hM0 := hM
  obtain ⟨hAI, rt, L, R, P, C, lo, hi, hC, hT, hw⟩ := hM0
  obtain ⟨x0, x1, x6, x7, x8, ht, hv1, hv7⟩ := id hC
  refine V_aload_n (i := 0) F dJ31_init_0 rfl rfl ?_
  refine V_aload_n (i := 1) F dJ31_init_1 rfl rfl ?_
  refine V_putF F dJ31_init_2 ff_J31_1_J32 hit HN rfl rfl (Nat.le_of_ble_eq_true rfl) ?_
  refine VV.heap (h' := (hset h (it) (.inr (29, [.null, .null, .int (0), .ref (t)])))) rfl ?_
  refine V_aload_n (i := 0) F dJ31_init_5 rfl rfl ?_
  refine V_objInit F dJ31_init_6 q1955 q180 q181 (Nat.le_of_ble_eq_true rfl) (Nat.le_of_ble_eq_true rfl) ?_
  refine V_aload_n (i := 0) F dJ31_init_9 rfl rfl ?_
  refine V_aload_n (i := 1) F dJ31_init_10 rfl rfl ?_
  refine V_getn F dJ31_init_11 fc_J31_13_J10 (.inl ((hset_ne (ne_oo ht hit (by decide))).trans ht)) rfl ?_
  refine V_putf F dJ31_init_14 fp_J31_19_J32 (hset_self (e := .inr (29, [.null, .null, .int (0), .ref (t)]))) rfl rfl (Nat.le_of_ble_eq_true rfl) ?_
  refine VV.heap (h' := (hset (hset h (it) (.inr (29, [.null, .null, .int (0), .ref (t)]))) (it) (.inr (29, [.null, .null, .int (nI (mc)), .ref (t)])))) rfl ?_
  refine V_aload_n (i := 0) F dJ31_init_17 rfl rfl ?_
  refine V_null F dJ31_init_18 ?_
  refine V_putf F dJ31_init_19 fp_J31_22_J32 (hset_self (e := .inr (29, [.null, .null, .int (nI (mc)), .ref (t)]))) rfl rfl (Nat.le_of_ble_eq_true rfl) ?_
  refine VV.heap (h' := (hset (hset (hset h (it) (.inr (29, [.null, .null, .int (0), .ref (t)]))) (it) (.inr (29, [.null, .null, .int (nI (mc)), .ref (t)]))) (it) (.inr (29, [.null, .null, .int (nI (mc)), .ref (t)])))) rfl ?_
  refine V_aload_n (i := 0) F dJ31_init_22 rfl rfl ?_
  refine V_aload_nQ (i := 2) F dJ31_init_23 rfl rfl ?_
  refine V_putf F dJ31_init_24 fp_J31_26_J32 (hset_self (e := .inr (29, [.null, .null, .int (nI (mc)), .ref (t)]))) (nar_rfO _ _) (fit_rfO _ _) (Nat.le_of_ble_eq_true rfl) ?_
  refine VV.heap (h' := (hset (hset (hset (hset h (it) (.inr (29, [.null, .null, .int (0), .ref (t)]))) (it) (.inr (29, [.null, .null, .int (nI (mc)), .ref (t)]))) (it) (.inr (29, [.null, .null, .int (nI (mc)), .ref (t)]))) (it) (.inr (29, [va_rf (q), .null, .int (nI (mc)), .ref (t)])))) rfl ?_
  exact V_vret F dJ31_init_27 (by first | exact Nat.le_of_ble_eq_true rfl | omega) (by first | exact Nat.le_of_ble_eq_true rfl | omega) ⟨rfl, (hset_self (e := .inr (29, [va_rf (q), .null, .int (nI (mc)), .ref (t)]))), (((((Fr.rf (M := m1 it) (h := h)).put (x := .inr (29, [.null, .null, .int (0), .ref (t)])) hit rfl rfl (Or.inl rfl)).put (x := .inr (29, [.null, .null, .int (nI (mc)), .ref (t)])) (hset_self (e := .inr (29, [.null, .null, .int (0), .ref (t)]))) rfl rfl (Or.inl rfl)).put (x := .inr (29, [.null, .null, .int (nI (mc)), .ref (t)])) (hset_self (e := .inr (29, [.null, .null, .int (nI (mc)), .ref (t)]))) rfl rfl (Or.inl rfl)).put (x := .inr (29, [va_rf (q), .null, .int (nI (mc)), .ref (t)])) (hset_self (e := .inr (29, [.null, .null, .int (nI (mc)), .ref (t)]))) rfl rfl (Or.inl rfl))⟩
theorem ct_KI_init {G : GG} {l : Launch} {h : AH} {t mc n : Nat} {A K V : Nat → Nat} {it : Nat} {q : Option Nat} (hM : TMp h t mc n A K V) (hit : h it = some (.inr (29, [.null, .null, .int 0, .null]))) : Ct G l yJ32_init cJ32_init 3 none 2 (0) (0) [.ref it, .ref t, va_rf q] h (fun r h2 => r = none ∧ h2 it = some (.inr (29, [va_rf q, .null, .int (nI mc), .ref t])) ∧ Fr (m1 it) h h2) := by
  refine Ct.of (by decide) (by cases q <;> exact Nat.le_of_ble_eq_true rfl) (fun v hv => by simp only [List.mem_cons, List.not_mem_nil, or_false] at hv; rcases hv with rfl | rfl | rfl <;> first | rfl | exact cat_rf _) (fun X hXl F HN => ?_)
  subst hXl
  have hM0 := hM
  obtain ⟨hAI, rt, L, R, P, C, lo, hi, hC, hT, hw⟩ := hM0
  obtain ⟨x0, x1, x6, x7, x8, ht, hv1, hv7⟩ := id hC
  refine V_aload_n (i := 0) F dJ32_init_0 rfl rfl ?_
  refine V_aload_n (i := 1) F dJ32_init_1 rfl rfl ?_
  refine V_aload_nQ (i := 2) F dJ32_init_2 rfl rfl ?_
  refine V_callI (st := []) F dJ32_init_3 lk_J32_1 (ct_KI_init0 (q := q) hM hit) rfl rfl (Nat.le_of_ble_eq_true rfl) (Nat.le_of_ble_eq_true rfl) (Nat.le_of_ble_eq_true rfl) (by first | exact Nat.le_of_ble_eq_true rfl | omega) (by first | exact Nat.le_of_ble_eq_true rfl | omega) ?_
  rintro _ h2 ⟨rfl, hi2, hx2⟩
  exact V_vret F dJ32_init_6 (by first | exact Nat.le_of_ble_eq_true rfl | omega) (by first | exact Nat.le_of_ble_eq_true rfl | omega) ⟨rfl, hi2, hx2⟩
theorem ct_keyIterator {G : GG} {l : Launch} {h : AH} {t mc n : Nat} {A K V : Nat → Nat}  (hM : TMp h t mc n A K V) : Ct G l yJ10_keyIterator cJ10_keyIterator 1 (some (.object "java/util/Iterator")) 3 (1) (4) [.ref t] h (fun r h2 => ∃ q, r = some (.ref q) ∧ h q = none ∧ bz G ≤ q ∧ VIT 29 h2 q t mc n 0 A ∧ Fr nM h h2) := by
  refine Ct.of (by decide) (Nat.le_of_ble_eq_true rfl) (cat1 rfl) (fun X hXl F HN => ?_)
  subst hXl
  have hM0 := hM
  obtain ⟨hAI, rt, L, R, P, C, lo, hi, hC, hT, hw⟩ := hM0
  obtain ⟨x0, x1, x6, x7, x8, ht, hv1, hv7⟩ := id hC
  refine V_new F dJ10_keyIterator_0 nw_J10_269 (by first | exact Nat.le_of_ble_eq_true rfl | omega) (by first | exact Nat.le_of_ble_eq_true rfl | omega) ?_
  intro o hfo hbo
  refine V_dup F dJ10_keyIterator_3 rfl ?_
  have hM2 := hM.fr ((Fr.rf (M := nM) (h := h)).nw (x := .inr (29, [.null, .null, .int 0, .null])) hfo) id (fun _ _ => id)
  refine V_aload_n (i := 0) F dJ10_keyIterator_4 rfl rfl ?_
  refine V_aload_n (i := 0) F dJ10_keyIterator_5 rfl rfl ?_
  refine V_callV (st := [.ref (t), .ref (o), .ref (o)]) F dJ10_keyIterator_6 lk_J10_54 (ct_firstEntry hM2) ⟨23, _, _, _, rfl, (.inl ((hset_ne (ne_nw ht hfo)).trans ht))⟩ rfl rfl (Nat.le_of_ble_eq_true rfl) (Nat.le_of_ble_eq_true rfl) (Nat.le_of_ble_eq_true rfl) (by first | exact Nat.le_of_ble_eq_true rfl | omega) (by first | exact Nat.le_of_ble_eq_true rfl | omega) ?_
  refine PRk ?_
  refine V_callI (st := [.ref (o)]) F dJ10_keyIterator_9 lk_J10_271 (ct_KI_init (q := (nx n 0).map A) hM2 (hset_self (e := .inr (29, [.null, .null, .int 0, .null])))) rfl rfl (Nat.le_of_ble_eq_true rfl) (Nat.le_of_ble_eq_true rfl) (Nat.le_of_ble_eq_true rfl) (by first | exact Nat.le_of_ble_eq_true rfl | omega) (by first | exact Nat.le_of_ble_eq_true rfl | omega) ?_
  rintro _ h2 ⟨rfl, hi2, hx2⟩
  have hfz : Fr nM h h2 := ((Fr.rf (M := nM) (h := h)).nw (x := .inr (29, [.null, .null, .int 0, .null])) hfo).cal hx2 (Yo.m1 ((Fr.rf (M := nM) (h := h)).yo hfo))
  exact V_aret F dJ10_keyIterator_12 (Or.inl ⟨_, rfl⟩) (Or.inr ⟨_, rfl⟩) (by first | exact Nat.le_of_ble_eq_true rfl | omega) (by first | exact Nat.le_of_ble_eq_true rfl | omega) ⟨o, rfl, hfo, hbo, ⟨.null, hi2⟩, hfz⟩
theorem ct_KI_hasNext {G : GG} {l : Launch} {h : AH} {t mc n : Nat} {A K V : Nat → Nat} {it i : Nat} (hI : VIT 29 h it t mc n i A) : Ct G l yJ31_hasNext cJ31_hasNext 1 (some .boolean) 0 (0) (0) [.ref it] h (PR (.int (b2 (i < n))) h) := by
  refine Ct.of (by decide) (Nat.le_of_ble_eq_true rfl) (cat1 rfl) (fun X hXl F HN => ?_)
  subst hXl
  obtain ⟨lr, hit⟩ := hI
  by_cases hin : i < n
  · refine V_aload_n (i := 0) F dJ31_hasNext_0 rfl rfl ?_
    refine V_getf F dJ31_hasNext_1 fc_J31_26_J32 (.inl hit) (by rw [nx_succ hin]; rfl) ?_
    refine V_ifnull F dJ31_hasNext_4 ?_
    refine V_iconst (v := nI 1) F dJ31_hasNext_7 rfl ?_
    refine V_goto (tgt := 12) F dJ31_hasNext_8 (by decide) ?_
    exact V_iret F dJ31_hasNext_12 rfl (by first | exact Nat.le_of_ble_eq_true rfl | omega) (by first | exact Nat.le_of_ble_eq_true rfl | omega) ⟨by rw [b2_t hin]; rfl, rfl⟩
  · refine V_aload_n (i := 0) F dJ31_hasNext_0 rfl rfl ?_
    refine V_getf F dJ31_hasNext_1 fc_J31_26_J32 (.inl hit) (by rw [nx_none hin]; rfl) ?_
    refine V_ifnullN (tgt := 11) F dJ31_hasNext_4 (by decide) ?_
    refine V_iconst (v := nI 0) F dJ31_hasNext_11 rfl ?_
    exact V_iret F dJ31_hasNext_12 rfl (by first | exact Nat.le_of_ble_eq_true rfl | omega) (by first | exact Nat.le_of_ble_eq_true rfl | omega) ⟨by rw [b2_f hin]; rfl, rfl⟩
theorem ct_KI_nextEntry {G : GG} {l : Launch} {h : AH} {t mc n : Nat} {A K V : Nat → Nat} {it i : Nat} (hM : TMp h t mc n A K V) (hI : VIT 29 h it t mc n i A) (hmc : mc < 2 ^ 31) (hin : i < n) : Ct G l yJ31_nextEntry cJ31_nextEntry 2 (some (.object "java/util/TreeMap$Entry")) 1 (0) (0) [.ref it] h (fun r h2 => r = some (.ref (A i)) ∧ VIT 29 h2 it t mc n (i + 1) A ∧ Fr (m1 it) h h2) := by
  refine Ct.of (by decide) (Nat.le_of_ble_eq_true rfl) (cat1 rfl) (fun X hXl F HN => ?_)
  subst hXl
  have hM0 := hM
  obtain ⟨hAI, rt, L, R, P, C, lo, hi, hC, hT, hw⟩ := hM0
  obtain ⟨x0, x1, x6, x7, x8, ht, hv1, hv7⟩ := id hC
  obtain ⟨lr, hit⟩ := id hI
  refine V_aload_n (i := 0) F dJ31_nextEntry_0 rfl rfl ?_
  refine V_getf F dJ31_nextEntry_1 fc_J31_26_J32 (.inl hit) (by rw [nx_succ hin]; rfl) ?_
  refine V_astore_n (i := 1) F dJ31_nextEntry_4 rfl (Nat.le_of_ble_eq_true rfl) (Nat.le_of_ble_eq_true rfl) ?_
  refine V_aload_n (i := 1) F dJ31_nextEntry_5 rfl rfl ?_
  refine V_ifnonnull (tgt := 17) F dJ31_nextEntry_6 (by decide) ?_
  refine V_aload_n (i := 0) F dJ31_nextEntry_17 rfl rfl ?_
  refine V_getf F dJ31_nextEntry_18 fc_J31_1_J32 (.inl hit) rfl ?_
  refine V_getn F dJ31_nextEntry_21 fc_J31_13_J10 (.inl ht) rfl ?_
  refine V_aload_n (i := 0) F dJ31_nextEntry_24 rfl rfl ?_
  refine V_getf F dJ31_nextEntry_25 fc_J31_19_J32 (.inl hit) rfl ?_
  refine V_icmp_eqN (tgt := 39) F dJ31_nextEntry_28 (by decide) hmc hmc (fun c_28 => ?_) (fun c_28 => absurd rfl c_28)
  refine V_aload_n (i := 0) F dJ31_nextEntry_39 rfl rfl ?_
  refine V_aload_n (i := 1) F dJ31_nextEntry_40 rfl rfl ?_
  refine V_callS (st := [.ref (it)]) F dJ31_nextEntry_41 lk_J31_35 (ct_successor hC hT hAI hw hin) rfl rfl (Nat.le_of_ble_eq_true rfl) (Nat.le_of_ble_eq_true rfl) (Nat.le_of_ble_eq_true rfl) (by first | exact Nat.le_of_ble_eq_true rfl | omega) (by first | exact Nat.le_of_ble_eq_true rfl | omega) ?_
  refine PRk ?_
  refine V_putf F dJ31_nextEntry_44 fp_J31_26_J32 hit (nar_rfO _ _) (fit_rfO _ _) (Nat.le_of_ble_eq_true rfl) ?_
  refine VV.heap (h' := (hset h (it) (.inr (29, [va_rf ((nx n (i + 1)).map A), lr, .int (nI mc), .ref t])))) rfl ?_
  refine V_aload_n (i := 0) F dJ31_nextEntry_47 rfl rfl ?_
  refine V_aload_n (i := 1) F dJ31_nextEntry_48 rfl rfl ?_
  refine V_putf F dJ31_nextEntry_49 fp_J31_22_J32 (hset_self (e := .inr (29, [va_rf ((nx n (i + 1)).map A), lr, .int (nI mc), .ref t]))) rfl rfl (Nat.le_of_ble_eq_true rfl) ?_
  refine VV.heap (h' := (hset (hset h (it) (.inr (29, [va_rf ((nx n (i + 1)).map A), lr, .int (nI mc), .ref t]))) (it) (.inr (29, [va_rf ((nx n (i + 1)).map A), .ref (A i), .int (nI mc), .ref t])))) rfl ?_
  refine V_aload_n (i := 1) F dJ31_nextEntry_52 rfl rfl ?_
  exact V_aret F dJ31_nextEntry_53 (Or.inl ⟨_, rfl⟩) (Or.inr ⟨_, rfl⟩) (by first | exact Nat.le_of_ble_eq_true rfl | omega) (by first | exact Nat.le_of_ble_eq_true rfl | omega) ⟨rfl, ⟨_, (hset_self (e := .inr (29, [va_rf ((nx n (i + 1)).map A), .ref (A i), .int (nI mc), .ref t])))⟩, (((Fr.rf (M := m1 it) (h := h)).put (x := .inr (29, [va_rf ((nx n (i + 1)).map A), lr, .int (nI mc), .ref t])) hit rfl rfl (Or.inl rfl)).put (x := .inr (29, [va_rf ((nx n (i + 1)).map A), .ref (A i), .int (nI mc), .ref t])) (hset_self (e := .inr (29, [va_rf ((nx n (i + 1)).map A), lr, .int (nI mc), .ref t]))) rfl rfl (Or.inl rfl))⟩
theorem ct_KI_next {G : GG} {l : Launch} {h : AH} {t mc n : Nat} {A K V : Nat → Nat} {it i : Nat} (hM : TMp h t mc n A K V) (hI : VIT 29 h it t mc n i A) (hmc : mc < 2 ^ 31) (hin : i < n) : Ct G l yJ32_next cJ32_next 1 (some (.object "java/lang/Object")) 2 (0) (0) [.ref it] h (fun r h2 => r = some (.ref (K i)) ∧ VIT 29 h2 it t mc n (i + 1) A ∧ Fr (m1 it) h h2) := by
  refine Ct.of (by decide) (Nat.le_of_ble_eq_true rfl) (cat1 rfl) (fun X hXl F HN => ?_)
  subst hXl
  have hM0 := hM
  obtain ⟨hAI, rt, L, R, P, C, lo, hi, hC, hT, hw⟩ := hM0
  obtain ⟨x0, x1, x6, x7, x8, ht, hv1, hv7⟩ := id hC
  obtain ⟨lr, hit⟩ := id hI
  refine V_aload_n (i := 0) F dJ32_next_0 rfl rfl ?_
  refine V_callU (st := []) F dJ32_next_1 ⟨lw_U q1125 q1126 q1128 q1129 q139 q1130, q1127, (by decide +kernel)⟩ (ct_KI_nextEntry hM hI hmc hin) ⟨29, _, _, _, rfl, (.inl hit)⟩ rfl rfl (Nat.le_of_ble_eq_true rfl) (Nat.le_of_ble_eq_true rfl) (Nat.le_of_ble_eq_true rfl) (by first | exact Nat.le_of_ble_eq_true rfl | omega) (by first | exact Nat.le_of_ble_eq_true rfl | omega) ?_
  rintro _ h2 ⟨rfl, hI2, hx2⟩
  have f1 : Fr (m1 it) h h2 := (Fr.rf (M := m1 it) (h := h)).cal hx2 (Yo.m1 (Or.inl rfl))
  have g2 := (Fr.rf (M := fun _ => True) (h := h)).cal hx2 (fun _ _ => Or.inl trivial)
  have hT3 := hT.fr hx2 (fun i hi => (ne_oo (hT i hi) hit (by decide)))
  refine VV.stk (st' := [.ref (A i)]) rfl ?_
  refine V_getf F dJ32_next_4 fc_J32_13_J41 (.inl (hT3 i hin)) rfl ?_
  exact V_aret F dJ32_next_7 (Or.inl ⟨_, rfl⟩) (Or.inr ⟨_, rfl⟩) (by first | exact Nat.le_of_ble_eq_true rfl | omega) (by first | exact Nat.le_of_ble_eq_true rfl | omega) ⟨rfl, hI2, hx2⟩
