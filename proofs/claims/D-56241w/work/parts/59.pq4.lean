theorem els_rep {f : Nat → Nat} {m k X : Nat} (hk : k < m) : (f k :: els (upo f k X) m).Perm (X :: els f m) := by
  have h := els_hole (f := upo f m X) (m := m + 1) (k := k) (p := m) (x := f k) (by omega) (Nat.lt_succ_self m) (by omega)
  rw [els_succ, els_succ, upo_s, upo_s] at h
  rw [show els (upo (upo (upo f m X) k X) m (f k)) m = els (upo f k X) m from els_ext (fun a ha => by
      rw [upo_n (by omega)]
      by_cases e : a = k
      · rw [e, upo_s, upo_s]
      · rw [upo_n e, upo_n e, upo_n (by omega)]),
    show els (upo (upo f m X) k (f k)) m = els f m from els_ext (fun a ha => by
      by_cases e : a = k
      · rw [e, upo_s]
      · rw [upo_n e, upo_n (by omega)]), upo_n (by omega), upo_s] at h
  exact (List.perm_append_comm (l₁ := [f k])).trans (h.trans (List.perm_append_comm (l₂ := [X])))
theorem PQC.sub {G : GG} {l : Launch} {h : AH} {ar x : Nat} {E E2 : List Nat} {C : String} {y : MethodName} {cc : ByteArray} {mL dC : Nat} (hq : PQC G l h ar x E C y cc mL dC) (hs : ∀ z, z ∈ E2 → z ∈ E) : PQC G l h ar x E2 C y cc mL dC := by
  obtain ⟨a, b, c, d, e, f, g, i⟩ := hq
  exact ⟨a, b, c, d, e, f, fun z hz => g z (hs z hz), fun h' hh z hz => i h' hh z (hs z hz)⟩
theorem els_last {f : Nat → Nat} {n z : Nat} (hn : 0 < n) (hz : z ∈ els (upo f 0 (f (n - 1))) (n - 1)) : z ∈ els f n := by
  obtain ⟨i, hi, rfl⟩ := List.mem_map.mp hz
  have hi := List.mem_range.mp hi
  by_cases e : i = 0
  · rw [e, upo_s]; exact els_mem (by omega)
  · rw [upo_n e]; exact els_mem (by omega)
theorem els_poll {f : Nat → Nat} {n : Nat} (hn : 1 < n) : (f 0 :: els (upo f 0 (f (n - 1))) (n - 1)).Perm (els f n) := by
  have h := els_rep (f := f) (m := n - 1) (k := 0) (X := f (n - 1)) (by omega)
  have e : els f n = els f (n - 1) ++ [f (n - 1)] := by
    rw [← els_succ, Nat.sub_add_cancel (by omega)]
  rw [e]
  exact h.trans (List.perm_append_comm (l₁ := [f (n - 1)]))

theorem ct_PQ_poll {G : GG} {l : Launch} {h : AH} {a ar mc n cap mL dC : Nat} {f : Nat → Nat} {D : String} {y : MethodName} {cc : ByteArray} (hQ : PQs G h a ar mc n cap f) (hn0 : 0 < n) (hQC : ∀ h', Fr (m2 a ar) h h' → ∀ z, z ∈ els f n → PQC G l h' ar z (els f n) D y cc mL dC) : Ct G l yJ46_poll cJ46_poll 6 (some (.object "java/lang/Object")) 6 (0) (0) [.ref a] h (fun r h2 => r = some (.ref (f 0)) ∧ ∃ f2, PQs G h2 a ar (mc + 1) (n - 1) cap f2 ∧ (f 0 :: els f2 (n - 1)).Perm (els f n) ∧ Fr (m2 a ar) h h2) := by
  refine Ct.of (by decide) (Nat.le_of_ble_eq_true rfl) (cat1 rfl) (fun X hXl F HN => ?_)
  subst hXl
  obtain ⟨h1, ho, hnc, hc0, hcap, g, har, hg⟩ := hQ
  refine V_aload_n (i := 0) F dJ46_poll_0 rfl rfl ?_
  refine V_getf F dJ46_poll_1 fc_J46_17_J46 (.inl h1) rfl ?_
  refine V_dup F dJ46_poll_4 rfl ?_
  refine V_astore_n (i := 1) F dJ46_poll_5 rfl (Nat.le_of_ble_eq_true rfl) (Nat.le_of_ble_eq_true rfl) ?_
  refine V_iconst (v := nI 0) F dJ46_poll_6 rfl ?_
  refine V_aaldN F 6 dJ46_poll_7 rfl (.inl har) (by omega) (by omega) (w := .ref (f 0)) (by rw [hg 0 hn0]; rfl) ?_
  refine V_dup F dJ46_poll_8 rfl ?_
  refine V_astore_n (i := 2) F dJ46_poll_9 rfl (Nat.le_of_ble_eq_true rfl) (Nat.le_of_ble_eq_true rfl) ?_
  refine V_ifnull F dJ46_poll_10 ?_
  refine V_aload_n (i := 0) F dJ46_poll_13 rfl rfl ?_
  refine V_dup F dJ46_poll_14 rfl ?_
  refine V_getf F dJ46_poll_15 fc_J46_93_J46 (.inl h1) rfl ?_
  refine V_iconst (v := nI 1) F dJ46_poll_18 rfl ?_
  refine V_iaddN F dJ46_poll_19 ?_
  refine V_putf F dJ46_poll_20 fp_J46_93_J46 h1 rfl rfl (Nat.le_of_ble_eq_true rfl) ?_
  refine VV.heap (h' := (hset h (a) (.inr (31, [.ref (ar), .int (nI (n)), .null, .int (nI (mc + 1))])))) rfl ?_
  have p1 : (hset h (a) (.inr (31, [.ref (ar), .int (nI (n)), .null, .int (nI (mc + 1))]))) ar = some (qA G cap g) := ((hset_ne (ne_ao har h1)).trans har)
  have p2 : (hset h (a) (.inr (31, [.ref (ar), .int (nI (n)), .null, .int (nI (mc + 1))]))) a = some (.inr (31, [.ref (ar), .int (nI (n)), .null, .int (nI (mc + 1))])) := (hset_self (e := .inr (31, [.ref (ar), .int (nI (n)), .null, .int (nI (mc + 1))])))
  refine V_aload_n (i := 1) F dJ46_poll_23 rfl rfl ?_
  refine V_aload_n (i := 0) F dJ46_poll_24 rfl rfl ?_
  refine V_dup F dJ46_poll_25 rfl ?_
  refine V_getf F dJ46_poll_26 fc_J46_58_J46 (.inl p2) rfl ?_
  refine V_iconst (v := nI 1) F dJ46_poll_29 rfl ?_
  refine V_isubN F dJ46_poll_30 (by omega) ?_
  refine V_dup_x1 F dJ46_poll_31 rfl rfl ?_
  refine V_putf F dJ46_poll_32 fp_J46_58_J46 p2 rfl rfl (Nat.le_of_ble_eq_true rfl) ?_
  refine VV.heap (h' := (hset (hset h (a) (.inr (31, [.ref (ar), .int (nI (n)), .null, .int (nI (mc + 1))]))) (a) (.inr (31, [.ref (ar), .int (nI (n - 1)), .null, .int (nI (mc + 1))])))) rfl ?_
  refine V_dup F dJ46_poll_35 rfl ?_
  refine V_istore_n (i := 3) F dJ46_poll_36 rfl (Nat.le_of_ble_eq_true rfl) (Nat.le_of_ble_eq_true rfl) ?_
  refine V_aaldN F 6 dJ46_poll_37 rfl (.inl ((hset_ne (ne_ao p1 p2)).trans p1)) (by omega) (by omega) (w := .ref (f (n - 1))) (by rw [hg _ (by omega)]; rfl) ?_
  have p3 : (hset (hset h (a) (.inr (31, [.ref (ar), .int (nI (n)), .null, .int (nI (mc + 1))]))) (a) (.inr (31, [.ref (ar), .int (nI (n - 1)), .null, .int (nI (mc + 1))]))) ar = some (qA G cap g) := ((hset_ne (ne_ao p1 p2)).trans p1)
  have p4 : (hset (hset h (a) (.inr (31, [.ref (ar), .int (nI (n)), .null, .int (nI (mc + 1))]))) (a) (.inr (31, [.ref (ar), .int (nI (n - 1)), .null, .int (nI (mc + 1))]))) a = some (.inr (31, [.ref (ar), .int (nI (n - 1)), .null, .int (nI (mc + 1))])) := (hset_self (e := .inr (31, [.ref (ar), .int (nI (n - 1)), .null, .int (nI (mc + 1))])))
  refine V_astore (i := 4) F dJ46_poll_38 (Nat.le_of_ble_eq_true rfl) (Nat.le_of_ble_eq_true rfl) ?_
  refine V_aload_n (i := 1) F dJ46_poll_40 rfl rfl ?_
  refine V_iload_n (i := 3) F dJ46_poll_41 rfl rfl ?_
  refine V_null F dJ46_poll_42 ?_
  refine V_aastNN F dJ46_poll_43 p3 (by omega) (by omega) ?_
  have p5 : (hset (hset (hset h (a) (.inr (31, [.ref (ar), .int (nI (n)), .null, .int (nI (mc + 1))]))) (a) (.inr (31, [.ref (ar), .int (nI (n - 1)), .null, .int (nI (mc + 1))]))) (ar) (qA G cap ((upq g (n - 1) (none))))) a = some (.inr (31, [.ref (ar), .int (nI (n - 1)), .null, .int (nI (mc + 1))])) := ((hset_ne (ne_oa p4 p3)).trans p4)
  have p6 : (hset (hset (hset h (a) (.inr (31, [.ref (ar), .int (nI (n)), .null, .int (nI (mc + 1))]))) (a) (.inr (31, [.ref (ar), .int (nI (n - 1)), .null, .int (nI (mc + 1))]))) (ar) (qA G cap ((upq g (n - 1) (none))))) ar = some (qA G cap ((upq g (n - 1) (none)))) := (hset_self (e := qA G cap ((upq g (n - 1) (none)))))
  refine V_iload_n (i := 3) F dJ46_poll_44 rfl rfl ?_
  refine V_if_leN (tgt := 79) F dJ46_poll_45 (by decide) (by omega) (fun c_45 => ?_) (fun c_45 => ?_)
  · refine V_aload_n (i := 2) F dJ46_poll_79 rfl rfl ?_
    have hfz := ((((Fr.rf (M := m2 a ar) (h := h)).put (x := .inr (31, [.ref (ar), .int (nI (n)), .null, .int (nI (mc + 1))])) h1 rfl rfl (Or.inl (Or.inl rfl))).put (x := .inr (31, [.ref (ar), .int (nI (n - 1)), .null, .int (nI (mc + 1))])) p2 rfl rfl (Or.inl (Or.inl rfl))).put (x := qA G cap ((upq g (n - 1) (none)))) p3 ⟨rfl, rfl⟩ rfl (Or.inl (Or.inr rfl)))
    have pa : (hset (hset (hset h (a) (.inr (31, [.ref (ar), .int (nI (n)), .null, .int (nI (mc + 1))]))) (a) (.inr (31, [.ref (ar), .int (nI (n - 1)), .null, .int (nI (mc + 1))]))) (ar) (qA G cap ((upq g (n - 1) (none))))) a = some (.inr (31, [.ref (ar), .int (nI (n - 1)), .null, .int (nI (mc + 1))])) := p5
    have par : (hset (hset (hset h (a) (.inr (31, [.ref (ar), .int (nI (n)), .null, .int (nI (mc + 1))]))) (a) (.inr (31, [.ref (ar), .int (nI (n - 1)), .null, .int (nI (mc + 1))]))) (ar) (qA G cap ((upq g (n - 1) (none))))) ar = some (qA G cap ((upq g (n - 1) (none)))) := p6
    have e1 : n = 1 := by omega
    exact V_aret F dJ46_poll_80 (Or.inl ⟨_, rfl⟩) (Or.inr ⟨_, rfl⟩) (by first | exact Nat.le_of_ble_eq_true rfl | omega) (by first | exact Nat.le_of_ble_eq_true rfl | omega) ⟨rfl, f, ⟨pa, fun i hi => absurd hi (by omega), by omega, hc0, hcap, _, par, fun i hi => absurd hi (by omega)⟩, by subst e1; exact List.Perm.refl _, hfz⟩
  · refine V_aload_n (i := 0) F dJ46_poll_48 rfl rfl ?_
    refine V_getf F dJ46_poll_49 fc_J46_21_J46 (.inl p5) rfl ?_
    refine V_dup F dJ46_poll_52 rfl ?_
    refine V_astoreN (i := 5) F dJ46_poll_53 (Nat.le_of_ble_eq_true rfl) (Nat.le_of_ble_eq_true rfl) ?_
    refine V_ifnonnullN F dJ46_poll_55 ?_
    have hf9 : Fr (m2 a ar) h ((hset (hset (hset h (a) (.inr (31, [.ref (ar), .int (nI (n)), .null, .int (nI (mc + 1))]))) (a) (.inr (31, [.ref (ar), .int (nI (n - 1)), .null, .int (nI (mc + 1))]))) (ar) (qA G cap ((upq g (n - 1) (none)))))) := ((((Fr.rf (M := m2 a ar) (h := h)).put (x := .inr (31, [.ref (ar), .int (nI (n)), .null, .int (nI (mc + 1))])) h1 rfl rfl (Or.inl (Or.inl rfl))).put (x := .inr (31, [.ref (ar), .int (nI (n - 1)), .null, .int (nI (mc + 1))])) p2 rfl rfl (Or.inl (Or.inl rfl))).put (x := qA G cap ((upq g (n - 1) (none)))) p3 ⟨rfl, rfl⟩ rfl (Or.inl (Or.inr rfl)))
    have har9 : (hset (hset (hset h (a) (.inr (31, [.ref (ar), .int (nI (n)), .null, .int (nI (mc + 1))]))) (a) (.inr (31, [.ref (ar), .int (nI (n - 1)), .null, .int (nI (mc + 1))]))) (ar) (qA G cap ((upq g (n - 1) (none))))) ar = some (qA G cap ((upq g (n - 1) (none)))) := p6
    refine V_iconst (v := nI 0) F dJ46_poll_58 rfl ?_
    refine V_aload (i := 4) F dJ46_poll_59 rfl ?_
    refine V_aload_n (i := 1) F dJ46_poll_61 rfl rfl ?_
    refine V_iload_n (i := 3) F dJ46_poll_62 rfl rfl ?_
    refine V_callS (st := []) F dJ46_poll_63 lk_J46_125 (ct_PQ_down (f0 := f) (k0 := 0) (x := f (n - 1)) (fun z hz => (hQC _ hf9 z (els_last hn0 hz)).sub (fun z hz => els_last hn0 hz)) (by omega) (by omega) hcap har9 (fun i hi hne => by rw [upq_n (by omega)]; exact hg i (by omega))) rfl rfl (Nat.le_of_ble_eq_true rfl) (Nat.le_of_ble_eq_true rfl) (Nat.le_of_ble_eq_true rfl) (by first | exact Nat.le_of_ble_eq_true rfl | omega) (by first | exact Nat.le_of_ble_eq_true rfl | omega) ?_
    rintro _ h3 ⟨rfl, f2, g2, har3, hg3, hP3, hx3⟩
    have p7 := hx3.get p5 (ne_oa p5 har9) rfl
    have f8 : Fr (m2 a ar) h h3 := ((((Fr.rf (M := m2 a ar) (h := h)).put (x := .inr (31, [.ref (ar), .int (nI (n)), .null, .int (nI (mc + 1))])) h1 rfl rfl (Or.inl (Or.inl rfl))).put (x := .inr (31, [.ref (ar), .int (nI (n - 1)), .null, .int (nI (mc + 1))])) p2 rfl rfl (Or.inl (Or.inl rfl))).put (x := qA G cap ((upq g (n - 1) (none)))) p3 ⟨rfl, rfl⟩ rfl (Or.inl (Or.inr rfl))).cal hx3 (Yo.m1 (Or.inl (Or.inr rfl)))
    refine V_goto (tgt := 79) F dJ46_poll_66 (by decide) ?_
    refine V_aload_n (i := 2) F dJ46_poll_79 rfl rfl ?_
    have hfz := f8
    have pa : h3 a = some (.inr (31, [.ref (ar), .int (nI (n - 1)), .null, .int (nI (mc + 1))])) := p7
    have par : h3 ar = some (qA G cap g2) := har3
    have hPz : (f 0 :: els f2 (n - 1)).Perm (els f n) := (hP3.cons _).trans (els_poll (by omega))
    have hoz : ∀ z, z ∈ els f n → isO G h z := fun z hz => by obtain ⟨i, hi, rfl⟩ := List.mem_map.mp hz; exact ho i (List.mem_range.mp hi)
    exact V_aret F dJ46_poll_80 (Or.inl ⟨_, rfl⟩) (Or.inr ⟨_, rfl⟩) (by first | exact Nat.le_of_ble_eq_true rfl | omega) (by first | exact Nat.le_of_ble_eq_true rfl | omega) ⟨rfl, f2, ⟨pa, fun i hi => hfz.isO (hoz _ (hPz.subset (List.mem_cons_of_mem _ (els_mem hi)))), by omega, hc0, hcap, g2, par, hg3⟩, hPz, hfz⟩
