/-- one leg of one more boarding: the new labels, whether aboard -/
def boS (g b : Nat → Nat) (a : Nat) (x : (Nat → Nat) × Nat) (p : Nat × Nat) : (Nat → Nat) × Nat :=
  if ((0 < p.2 ∧ x.2 = 1) ∨ b (plG g p.1 p.2) + (if plG g p.1 p.2 = a then 0 else g (8 + plG g p.1 p.2)) ≤ LvG g p.1 p.2) ∧ ¬ ldG g p.1 p.2 = g (16 + 36 * p.1 + 0) then (up x.1 (plG g p.1 (p.2 + 1)) (min (x.1 (plG g p.1 (p.2 + 1))) (CmG g p.1 (p.2 + 1))), 1) else (x.1, 0)
def boF (g b : Nat → Nat) (a : Nat) : Nat → Nat := ((lgL g).foldl (boS g b a) (b, 0)).1
theorem up_id {f : Nat → Nat} {k : Nat} : up f k (f k) = f := by
  funext i; unfold up; split
  · rename_i h; rw [h]
  · rfl
section CKI
variable {G : GG} {X : CX} {cc : ByteArray} {nL : Nat} {own : String} {ret : Option FieldType} {d MC MS : Nat} {Q : State → Prop} {h : AH} {kc n : Nat} {L : LV} {st : List Value} {pc : Nat}
theorem V_ckI (F : Fx G X cc nL own ret d MC MS) {idx a N : Nat} {f : Nat → Int32} (hd : decode cc pc = .ok (.checkcast idx, 3)) (hcl : Cond.classLink own idx "[I" ∈ lw_all) (he : rd G h a (iA G N f)) (kk : VV G X nL Q h kc n L (.ref a :: st) (pc + 3)) : VV G X nL Q h kc n L (.ref a :: st) pc :=
  fun H locs ls hS hL hl => by
    obtain ⟨cell, c1, c2, c3, -⟩ := hS.rd he
    exact cl_castA F.exec F.code F.hown (F.wd _ hcl) c1 (nst c3) (by rw [c2]; exact (F.kn.1.2 0 _ rfl).2) hd (kk H locs ls hS hL hl)
end CKI
theorem ct_J_init {G : GG} {l : Launch} {h : AH} {j tt lg tr a v : Nat} {g : Nat → Nat}  (hj : h j = some (.inr (10, [.null, .null, .null, .int 0, .int 0, .null, .null]))) (htr : h tr = some (iA G (g 0) (fun i => nI (g (8 + i))))) (hg8 : g 0 ≤ 8) (ha31 : a < 2 ^ 31) : Ct G l yX12_init cX12_init 7 none 1 (2) (g 0 + 48) [.ref j, .ref tt, .ref lg, .ref tr, .int (nI a), .int (nI v)] h (fun r h2 => r = none ∧ ∃ eA rA, h eA = none ∧ h rA = none ∧ eA ≠ rA ∧ h2 j = some (jnE G tt lg tr a v eA rA) ∧ h2 eA = some (iA G (g 0) (fun i => nI (bgP a v (fun _ => 0) (g 0) i))) ∧ h2 rA = some (zA G 48 (fun i => nI ((fun _ => 0 : Nat → Nat) i))) ∧ Fr (m1 j) h h2) := by
  refine Ct.of (by decide) (Nat.le_of_ble_eq_true rfl) (cat1 rfl) (fun X hXl F HN => ?_)
  subst hXl
  refine V_aload_n (i := 0) F dX12_init_0 rfl rfl ?_
  refine V_objInit F dX12_init_1 q1254 q180 q181 (Nat.le_of_ble_eq_true rfl) (Nat.le_of_ble_eq_true rfl) ?_
  refine V_aload_n (i := 0) F dX12_init_4 rfl rfl ?_
  refine V_aload_n (i := 1) F dX12_init_5 rfl rfl ?_
  refine V_putF F dX12_init_6 ff_X12_9_X12 hj HN rfl rfl (Nat.le_of_ble_eq_true rfl) ?_
  refine VV.heap (h' := (hset h (j) (.inr (10, [.ref (tt), .null, .null, .int (0), .int (0), .null, .null])))) rfl ?_
  refine V_aload_n (i := 0) F dX12_init_9 rfl rfl ?_
  refine V_aload_n (i := 2) F dX12_init_10 rfl rfl ?_
  have p1 : (hset h (j) (.inr (10, [.ref (tt), .null, .null, .int (0), .int (0), .null, .null]))) tr = some (.inl (G.2.1 0, (g 0), .inl (fun i => nI ((fun i => g (8 + i)) i)))) := ((hset_ne (ne_ao htr hj)).trans htr)
  have p2 : (hset h (j) (.inr (10, [.ref (tt), .null, .null, .int (0), .int (0), .null, .null]))) j = some (.inr (10, [.ref (tt), .null, .null, .int (0), .int (0), .null, .null])) := (hset_self (e := .inr (10, [.ref (tt), .null, .null, .int (0), .int (0), .null, .null])))
  refine V_putF F dX12_init_11 ff_X12_15_X12 p2 HN rfl rfl (Nat.le_of_ble_eq_true rfl) ?_
  refine VV.heap (h' := (hset (hset h (j) (.inr (10, [.ref (tt), .null, .null, .int (0), .int (0), .null, .null]))) (j) (.inr (10, [.ref (tt), .ref (lg), .null, .int (0), .int (0), .null, .null])))) rfl ?_
  refine V_aload_n (i := 0) F dX12_init_14 rfl rfl ?_
  refine V_aload_n (i := 3) F dX12_init_15 rfl rfl ?_
  have p3 : (hset (hset h (j) (.inr (10, [.ref (tt), .null, .null, .int (0), .int (0), .null, .null]))) (j) (.inr (10, [.ref (tt), .ref (lg), .null, .int (0), .int (0), .null, .null]))) tr = some (.inl (G.2.1 0, (g 0), .inl (fun i => nI ((fun i => g (8 + i)) i)))) := ((hset_ne (ne_ao p1 p2)).trans p1)
  have p4 : (hset (hset h (j) (.inr (10, [.ref (tt), .null, .null, .int (0), .int (0), .null, .null]))) (j) (.inr (10, [.ref (tt), .ref (lg), .null, .int (0), .int (0), .null, .null]))) j = some (.inr (10, [.ref (tt), .ref (lg), .null, .int (0), .int (0), .null, .null])) := (hset_self (e := .inr (10, [.ref (tt), .ref (lg), .null, .int (0), .int (0), .null, .null])))
  refine V_putF F dX12_init_16 ff_X12_19_X12 p4 HN rfl rfl (Nat.le_of_ble_eq_true rfl) ?_
  refine VV.heap (h' := (hset (hset (hset h (j) (.inr (10, [.ref (tt), .null, .null, .int (0), .int (0), .null, .null]))) (j) (.inr (10, [.ref (tt), .ref (lg), .null, .int (0), .int (0), .null, .null]))) (j) (.inr (10, [.ref (tt), .ref (lg), .ref (tr), .int (0), .int (0), .null, .null])))) rfl ?_
  refine V_aload_n (i := 0) F dX12_init_19 rfl rfl ?_
  refine V_iload (i := 4) F dX12_init_20 rfl ?_
  have p5 : (hset (hset (hset h (j) (.inr (10, [.ref (tt), .null, .null, .int (0), .int (0), .null, .null]))) (j) (.inr (10, [.ref (tt), .ref (lg), .null, .int (0), .int (0), .null, .null]))) (j) (.inr (10, [.ref (tt), .ref (lg), .ref (tr), .int (0), .int (0), .null, .null]))) tr = some (.inl (G.2.1 0, (g 0), .inl (fun i => nI ((fun i => g (8 + i)) i)))) := ((hset_ne (ne_ao p3 p4)).trans p3)
  have p6 : (hset (hset (hset h (j) (.inr (10, [.ref (tt), .null, .null, .int (0), .int (0), .null, .null]))) (j) (.inr (10, [.ref (tt), .ref (lg), .null, .int (0), .int (0), .null, .null]))) (j) (.inr (10, [.ref (tt), .ref (lg), .ref (tr), .int (0), .int (0), .null, .null]))) j = some (.inr (10, [.ref (tt), .ref (lg), .ref (tr), .int (0), .int (0), .null, .null])) := (hset_self (e := .inr (10, [.ref (tt), .ref (lg), .ref (tr), .int (0), .int (0), .null, .null])))
  refine V_putF F dX12_init_22 ff_X12_23_X12 p6 HN rfl rfl (Nat.le_of_ble_eq_true rfl) ?_
  refine VV.heap (h' := (hset (hset (hset (hset h (j) (.inr (10, [.ref (tt), .null, .null, .int (0), .int (0), .null, .null]))) (j) (.inr (10, [.ref (tt), .ref (lg), .null, .int (0), .int (0), .null, .null]))) (j) (.inr (10, [.ref (tt), .ref (lg), .ref (tr), .int (0), .int (0), .null, .null]))) (j) (.inr (10, [.ref (tt), .ref (lg), .ref (tr), .int (nI (a)), .int (0), .null, .null])))) rfl ?_
  refine V_aload_n (i := 0) F dX12_init_25 rfl rfl ?_
  refine V_iload (i := 5) F dX12_init_26 rfl ?_
  have p7 : (hset (hset (hset (hset h (j) (.inr (10, [.ref (tt), .null, .null, .int (0), .int (0), .null, .null]))) (j) (.inr (10, [.ref (tt), .ref (lg), .null, .int (0), .int (0), .null, .null]))) (j) (.inr (10, [.ref (tt), .ref (lg), .ref (tr), .int (0), .int (0), .null, .null]))) (j) (.inr (10, [.ref (tt), .ref (lg), .ref (tr), .int (nI (a)), .int (0), .null, .null]))) tr = some (.inl (G.2.1 0, (g 0), .inl (fun i => nI ((fun i => g (8 + i)) i)))) := ((hset_ne (ne_ao p5 p6)).trans p5)
  have p8 : (hset (hset (hset (hset h (j) (.inr (10, [.ref (tt), .null, .null, .int (0), .int (0), .null, .null]))) (j) (.inr (10, [.ref (tt), .ref (lg), .null, .int (0), .int (0), .null, .null]))) (j) (.inr (10, [.ref (tt), .ref (lg), .ref (tr), .int (0), .int (0), .null, .null]))) (j) (.inr (10, [.ref (tt), .ref (lg), .ref (tr), .int (nI (a)), .int (0), .null, .null]))) j = some (.inr (10, [.ref (tt), .ref (lg), .ref (tr), .int (nI (a)), .int (0), .null, .null])) := (hset_self (e := .inr (10, [.ref (tt), .ref (lg), .ref (tr), .int (nI (a)), .int (0), .null, .null])))
  refine V_putF F dX12_init_28 ff_X12_27_X12 p8 HN rfl rfl (Nat.le_of_ble_eq_true rfl) ?_
  refine VV.heap (h' := (hset (hset (hset (hset (hset h (j) (.inr (10, [.ref (tt), .null, .null, .int (0), .int (0), .null, .null]))) (j) (.inr (10, [.ref (tt), .ref (lg), .null, .int (0), .int (0), .null, .null]))) (j) (.inr (10, [.ref (tt), .ref (lg), .ref (tr), .int (0), .int (0), .null, .null]))) (j) (.inr (10, [.ref (tt), .ref (lg), .ref (tr), .int (nI (a)), .int (0), .null, .null]))) (j) (.inr (10, [.ref (tt), .ref (lg), .ref (tr), .int (nI (a)), .int (nI (v)), .null, .null])))) rfl ?_
  refine V_aload_n (i := 0) F dX12_init_31 rfl rfl ?_
  refine V_aload_n (i := 3) F dX12_init_32 rfl rfl ?_
  refine V_alen (v := nI (g 0)) F 0 dX12_init_33 rfl (.inl ((hset_ne (ne_ao p7 p8)).trans p7)) rfl ?_
  refine V_newaI F dX12_init_34 (by omega) (by first | exact Nat.le_of_ble_eq_true rfl | omega) (by first | exact Nat.le_of_ble_eq_true rfl | omega) ?_
  intro eA hfeA hbeA
  have hfe : h eA = none := Fr.none (((((((Fr.rf (M := m1 j) (h := h)).put (x := .inr (10, [.ref (tt), .null, .null, .int (0), .int (0), .null, .null])) hj rfl rfl (Or.inl rfl)).put (x := .inr (10, [.ref (tt), .ref (lg), .null, .int (0), .int (0), .null, .null])) p2 rfl rfl (Or.inl rfl)).put (x := .inr (10, [.ref (tt), .ref (lg), .ref (tr), .int (0), .int (0), .null, .null])) p4 rfl rfl (Or.inl rfl)).put (x := .inr (10, [.ref (tt), .ref (lg), .ref (tr), .int (nI (a)), .int (0), .null, .null])) p6 rfl rfl (Or.inl rfl)).put (x := .inr (10, [.ref (tt), .ref (lg), .ref (tr), .int (nI (a)), .int (nI (v)), .null, .null])) p8 rfl rfl (Or.inl rfl))) hfeA
  have p9 : (hset (hset (hset (hset (hset h (j) (.inr (10, [.ref (tt), .null, .null, .int (0), .int (0), .null, .null]))) (j) (.inr (10, [.ref (tt), .ref (lg), .null, .int (0), .int (0), .null, .null]))) (j) (.inr (10, [.ref (tt), .ref (lg), .ref (tr), .int (0), .int (0), .null, .null]))) (j) (.inr (10, [.ref (tt), .ref (lg), .ref (tr), .int (nI (a)), .int (0), .null, .null]))) (j) (.inr (10, [.ref (tt), .ref (lg), .ref (tr), .int (nI (a)), .int (nI (v)), .null, .null]))) tr = some (.inl (G.2.1 0, (g 0), .inl (fun i => nI ((fun i => g (8 + i)) i)))) := ((hset_ne (ne_ao p7 p8)).trans p7)
  have p10 : (hset (hset (hset (hset (hset h (j) (.inr (10, [.ref (tt), .null, .null, .int (0), .int (0), .null, .null]))) (j) (.inr (10, [.ref (tt), .ref (lg), .null, .int (0), .int (0), .null, .null]))) (j) (.inr (10, [.ref (tt), .ref (lg), .ref (tr), .int (0), .int (0), .null, .null]))) (j) (.inr (10, [.ref (tt), .ref (lg), .ref (tr), .int (nI (a)), .int (0), .null, .null]))) (j) (.inr (10, [.ref (tt), .ref (lg), .ref (tr), .int (nI (a)), .int (nI (v)), .null, .null]))) j = some (.inr (10, [.ref (tt), .ref (lg), .ref (tr), .int (nI (a)), .int (nI (v)), .null, .null])) := (hset_self (e := .inr (10, [.ref (tt), .ref (lg), .ref (tr), .int (nI (a)), .int (nI (v)), .null, .null])))
  have p11 : (hset (hset (hset (hset (hset (hset h (j) (.inr (10, [.ref (tt), .null, .null, .int (0), .int (0), .null, .null]))) (j) (.inr (10, [.ref (tt), .ref (lg), .null, .int (0), .int (0), .null, .null]))) (j) (.inr (10, [.ref (tt), .ref (lg), .ref (tr), .int (0), .int (0), .null, .null]))) (j) (.inr (10, [.ref (tt), .ref (lg), .ref (tr), .int (nI (a)), .int (0), .null, .null]))) (j) (.inr (10, [.ref (tt), .ref (lg), .ref (tr), .int (nI (a)), .int (nI (v)), .null, .null]))) eA (.inl (G.2.1 0, (g 0), .inl (fun _ => nI 0)))) tr = some (.inl (G.2.1 0, (g 0), .inl (fun i => nI ((fun i => g (8 + i)) i)))) := ((hset_ne (ne_nw p9 hfeA)).trans p9)
  have p12 : (hset (hset (hset (hset (hset (hset h (j) (.inr (10, [.ref (tt), .null, .null, .int (0), .int (0), .null, .null]))) (j) (.inr (10, [.ref (tt), .ref (lg), .null, .int (0), .int (0), .null, .null]))) (j) (.inr (10, [.ref (tt), .ref (lg), .ref (tr), .int (0), .int (0), .null, .null]))) (j) (.inr (10, [.ref (tt), .ref (lg), .ref (tr), .int (nI (a)), .int (0), .null, .null]))) (j) (.inr (10, [.ref (tt), .ref (lg), .ref (tr), .int (nI (a)), .int (nI (v)), .null, .null]))) eA (.inl (G.2.1 0, (g 0), .inl (fun _ => nI 0)))) j = some (.inr (10, [.ref (tt), .ref (lg), .ref (tr), .int (nI (a)), .int (nI (v)), .null, .null])) := ((hset_ne (ne_nw p10 hfeA)).trans p10)
  have p13 : (hset (hset (hset (hset (hset (hset h (j) (.inr (10, [.ref (tt), .null, .null, .int (0), .int (0), .null, .null]))) (j) (.inr (10, [.ref (tt), .ref (lg), .null, .int (0), .int (0), .null, .null]))) (j) (.inr (10, [.ref (tt), .ref (lg), .ref (tr), .int (0), .int (0), .null, .null]))) (j) (.inr (10, [.ref (tt), .ref (lg), .ref (tr), .int (nI (a)), .int (0), .null, .null]))) (j) (.inr (10, [.ref (tt), .ref (lg), .ref (tr), .int (nI (a)), .int (nI (v)), .null, .null]))) eA (.inl (G.2.1 0, (g 0), .inl (fun _ => nI 0)))) eA = some (.inl (G.2.1 0, (g 0), .inl (fun i => nI ((fun _ => 0) i)))) := (hset_self (e := .inl (G.2.1 0, (g 0), .inl (fun _ => nI 0))))
  refine V_putF F dX12_init_36 ff_X12_30_X12 p12 HN rfl rfl (Nat.le_of_ble_eq_true rfl) ?_
  refine VV.heap (h' := (hset (hset (hset (hset (hset (hset (hset h (j) (.inr (10, [.ref (tt), .null, .null, .int (0), .int (0), .null, .null]))) (j) (.inr (10, [.ref (tt), .ref (lg), .null, .int (0), .int (0), .null, .null]))) (j) (.inr (10, [.ref (tt), .ref (lg), .ref (tr), .int (0), .int (0), .null, .null]))) (j) (.inr (10, [.ref (tt), .ref (lg), .ref (tr), .int (nI (a)), .int (0), .null, .null]))) (j) (.inr (10, [.ref (tt), .ref (lg), .ref (tr), .int (nI (a)), .int (nI (v)), .null, .null]))) eA (.inl (G.2.1 0, (g 0), .inl (fun _ => nI 0)))) (j) (.inr (10, [.ref (tt), .ref (lg), .ref (tr), .int (nI (a)), .int (nI (v)), .ref (eA), .null])))) rfl ?_
  refine V_iconst (v := nI 0) F dX12_init_39 rfl ?_
  refine V_istore (i := 6) F dX12_init_40 (Nat.le_of_ble_eq_true rfl) (Nat.le_of_ble_eq_true rfl) ?_
  have loop_42 : ∀ (nn : Nat) (k : Nat) (E : Nat → Nat) (hh : AH), g 0 - k < nn → k ≤ g 0 → hh j = some (.inr (10, [.ref tt, .ref lg, .ref tr, .int (nI a), .int (nI v), .ref eA, .null])) → hh eA = some (iA G (g 0) (fun i => nI (E i))) → E = bgP a v (fun _ => 0) k → Fr (m1 j) h hh → VV G X 7 ((EQ G X (2) (g 0 + 48) (fun r h2 => r = none ∧ ∃ eA rA, h eA = none ∧ h rA = none ∧ eA ≠ rA ∧ h2 j = some (jnE G tt lg tr a v eA rA) ∧ h2 eA = some (iA G (g 0) (fun i => nI (bgP a v (fun _ => 0) (g 0) i))) ∧ h2 rA = some (zA G 48 (fun i => nI ((fun _ => 0 : Nat → Nat) i))) ∧ Fr (m1 j) h h2))) hh (1) (g 0) [some (.ref (j)), none, none, none, some (.int (nI (a))), some (.int (nI (v))), some (.int (nI (k)))] [] 42 := by
    intro nn
    induction nn with
    | zero => intro k E hh hm hk hjn heA hEq hF; exact absurd hm (by omega)
    | succ nn ih_42 =>
      intro k E hh hm hk hjn heA hEq hF
      refine V_iload (i := 6) F dX12_init_42 rfl ?_
      refine V_aload_n (i := 0) F dX12_init_44 rfl rfl ?_
      refine V_getf F dX12_init_45 fc_X12_30_X12 (.inl hjn) rfl ?_
      refine V_alen (v := nI (g 0)) F 0 dX12_init_48 rfl (.inl heA) rfl ?_
      refine V_icmp_geN (tgt := 79) F dX12_init_49 (by decide) (by omega) (by omega) (fun c_49 => ?_) (fun c_49 => ?_)
      · refine V_aload_n (i := 0) F dX12_init_79 rfl rfl ?_
        refine V_bipush (v := nI 48) F dX12_init_80 rfl ?_
        refine V_newaZ F dX12_init_82 (by omega) (by first | exact Nat.le_of_ble_eq_true rfl | omega) (by first | exact Nat.le_of_ble_eq_true rfl | omega) ?_
        intro rA hfrA hbrA
        have p1 : (hset hh rA (.inl (G.2.1 3, 48, .inl (fun _ => nI 0)))) j = some (.inr (10, [.ref (tt), .ref (lg), .ref (tr), .int (nI (a)), .int (nI (v)), .ref (eA), .null])) := ((hset_ne (ne_nw hjn hfrA)).trans hjn)
        have p2 : (hset hh rA (.inl (G.2.1 3, 48, .inl (fun _ => nI 0)))) eA = some (.inl (G.2.1 0, (g 0), .inl (fun i => nI (E i)))) := ((hset_ne (ne_nw heA hfrA)).trans heA)
        have p3 : (hset hh rA (.inl (G.2.1 3, 48, .inl (fun _ => nI 0)))) rA = some (.inl (G.2.1 3, 48, .inl (fun _ => nI 0))) := (hset_self (e := .inl (G.2.1 3, 48, .inl (fun _ => nI 0))))
        refine V_putF F dX12_init_84 ff_X12_34_X12 p1 HN rfl rfl (Nat.le_of_ble_eq_true rfl) ?_
        refine VV.heap (h' := (hset (hset hh rA (.inl (G.2.1 3, 48, .inl (fun _ => nI 0)))) (j) (.inr (10, [.ref (tt), .ref (lg), .ref (tr), .int (nI (a)), .int (nI (v)), .ref (eA), .ref (rA)])))) rfl ?_
        have hfr := ((hF.nw (x := .inl (G.2.1 3, 48, .inl (fun _ => nI 0))) hfrA).put (x := .inr (10, [.ref (tt), .ref (lg), .ref (tr), .int (nI (a)), .int (nI (v)), .ref (eA), .ref (rA)])) p1 rfl rfl (Or.inl rfl))
        have pe : (hset (hset hh rA (.inl (G.2.1 3, 48, .inl (fun _ => nI 0)))) (j) (.inr (10, [.ref (tt), .ref (lg), .ref (tr), .int (nI (a)), .int (nI (v)), .ref (eA), .ref (rA)]))) eA = some (.inl (G.2.1 0, (g 0), .inl (fun i => nI (E i)))) := ((hset_ne (ne_ao p2 p1)).trans p2)
        have pj : (hset (hset hh rA (.inl (G.2.1 3, 48, .inl (fun _ => nI 0)))) (j) (.inr (10, [.ref (tt), .ref (lg), .ref (tr), .int (nI (a)), .int (nI (v)), .ref (eA), .ref (rA)]))) j = some (.inr (10, [.ref (tt), .ref (lg), .ref (tr), .int (nI (a)), .int (nI (v)), .ref (eA), .ref (rA)])) := (hset_self (e := .inr (10, [.ref (tt), .ref (lg), .ref (tr), .int (nI (a)), .int (nI (v)), .ref (eA), .ref (rA)])))
        have pr : (hset (hset hh rA (.inl (G.2.1 3, 48, .inl (fun _ => nI 0)))) (j) (.inr (10, [.ref (tt), .ref (lg), .ref (tr), .int (nI (a)), .int (nI (v)), .ref (eA), .ref (rA)]))) rA = some (.inl (G.2.1 3, 48, .inl (fun _ => nI 0))) := ((hset_ne (Ne.symm (ne_nw hjn hfrA))).trans p3)
        have hkg : k = g 0 := by omega
        rw [hkg] at hEq
        rw [hEq] at pe
        exact V_vret F dX12_init_87 (by first | exact Nat.le_of_ble_eq_true rfl | omega) (by first | exact Nat.le_of_ble_eq_true rfl | omega) ⟨rfl, eA, rA, hfe, hF.none hfrA, (ne_nw heA hfrA), pj, pe, pr, hfr⟩
      · refine V_aload_n (i := 0) F dX12_init_52 rfl rfl ?_
        refine V_getf F dX12_init_53 fc_X12_30_X12 (.inl hjn) rfl ?_
        refine V_iload (i := 6) F dX12_init_56 rfl ?_
        refine V_iload (i := 6) F dX12_init_58 rfl ?_
        refine V_iload (i := 4) F dX12_init_60 rfl ?_
        refine V_icmp_neN (tgt := 70) F dX12_init_62 (by decide) (by omega) ha31 (fun c_62 => ?_) (fun c_62 => ?_)
        · refine V_ldc (v := nI 1000000) F dX12_init_70 q1255 ?_
          refine V_iastG F dX12_init_72 heA (by omega) (by omega) ?_
          refine V_iinc (i := 6) (v := nI (k + 1)) F dX12_init_73 rfl (nI_add (k) 1) (Nat.le_of_ble_eq_true rfl) ?_
          refine V_goto (tgt := 42) F dX12_init_76 (by decide) ?_
          refine VV.weak (L' := [some (.ref (j)), none, none, none, some (.int (nI (a))), some (.int (nI (v))), some (.int (nI (k + 1)))]) (LW.c1 (LW.c0 (LW.c0 (LW.c0 (LW.c1 (LW.c1 (LW.c1 LW.nil))))))) ?_
          have hfr := (hF.put (x := .inl (G.2.1 0, (g 0), .inl (fun i => nI (((up E k 1000000)) i)))) heA ⟨rfl, rfl⟩ rfl (Or.inr hfe))
          have pe : (hset hh (eA) (.inl (G.2.1 0, (g 0), .inl (fun i => nI (((up E k 1000000)) i))))) eA = some (.inl (G.2.1 0, (g 0), .inl (fun i => nI (((up E k 1000000)) i)))) := (hset_self (e := .inl (G.2.1 0, (g 0), .inl (fun i => nI (((up E k 1000000)) i)))))
          have pj : (hset hh (eA) (.inl (G.2.1 0, (g 0), .inl (fun i => nI (((up E k 1000000)) i))))) j = some (.inr (10, [.ref (tt), .ref (lg), .ref (tr), .int (nI (a)), .int (nI (v)), .ref (eA), .null])) := ((hset_ne (ne_oa hjn heA)).trans hjn)
          exact ih_42 (k + 1) _ _ (by omega) (by omega) pj pe (by rw [hEq]; exact bgP_s (by rw [if_neg (by omega)])) hfr
        · refine V_iload (i := 5) F dX12_init_65 rfl ?_
          refine V_goto (tgt := 72) F dX12_init_67 (by decide) ?_
          refine V_iastG F dX12_init_72 heA (by omega) (by omega) ?_
          refine V_iinc (i := 6) (v := nI (k + 1)) F dX12_init_73 rfl (nI_add (k) 1) (Nat.le_of_ble_eq_true rfl) ?_
          refine V_goto (tgt := 42) F dX12_init_76 (by decide) ?_
          refine VV.weak (L' := [some (.ref (j)), none, none, none, some (.int (nI (a))), some (.int (nI (v))), some (.int (nI (k + 1)))]) (LW.c1 (LW.c0 (LW.c0 (LW.c0 (LW.c1 (LW.c1 (LW.c1 LW.nil))))))) ?_
          have hfr := (hF.put (x := .inl (G.2.1 0, (g 0), .inl (fun i => nI (((up E k v)) i)))) heA ⟨rfl, rfl⟩ rfl (Or.inr hfe))
          have pe : (hset hh (eA) (.inl (G.2.1 0, (g 0), .inl (fun i => nI (((up E k v)) i))))) eA = some (.inl (G.2.1 0, (g 0), .inl (fun i => nI (((up E k v)) i)))) := (hset_self (e := .inl (G.2.1 0, (g 0), .inl (fun i => nI (((up E k v)) i)))))
          have pj : (hset hh (eA) (.inl (G.2.1 0, (g 0), .inl (fun i => nI (((up E k v)) i))))) j = some (.inr (10, [.ref (tt), .ref (lg), .ref (tr), .int (nI (a)), .int (nI (v)), .ref (eA), .null])) := ((hset_ne (ne_oa hjn heA)).trans hjn)
          exact ih_42 (k + 1) _ _ (by omega) (by omega) pj pe (by rw [hEq]; exact bgP_s (by rw [if_pos (by omega)])) hfr
  refine VV.weak (L' := [some (.ref (j)), none, none, none, some (.int (nI (a))), some (.int (nI (v))), some (.int (nI (0)))]) (LW.c1 (LW.c0 (LW.c0 (LW.c0 (LW.c1 (LW.c1 (LW.c1 LW.nil))))))) ?_
  have p14 : (hset (hset (hset (hset (hset (hset (hset h (j) (.inr (10, [.ref (tt), .null, .null, .int (0), .int (0), .null, .null]))) (j) (.inr (10, [.ref (tt), .ref (lg), .null, .int (0), .int (0), .null, .null]))) (j) (.inr (10, [.ref (tt), .ref (lg), .ref (tr), .int (0), .int (0), .null, .null]))) (j) (.inr (10, [.ref (tt), .ref (lg), .ref (tr), .int (nI (a)), .int (0), .null, .null]))) (j) (.inr (10, [.ref (tt), .ref (lg), .ref (tr), .int (nI (a)), .int (nI (v)), .null, .null]))) eA (.inl (G.2.1 0, (g 0), .inl (fun _ => nI 0)))) (j) (.inr (10, [.ref (tt), .ref (lg), .ref (tr), .int (nI (a)), .int (nI (v)), .ref (eA), .null]))) tr = some (.inl (G.2.1 0, (g 0), .inl (fun i => nI ((fun i => g (8 + i)) i)))) := ((hset_ne (ne_ao p11 p12)).trans p11)
  have p15 : (hset (hset (hset (hset (hset (hset (hset h (j) (.inr (10, [.ref (tt), .null, .null, .int (0), .int (0), .null, .null]))) (j) (.inr (10, [.ref (tt), .ref (lg), .null, .int (0), .int (0), .null, .null]))) (j) (.inr (10, [.ref (tt), .ref (lg), .ref (tr), .int (0), .int (0), .null, .null]))) (j) (.inr (10, [.ref (tt), .ref (lg), .ref (tr), .int (nI (a)), .int (0), .null, .null]))) (j) (.inr (10, [.ref (tt), .ref (lg), .ref (tr), .int (nI (a)), .int (nI (v)), .null, .null]))) eA (.inl (G.2.1 0, (g 0), .inl (fun _ => nI 0)))) (j) (.inr (10, [.ref (tt), .ref (lg), .ref (tr), .int (nI (a)), .int (nI (v)), .ref (eA), .null]))) eA = some (.inl (G.2.1 0, (g 0), .inl (fun i => nI ((fun _ => 0) i)))) := ((hset_ne (Ne.symm (ne_nw p10 hfeA))).trans p13)
  have p16 : (hset (hset (hset (hset (hset (hset (hset h (j) (.inr (10, [.ref (tt), .null, .null, .int (0), .int (0), .null, .null]))) (j) (.inr (10, [.ref (tt), .ref (lg), .null, .int (0), .int (0), .null, .null]))) (j) (.inr (10, [.ref (tt), .ref (lg), .ref (tr), .int (0), .int (0), .null, .null]))) (j) (.inr (10, [.ref (tt), .ref (lg), .ref (tr), .int (nI (a)), .int (0), .null, .null]))) (j) (.inr (10, [.ref (tt), .ref (lg), .ref (tr), .int (nI (a)), .int (nI (v)), .null, .null]))) eA (.inl (G.2.1 0, (g 0), .inl (fun _ => nI 0)))) (j) (.inr (10, [.ref (tt), .ref (lg), .ref (tr), .int (nI (a)), .int (nI (v)), .ref (eA), .null]))) j = some (.inr (10, [.ref (tt), .ref (lg), .ref (tr), .int (nI (a)), .int (nI (v)), .ref (eA), .null])) := (hset_self (e := .inr (10, [.ref (tt), .ref (lg), .ref (tr), .int (nI (a)), .int (nI (v)), .ref (eA), .null])))
  have hfr := ((((((((Fr.rf (M := m1 j) (h := h)).put (x := .inr (10, [.ref (tt), .null, .null, .int (0), .int (0), .null, .null])) hj rfl rfl (Or.inl rfl)).put (x := .inr (10, [.ref (tt), .ref (lg), .null, .int (0), .int (0), .null, .null])) p2 rfl rfl (Or.inl rfl)).put (x := .inr (10, [.ref (tt), .ref (lg), .ref (tr), .int (0), .int (0), .null, .null])) p4 rfl rfl (Or.inl rfl)).put (x := .inr (10, [.ref (tt), .ref (lg), .ref (tr), .int (nI (a)), .int (0), .null, .null])) p6 rfl rfl (Or.inl rfl)).put (x := .inr (10, [.ref (tt), .ref (lg), .ref (tr), .int (nI (a)), .int (nI (v)), .null, .null])) p8 rfl rfl (Or.inl rfl)).nw (x := .inl (G.2.1 0, (g 0), .inl (fun _ => nI 0))) hfeA).put (x := .inr (10, [.ref (tt), .ref (lg), .ref (tr), .int (nI (a)), .int (nI (v)), .ref (eA), .null])) p12 rfl rfl (Or.inl rfl))
  exact VV.wide (by omega) (by omega) (loop_42 (g 0 + 1) 0 _ _ (by omega) (Nat.zero_le _) p16 p15 bgP_0.symm hfr)
theorem ct_J_boardOnce {G : GG} {l : Launch} {h : AH} {h0 : AH} {tt tl ta : Nat} {x : Nat → Nat} {A : Nat → Nat → Nat} {lg lar tr : Nat} {fl : Nat → Nat} {j eA rA a v bA : Nat} {g b : Nat → Nat}  (hR0 : RWr G h0 (tt, tl, ta, x, A) g) (hF0 : Fr nM h0 h) (hj : h j = some (jnE G tt lg tr a v eA rA)) (hLg : LGS G h lg lar g (lgL g) fl) (htr : h tr = some (iA G (g 0) (fun i => nI (g (8 + i))))) (hI : GW g) (ha31 : a < 2 ^ 31) (hbA : h bA = some (iA G (g 0) (fun i => nI (b i)))) (hbM : ∀ i, b i ≤ 1000000) : Ct G l yX12_boardOnce cX12_boardOnce 7 (some (.array .int)) 4 (2) (g 0 + 4) [.ref j, .ref bA] h (fun r h2 => ∃ q, r = some (.ref q) ∧ h q = none ∧ h2 q = some (iA G (g 0) (fun i => nI (boF g b a i))) ∧ (∀ i, boF g b a i ≤ 1000000) ∧ Fr nM h h2) := by
  refine Ct.of (by decide) (Nat.le_of_ble_eq_true rfl) (cat1 rfl) (fun X hXl F HN => ?_)
  subst hXl
  refine V_aload_n (i := 1) F dX12_boardOnce_0 rfl rfl ?_
  refine V_cloneI F dX12_boardOnce_1 q2969 (.inl hbA) (Nat.le_of_ble_eq_true rfl) (Nat.le_of_ble_eq_true rfl) (by first | exact Nat.le_of_ble_eq_true rfl | omega) (by first | exact Nat.le_of_ble_eq_true rfl | omega) ?_
  intro af hfaf hbaf
  refine V_ckI F dX12_boardOnce_4 q2970 (.inl (hset_self (e := iA G (g 0) (fun i => nI (b i))))) ?_
  have haf0 := hfaf
  have htaf : tr ≠ af := ne_nw htr hfaf
  have hbaf2 : bA ≠ af := ne_nw hbA hfaf
  refine V_astore_n (i := 2) F dX12_boardOnce_7 rfl (Nat.le_of_ble_eq_true rfl) (Nat.le_of_ble_eq_true rfl) ?_
  refine V_iconst (v := nI 0) F dX12_boardOnce_8 rfl ?_
  refine V_istore_n (i := 3) F dX12_boardOnce_9 rfl (Nat.le_of_ble_eq_true rfl) (Nat.le_of_ble_eq_true rfl) ?_
  refine V_aload_n (i := 0) F dX12_boardOnce_10 rfl rfl ?_
  refine V_getf F dX12_boardOnce_11 fc_X12_15_X12 (.inl ((hset_ne (ne_nw hj hfaf)).trans hj)) rfl ?_
  refine V_callF (st := []) (nn := 0) F dX12_boardOnce_14 ⟨lw_F q1323 q1326 q1328 q111 q1330, ⟨q1325, List.mem_append_left _ q1324, q1329, q1327, q387⟩, (by decide +kernel), (by decide +kernel)⟩ (ct_AL_iterator (hLg.1.fr0 ((Fr.rf (M := nM) (h := h)).nw (x := iA G (g 0) (fun i => nI (b i))) hfaf))) ((hLg.1.fr0 ((Fr.rf (M := nM) (h := h)).nw (x := iA G (g 0) (fun i => nI (b i))) hfaf))).isC rfl rfl (Nat.le_of_ble_eq_true rfl) (Nat.le_of_ble_eq_true rfl) (Nat.le_of_ble_eq_true rfl) (by first | exact Nat.le_of_ble_eq_true rfl | omega) (by first | exact Nat.le_of_ble_eq_true rfl | omega) ?_
  rintro _ hY1 ⟨it, rfl, hit1, hbit, hIt, hx2⟩
  have hit0 := ((Fr.rf (M := nM) (h := h)).nw (x := iA G (g 0) (fun i => nI (b i))) hfaf).none hit1
  have p3 := hx2.get ((hset_ne (ne_nw hj hfaf)).trans hj) id rfl
  have p4 := hx2.get ((hset_ne (ne_nw htr hfaf)).trans htr) id rfl
  have p5 := hx2.get ((hset_ne (ne_nw hbA hfaf)).trans hbA) id rfl
  have p6 := hx2.get (hset_self (e := iA G (g 0) (fun i => nI (b i)))) id rfl
  have f7 : Fr nM h hY1 := ((Fr.rf (M := nM) (h := h)).nw (x := iA G (g 0) (fun i => nI (b i))) hfaf).cal0 hx2
  refine V_astore (i := 4) F dX12_boardOnce_19 (Nat.le_of_ble_eq_true rfl) (Nat.le_of_ble_eq_true rfl) ?_
  have loop_21 : ∀ (nn : Nat) (i ab : Nat) (E : Nat → Nat) (hh : AH), (lgL g).length - i < nn → i ≤ (lgL g).length → ab < 2 → ITR hh it lg i (lgL g).length → hh j = some (jnE G tt lg tr a v eA rA) → hh af = some (iA G (g 0) (fun i => nI (E i))) → hh tr = some (iA G (g 0) (fun i => nI (g (8 + i)))) → hh bA = some (iA G (g 0) (fun i => nI (b i))) → Fr nM h hh → (∀ i, E i ≤ 1000000) → ((lgL g).take i).foldl (boS g b a) (b, 0) = (E, ab) → VV G X 7 ((EQ G X (2) (g 0 + 4) (fun r h2 => ∃ q, r = some (.ref q) ∧ h q = none ∧ h2 q = some (iA G (g 0) (fun i => nI (boF g b a i))) ∧ (∀ i, boF g b a i ≤ 1000000) ∧ Fr nM h h2))) hh (2) (g 0 + 4) [some (.ref (j)), some (.ref (bA)), some (.ref (af)), some (.int (nI (ab))), some (.ref (it)), none, none] [] 21 := by
    intro nn
    induction nn with
    | zero => intro i ab E hh hm hi9 hab hI3 hjn haf htn hbn hF hEM hfo; exact absurd hm (by omega)
    | succ nn ih_21 =>
      intro i ab E hh hm hi9 hab hI3 hjn haf htn hbn hF hEM hfo
      have h42 := lgL_len hI
      obtain ⟨lr3, hit3⟩ := id hI3
      have hjit := ne_oo hjn hit3 (by decide)
      have hait := ne_ao haf hit3
      have hbit2 := ne_ao hbn hit3
      have htit := ne_ao htn hit3
      refine V_aload (i := 4) F dX12_boardOnce_21 rfl ?_
      refine V_callF (st := []) (nn := 0) F dX12_boardOnce_23 ⟨lw_F q1436 q832 q834 q133 q836, ⟨q460, List.mem_append_left _ q459, q835, q833, q831⟩, (by decide +kernel), (by decide +kernel)⟩ (ct_Itr_hasNext (hLg.1.fr0 hF) hI3 (by omega) hi9) hI3.isC rfl rfl (Nat.le_of_ble_eq_true rfl) (Nat.le_of_ble_eq_true rfl) (Nat.le_of_ble_eq_true rfl) (by first | exact Nat.le_of_ble_eq_true rfl | omega) (by first | exact Nat.le_of_ble_eq_true rfl | omega) ?_
      refine PRk ?_
      refine V_if_eqB (tgt := 179) F dX12_boardOnce_28 (by decide) (fun c_28 => ?_) (fun c_28 => ?_)
      · refine V_aload_n (i := 2) F dX12_boardOnce_179 rfl rfl ?_
        have hie : i = (lgL g).length := by omega
        rw [hie, List.take_length] at hfo
        have hbo : boF g b a = E := by unfold boF; rw [hfo]
        exact V_aret F dX12_boardOnce_180 (Or.inr ⟨_, rfl⟩) (Or.inr ⟨_, rfl⟩) (by first | exact Nat.le_of_ble_eq_true rfl | omega) (by first | exact Nat.le_of_ble_eq_true rfl | omega) ⟨af, rfl, haf0, by rw [hbo]; exact haf, by rw [hbo]; exact hEM, hF⟩
      · have hi : i < (lgL g).length := c_28
        refine V_aload (i := 4) F dX12_boardOnce_31 rfl ?_
        refine V_callF (st := []) (nn := 0) F dX12_boardOnce_33 ⟨lw_F q1438 q1072 q1074 q133 q1076, ⟨q868, List.mem_append_left _ q867, q1075, q1073, q831⟩, (by decide +kernel), (by decide +kernel)⟩ (ct_Itr_next (hLg.1.fr0 hF) hI3 (by omega) (by omega) hi) hI3.isC rfl rfl (Nat.le_of_ble_eq_true rfl) (Nat.le_of_ble_eq_true rfl) (Nat.le_of_ble_eq_true rfl) (by first | exact Nat.le_of_ble_eq_true rfl | omega) (by first | exact Nat.le_of_ble_eq_true rfl | omega) ?_
        rintro _ h3 ⟨rfl, hI4, hx3⟩
        have p1 := hx3.get hjn (fun z => hjit z) rfl
        have p2 := hx3.get htn (fun z => htit z) rfl
        have p3 := hx3.get hbn (fun z => hbit2 z) rfl
        have p4 := hx3.get haf (fun z => hait z) rfl
        have f5 : Fr ((m3 it af af)) hh h3 := (Fr.rf (M := (m3 it af af)) (h := hh)).cal hx3 (Yo.m1 (Or.inl (Or.inl rfl)))
        have hF3 : Fr nM h h3 := hF.cal hx3 (Yo.m1 (Or.inr hit0))
        have hq := (hLg.fr0 hF3).2 i hi
        obtain ⟨hu, hk⟩ := lgL_at hi
        have hs8 := (hI.st hu).2
        generalize hp0 : (lgL g).getD i (0, 0) = pq0 at hq hu hk hs8
        obtain ⟨u, k⟩ := pq0
        have hq : h3 (fl i) = some (LgE g u k) := hq
        have hu : u < g 1 := hu
        have hk : k < g (16 + 36 * u + 3) - 1 := hk
        have hs8 : g (16 + 36 * u + 3) ≤ 8 := hs8
        generalize hfq : fl i = q at hq
        have hRn := hR0.fr0 (hF0.cal0 hF3)
        refine VV.stk (st' := [.ref (q)]) rfl ?_
        refine V_ckS F dX12_boardOnce_38 q1439 ⟨5, _, _, _, rfl, (.inl hq)⟩ ?_
        refine V_astore (i := 5) F dX12_boardOnce_41 (Nat.le_of_ble_eq_true rfl) (Nat.le_of_ble_eq_true rfl) ?_
        refine V_aload_n (i := 1) F dX12_boardOnce_43 rfl rfl ?_
        refine V_aload (i := 5) F dX12_boardOnce_44 rfl ?_
        refine V_callV (st := [.ref (bA)]) (nn := 0) F dX12_boardOnce_46 lk_X12_50 (ct_Leg_from hq) ⟨5, _, _, _, rfl, (.inl hq)⟩ rfl rfl (Nat.le_of_ble_eq_true rfl) (Nat.le_of_ble_eq_true rfl) (Nat.le_of_ble_eq_true rfl) (by first | exact Nat.le_of_ble_eq_true rfl | omega) (by first | exact Nat.le_of_ble_eq_true rfl | omega) ?_
        refine PRk ?_
        refine V_ialdG F dX12_boardOnce_49 (.inl p3) (hI.pl hu (by omega)) hI.b.lt rfl ?_
        refine V_aload (i := 5) F dX12_boardOnce_50 rfl ?_
        refine V_callV (st := [.int (nI (b (plG g u k)))]) (nn := 0) F dX12_boardOnce_52 lk_X12_50 (ct_Leg_from hq) ⟨5, _, _, _, rfl, (.inl hq)⟩ rfl rfl (Nat.le_of_ble_eq_true rfl) (Nat.le_of_ble_eq_true rfl) (Nat.le_of_ble_eq_true rfl) (by first | exact Nat.le_of_ble_eq_true rfl | omega) (by first | exact Nat.le_of_ble_eq_true rfl | omega) ?_
        refine PRk ?_
        refine V_aload_n (i := 0) F dX12_boardOnce_55 rfl rfl ?_
        refine V_getf F dX12_boardOnce_56 fc_X12_23_X12 (.inl p1) rfl ?_
        refine V_icmp_neN (tgt := 66) F dX12_boardOnce_59 (by decide) hI.b.lt ha31 (fun c_59 => ?_) (fun c_59 => ?_)
        · refine V_aload_n (i := 0) F dX12_boardOnce_66 rfl rfl ?_
          refine V_getf F dX12_boardOnce_67 fc_X12_19_X12 (.inl p1) rfl ?_
          refine V_aload (i := 5) F dX12_boardOnce_70 rfl ?_
          refine V_callV (st := [.ref (tr), .int (nI (b (plG g u k)))]) (nn := 0) F dX12_boardOnce_72 lk_X12_50 (ct_Leg_from hq) ⟨5, _, _, _, rfl, (.inl hq)⟩ rfl rfl (Nat.le_of_ble_eq_true rfl) (Nat.le_of_ble_eq_true rfl) (Nat.le_of_ble_eq_true rfl) (by first | exact Nat.le_of_ble_eq_true rfl | omega) (by first | exact Nat.le_of_ble_eq_true rfl | omega) ?_
          refine PRk ?_
          refine V_ialdG F dX12_boardOnce_75 (.inl p2) (hI.pl hu (by omega)) hI.b.lt rfl ?_
          refine V_iaddN F dX12_boardOnce_76 ?_
          refine V_istore (i := 6) F dX12_boardOnce_77 (Nat.le_of_ble_eq_true rfl) (Nat.le_of_ble_eq_true rfl) ?_
          refine V_aload (i := 5) F dX12_boardOnce_79 rfl ?_
          refine V_callV (st := []) (nn := 0) F dX12_boardOnce_81 lk_X12_86 (ct_Leg_number hq) ⟨5, _, _, _, rfl, (.inl hq)⟩ rfl rfl (Nat.le_of_ble_eq_true rfl) (Nat.le_of_ble_eq_true rfl) (Nat.le_of_ble_eq_true rfl) (by first | exact Nat.le_of_ble_eq_true rfl | omega) (by first | exact Nat.le_of_ble_eq_true rfl | omega) ?_
          refine PRk ?_
          refine V_if_leN (tgt := 91) F dX12_boardOnce_84 (by decide) (by omega) (fun c_84 => ?_) (fun c_84 => ?_)
          · refine V_aload (i := 5) F dX12_boardOnce_91 rfl ?_
            refine V_callV (st := []) (nn := 0) F dX12_boardOnce_93 lk_X12_44 (ct_Leg_departure hq) ⟨5, _, _, _, rfl, (.inl hq)⟩ rfl rfl (Nat.le_of_ble_eq_true rfl) (Nat.le_of_ble_eq_true rfl) (Nat.le_of_ble_eq_true rfl) (by first | exact Nat.le_of_ble_eq_true rfl | omega) (by first | exact Nat.le_of_ble_eq_true rfl | omega) ?_
            refine PRk ?_
            refine V_iload (i := 6) F dX12_boardOnce_96 rfl ?_
            refine V_icmp_ltN (tgt := 105) F dX12_boardOnce_98 (by decide) (Nat.lt_trans (LvG_31 hI.b (by omega)) (by decide)) (by have := hbM (plG g u k); have := hI.b (8 + plG g u k); omega) (fun c_98 => ?_) (fun c_98 => ?_)
            · refine V_iconst (v := nI 0) F dX12_boardOnce_105 rfl ?_
              refine V_istore_n (i := 3) F dX12_boardOnce_106 rfl (Nat.le_of_ble_eq_true rfl) (Nat.le_of_ble_eq_true rfl) ?_
              refine V_iload_n (i := 3) F dX12_boardOnce_107 rfl rfl ?_
              refine V_if_eqN (tgt := 138) F dX12_boardOnce_108 (by decide) (by omega) (fun c_108 => ?_) (fun c_108 => absurd c_108 (by decide))
              refine V_iconst (v := nI 0) F dX12_boardOnce_138 rfl ?_
              refine V_istore_n (i := 3) F dX12_boardOnce_139 rfl (Nat.le_of_ble_eq_true rfl) (Nat.le_of_ble_eq_true rfl) ?_
              refine V_aload_n (i := 2) F dX12_boardOnce_140 rfl rfl ?_
              refine V_aload (i := 5) F dX12_boardOnce_141 rfl ?_
              refine V_callV (st := [.ref (af)]) (nn := 0) F dX12_boardOnce_143 lk_X12_96 (ct_Leg_to hq) ⟨5, _, _, _, rfl, (.inl hq)⟩ rfl rfl (Nat.le_of_ble_eq_true rfl) (Nat.le_of_ble_eq_true rfl) (Nat.le_of_ble_eq_true rfl) (by first | exact Nat.le_of_ble_eq_true rfl | omega) (by first | exact Nat.le_of_ble_eq_true rfl | omega) ?_
              refine PRk ?_
              refine V_iload_n (i := 3) F dX12_boardOnce_146 rfl rfl ?_
              refine V_if_eqN (tgt := 168) F dX12_boardOnce_147 (by decide) (by omega) (fun c_147 => ?_) (fun c_147 => absurd c_147 (by decide))
              refine V_aload_n (i := 2) F dX12_boardOnce_168 rfl rfl ?_
              refine V_aload (i := 5) F dX12_boardOnce_169 rfl ?_
              refine V_callV (st := [.ref (af), .int (nI (plG g u (k + 1))), .ref (af)]) (nn := 0) F dX12_boardOnce_171 lk_X12_96 (ct_Leg_to hq) ⟨5, _, _, _, rfl, (.inl hq)⟩ rfl rfl (Nat.le_of_ble_eq_true rfl) (Nat.le_of_ble_eq_true rfl) (Nat.le_of_ble_eq_true rfl) (by first | exact Nat.le_of_ble_eq_true rfl | omega) (by first | exact Nat.le_of_ble_eq_true rfl | omega) ?_
              refine PRk ?_
              refine V_ialdG F dX12_boardOnce_174 (.inl p4) (hI.pl hu (by omega)) hI.b.lt rfl ?_
              have p6 : h3 ((x u)) = some (.inr (4, [.int (nI (g (16 + 36 * u + 0))), .ref ((A u 0)), .ref ((A u 1)), .ref ((A u 2)), .ref ((A u 3)), .ref ((A u 4)), .int (nI (g (16 + 36 * u + 3))), .int (nI (g (16 + 36 * u + 2)))])) := (hRn.2.2 u hu).1
              obtain ⟨lr4, hit4⟩ := hI4
              refine V_iastG F dX12_boardOnce_175 p4 (hI.pl hu (by omega)) hI.b.lt ?_
              refine V_goto (tgt := 21) F dX12_boardOnce_176 (by decide) ?_
              refine VV.weak (L' := [some (.ref (j)), some (.ref (bA)), some (.ref (af)), some (.int (nI (0))), some (.ref (it)), none, none]) (LW.c1 (LW.c1 (LW.c1 (LW.c1 (LW.c1 (LW.c0 (LW.c0 LW.nil))))))) ?_
              have hfr := (f5.put (x := .inl (G.2.1 0, (g 0), .inl (fun i => nI (((up E (plG g u (k + 1)) (E (plG g u (k + 1))))) i)))) p4 ⟨rfl, rfl⟩ rfl (Or.inl (Or.inr (Or.inl rfl))))
              have pe : (hset h3 (af) (.inl (G.2.1 0, (g 0), .inl (fun i => nI (((up E (plG g u (k + 1)) (E (plG g u (k + 1))))) i))))) af = some (.inl (G.2.1 0, (g 0), .inl (fun i => nI (((up E (plG g u (k + 1)) (E (plG g u (k + 1))))) i)))) := (hset_self (e := .inl (G.2.1 0, (g 0), .inl (fun i => nI (((up E (plG g u (k + 1)) (E (plG g u (k + 1))))) i)))))
              have pj : (hset h3 (af) (.inl (G.2.1 0, (g 0), .inl (fun i => nI (((up E (plG g u (k + 1)) (E (plG g u (k + 1))))) i))))) j = some (.inr (10, [.ref (tt), .ref (lg), .ref (tr), .int (nI (a)), .int (nI (v)), .ref (eA), .ref (rA)])) := ((hset_ne (ne_oa p1 p4)).trans p1)
              have pt : (hset h3 (af) (.inl (G.2.1 0, (g 0), .inl (fun i => nI (((up E (plG g u (k + 1)) (E (plG g u (k + 1))))) i))))) tr = some (.inl (G.2.1 0, (g 0), .inl (fun i => nI ((fun i => g (8 + i)) i)))) := ((hset_ne htaf).trans p2)
              have pb : (hset h3 (af) (.inl (G.2.1 0, (g 0), .inl (fun i => nI (((up E (plG g u (k + 1)) (E (plG g u (k + 1))))) i))))) bA = some (.inl (G.2.1 0, (g 0), .inl (fun i => nI (b i)))) := ((hset_ne hbaf2).trans p3)
              have hcd : ¬ (((0 < k ∧ ab = 1) ∨ b (plG g u k) + (if (plG g u k) = a then 0 else g (8 + (plG g u k))) ≤ LvG g u k) ∧ ¬ ldG g u k = g (16 + 36 * u + 0)) := by
                rcases Nat.decEq (plG g u k) a with z | z
                · simp only [if_neg z] at *; omega
                · simp only [if_pos z] at *; omega
              have hF5 : Fr nM h ((hset h3 (af) (.inl (G.2.1 0, (g 0), .inl (fun i => nI (((up E (plG g u (k + 1)) (E (plG g u (k + 1))))) i)))))) := hF.cal hfr (fun b z => z.elim (fun q => Or.inr (q ▸ hit0)) (fun q => Or.inr (q.elim (fun q => q ▸ haf0) (fun q => q ▸ haf0))))
              have hI5 : ITR ((hset h3 (af) (.inl (G.2.1 0, (g 0), .inl (fun i => nI (((up E (plG g u (k + 1)) (E (plG g u (k + 1))))) i)))))) it lg (i + 1) (lgL g).length := ⟨lr4, (hset_ne (Ne.symm hait)).trans hit4⟩
              refine ih_21 (i + 1) 0 E _ (by omega) (by omega) (by omega) hI5 pj (pe.trans (by rw [up_id])) pt pb hF5 ?_ ?_
              · exact hEM
              · rw [foldl_take (d := (0, 0)) hi, hfo, hp0]
                exact if_neg hcd
            · refine V_iconst (v := nI 1) F dX12_boardOnce_101 rfl ?_
              refine V_goto (tgt := 106) F dX12_boardOnce_102 (by decide) ?_
              refine V_istore_n (i := 3) F dX12_boardOnce_106 rfl (Nat.le_of_ble_eq_true rfl) (Nat.le_of_ble_eq_true rfl) ?_
              refine V_iload_n (i := 3) F dX12_boardOnce_107 rfl rfl ?_
              refine V_if_eqN (tgt := 138) F dX12_boardOnce_108 (by decide) (by omega) (fun c_108 => absurd c_108 (by decide)) (fun c_108 => ?_)
              refine V_aload_n (i := 0) F dX12_boardOnce_111 rfl rfl ?_
              refine V_getf F dX12_boardOnce_112 fc_X12_9_X12 (.inl p1) rfl ?_
              refine V_aload (i := 5) F dX12_boardOnce_115 rfl ?_
              refine V_callV (st := [.ref (tt)]) (nn := 0) F dX12_boardOnce_117 lk_X12_83 (ct_Leg_train hq) ⟨5, _, _, _, rfl, (.inl hq)⟩ rfl rfl (Nat.le_of_ble_eq_true rfl) (Nat.le_of_ble_eq_true rfl) (Nat.le_of_ble_eq_true rfl) (by first | exact Nat.le_of_ble_eq_true rfl | omega) (by first | exact Nat.le_of_ble_eq_true rfl | omega) ?_
              refine PRk ?_
              refine V_callV (st := []) (nn := 1) F dX12_boardOnce_120 lk_X12_121 (ct_TT_get hRn hI hu) ⟨3, _, _, _, rfl, .inl hRn.1⟩ rfl rfl (Nat.le_of_ble_eq_true rfl) (Nat.le_of_ble_eq_true rfl) (Nat.le_of_ble_eq_true rfl) (by first | exact Nat.le_of_ble_eq_true rfl | omega) (by first | exact Nat.le_of_ble_eq_true rfl | omega) ?_
              refine PRk ?_
              refine V_aload (i := 5) F dX12_boardOnce_123 rfl ?_
              refine V_callV (st := [.ref ((x u))]) (nn := 0) F dX12_boardOnce_125 lk_X12_86 (ct_Leg_number hq) ⟨5, _, _, _, rfl, (.inl hq)⟩ rfl rfl (Nat.le_of_ble_eq_true rfl) (Nat.le_of_ble_eq_true rfl) (Nat.le_of_ble_eq_true rfl) (by first | exact Nat.le_of_ble_eq_true rfl | omega) (by first | exact Nat.le_of_ble_eq_true rfl | omega) ?_
              refine PRk ?_
              refine V_callV (st := []) (nn := 1) F dX12_boardOnce_128 lk_X12_138 (ct_TR_isFull (hRn.2.2 u hu) (by omega) hI.2.2.2.2.1 hI.b) ⟨4, _, _, _, rfl, (.inl (hRn.2.2 u hu).1)⟩ rfl rfl (Nat.le_of_ble_eq_true rfl) (Nat.le_of_ble_eq_true rfl) (Nat.le_of_ble_eq_true rfl) (by first | exact Nat.le_of_ble_eq_true rfl | omega) (by first | exact Nat.le_of_ble_eq_true rfl | omega) ?_
              refine PRk ?_
              refine V_if_neB (tgt := 138) F dX12_boardOnce_131 (by decide) (fun c_131 => ?_) (fun c_131 => ?_)
              · refine V_iconst (v := nI 0) F dX12_boardOnce_138 rfl ?_
                refine V_istore_n (i := 3) F dX12_boardOnce_139 rfl (Nat.le_of_ble_eq_true rfl) (Nat.le_of_ble_eq_true rfl) ?_
                refine V_aload_n (i := 2) F dX12_boardOnce_140 rfl rfl ?_
                refine V_aload (i := 5) F dX12_boardOnce_141 rfl ?_
                refine V_callV (st := [.ref (af)]) (nn := 0) F dX12_boardOnce_143 lk_X12_96 (ct_Leg_to hq) ⟨5, _, _, _, rfl, (.inl hq)⟩ rfl rfl (Nat.le_of_ble_eq_true rfl) (Nat.le_of_ble_eq_true rfl) (Nat.le_of_ble_eq_true rfl) (by first | exact Nat.le_of_ble_eq_true rfl | omega) (by first | exact Nat.le_of_ble_eq_true rfl | omega) ?_
                refine PRk ?_
                refine V_iload_n (i := 3) F dX12_boardOnce_146 rfl rfl ?_
                refine V_if_eqN (tgt := 168) F dX12_boardOnce_147 (by decide) (by omega) (fun c_147 => ?_) (fun c_147 => absurd c_147 (by decide))
                refine V_aload_n (i := 2) F dX12_boardOnce_168 rfl rfl ?_
                refine V_aload (i := 5) F dX12_boardOnce_169 rfl ?_
                refine V_callV (st := [.ref (af), .int (nI (plG g u (k + 1))), .ref (af)]) (nn := 0) F dX12_boardOnce_171 lk_X12_96 (ct_Leg_to hq) ⟨5, _, _, _, rfl, (.inl hq)⟩ rfl rfl (Nat.le_of_ble_eq_true rfl) (Nat.le_of_ble_eq_true rfl) (Nat.le_of_ble_eq_true rfl) (by first | exact Nat.le_of_ble_eq_true rfl | omega) (by first | exact Nat.le_of_ble_eq_true rfl | omega) ?_
                refine PRk ?_
                refine V_ialdG F dX12_boardOnce_174 (.inl p4) (hI.pl hu (by omega)) hI.b.lt rfl ?_
                have p7 : h3 ((x u)) = some (.inr (4, [.int (nI (g (16 + 36 * u + 0))), .ref ((A u 0)), .ref ((A u 1)), .ref ((A u 2)), .ref ((A u 3)), .ref ((A u 4)), .int (nI (g (16 + 36 * u + 3))), .int (nI (g (16 + 36 * u + 2)))])) := (hRn.2.2 u hu).1
                obtain ⟨lr4, hit4⟩ := hI4
                refine V_iastG F dX12_boardOnce_175 p4 (hI.pl hu (by omega)) hI.b.lt ?_
                refine V_goto (tgt := 21) F dX12_boardOnce_176 (by decide) ?_
                refine VV.weak (L' := [some (.ref (j)), some (.ref (bA)), some (.ref (af)), some (.int (nI (0))), some (.ref (it)), none, none]) (LW.c1 (LW.c1 (LW.c1 (LW.c1 (LW.c1 (LW.c0 (LW.c0 LW.nil))))))) ?_
                have hfr := (f5.put (x := .inl (G.2.1 0, (g 0), .inl (fun i => nI (((up E (plG g u (k + 1)) (E (plG g u (k + 1))))) i)))) p4 ⟨rfl, rfl⟩ rfl (Or.inl (Or.inr (Or.inl rfl))))
                have pe : (hset h3 (af) (.inl (G.2.1 0, (g 0), .inl (fun i => nI (((up E (plG g u (k + 1)) (E (plG g u (k + 1))))) i))))) af = some (.inl (G.2.1 0, (g 0), .inl (fun i => nI (((up E (plG g u (k + 1)) (E (plG g u (k + 1))))) i)))) := (hset_self (e := .inl (G.2.1 0, (g 0), .inl (fun i => nI (((up E (plG g u (k + 1)) (E (plG g u (k + 1))))) i)))))
                have pj : (hset h3 (af) (.inl (G.2.1 0, (g 0), .inl (fun i => nI (((up E (plG g u (k + 1)) (E (plG g u (k + 1))))) i))))) j = some (.inr (10, [.ref (tt), .ref (lg), .ref (tr), .int (nI (a)), .int (nI (v)), .ref (eA), .ref (rA)])) := ((hset_ne (ne_oa p1 p4)).trans p1)
                have pt : (hset h3 (af) (.inl (G.2.1 0, (g 0), .inl (fun i => nI (((up E (plG g u (k + 1)) (E (plG g u (k + 1))))) i))))) tr = some (.inl (G.2.1 0, (g 0), .inl (fun i => nI ((fun i => g (8 + i)) i)))) := ((hset_ne htaf).trans p2)
                have pb : (hset h3 (af) (.inl (G.2.1 0, (g 0), .inl (fun i => nI (((up E (plG g u (k + 1)) (E (plG g u (k + 1))))) i))))) bA = some (.inl (G.2.1 0, (g 0), .inl (fun i => nI (b i)))) := ((hset_ne hbaf2).trans p3)
                have hcd : ¬ (((0 < k ∧ ab = 1) ∨ b (plG g u k) + (if (plG g u k) = a then 0 else g (8 + (plG g u k))) ≤ LvG g u k) ∧ ¬ ldG g u k = g (16 + 36 * u + 0)) := by
                  rcases Nat.decEq (plG g u k) a with z | z
                  · simp only [if_neg z] at *; omega
                  · simp only [if_pos z] at *; omega
                have hF5 : Fr nM h ((hset h3 (af) (.inl (G.2.1 0, (g 0), .inl (fun i => nI (((up E (plG g u (k + 1)) (E (plG g u (k + 1))))) i)))))) := hF.cal hfr (fun b z => z.elim (fun q => Or.inr (q ▸ hit0)) (fun q => Or.inr (q.elim (fun q => q ▸ haf0) (fun q => q ▸ haf0))))
                have hI5 : ITR ((hset h3 (af) (.inl (G.2.1 0, (g 0), .inl (fun i => nI (((up E (plG g u (k + 1)) (E (plG g u (k + 1))))) i)))))) it lg (i + 1) (lgL g).length := ⟨lr4, (hset_ne (Ne.symm hait)).trans hit4⟩
                refine ih_21 (i + 1) 0 E _ (by omega) (by omega) (by omega) hI5 pj (pe.trans (by rw [up_id])) pt pb hF5 ?_ ?_
                · exact hEM
                · rw [foldl_take (d := (0, 0)) hi, hfo, hp0]
                  exact if_neg hcd
              · refine V_iconst (v := nI 1) F dX12_boardOnce_134 rfl ?_
                refine V_goto (tgt := 139) F dX12_boardOnce_135 (by decide) ?_
                refine V_istore_n (i := 3) F dX12_boardOnce_139 rfl (Nat.le_of_ble_eq_true rfl) (Nat.le_of_ble_eq_true rfl) ?_
                refine V_aload_n (i := 2) F dX12_boardOnce_140 rfl rfl ?_
                refine V_aload (i := 5) F dX12_boardOnce_141 rfl ?_
                refine V_callV (st := [.ref (af)]) (nn := 0) F dX12_boardOnce_143 lk_X12_96 (ct_Leg_to hq) ⟨5, _, _, _, rfl, (.inl hq)⟩ rfl rfl (Nat.le_of_ble_eq_true rfl) (Nat.le_of_ble_eq_true rfl) (Nat.le_of_ble_eq_true rfl) (by first | exact Nat.le_of_ble_eq_true rfl | omega) (by first | exact Nat.le_of_ble_eq_true rfl | omega) ?_
                refine PRk ?_
                refine V_iload_n (i := 3) F dX12_boardOnce_146 rfl rfl ?_
                refine V_if_eqN (tgt := 168) F dX12_boardOnce_147 (by decide) (by omega) (fun c_147 => absurd c_147 (by decide)) (fun c_147 => ?_)
                refine V_aload_n (i := 2) F dX12_boardOnce_150 rfl rfl ?_
                refine V_aload (i := 5) F dX12_boardOnce_151 rfl ?_
                refine V_callV (st := [.ref (af), .int (nI (plG g u (k + 1))), .ref (af)]) (nn := 0) F dX12_boardOnce_153 lk_X12_96 (ct_Leg_to hq) ⟨5, _, _, _, rfl, (.inl hq)⟩ rfl rfl (Nat.le_of_ble_eq_true rfl) (Nat.le_of_ble_eq_true rfl) (Nat.le_of_ble_eq_true rfl) (by first | exact Nat.le_of_ble_eq_true rfl | omega) (by first | exact Nat.le_of_ble_eq_true rfl | omega) ?_
                refine PRk ?_
                refine V_ialdG F dX12_boardOnce_156 (.inl p4) (hI.pl hu (by omega)) hI.b.lt rfl ?_
                refine V_aload (i := 5) F dX12_boardOnce_157 rfl ?_
                refine V_callV (st := [.int (nI (E (plG g u (k + 1)))), .int (nI (plG g u (k + 1))), .ref (af)]) (nn := 0) F dX12_boardOnce_159 lk_X12_99 (ct_Leg_arrival hq) ⟨5, _, _, _, rfl, (.inl hq)⟩ rfl rfl (Nat.le_of_ble_eq_true rfl) (Nat.le_of_ble_eq_true rfl) (Nat.le_of_ble_eq_true rfl) (by first | exact Nat.le_of_ble_eq_true rfl | omega) (by first | exact Nat.le_of_ble_eq_true rfl | omega) ?_
                refine PRk ?_
                refine V_mminN (a := (E (plG g u (k + 1)))) (b := (CmG g u (k + 1))) F dX12_boardOnce_162 q1456 (by have := hEM (plG g u (k + 1)); omega) (Nat.lt_trans (CmG_31 hI.b (by omega)) (by decide)) (Nat.le_of_ble_eq_true rfl) (Nat.le_of_ble_eq_true rfl) (by first | exact Nat.le_of_ble_eq_true rfl | omega) (by first | exact Nat.le_of_ble_eq_true rfl | omega) ?_
                refine V_goto (tgt := 175) F dX12_boardOnce_165 (by decide) ?_
                have p8 : h3 ((x u)) = some (.inr (4, [.int (nI (g (16 + 36 * u + 0))), .ref ((A u 0)), .ref ((A u 1)), .ref ((A u 2)), .ref ((A u 3)), .ref ((A u 4)), .int (nI (g (16 + 36 * u + 3))), .int (nI (g (16 + 36 * u + 2)))])) := (hRn.2.2 u hu).1
                obtain ⟨lr4, hit4⟩ := hI4
                refine V_iastG F dX12_boardOnce_175 p4 (hI.pl hu (by omega)) hI.b.lt ?_
                refine V_goto (tgt := 21) F dX12_boardOnce_176 (by decide) ?_
                refine VV.weak (L' := [some (.ref (j)), some (.ref (bA)), some (.ref (af)), some (.int (nI (1))), some (.ref (it)), none, none]) (LW.c1 (LW.c1 (LW.c1 (LW.c1 (LW.c1 (LW.c0 (LW.c0 LW.nil))))))) ?_
                have hfr := (f5.put (x := .inl (G.2.1 0, (g 0), .inl (fun i => nI (((up E (plG g u (k + 1)) (min (E (plG g u (k + 1))) (CmG g u (k + 1))))) i)))) p4 ⟨rfl, rfl⟩ rfl (Or.inl (Or.inr (Or.inl rfl))))
                have pe : (hset h3 (af) (.inl (G.2.1 0, (g 0), .inl (fun i => nI (((up E (plG g u (k + 1)) (min (E (plG g u (k + 1))) (CmG g u (k + 1))))) i))))) af = some (.inl (G.2.1 0, (g 0), .inl (fun i => nI (((up E (plG g u (k + 1)) (min (E (plG g u (k + 1))) (CmG g u (k + 1))))) i)))) := (hset_self (e := .inl (G.2.1 0, (g 0), .inl (fun i => nI (((up E (plG g u (k + 1)) (min (E (plG g u (k + 1))) (CmG g u (k + 1))))) i)))))
                have pj : (hset h3 (af) (.inl (G.2.1 0, (g 0), .inl (fun i => nI (((up E (plG g u (k + 1)) (min (E (plG g u (k + 1))) (CmG g u (k + 1))))) i))))) j = some (.inr (10, [.ref (tt), .ref (lg), .ref (tr), .int (nI (a)), .int (nI (v)), .ref (eA), .ref (rA)])) := ((hset_ne (ne_oa p1 p4)).trans p1)
                have pt : (hset h3 (af) (.inl (G.2.1 0, (g 0), .inl (fun i => nI (((up E (plG g u (k + 1)) (min (E (plG g u (k + 1))) (CmG g u (k + 1))))) i))))) tr = some (.inl (G.2.1 0, (g 0), .inl (fun i => nI ((fun i => g (8 + i)) i)))) := ((hset_ne htaf).trans p2)
                have pb : (hset h3 (af) (.inl (G.2.1 0, (g 0), .inl (fun i => nI (((up E (plG g u (k + 1)) (min (E (plG g u (k + 1))) (CmG g u (k + 1))))) i))))) bA = some (.inl (G.2.1 0, (g 0), .inl (fun i => nI (b i)))) := ((hset_ne hbaf2).trans p3)
                have hcd : (((0 < k ∧ ab = 1) ∨ b (plG g u k) + (if (plG g u k) = a then 0 else g (8 + (plG g u k))) ≤ LvG g u k) ∧ ¬ ldG g u k = g (16 + 36 * u + 0)) := by
                  rcases Nat.decEq (plG g u k) a with z | z
                  · simp only [if_neg z] at *; omega
                  · simp only [if_pos z] at *; omega
                have hF5 : Fr nM h ((hset h3 (af) (.inl (G.2.1 0, (g 0), .inl (fun i => nI (((up E (plG g u (k + 1)) (min (E (plG g u (k + 1))) (CmG g u (k + 1))))) i)))))) := hF.cal hfr (fun b z => z.elim (fun q => Or.inr (q ▸ hit0)) (fun q => Or.inr (q.elim (fun q => q ▸ haf0) (fun q => q ▸ haf0))))
                have hI5 : ITR ((hset h3 (af) (.inl (G.2.1 0, (g 0), .inl (fun i => nI (((up E (plG g u (k + 1)) (min (E (plG g u (k + 1))) (CmG g u (k + 1))))) i)))))) it lg (i + 1) (lgL g).length := ⟨lr4, (hset_ne (Ne.symm hait)).trans hit4⟩
                refine ih_21 (i + 1) 1 ((up E (plG g u (k + 1)) (min (E (plG g u (k + 1))) (CmG g u (k + 1))))) _ (by omega) (by omega) (by omega) hI5 pj pe pt pb hF5 ?_ ?_
                · intro z; unfold up; split <;> first | exact Nat.le_trans (Nat.min_le_left _ _) (hEM _) | exact hEM z
                · rw [foldl_take (d := (0, 0)) hi, hfo, hp0]
                  exact if_pos hcd
          · refine V_iload_n (i := 3) F dX12_boardOnce_87 rfl rfl ?_
            refine V_if_neN (tgt := 101) F dX12_boardOnce_88 (by decide) (by omega) (fun c_88 => ?_) (fun c_88 => ?_)
            · refine V_iconst (v := nI 1) F dX12_boardOnce_101 rfl ?_
              refine V_goto (tgt := 106) F dX12_boardOnce_102 (by decide) ?_
              refine V_istore_n (i := 3) F dX12_boardOnce_106 rfl (Nat.le_of_ble_eq_true rfl) (Nat.le_of_ble_eq_true rfl) ?_
              refine V_iload_n (i := 3) F dX12_boardOnce_107 rfl rfl ?_
              refine V_if_eqN (tgt := 138) F dX12_boardOnce_108 (by decide) (by omega) (fun c_108 => absurd c_108 (by decide)) (fun c_108 => ?_)
              refine V_aload_n (i := 0) F dX12_boardOnce_111 rfl rfl ?_
              refine V_getf F dX12_boardOnce_112 fc_X12_9_X12 (.inl p1) rfl ?_
              refine V_aload (i := 5) F dX12_boardOnce_115 rfl ?_
              refine V_callV (st := [.ref (tt)]) (nn := 0) F dX12_boardOnce_117 lk_X12_83 (ct_Leg_train hq) ⟨5, _, _, _, rfl, (.inl hq)⟩ rfl rfl (Nat.le_of_ble_eq_true rfl) (Nat.le_of_ble_eq_true rfl) (Nat.le_of_ble_eq_true rfl) (by first | exact Nat.le_of_ble_eq_true rfl | omega) (by first | exact Nat.le_of_ble_eq_true rfl | omega) ?_
              refine PRk ?_
              refine V_callV (st := []) (nn := 1) F dX12_boardOnce_120 lk_X12_121 (ct_TT_get hRn hI hu) ⟨3, _, _, _, rfl, .inl hRn.1⟩ rfl rfl (Nat.le_of_ble_eq_true rfl) (Nat.le_of_ble_eq_true rfl) (Nat.le_of_ble_eq_true rfl) (by first | exact Nat.le_of_ble_eq_true rfl | omega) (by first | exact Nat.le_of_ble_eq_true rfl | omega) ?_
              refine PRk ?_
              refine V_aload (i := 5) F dX12_boardOnce_123 rfl ?_
              refine V_callV (st := [.ref ((x u))]) (nn := 0) F dX12_boardOnce_125 lk_X12_86 (ct_Leg_number hq) ⟨5, _, _, _, rfl, (.inl hq)⟩ rfl rfl (Nat.le_of_ble_eq_true rfl) (Nat.le_of_ble_eq_true rfl) (Nat.le_of_ble_eq_true rfl) (by first | exact Nat.le_of_ble_eq_true rfl | omega) (by first | exact Nat.le_of_ble_eq_true rfl | omega) ?_
              refine PRk ?_
              refine V_callV (st := []) (nn := 1) F dX12_boardOnce_128 lk_X12_138 (ct_TR_isFull (hRn.2.2 u hu) (by omega) hI.2.2.2.2.1 hI.b) ⟨4, _, _, _, rfl, (.inl (hRn.2.2 u hu).1)⟩ rfl rfl (Nat.le_of_ble_eq_true rfl) (Nat.le_of_ble_eq_true rfl) (Nat.le_of_ble_eq_true rfl) (by first | exact Nat.le_of_ble_eq_true rfl | omega) (by first | exact Nat.le_of_ble_eq_true rfl | omega) ?_
              refine PRk ?_
              refine V_if_neB (tgt := 138) F dX12_boardOnce_131 (by decide) (fun c_131 => ?_) (fun c_131 => ?_)
              · refine V_iconst (v := nI 0) F dX12_boardOnce_138 rfl ?_
                refine V_istore_n (i := 3) F dX12_boardOnce_139 rfl (Nat.le_of_ble_eq_true rfl) (Nat.le_of_ble_eq_true rfl) ?_
                refine V_aload_n (i := 2) F dX12_boardOnce_140 rfl rfl ?_
                refine V_aload (i := 5) F dX12_boardOnce_141 rfl ?_
                refine V_callV (st := [.ref (af)]) (nn := 0) F dX12_boardOnce_143 lk_X12_96 (ct_Leg_to hq) ⟨5, _, _, _, rfl, (.inl hq)⟩ rfl rfl (Nat.le_of_ble_eq_true rfl) (Nat.le_of_ble_eq_true rfl) (Nat.le_of_ble_eq_true rfl) (by first | exact Nat.le_of_ble_eq_true rfl | omega) (by first | exact Nat.le_of_ble_eq_true rfl | omega) ?_
                refine PRk ?_
                refine V_iload_n (i := 3) F dX12_boardOnce_146 rfl rfl ?_
                refine V_if_eqN (tgt := 168) F dX12_boardOnce_147 (by decide) (by omega) (fun c_147 => ?_) (fun c_147 => absurd c_147 (by decide))
                refine V_aload_n (i := 2) F dX12_boardOnce_168 rfl rfl ?_
                refine V_aload (i := 5) F dX12_boardOnce_169 rfl ?_
                refine V_callV (st := [.ref (af), .int (nI (plG g u (k + 1))), .ref (af)]) (nn := 0) F dX12_boardOnce_171 lk_X12_96 (ct_Leg_to hq) ⟨5, _, _, _, rfl, (.inl hq)⟩ rfl rfl (Nat.le_of_ble_eq_true rfl) (Nat.le_of_ble_eq_true rfl) (Nat.le_of_ble_eq_true rfl) (by first | exact Nat.le_of_ble_eq_true rfl | omega) (by first | exact Nat.le_of_ble_eq_true rfl | omega) ?_
                refine PRk ?_
                refine V_ialdG F dX12_boardOnce_174 (.inl p4) (hI.pl hu (by omega)) hI.b.lt rfl ?_
                have p9 : h3 ((x u)) = some (.inr (4, [.int (nI (g (16 + 36 * u + 0))), .ref ((A u 0)), .ref ((A u 1)), .ref ((A u 2)), .ref ((A u 3)), .ref ((A u 4)), .int (nI (g (16 + 36 * u + 3))), .int (nI (g (16 + 36 * u + 2)))])) := (hRn.2.2 u hu).1
                obtain ⟨lr4, hit4⟩ := hI4
                refine V_iastG F dX12_boardOnce_175 p4 (hI.pl hu (by omega)) hI.b.lt ?_
                refine V_goto (tgt := 21) F dX12_boardOnce_176 (by decide) ?_
                refine VV.weak (L' := [some (.ref (j)), some (.ref (bA)), some (.ref (af)), some (.int (nI (0))), some (.ref (it)), none, none]) (LW.c1 (LW.c1 (LW.c1 (LW.c1 (LW.c1 (LW.c0 (LW.c0 LW.nil))))))) ?_
                have hfr := (f5.put (x := .inl (G.2.1 0, (g 0), .inl (fun i => nI (((up E (plG g u (k + 1)) (E (plG g u (k + 1))))) i)))) p4 ⟨rfl, rfl⟩ rfl (Or.inl (Or.inr (Or.inl rfl))))
                have pe : (hset h3 (af) (.inl (G.2.1 0, (g 0), .inl (fun i => nI (((up E (plG g u (k + 1)) (E (plG g u (k + 1))))) i))))) af = some (.inl (G.2.1 0, (g 0), .inl (fun i => nI (((up E (plG g u (k + 1)) (E (plG g u (k + 1))))) i)))) := (hset_self (e := .inl (G.2.1 0, (g 0), .inl (fun i => nI (((up E (plG g u (k + 1)) (E (plG g u (k + 1))))) i)))))
                have pj : (hset h3 (af) (.inl (G.2.1 0, (g 0), .inl (fun i => nI (((up E (plG g u (k + 1)) (E (plG g u (k + 1))))) i))))) j = some (.inr (10, [.ref (tt), .ref (lg), .ref (tr), .int (nI (a)), .int (nI (v)), .ref (eA), .ref (rA)])) := ((hset_ne (ne_oa p1 p4)).trans p1)
                have pt : (hset h3 (af) (.inl (G.2.1 0, (g 0), .inl (fun i => nI (((up E (plG g u (k + 1)) (E (plG g u (k + 1))))) i))))) tr = some (.inl (G.2.1 0, (g 0), .inl (fun i => nI ((fun i => g (8 + i)) i)))) := ((hset_ne htaf).trans p2)
                have pb : (hset h3 (af) (.inl (G.2.1 0, (g 0), .inl (fun i => nI (((up E (plG g u (k + 1)) (E (plG g u (k + 1))))) i))))) bA = some (.inl (G.2.1 0, (g 0), .inl (fun i => nI (b i)))) := ((hset_ne hbaf2).trans p3)
                have hcd : ¬ (((0 < k ∧ ab = 1) ∨ b (plG g u k) + (if (plG g u k) = a then 0 else g (8 + (plG g u k))) ≤ LvG g u k) ∧ ¬ ldG g u k = g (16 + 36 * u + 0)) := by
                  rcases Nat.decEq (plG g u k) a with z | z
                  · simp only [if_neg z] at *; omega
                  · simp only [if_pos z] at *; omega
                have hF5 : Fr nM h ((hset h3 (af) (.inl (G.2.1 0, (g 0), .inl (fun i => nI (((up E (plG g u (k + 1)) (E (plG g u (k + 1))))) i)))))) := hF.cal hfr (fun b z => z.elim (fun q => Or.inr (q ▸ hit0)) (fun q => Or.inr (q.elim (fun q => q ▸ haf0) (fun q => q ▸ haf0))))
                have hI5 : ITR ((hset h3 (af) (.inl (G.2.1 0, (g 0), .inl (fun i => nI (((up E (plG g u (k + 1)) (E (plG g u (k + 1))))) i)))))) it lg (i + 1) (lgL g).length := ⟨lr4, (hset_ne (Ne.symm hait)).trans hit4⟩
                refine ih_21 (i + 1) 0 E _ (by omega) (by omega) (by omega) hI5 pj (pe.trans (by rw [up_id])) pt pb hF5 ?_ ?_
                · exact hEM
                · rw [foldl_take (d := (0, 0)) hi, hfo, hp0]
                  exact if_neg hcd
              · refine V_iconst (v := nI 1) F dX12_boardOnce_134 rfl ?_
                refine V_goto (tgt := 139) F dX12_boardOnce_135 (by decide) ?_
                refine V_istore_n (i := 3) F dX12_boardOnce_139 rfl (Nat.le_of_ble_eq_true rfl) (Nat.le_of_ble_eq_true rfl) ?_
                refine V_aload_n (i := 2) F dX12_boardOnce_140 rfl rfl ?_
                refine V_aload (i := 5) F dX12_boardOnce_141 rfl ?_
                refine V_callV (st := [.ref (af)]) (nn := 0) F dX12_boardOnce_143 lk_X12_96 (ct_Leg_to hq) ⟨5, _, _, _, rfl, (.inl hq)⟩ rfl rfl (Nat.le_of_ble_eq_true rfl) (Nat.le_of_ble_eq_true rfl) (Nat.le_of_ble_eq_true rfl) (by first | exact Nat.le_of_ble_eq_true rfl | omega) (by first | exact Nat.le_of_ble_eq_true rfl | omega) ?_
                refine PRk ?_
                refine V_iload_n (i := 3) F dX12_boardOnce_146 rfl rfl ?_
                refine V_if_eqN (tgt := 168) F dX12_boardOnce_147 (by decide) (by omega) (fun c_147 => absurd c_147 (by decide)) (fun c_147 => ?_)
                refine V_aload_n (i := 2) F dX12_boardOnce_150 rfl rfl ?_
                refine V_aload (i := 5) F dX12_boardOnce_151 rfl ?_
                refine V_callV (st := [.ref (af), .int (nI (plG g u (k + 1))), .ref (af)]) (nn := 0) F dX12_boardOnce_153 lk_X12_96 (ct_Leg_to hq) ⟨5, _, _, _, rfl, (.inl hq)⟩ rfl rfl (Nat.le_of_ble_eq_true rfl) (Nat.le_of_ble_eq_true rfl) (Nat.le_of_ble_eq_true rfl) (by first | exact Nat.le_of_ble_eq_true rfl | omega) (by first | exact Nat.le_of_ble_eq_true rfl | omega) ?_
                refine PRk ?_
                refine V_ialdG F dX12_boardOnce_156 (.inl p4) (hI.pl hu (by omega)) hI.b.lt rfl ?_
                refine V_aload (i := 5) F dX12_boardOnce_157 rfl ?_
                refine V_callV (st := [.int (nI (E (plG g u (k + 1)))), .int (nI (plG g u (k + 1))), .ref (af)]) (nn := 0) F dX12_boardOnce_159 lk_X12_99 (ct_Leg_arrival hq) ⟨5, _, _, _, rfl, (.inl hq)⟩ rfl rfl (Nat.le_of_ble_eq_true rfl) (Nat.le_of_ble_eq_true rfl) (Nat.le_of_ble_eq_true rfl) (by first | exact Nat.le_of_ble_eq_true rfl | omega) (by first | exact Nat.le_of_ble_eq_true rfl | omega) ?_
                refine PRk ?_
                refine V_mminN (a := (E (plG g u (k + 1)))) (b := (CmG g u (k + 1))) F dX12_boardOnce_162 q1456 (by have := hEM (plG g u (k + 1)); omega) (Nat.lt_trans (CmG_31 hI.b (by omega)) (by decide)) (Nat.le_of_ble_eq_true rfl) (Nat.le_of_ble_eq_true rfl) (by first | exact Nat.le_of_ble_eq_true rfl | omega) (by first | exact Nat.le_of_ble_eq_true rfl | omega) ?_
                refine V_goto (tgt := 175) F dX12_boardOnce_165 (by decide) ?_
                have p10 : h3 ((x u)) = some (.inr (4, [.int (nI (g (16 + 36 * u + 0))), .ref ((A u 0)), .ref ((A u 1)), .ref ((A u 2)), .ref ((A u 3)), .ref ((A u 4)), .int (nI (g (16 + 36 * u + 3))), .int (nI (g (16 + 36 * u + 2)))])) := (hRn.2.2 u hu).1
                obtain ⟨lr4, hit4⟩ := hI4
                refine V_iastG F dX12_boardOnce_175 p4 (hI.pl hu (by omega)) hI.b.lt ?_
                refine V_goto (tgt := 21) F dX12_boardOnce_176 (by decide) ?_
                refine VV.weak (L' := [some (.ref (j)), some (.ref (bA)), some (.ref (af)), some (.int (nI (1))), some (.ref (it)), none, none]) (LW.c1 (LW.c1 (LW.c1 (LW.c1 (LW.c1 (LW.c0 (LW.c0 LW.nil))))))) ?_
                have hfr := (f5.put (x := .inl (G.2.1 0, (g 0), .inl (fun i => nI (((up E (plG g u (k + 1)) (min (E (plG g u (k + 1))) (CmG g u (k + 1))))) i)))) p4 ⟨rfl, rfl⟩ rfl (Or.inl (Or.inr (Or.inl rfl))))
                have pe : (hset h3 (af) (.inl (G.2.1 0, (g 0), .inl (fun i => nI (((up E (plG g u (k + 1)) (min (E (plG g u (k + 1))) (CmG g u (k + 1))))) i))))) af = some (.inl (G.2.1 0, (g 0), .inl (fun i => nI (((up E (plG g u (k + 1)) (min (E (plG g u (k + 1))) (CmG g u (k + 1))))) i)))) := (hset_self (e := .inl (G.2.1 0, (g 0), .inl (fun i => nI (((up E (plG g u (k + 1)) (min (E (plG g u (k + 1))) (CmG g u (k + 1))))) i)))))
                have pj : (hset h3 (af) (.inl (G.2.1 0, (g 0), .inl (fun i => nI (((up E (plG g u (k + 1)) (min (E (plG g u (k + 1))) (CmG g u (k + 1))))) i))))) j = some (.inr (10, [.ref (tt), .ref (lg), .ref (tr), .int (nI (a)), .int (nI (v)), .ref (eA), .ref (rA)])) := ((hset_ne (ne_oa p1 p4)).trans p1)
                have pt : (hset h3 (af) (.inl (G.2.1 0, (g 0), .inl (fun i => nI (((up E (plG g u (k + 1)) (min (E (plG g u (k + 1))) (CmG g u (k + 1))))) i))))) tr = some (.inl (G.2.1 0, (g 0), .inl (fun i => nI ((fun i => g (8 + i)) i)))) := ((hset_ne htaf).trans p2)
                have pb : (hset h3 (af) (.inl (G.2.1 0, (g 0), .inl (fun i => nI (((up E (plG g u (k + 1)) (min (E (plG g u (k + 1))) (CmG g u (k + 1))))) i))))) bA = some (.inl (G.2.1 0, (g 0), .inl (fun i => nI (b i)))) := ((hset_ne hbaf2).trans p3)
                have hcd : (((0 < k ∧ ab = 1) ∨ b (plG g u k) + (if (plG g u k) = a then 0 else g (8 + (plG g u k))) ≤ LvG g u k) ∧ ¬ ldG g u k = g (16 + 36 * u + 0)) := by
                  rcases Nat.decEq (plG g u k) a with z | z
                  · simp only [if_neg z] at *; omega
                  · simp only [if_pos z] at *; omega
                have hF5 : Fr nM h ((hset h3 (af) (.inl (G.2.1 0, (g 0), .inl (fun i => nI (((up E (plG g u (k + 1)) (min (E (plG g u (k + 1))) (CmG g u (k + 1))))) i)))))) := hF.cal hfr (fun b z => z.elim (fun q => Or.inr (q ▸ hit0)) (fun q => Or.inr (q.elim (fun q => q ▸ haf0) (fun q => q ▸ haf0))))
                have hI5 : ITR ((hset h3 (af) (.inl (G.2.1 0, (g 0), .inl (fun i => nI (((up E (plG g u (k + 1)) (min (E (plG g u (k + 1))) (CmG g u (k + 1))))) i)))))) it lg (i + 1) (lgL g).length := ⟨lr4, (hset_ne (Ne.symm hait)).trans hit4⟩
                refine ih_21 (i + 1) 1 ((up E (plG g u (k + 1)) (min (E (plG g u (k + 1))) (CmG g u (k + 1))))) _ (by omega) (by omega) (by omega) hI5 pj pe pt pb hF5 ?_ ?_
                · intro z; unfold up; split <;> first | exact Nat.le_trans (Nat.min_le_left _ _) (hEM _) | exact hEM z
                · rw [foldl_take (d := (0, 0)) hi, hfo, hp0]
                  exact if_pos hcd
            · refine V_aload (i := 5) F dX12_boardOnce_91 rfl ?_
              refine V_callV (st := []) (nn := 0) F dX12_boardOnce_93 lk_X12_44 (ct_Leg_departure hq) ⟨5, _, _, _, rfl, (.inl hq)⟩ rfl rfl (Nat.le_of_ble_eq_true rfl) (Nat.le_of_ble_eq_true rfl) (Nat.le_of_ble_eq_true rfl) (by first | exact Nat.le_of_ble_eq_true rfl | omega) (by first | exact Nat.le_of_ble_eq_true rfl | omega) ?_
              refine PRk ?_
              refine V_iload (i := 6) F dX12_boardOnce_96 rfl ?_
              refine V_icmp_ltN (tgt := 105) F dX12_boardOnce_98 (by decide) (Nat.lt_trans (LvG_31 hI.b (by omega)) (by decide)) (by have := hbM (plG g u k); have := hI.b (8 + plG g u k); omega) (fun c_98 => ?_) (fun c_98 => ?_)
              · refine V_iconst (v := nI 0) F dX12_boardOnce_105 rfl ?_
                refine V_istore_n (i := 3) F dX12_boardOnce_106 rfl (Nat.le_of_ble_eq_true rfl) (Nat.le_of_ble_eq_true rfl) ?_
                refine V_iload_n (i := 3) F dX12_boardOnce_107 rfl rfl ?_
                refine V_if_eqN (tgt := 138) F dX12_boardOnce_108 (by decide) (by omega) (fun c_108 => ?_) (fun c_108 => absurd c_108 (by decide))
                refine V_iconst (v := nI 0) F dX12_boardOnce_138 rfl ?_
                refine V_istore_n (i := 3) F dX12_boardOnce_139 rfl (Nat.le_of_ble_eq_true rfl) (Nat.le_of_ble_eq_true rfl) ?_
                refine V_aload_n (i := 2) F dX12_boardOnce_140 rfl rfl ?_
                refine V_aload (i := 5) F dX12_boardOnce_141 rfl ?_
                refine V_callV (st := [.ref (af)]) (nn := 0) F dX12_boardOnce_143 lk_X12_96 (ct_Leg_to hq) ⟨5, _, _, _, rfl, (.inl hq)⟩ rfl rfl (Nat.le_of_ble_eq_true rfl) (Nat.le_of_ble_eq_true rfl) (Nat.le_of_ble_eq_true rfl) (by first | exact Nat.le_of_ble_eq_true rfl | omega) (by first | exact Nat.le_of_ble_eq_true rfl | omega) ?_
                refine PRk ?_
                refine V_iload_n (i := 3) F dX12_boardOnce_146 rfl rfl ?_
                refine V_if_eqN (tgt := 168) F dX12_boardOnce_147 (by decide) (by omega) (fun c_147 => ?_) (fun c_147 => absurd c_147 (by decide))
                refine V_aload_n (i := 2) F dX12_boardOnce_168 rfl rfl ?_
                refine V_aload (i := 5) F dX12_boardOnce_169 rfl ?_
                refine V_callV (st := [.ref (af), .int (nI (plG g u (k + 1))), .ref (af)]) (nn := 0) F dX12_boardOnce_171 lk_X12_96 (ct_Leg_to hq) ⟨5, _, _, _, rfl, (.inl hq)⟩ rfl rfl (Nat.le_of_ble_eq_true rfl) (Nat.le_of_ble_eq_true rfl) (Nat.le_of_ble_eq_true rfl) (by first | exact Nat.le_of_ble_eq_true rfl | omega) (by first | exact Nat.le_of_ble_eq_true rfl | omega) ?_
                refine PRk ?_
                refine V_ialdG F dX12_boardOnce_174 (.inl p4) (hI.pl hu (by omega)) hI.b.lt rfl ?_
                have p11 : h3 ((x u)) = some (.inr (4, [.int (nI (g (16 + 36 * u + 0))), .ref ((A u 0)), .ref ((A u 1)), .ref ((A u 2)), .ref ((A u 3)), .ref ((A u 4)), .int (nI (g (16 + 36 * u + 3))), .int (nI (g (16 + 36 * u + 2)))])) := (hRn.2.2 u hu).1
                obtain ⟨lr4, hit4⟩ := hI4
                refine V_iastG F dX12_boardOnce_175 p4 (hI.pl hu (by omega)) hI.b.lt ?_
                refine V_goto (tgt := 21) F dX12_boardOnce_176 (by decide) ?_
                refine VV.weak (L' := [some (.ref (j)), some (.ref (bA)), some (.ref (af)), some (.int (nI (0))), some (.ref (it)), none, none]) (LW.c1 (LW.c1 (LW.c1 (LW.c1 (LW.c1 (LW.c0 (LW.c0 LW.nil))))))) ?_
                have hfr := (f5.put (x := .inl (G.2.1 0, (g 0), .inl (fun i => nI (((up E (plG g u (k + 1)) (E (plG g u (k + 1))))) i)))) p4 ⟨rfl, rfl⟩ rfl (Or.inl (Or.inr (Or.inl rfl))))
                have pe : (hset h3 (af) (.inl (G.2.1 0, (g 0), .inl (fun i => nI (((up E (plG g u (k + 1)) (E (plG g u (k + 1))))) i))))) af = some (.inl (G.2.1 0, (g 0), .inl (fun i => nI (((up E (plG g u (k + 1)) (E (plG g u (k + 1))))) i)))) := (hset_self (e := .inl (G.2.1 0, (g 0), .inl (fun i => nI (((up E (plG g u (k + 1)) (E (plG g u (k + 1))))) i)))))
                have pj : (hset h3 (af) (.inl (G.2.1 0, (g 0), .inl (fun i => nI (((up E (plG g u (k + 1)) (E (plG g u (k + 1))))) i))))) j = some (.inr (10, [.ref (tt), .ref (lg), .ref (tr), .int (nI (a)), .int (nI (v)), .ref (eA), .ref (rA)])) := ((hset_ne (ne_oa p1 p4)).trans p1)
                have pt : (hset h3 (af) (.inl (G.2.1 0, (g 0), .inl (fun i => nI (((up E (plG g u (k + 1)) (E (plG g u (k + 1))))) i))))) tr = some (.inl (G.2.1 0, (g 0), .inl (fun i => nI ((fun i => g (8 + i)) i)))) := ((hset_ne htaf).trans p2)
                have pb : (hset h3 (af) (.inl (G.2.1 0, (g 0), .inl (fun i => nI (((up E (plG g u (k + 1)) (E (plG g u (k + 1))))) i))))) bA = some (.inl (G.2.1 0, (g 0), .inl (fun i => nI (b i)))) := ((hset_ne hbaf2).trans p3)
                have hcd : ¬ (((0 < k ∧ ab = 1) ∨ b (plG g u k) + (if (plG g u k) = a then 0 else g (8 + (plG g u k))) ≤ LvG g u k) ∧ ¬ ldG g u k = g (16 + 36 * u + 0)) := by
                  rcases Nat.decEq (plG g u k) a with z | z
                  · simp only [if_neg z] at *; omega
                  · simp only [if_pos z] at *; omega
                have hF5 : Fr nM h ((hset h3 (af) (.inl (G.2.1 0, (g 0), .inl (fun i => nI (((up E (plG g u (k + 1)) (E (plG g u (k + 1))))) i)))))) := hF.cal hfr (fun b z => z.elim (fun q => Or.inr (q ▸ hit0)) (fun q => Or.inr (q.elim (fun q => q ▸ haf0) (fun q => q ▸ haf0))))
                have hI5 : ITR ((hset h3 (af) (.inl (G.2.1 0, (g 0), .inl (fun i => nI (((up E (plG g u (k + 1)) (E (plG g u (k + 1))))) i)))))) it lg (i + 1) (lgL g).length := ⟨lr4, (hset_ne (Ne.symm hait)).trans hit4⟩
                refine ih_21 (i + 1) 0 E _ (by omega) (by omega) (by omega) hI5 pj (pe.trans (by rw [up_id])) pt pb hF5 ?_ ?_
                · exact hEM
                · rw [foldl_take (d := (0, 0)) hi, hfo, hp0]
                  exact if_neg hcd
              · refine V_iconst (v := nI 1) F dX12_boardOnce_101 rfl ?_
                refine V_goto (tgt := 106) F dX12_boardOnce_102 (by decide) ?_
                refine V_istore_n (i := 3) F dX12_boardOnce_106 rfl (Nat.le_of_ble_eq_true rfl) (Nat.le_of_ble_eq_true rfl) ?_
                refine V_iload_n (i := 3) F dX12_boardOnce_107 rfl rfl ?_
                refine V_if_eqN (tgt := 138) F dX12_boardOnce_108 (by decide) (by omega) (fun c_108 => absurd c_108 (by decide)) (fun c_108 => ?_)
                refine V_aload_n (i := 0) F dX12_boardOnce_111 rfl rfl ?_
                refine V_getf F dX12_boardOnce_112 fc_X12_9_X12 (.inl p1) rfl ?_
                refine V_aload (i := 5) F dX12_boardOnce_115 rfl ?_
                refine V_callV (st := [.ref (tt)]) (nn := 0) F dX12_boardOnce_117 lk_X12_83 (ct_Leg_train hq) ⟨5, _, _, _, rfl, (.inl hq)⟩ rfl rfl (Nat.le_of_ble_eq_true rfl) (Nat.le_of_ble_eq_true rfl) (Nat.le_of_ble_eq_true rfl) (by first | exact Nat.le_of_ble_eq_true rfl | omega) (by first | exact Nat.le_of_ble_eq_true rfl | omega) ?_
                refine PRk ?_
                refine V_callV (st := []) (nn := 1) F dX12_boardOnce_120 lk_X12_121 (ct_TT_get hRn hI hu) ⟨3, _, _, _, rfl, .inl hRn.1⟩ rfl rfl (Nat.le_of_ble_eq_true rfl) (Nat.le_of_ble_eq_true rfl) (Nat.le_of_ble_eq_true rfl) (by first | exact Nat.le_of_ble_eq_true rfl | omega) (by first | exact Nat.le_of_ble_eq_true rfl | omega) ?_
                refine PRk ?_
                refine V_aload (i := 5) F dX12_boardOnce_123 rfl ?_
                refine V_callV (st := [.ref ((x u))]) (nn := 0) F dX12_boardOnce_125 lk_X12_86 (ct_Leg_number hq) ⟨5, _, _, _, rfl, (.inl hq)⟩ rfl rfl (Nat.le_of_ble_eq_true rfl) (Nat.le_of_ble_eq_true rfl) (Nat.le_of_ble_eq_true rfl) (by first | exact Nat.le_of_ble_eq_true rfl | omega) (by first | exact Nat.le_of_ble_eq_true rfl | omega) ?_
                refine PRk ?_
                refine V_callV (st := []) (nn := 1) F dX12_boardOnce_128 lk_X12_138 (ct_TR_isFull (hRn.2.2 u hu) (by omega) hI.2.2.2.2.1 hI.b) ⟨4, _, _, _, rfl, (.inl (hRn.2.2 u hu).1)⟩ rfl rfl (Nat.le_of_ble_eq_true rfl) (Nat.le_of_ble_eq_true rfl) (Nat.le_of_ble_eq_true rfl) (by first | exact Nat.le_of_ble_eq_true rfl | omega) (by first | exact Nat.le_of_ble_eq_true rfl | omega) ?_
                refine PRk ?_
                refine V_if_neB (tgt := 138) F dX12_boardOnce_131 (by decide) (fun c_131 => ?_) (fun c_131 => ?_)
                · refine V_iconst (v := nI 0) F dX12_boardOnce_138 rfl ?_
                  refine V_istore_n (i := 3) F dX12_boardOnce_139 rfl (Nat.le_of_ble_eq_true rfl) (Nat.le_of_ble_eq_true rfl) ?_
                  refine V_aload_n (i := 2) F dX12_boardOnce_140 rfl rfl ?_
                  refine V_aload (i := 5) F dX12_boardOnce_141 rfl ?_
                  refine V_callV (st := [.ref (af)]) (nn := 0) F dX12_boardOnce_143 lk_X12_96 (ct_Leg_to hq) ⟨5, _, _, _, rfl, (.inl hq)⟩ rfl rfl (Nat.le_of_ble_eq_true rfl) (Nat.le_of_ble_eq_true rfl) (Nat.le_of_ble_eq_true rfl) (by first | exact Nat.le_of_ble_eq_true rfl | omega) (by first | exact Nat.le_of_ble_eq_true rfl | omega) ?_
                  refine PRk ?_
                  refine V_iload_n (i := 3) F dX12_boardOnce_146 rfl rfl ?_
                  refine V_if_eqN (tgt := 168) F dX12_boardOnce_147 (by decide) (by omega) (fun c_147 => ?_) (fun c_147 => absurd c_147 (by decide))
                  refine V_aload_n (i := 2) F dX12_boardOnce_168 rfl rfl ?_
                  refine V_aload (i := 5) F dX12_boardOnce_169 rfl ?_
                  refine V_callV (st := [.ref (af), .int (nI (plG g u (k + 1))), .ref (af)]) (nn := 0) F dX12_boardOnce_171 lk_X12_96 (ct_Leg_to hq) ⟨5, _, _, _, rfl, (.inl hq)⟩ rfl rfl (Nat.le_of_ble_eq_true rfl) (Nat.le_of_ble_eq_true rfl) (Nat.le_of_ble_eq_true rfl) (by first | exact Nat.le_of_ble_eq_true rfl | omega) (by first | exact Nat.le_of_ble_eq_true rfl | omega) ?_
                  refine PRk ?_
                  refine V_ialdG F dX12_boardOnce_174 (.inl p4) (hI.pl hu (by omega)) hI.b.lt rfl ?_
                  have p12 : h3 ((x u)) = some (.inr (4, [.int (nI (g (16 + 36 * u + 0))), .ref ((A u 0)), .ref ((A u 1)), .ref ((A u 2)), .ref ((A u 3)), .ref ((A u 4)), .int (nI (g (16 + 36 * u + 3))), .int (nI (g (16 + 36 * u + 2)))])) := (hRn.2.2 u hu).1
                  obtain ⟨lr4, hit4⟩ := hI4
                  refine V_iastG F dX12_boardOnce_175 p4 (hI.pl hu (by omega)) hI.b.lt ?_
                  refine V_goto (tgt := 21) F dX12_boardOnce_176 (by decide) ?_
                  refine VV.weak (L' := [some (.ref (j)), some (.ref (bA)), some (.ref (af)), some (.int (nI (0))), some (.ref (it)), none, none]) (LW.c1 (LW.c1 (LW.c1 (LW.c1 (LW.c1 (LW.c0 (LW.c0 LW.nil))))))) ?_
                  have hfr := (f5.put (x := .inl (G.2.1 0, (g 0), .inl (fun i => nI (((up E (plG g u (k + 1)) (E (plG g u (k + 1))))) i)))) p4 ⟨rfl, rfl⟩ rfl (Or.inl (Or.inr (Or.inl rfl))))
                  have pe : (hset h3 (af) (.inl (G.2.1 0, (g 0), .inl (fun i => nI (((up E (plG g u (k + 1)) (E (plG g u (k + 1))))) i))))) af = some (.inl (G.2.1 0, (g 0), .inl (fun i => nI (((up E (plG g u (k + 1)) (E (plG g u (k + 1))))) i)))) := (hset_self (e := .inl (G.2.1 0, (g 0), .inl (fun i => nI (((up E (plG g u (k + 1)) (E (plG g u (k + 1))))) i)))))
                  have pj : (hset h3 (af) (.inl (G.2.1 0, (g 0), .inl (fun i => nI (((up E (plG g u (k + 1)) (E (plG g u (k + 1))))) i))))) j = some (.inr (10, [.ref (tt), .ref (lg), .ref (tr), .int (nI (a)), .int (nI (v)), .ref (eA), .ref (rA)])) := ((hset_ne (ne_oa p1 p4)).trans p1)
                  have pt : (hset h3 (af) (.inl (G.2.1 0, (g 0), .inl (fun i => nI (((up E (plG g u (k + 1)) (E (plG g u (k + 1))))) i))))) tr = some (.inl (G.2.1 0, (g 0), .inl (fun i => nI ((fun i => g (8 + i)) i)))) := ((hset_ne htaf).trans p2)
                  have pb : (hset h3 (af) (.inl (G.2.1 0, (g 0), .inl (fun i => nI (((up E (plG g u (k + 1)) (E (plG g u (k + 1))))) i))))) bA = some (.inl (G.2.1 0, (g 0), .inl (fun i => nI (b i)))) := ((hset_ne hbaf2).trans p3)
                  have hcd : ¬ (((0 < k ∧ ab = 1) ∨ b (plG g u k) + (if (plG g u k) = a then 0 else g (8 + (plG g u k))) ≤ LvG g u k) ∧ ¬ ldG g u k = g (16 + 36 * u + 0)) := by
                    rcases Nat.decEq (plG g u k) a with z | z
                    · simp only [if_neg z] at *; omega
                    · simp only [if_pos z] at *; omega
                  have hF5 : Fr nM h ((hset h3 (af) (.inl (G.2.1 0, (g 0), .inl (fun i => nI (((up E (plG g u (k + 1)) (E (plG g u (k + 1))))) i)))))) := hF.cal hfr (fun b z => z.elim (fun q => Or.inr (q ▸ hit0)) (fun q => Or.inr (q.elim (fun q => q ▸ haf0) (fun q => q ▸ haf0))))
                  have hI5 : ITR ((hset h3 (af) (.inl (G.2.1 0, (g 0), .inl (fun i => nI (((up E (plG g u (k + 1)) (E (plG g u (k + 1))))) i)))))) it lg (i + 1) (lgL g).length := ⟨lr4, (hset_ne (Ne.symm hait)).trans hit4⟩
                  refine ih_21 (i + 1) 0 E _ (by omega) (by omega) (by omega) hI5 pj (pe.trans (by rw [up_id])) pt pb hF5 ?_ ?_
                  · exact hEM
                  · rw [foldl_take (d := (0, 0)) hi, hfo, hp0]
                    exact if_neg hcd
                · refine V_iconst (v := nI 1) F dX12_boardOnce_134 rfl ?_
                  refine V_goto (tgt := 139) F dX12_boardOnce_135 (by decide) ?_
                  refine V_istore_n (i := 3) F dX12_boardOnce_139 rfl (Nat.le_of_ble_eq_true rfl) (Nat.le_of_ble_eq_true rfl) ?_
                  refine V_aload_n (i := 2) F dX12_boardOnce_140 rfl rfl ?_
                  refine V_aload (i := 5) F dX12_boardOnce_141 rfl ?_
                  refine V_callV (st := [.ref (af)]) (nn := 0) F dX12_boardOnce_143 lk_X12_96 (ct_Leg_to hq) ⟨5, _, _, _, rfl, (.inl hq)⟩ rfl rfl (Nat.le_of_ble_eq_true rfl) (Nat.le_of_ble_eq_true rfl) (Nat.le_of_ble_eq_true rfl) (by first | exact Nat.le_of_ble_eq_true rfl | omega) (by first | exact Nat.le_of_ble_eq_true rfl | omega) ?_
                  refine PRk ?_
                  refine V_iload_n (i := 3) F dX12_boardOnce_146 rfl rfl ?_
                  refine V_if_eqN (tgt := 168) F dX12_boardOnce_147 (by decide) (by omega) (fun c_147 => absurd c_147 (by decide)) (fun c_147 => ?_)
                  refine V_aload_n (i := 2) F dX12_boardOnce_150 rfl rfl ?_
                  refine V_aload (i := 5) F dX12_boardOnce_151 rfl ?_
                  refine V_callV (st := [.ref (af), .int (nI (plG g u (k + 1))), .ref (af)]) (nn := 0) F dX12_boardOnce_153 lk_X12_96 (ct_Leg_to hq) ⟨5, _, _, _, rfl, (.inl hq)⟩ rfl rfl (Nat.le_of_ble_eq_true rfl) (Nat.le_of_ble_eq_true rfl) (Nat.le_of_ble_eq_true rfl) (by first | exact Nat.le_of_ble_eq_true rfl | omega) (by first | exact Nat.le_of_ble_eq_true rfl | omega) ?_
                  refine PRk ?_
                  refine V_ialdG F dX12_boardOnce_156 (.inl p4) (hI.pl hu (by omega)) hI.b.lt rfl ?_
                  refine V_aload (i := 5) F dX12_boardOnce_157 rfl ?_
                  refine V_callV (st := [.int (nI (E (plG g u (k + 1)))), .int (nI (plG g u (k + 1))), .ref (af)]) (nn := 0) F dX12_boardOnce_159 lk_X12_99 (ct_Leg_arrival hq) ⟨5, _, _, _, rfl, (.inl hq)⟩ rfl rfl (Nat.le_of_ble_eq_true rfl) (Nat.le_of_ble_eq_true rfl) (Nat.le_of_ble_eq_true rfl) (by first | exact Nat.le_of_ble_eq_true rfl | omega) (by first | exact Nat.le_of_ble_eq_true rfl | omega) ?_
                  refine PRk ?_
                  refine V_mminN (a := (E (plG g u (k + 1)))) (b := (CmG g u (k + 1))) F dX12_boardOnce_162 q1456 (by have := hEM (plG g u (k + 1)); omega) (Nat.lt_trans (CmG_31 hI.b (by omega)) (by decide)) (Nat.le_of_ble_eq_true rfl) (Nat.le_of_ble_eq_true rfl) (by first | exact Nat.le_of_ble_eq_true rfl | omega) (by first | exact Nat.le_of_ble_eq_true rfl | omega) ?_
                  refine V_goto (tgt := 175) F dX12_boardOnce_165 (by decide) ?_
                  have p13 : h3 ((x u)) = some (.inr (4, [.int (nI (g (16 + 36 * u + 0))), .ref ((A u 0)), .ref ((A u 1)), .ref ((A u 2)), .ref ((A u 3)), .ref ((A u 4)), .int (nI (g (16 + 36 * u + 3))), .int (nI (g (16 + 36 * u + 2)))])) := (hRn.2.2 u hu).1
                  obtain ⟨lr4, hit4⟩ := hI4
                  refine V_iastG F dX12_boardOnce_175 p4 (hI.pl hu (by omega)) hI.b.lt ?_
                  refine V_goto (tgt := 21) F dX12_boardOnce_176 (by decide) ?_
                  refine VV.weak (L' := [some (.ref (j)), some (.ref (bA)), some (.ref (af)), some (.int (nI (1))), some (.ref (it)), none, none]) (LW.c1 (LW.c1 (LW.c1 (LW.c1 (LW.c1 (LW.c0 (LW.c0 LW.nil))))))) ?_
                  have hfr := (f5.put (x := .inl (G.2.1 0, (g 0), .inl (fun i => nI (((up E (plG g u (k + 1)) (min (E (plG g u (k + 1))) (CmG g u (k + 1))))) i)))) p4 ⟨rfl, rfl⟩ rfl (Or.inl (Or.inr (Or.inl rfl))))
                  have pe : (hset h3 (af) (.inl (G.2.1 0, (g 0), .inl (fun i => nI (((up E (plG g u (k + 1)) (min (E (plG g u (k + 1))) (CmG g u (k + 1))))) i))))) af = some (.inl (G.2.1 0, (g 0), .inl (fun i => nI (((up E (plG g u (k + 1)) (min (E (plG g u (k + 1))) (CmG g u (k + 1))))) i)))) := (hset_self (e := .inl (G.2.1 0, (g 0), .inl (fun i => nI (((up E (plG g u (k + 1)) (min (E (plG g u (k + 1))) (CmG g u (k + 1))))) i)))))
                  have pj : (hset h3 (af) (.inl (G.2.1 0, (g 0), .inl (fun i => nI (((up E (plG g u (k + 1)) (min (E (plG g u (k + 1))) (CmG g u (k + 1))))) i))))) j = some (.inr (10, [.ref (tt), .ref (lg), .ref (tr), .int (nI (a)), .int (nI (v)), .ref (eA), .ref (rA)])) := ((hset_ne (ne_oa p1 p4)).trans p1)
                  have pt : (hset h3 (af) (.inl (G.2.1 0, (g 0), .inl (fun i => nI (((up E (plG g u (k + 1)) (min (E (plG g u (k + 1))) (CmG g u (k + 1))))) i))))) tr = some (.inl (G.2.1 0, (g 0), .inl (fun i => nI ((fun i => g (8 + i)) i)))) := ((hset_ne htaf).trans p2)
                  have pb : (hset h3 (af) (.inl (G.2.1 0, (g 0), .inl (fun i => nI (((up E (plG g u (k + 1)) (min (E (plG g u (k + 1))) (CmG g u (k + 1))))) i))))) bA = some (.inl (G.2.1 0, (g 0), .inl (fun i => nI (b i)))) := ((hset_ne hbaf2).trans p3)
                  have hcd : (((0 < k ∧ ab = 1) ∨ b (plG g u k) + (if (plG g u k) = a then 0 else g (8 + (plG g u k))) ≤ LvG g u k) ∧ ¬ ldG g u k = g (16 + 36 * u + 0)) := by
                    rcases Nat.decEq (plG g u k) a with z | z
                    · simp only [if_neg z] at *; omega
                    · simp only [if_pos z] at *; omega
                  have hF5 : Fr nM h ((hset h3 (af) (.inl (G.2.1 0, (g 0), .inl (fun i => nI (((up E (plG g u (k + 1)) (min (E (plG g u (k + 1))) (CmG g u (k + 1))))) i)))))) := hF.cal hfr (fun b z => z.elim (fun q => Or.inr (q ▸ hit0)) (fun q => Or.inr (q.elim (fun q => q ▸ haf0) (fun q => q ▸ haf0))))
                  have hI5 : ITR ((hset h3 (af) (.inl (G.2.1 0, (g 0), .inl (fun i => nI (((up E (plG g u (k + 1)) (min (E (plG g u (k + 1))) (CmG g u (k + 1))))) i)))))) it lg (i + 1) (lgL g).length := ⟨lr4, (hset_ne (Ne.symm hait)).trans hit4⟩
                  refine ih_21 (i + 1) 1 ((up E (plG g u (k + 1)) (min (E (plG g u (k + 1))) (CmG g u (k + 1))))) _ (by omega) (by omega) (by omega) hI5 pj pe pt pb hF5 ?_ ?_
                  · intro z; unfold up; split <;> first | exact Nat.le_trans (Nat.min_le_left _ _) (hEM _) | exact hEM z
                  · rw [foldl_take (d := (0, 0)) hi, hfo, hp0]
                    exact if_pos hcd
        · refine V_iconst (v := nI 0) F dX12_boardOnce_62 rfl ?_
          refine V_goto (tgt := 76) F dX12_boardOnce_63 (by decide) ?_
          refine V_iaddN F dX12_boardOnce_76 ?_
          refine V_istore (i := 6) F dX12_boardOnce_77 (Nat.le_of_ble_eq_true rfl) (Nat.le_of_ble_eq_true rfl) ?_
          refine V_aload (i := 5) F dX12_boardOnce_79 rfl ?_
          refine V_callV (st := []) (nn := 0) F dX12_boardOnce_81 lk_X12_86 (ct_Leg_number hq) ⟨5, _, _, _, rfl, (.inl hq)⟩ rfl rfl (Nat.le_of_ble_eq_true rfl) (Nat.le_of_ble_eq_true rfl) (Nat.le_of_ble_eq_true rfl) (by first | exact Nat.le_of_ble_eq_true rfl | omega) (by first | exact Nat.le_of_ble_eq_true rfl | omega) ?_
          refine PRk ?_
          refine V_if_leN (tgt := 91) F dX12_boardOnce_84 (by decide) (by omega) (fun c_84 => ?_) (fun c_84 => ?_)
          · refine V_aload (i := 5) F dX12_boardOnce_91 rfl ?_
            refine V_callV (st := []) (nn := 0) F dX12_boardOnce_93 lk_X12_44 (ct_Leg_departure hq) ⟨5, _, _, _, rfl, (.inl hq)⟩ rfl rfl (Nat.le_of_ble_eq_true rfl) (Nat.le_of_ble_eq_true rfl) (Nat.le_of_ble_eq_true rfl) (by first | exact Nat.le_of_ble_eq_true rfl | omega) (by first | exact Nat.le_of_ble_eq_true rfl | omega) ?_
            refine PRk ?_
            refine V_iload (i := 6) F dX12_boardOnce_96 rfl ?_
            refine V_icmp_ltN (tgt := 105) F dX12_boardOnce_98 (by decide) (Nat.lt_trans (LvG_31 hI.b (by omega)) (by decide)) (by have := hbM (plG g u k); have := hI.b (8 + plG g u k); omega) (fun c_98 => ?_) (fun c_98 => ?_)
            · refine V_iconst (v := nI 0) F dX12_boardOnce_105 rfl ?_
              refine V_istore_n (i := 3) F dX12_boardOnce_106 rfl (Nat.le_of_ble_eq_true rfl) (Nat.le_of_ble_eq_true rfl) ?_
              refine V_iload_n (i := 3) F dX12_boardOnce_107 rfl rfl ?_
              refine V_if_eqN (tgt := 138) F dX12_boardOnce_108 (by decide) (by omega) (fun c_108 => ?_) (fun c_108 => absurd c_108 (by decide))
              refine V_iconst (v := nI 0) F dX12_boardOnce_138 rfl ?_
              refine V_istore_n (i := 3) F dX12_boardOnce_139 rfl (Nat.le_of_ble_eq_true rfl) (Nat.le_of_ble_eq_true rfl) ?_
              refine V_aload_n (i := 2) F dX12_boardOnce_140 rfl rfl ?_
              refine V_aload (i := 5) F dX12_boardOnce_141 rfl ?_
              refine V_callV (st := [.ref (af)]) (nn := 0) F dX12_boardOnce_143 lk_X12_96 (ct_Leg_to hq) ⟨5, _, _, _, rfl, (.inl hq)⟩ rfl rfl (Nat.le_of_ble_eq_true rfl) (Nat.le_of_ble_eq_true rfl) (Nat.le_of_ble_eq_true rfl) (by first | exact Nat.le_of_ble_eq_true rfl | omega) (by first | exact Nat.le_of_ble_eq_true rfl | omega) ?_
              refine PRk ?_
              refine V_iload_n (i := 3) F dX12_boardOnce_146 rfl rfl ?_
              refine V_if_eqN (tgt := 168) F dX12_boardOnce_147 (by decide) (by omega) (fun c_147 => ?_) (fun c_147 => absurd c_147 (by decide))
              refine V_aload_n (i := 2) F dX12_boardOnce_168 rfl rfl ?_
              refine V_aload (i := 5) F dX12_boardOnce_169 rfl ?_
              refine V_callV (st := [.ref (af), .int (nI (plG g u (k + 1))), .ref (af)]) (nn := 0) F dX12_boardOnce_171 lk_X12_96 (ct_Leg_to hq) ⟨5, _, _, _, rfl, (.inl hq)⟩ rfl rfl (Nat.le_of_ble_eq_true rfl) (Nat.le_of_ble_eq_true rfl) (Nat.le_of_ble_eq_true rfl) (by first | exact Nat.le_of_ble_eq_true rfl | omega) (by first | exact Nat.le_of_ble_eq_true rfl | omega) ?_
              refine PRk ?_
              refine V_ialdG F dX12_boardOnce_174 (.inl p4) (hI.pl hu (by omega)) hI.b.lt rfl ?_
              have p14 : h3 ((x u)) = some (.inr (4, [.int (nI (g (16 + 36 * u + 0))), .ref ((A u 0)), .ref ((A u 1)), .ref ((A u 2)), .ref ((A u 3)), .ref ((A u 4)), .int (nI (g (16 + 36 * u + 3))), .int (nI (g (16 + 36 * u + 2)))])) := (hRn.2.2 u hu).1
              obtain ⟨lr4, hit4⟩ := hI4
              refine V_iastG F dX12_boardOnce_175 p4 (hI.pl hu (by omega)) hI.b.lt ?_
              refine V_goto (tgt := 21) F dX12_boardOnce_176 (by decide) ?_
              refine VV.weak (L' := [some (.ref (j)), some (.ref (bA)), some (.ref (af)), some (.int (nI (0))), some (.ref (it)), none, none]) (LW.c1 (LW.c1 (LW.c1 (LW.c1 (LW.c1 (LW.c0 (LW.c0 LW.nil))))))) ?_
              have hfr := (f5.put (x := .inl (G.2.1 0, (g 0), .inl (fun i => nI (((up E (plG g u (k + 1)) (E (plG g u (k + 1))))) i)))) p4 ⟨rfl, rfl⟩ rfl (Or.inl (Or.inr (Or.inl rfl))))
              have pe : (hset h3 (af) (.inl (G.2.1 0, (g 0), .inl (fun i => nI (((up E (plG g u (k + 1)) (E (plG g u (k + 1))))) i))))) af = some (.inl (G.2.1 0, (g 0), .inl (fun i => nI (((up E (plG g u (k + 1)) (E (plG g u (k + 1))))) i)))) := (hset_self (e := .inl (G.2.1 0, (g 0), .inl (fun i => nI (((up E (plG g u (k + 1)) (E (plG g u (k + 1))))) i)))))
              have pj : (hset h3 (af) (.inl (G.2.1 0, (g 0), .inl (fun i => nI (((up E (plG g u (k + 1)) (E (plG g u (k + 1))))) i))))) j = some (.inr (10, [.ref (tt), .ref (lg), .ref (tr), .int (nI (a)), .int (nI (v)), .ref (eA), .ref (rA)])) := ((hset_ne (ne_oa p1 p4)).trans p1)
              have pt : (hset h3 (af) (.inl (G.2.1 0, (g 0), .inl (fun i => nI (((up E (plG g u (k + 1)) (E (plG g u (k + 1))))) i))))) tr = some (.inl (G.2.1 0, (g 0), .inl (fun i => nI ((fun i => g (8 + i)) i)))) := ((hset_ne htaf).trans p2)
              have pb : (hset h3 (af) (.inl (G.2.1 0, (g 0), .inl (fun i => nI (((up E (plG g u (k + 1)) (E (plG g u (k + 1))))) i))))) bA = some (.inl (G.2.1 0, (g 0), .inl (fun i => nI (b i)))) := ((hset_ne hbaf2).trans p3)
              have hcd : ¬ (((0 < k ∧ ab = 1) ∨ b (plG g u k) + (if (plG g u k) = a then 0 else g (8 + (plG g u k))) ≤ LvG g u k) ∧ ¬ ldG g u k = g (16 + 36 * u + 0)) := by
                rcases Nat.decEq (plG g u k) a with z | z
                · simp only [if_neg z] at *; omega
                · simp only [if_pos z] at *; omega
              have hF5 : Fr nM h ((hset h3 (af) (.inl (G.2.1 0, (g 0), .inl (fun i => nI (((up E (plG g u (k + 1)) (E (plG g u (k + 1))))) i)))))) := hF.cal hfr (fun b z => z.elim (fun q => Or.inr (q ▸ hit0)) (fun q => Or.inr (q.elim (fun q => q ▸ haf0) (fun q => q ▸ haf0))))
              have hI5 : ITR ((hset h3 (af) (.inl (G.2.1 0, (g 0), .inl (fun i => nI (((up E (plG g u (k + 1)) (E (plG g u (k + 1))))) i)))))) it lg (i + 1) (lgL g).length := ⟨lr4, (hset_ne (Ne.symm hait)).trans hit4⟩
              refine ih_21 (i + 1) 0 E _ (by omega) (by omega) (by omega) hI5 pj (pe.trans (by rw [up_id])) pt pb hF5 ?_ ?_
              · exact hEM
              · rw [foldl_take (d := (0, 0)) hi, hfo, hp0]
                exact if_neg hcd
            · refine V_iconst (v := nI 1) F dX12_boardOnce_101 rfl ?_
              refine V_goto (tgt := 106) F dX12_boardOnce_102 (by decide) ?_
              refine V_istore_n (i := 3) F dX12_boardOnce_106 rfl (Nat.le_of_ble_eq_true rfl) (Nat.le_of_ble_eq_true rfl) ?_
              refine V_iload_n (i := 3) F dX12_boardOnce_107 rfl rfl ?_
              refine V_if_eqN (tgt := 138) F dX12_boardOnce_108 (by decide) (by omega) (fun c_108 => absurd c_108 (by decide)) (fun c_108 => ?_)
              refine V_aload_n (i := 0) F dX12_boardOnce_111 rfl rfl ?_
              refine V_getf F dX12_boardOnce_112 fc_X12_9_X12 (.inl p1) rfl ?_
              refine V_aload (i := 5) F dX12_boardOnce_115 rfl ?_
              refine V_callV (st := [.ref (tt)]) (nn := 0) F dX12_boardOnce_117 lk_X12_83 (ct_Leg_train hq) ⟨5, _, _, _, rfl, (.inl hq)⟩ rfl rfl (Nat.le_of_ble_eq_true rfl) (Nat.le_of_ble_eq_true rfl) (Nat.le_of_ble_eq_true rfl) (by first | exact Nat.le_of_ble_eq_true rfl | omega) (by first | exact Nat.le_of_ble_eq_true rfl | omega) ?_
              refine PRk ?_
              refine V_callV (st := []) (nn := 1) F dX12_boardOnce_120 lk_X12_121 (ct_TT_get hRn hI hu) ⟨3, _, _, _, rfl, .inl hRn.1⟩ rfl rfl (Nat.le_of_ble_eq_true rfl) (Nat.le_of_ble_eq_true rfl) (Nat.le_of_ble_eq_true rfl) (by first | exact Nat.le_of_ble_eq_true rfl | omega) (by first | exact Nat.le_of_ble_eq_true rfl | omega) ?_
              refine PRk ?_
              refine V_aload (i := 5) F dX12_boardOnce_123 rfl ?_
              refine V_callV (st := [.ref ((x u))]) (nn := 0) F dX12_boardOnce_125 lk_X12_86 (ct_Leg_number hq) ⟨5, _, _, _, rfl, (.inl hq)⟩ rfl rfl (Nat.le_of_ble_eq_true rfl) (Nat.le_of_ble_eq_true rfl) (Nat.le_of_ble_eq_true rfl) (by first | exact Nat.le_of_ble_eq_true rfl | omega) (by first | exact Nat.le_of_ble_eq_true rfl | omega) ?_
              refine PRk ?_
              refine V_callV (st := []) (nn := 1) F dX12_boardOnce_128 lk_X12_138 (ct_TR_isFull (hRn.2.2 u hu) (by omega) hI.2.2.2.2.1 hI.b) ⟨4, _, _, _, rfl, (.inl (hRn.2.2 u hu).1)⟩ rfl rfl (Nat.le_of_ble_eq_true rfl) (Nat.le_of_ble_eq_true rfl) (Nat.le_of_ble_eq_true rfl) (by first | exact Nat.le_of_ble_eq_true rfl | omega) (by first | exact Nat.le_of_ble_eq_true rfl | omega) ?_
              refine PRk ?_
              refine V_if_neB (tgt := 138) F dX12_boardOnce_131 (by decide) (fun c_131 => ?_) (fun c_131 => ?_)
              · refine V_iconst (v := nI 0) F dX12_boardOnce_138 rfl ?_
                refine V_istore_n (i := 3) F dX12_boardOnce_139 rfl (Nat.le_of_ble_eq_true rfl) (Nat.le_of_ble_eq_true rfl) ?_
                refine V_aload_n (i := 2) F dX12_boardOnce_140 rfl rfl ?_
                refine V_aload (i := 5) F dX12_boardOnce_141 rfl ?_
                refine V_callV (st := [.ref (af)]) (nn := 0) F dX12_boardOnce_143 lk_X12_96 (ct_Leg_to hq) ⟨5, _, _, _, rfl, (.inl hq)⟩ rfl rfl (Nat.le_of_ble_eq_true rfl) (Nat.le_of_ble_eq_true rfl) (Nat.le_of_ble_eq_true rfl) (by first | exact Nat.le_of_ble_eq_true rfl | omega) (by first | exact Nat.le_of_ble_eq_true rfl | omega) ?_
                refine PRk ?_
                refine V_iload_n (i := 3) F dX12_boardOnce_146 rfl rfl ?_
                refine V_if_eqN (tgt := 168) F dX12_boardOnce_147 (by decide) (by omega) (fun c_147 => ?_) (fun c_147 => absurd c_147 (by decide))
                refine V_aload_n (i := 2) F dX12_boardOnce_168 rfl rfl ?_
                refine V_aload (i := 5) F dX12_boardOnce_169 rfl ?_
                refine V_callV (st := [.ref (af), .int (nI (plG g u (k + 1))), .ref (af)]) (nn := 0) F dX12_boardOnce_171 lk_X12_96 (ct_Leg_to hq) ⟨5, _, _, _, rfl, (.inl hq)⟩ rfl rfl (Nat.le_of_ble_eq_true rfl) (Nat.le_of_ble_eq_true rfl) (Nat.le_of_ble_eq_true rfl) (by first | exact Nat.le_of_ble_eq_true rfl | omega) (by first | exact Nat.le_of_ble_eq_true rfl | omega) ?_
                refine PRk ?_
                refine V_ialdG F dX12_boardOnce_174 (.inl p4) (hI.pl hu (by omega)) hI.b.lt rfl ?_
                have p15 : h3 ((x u)) = some (.inr (4, [.int (nI (g (16 + 36 * u + 0))), .ref ((A u 0)), .ref ((A u 1)), .ref ((A u 2)), .ref ((A u 3)), .ref ((A u 4)), .int (nI (g (16 + 36 * u + 3))), .int (nI (g (16 + 36 * u + 2)))])) := (hRn.2.2 u hu).1
                obtain ⟨lr4, hit4⟩ := hI4
                refine V_iastG F dX12_boardOnce_175 p4 (hI.pl hu (by omega)) hI.b.lt ?_
                refine V_goto (tgt := 21) F dX12_boardOnce_176 (by decide) ?_
                refine VV.weak (L' := [some (.ref (j)), some (.ref (bA)), some (.ref (af)), some (.int (nI (0))), some (.ref (it)), none, none]) (LW.c1 (LW.c1 (LW.c1 (LW.c1 (LW.c1 (LW.c0 (LW.c0 LW.nil))))))) ?_
                have hfr := (f5.put (x := .inl (G.2.1 0, (g 0), .inl (fun i => nI (((up E (plG g u (k + 1)) (E (plG g u (k + 1))))) i)))) p4 ⟨rfl, rfl⟩ rfl (Or.inl (Or.inr (Or.inl rfl))))
                have pe : (hset h3 (af) (.inl (G.2.1 0, (g 0), .inl (fun i => nI (((up E (plG g u (k + 1)) (E (plG g u (k + 1))))) i))))) af = some (.inl (G.2.1 0, (g 0), .inl (fun i => nI (((up E (plG g u (k + 1)) (E (plG g u (k + 1))))) i)))) := (hset_self (e := .inl (G.2.1 0, (g 0), .inl (fun i => nI (((up E (plG g u (k + 1)) (E (plG g u (k + 1))))) i)))))
                have pj : (hset h3 (af) (.inl (G.2.1 0, (g 0), .inl (fun i => nI (((up E (plG g u (k + 1)) (E (plG g u (k + 1))))) i))))) j = some (.inr (10, [.ref (tt), .ref (lg), .ref (tr), .int (nI (a)), .int (nI (v)), .ref (eA), .ref (rA)])) := ((hset_ne (ne_oa p1 p4)).trans p1)
                have pt : (hset h3 (af) (.inl (G.2.1 0, (g 0), .inl (fun i => nI (((up E (plG g u (k + 1)) (E (plG g u (k + 1))))) i))))) tr = some (.inl (G.2.1 0, (g 0), .inl (fun i => nI ((fun i => g (8 + i)) i)))) := ((hset_ne htaf).trans p2)
                have pb : (hset h3 (af) (.inl (G.2.1 0, (g 0), .inl (fun i => nI (((up E (plG g u (k + 1)) (E (plG g u (k + 1))))) i))))) bA = some (.inl (G.2.1 0, (g 0), .inl (fun i => nI (b i)))) := ((hset_ne hbaf2).trans p3)
                have hcd : ¬ (((0 < k ∧ ab = 1) ∨ b (plG g u k) + (if (plG g u k) = a then 0 else g (8 + (plG g u k))) ≤ LvG g u k) ∧ ¬ ldG g u k = g (16 + 36 * u + 0)) := by
                  rcases Nat.decEq (plG g u k) a with z | z
                  · simp only [if_neg z] at *; omega
                  · simp only [if_pos z] at *; omega
                have hF5 : Fr nM h ((hset h3 (af) (.inl (G.2.1 0, (g 0), .inl (fun i => nI (((up E (plG g u (k + 1)) (E (plG g u (k + 1))))) i)))))) := hF.cal hfr (fun b z => z.elim (fun q => Or.inr (q ▸ hit0)) (fun q => Or.inr (q.elim (fun q => q ▸ haf0) (fun q => q ▸ haf0))))
                have hI5 : ITR ((hset h3 (af) (.inl (G.2.1 0, (g 0), .inl (fun i => nI (((up E (plG g u (k + 1)) (E (plG g u (k + 1))))) i)))))) it lg (i + 1) (lgL g).length := ⟨lr4, (hset_ne (Ne.symm hait)).trans hit4⟩
                refine ih_21 (i + 1) 0 E _ (by omega) (by omega) (by omega) hI5 pj (pe.trans (by rw [up_id])) pt pb hF5 ?_ ?_
                · exact hEM
                · rw [foldl_take (d := (0, 0)) hi, hfo, hp0]
                  exact if_neg hcd
              · refine V_iconst (v := nI 1) F dX12_boardOnce_134 rfl ?_
                refine V_goto (tgt := 139) F dX12_boardOnce_135 (by decide) ?_
                refine V_istore_n (i := 3) F dX12_boardOnce_139 rfl (Nat.le_of_ble_eq_true rfl) (Nat.le_of_ble_eq_true rfl) ?_
                refine V_aload_n (i := 2) F dX12_boardOnce_140 rfl rfl ?_
                refine V_aload (i := 5) F dX12_boardOnce_141 rfl ?_
                refine V_callV (st := [.ref (af)]) (nn := 0) F dX12_boardOnce_143 lk_X12_96 (ct_Leg_to hq) ⟨5, _, _, _, rfl, (.inl hq)⟩ rfl rfl (Nat.le_of_ble_eq_true rfl) (Nat.le_of_ble_eq_true rfl) (Nat.le_of_ble_eq_true rfl) (by first | exact Nat.le_of_ble_eq_true rfl | omega) (by first | exact Nat.le_of_ble_eq_true rfl | omega) ?_
                refine PRk ?_
                refine V_iload_n (i := 3) F dX12_boardOnce_146 rfl rfl ?_
                refine V_if_eqN (tgt := 168) F dX12_boardOnce_147 (by decide) (by omega) (fun c_147 => absurd c_147 (by decide)) (fun c_147 => ?_)
                refine V_aload_n (i := 2) F dX12_boardOnce_150 rfl rfl ?_
                refine V_aload (i := 5) F dX12_boardOnce_151 rfl ?_
                refine V_callV (st := [.ref (af), .int (nI (plG g u (k + 1))), .ref (af)]) (nn := 0) F dX12_boardOnce_153 lk_X12_96 (ct_Leg_to hq) ⟨5, _, _, _, rfl, (.inl hq)⟩ rfl rfl (Nat.le_of_ble_eq_true rfl) (Nat.le_of_ble_eq_true rfl) (Nat.le_of_ble_eq_true rfl) (by first | exact Nat.le_of_ble_eq_true rfl | omega) (by first | exact Nat.le_of_ble_eq_true rfl | omega) ?_
                refine PRk ?_
                refine V_ialdG F dX12_boardOnce_156 (.inl p4) (hI.pl hu (by omega)) hI.b.lt rfl ?_
                refine V_aload (i := 5) F dX12_boardOnce_157 rfl ?_
                refine V_callV (st := [.int (nI (E (plG g u (k + 1)))), .int (nI (plG g u (k + 1))), .ref (af)]) (nn := 0) F dX12_boardOnce_159 lk_X12_99 (ct_Leg_arrival hq) ⟨5, _, _, _, rfl, (.inl hq)⟩ rfl rfl (Nat.le_of_ble_eq_true rfl) (Nat.le_of_ble_eq_true rfl) (Nat.le_of_ble_eq_true rfl) (by first | exact Nat.le_of_ble_eq_true rfl | omega) (by first | exact Nat.le_of_ble_eq_true rfl | omega) ?_
                refine PRk ?_
                refine V_mminN (a := (E (plG g u (k + 1)))) (b := (CmG g u (k + 1))) F dX12_boardOnce_162 q1456 (by have := hEM (plG g u (k + 1)); omega) (Nat.lt_trans (CmG_31 hI.b (by omega)) (by decide)) (Nat.le_of_ble_eq_true rfl) (Nat.le_of_ble_eq_true rfl) (by first | exact Nat.le_of_ble_eq_true rfl | omega) (by first | exact Nat.le_of_ble_eq_true rfl | omega) ?_
                refine V_goto (tgt := 175) F dX12_boardOnce_165 (by decide) ?_
                have p16 : h3 ((x u)) = some (.inr (4, [.int (nI (g (16 + 36 * u + 0))), .ref ((A u 0)), .ref ((A u 1)), .ref ((A u 2)), .ref ((A u 3)), .ref ((A u 4)), .int (nI (g (16 + 36 * u + 3))), .int (nI (g (16 + 36 * u + 2)))])) := (hRn.2.2 u hu).1
                obtain ⟨lr4, hit4⟩ := hI4
                refine V_iastG F dX12_boardOnce_175 p4 (hI.pl hu (by omega)) hI.b.lt ?_
                refine V_goto (tgt := 21) F dX12_boardOnce_176 (by decide) ?_
                refine VV.weak (L' := [some (.ref (j)), some (.ref (bA)), some (.ref (af)), some (.int (nI (1))), some (.ref (it)), none, none]) (LW.c1 (LW.c1 (LW.c1 (LW.c1 (LW.c1 (LW.c0 (LW.c0 LW.nil))))))) ?_
                have hfr := (f5.put (x := .inl (G.2.1 0, (g 0), .inl (fun i => nI (((up E (plG g u (k + 1)) (min (E (plG g u (k + 1))) (CmG g u (k + 1))))) i)))) p4 ⟨rfl, rfl⟩ rfl (Or.inl (Or.inr (Or.inl rfl))))
                have pe : (hset h3 (af) (.inl (G.2.1 0, (g 0), .inl (fun i => nI (((up E (plG g u (k + 1)) (min (E (plG g u (k + 1))) (CmG g u (k + 1))))) i))))) af = some (.inl (G.2.1 0, (g 0), .inl (fun i => nI (((up E (plG g u (k + 1)) (min (E (plG g u (k + 1))) (CmG g u (k + 1))))) i)))) := (hset_self (e := .inl (G.2.1 0, (g 0), .inl (fun i => nI (((up E (plG g u (k + 1)) (min (E (plG g u (k + 1))) (CmG g u (k + 1))))) i)))))
                have pj : (hset h3 (af) (.inl (G.2.1 0, (g 0), .inl (fun i => nI (((up E (plG g u (k + 1)) (min (E (plG g u (k + 1))) (CmG g u (k + 1))))) i))))) j = some (.inr (10, [.ref (tt), .ref (lg), .ref (tr), .int (nI (a)), .int (nI (v)), .ref (eA), .ref (rA)])) := ((hset_ne (ne_oa p1 p4)).trans p1)
                have pt : (hset h3 (af) (.inl (G.2.1 0, (g 0), .inl (fun i => nI (((up E (plG g u (k + 1)) (min (E (plG g u (k + 1))) (CmG g u (k + 1))))) i))))) tr = some (.inl (G.2.1 0, (g 0), .inl (fun i => nI ((fun i => g (8 + i)) i)))) := ((hset_ne htaf).trans p2)
                have pb : (hset h3 (af) (.inl (G.2.1 0, (g 0), .inl (fun i => nI (((up E (plG g u (k + 1)) (min (E (plG g u (k + 1))) (CmG g u (k + 1))))) i))))) bA = some (.inl (G.2.1 0, (g 0), .inl (fun i => nI (b i)))) := ((hset_ne hbaf2).trans p3)
                have hcd : (((0 < k ∧ ab = 1) ∨ b (plG g u k) + (if (plG g u k) = a then 0 else g (8 + (plG g u k))) ≤ LvG g u k) ∧ ¬ ldG g u k = g (16 + 36 * u + 0)) := by
                  rcases Nat.decEq (plG g u k) a with z | z
                  · simp only [if_neg z] at *; omega
                  · simp only [if_pos z] at *; omega
                have hF5 : Fr nM h ((hset h3 (af) (.inl (G.2.1 0, (g 0), .inl (fun i => nI (((up E (plG g u (k + 1)) (min (E (plG g u (k + 1))) (CmG g u (k + 1))))) i)))))) := hF.cal hfr (fun b z => z.elim (fun q => Or.inr (q ▸ hit0)) (fun q => Or.inr (q.elim (fun q => q ▸ haf0) (fun q => q ▸ haf0))))
                have hI5 : ITR ((hset h3 (af) (.inl (G.2.1 0, (g 0), .inl (fun i => nI (((up E (plG g u (k + 1)) (min (E (plG g u (k + 1))) (CmG g u (k + 1))))) i)))))) it lg (i + 1) (lgL g).length := ⟨lr4, (hset_ne (Ne.symm hait)).trans hit4⟩
                refine ih_21 (i + 1) 1 ((up E (plG g u (k + 1)) (min (E (plG g u (k + 1))) (CmG g u (k + 1))))) _ (by omega) (by omega) (by omega) hI5 pj pe pt pb hF5 ?_ ?_
                · intro z; unfold up; split <;> first | exact Nat.le_trans (Nat.min_le_left _ _) (hEM _) | exact hEM z
                · rw [foldl_take (d := (0, 0)) hi, hfo, hp0]
                  exact if_pos hcd
          · refine V_iload_n (i := 3) F dX12_boardOnce_87 rfl rfl ?_
            refine V_if_neN (tgt := 101) F dX12_boardOnce_88 (by decide) (by omega) (fun c_88 => ?_) (fun c_88 => ?_)
            · refine V_iconst (v := nI 1) F dX12_boardOnce_101 rfl ?_
              refine V_goto (tgt := 106) F dX12_boardOnce_102 (by decide) ?_
              refine V_istore_n (i := 3) F dX12_boardOnce_106 rfl (Nat.le_of_ble_eq_true rfl) (Nat.le_of_ble_eq_true rfl) ?_
              refine V_iload_n (i := 3) F dX12_boardOnce_107 rfl rfl ?_
              refine V_if_eqN (tgt := 138) F dX12_boardOnce_108 (by decide) (by omega) (fun c_108 => absurd c_108 (by decide)) (fun c_108 => ?_)
              refine V_aload_n (i := 0) F dX12_boardOnce_111 rfl rfl ?_
              refine V_getf F dX12_boardOnce_112 fc_X12_9_X12 (.inl p1) rfl ?_
              refine V_aload (i := 5) F dX12_boardOnce_115 rfl ?_
              refine V_callV (st := [.ref (tt)]) (nn := 0) F dX12_boardOnce_117 lk_X12_83 (ct_Leg_train hq) ⟨5, _, _, _, rfl, (.inl hq)⟩ rfl rfl (Nat.le_of_ble_eq_true rfl) (Nat.le_of_ble_eq_true rfl) (Nat.le_of_ble_eq_true rfl) (by first | exact Nat.le_of_ble_eq_true rfl | omega) (by first | exact Nat.le_of_ble_eq_true rfl | omega) ?_
              refine PRk ?_
              refine V_callV (st := []) (nn := 1) F dX12_boardOnce_120 lk_X12_121 (ct_TT_get hRn hI hu) ⟨3, _, _, _, rfl, .inl hRn.1⟩ rfl rfl (Nat.le_of_ble_eq_true rfl) (Nat.le_of_ble_eq_true rfl) (Nat.le_of_ble_eq_true rfl) (by first | exact Nat.le_of_ble_eq_true rfl | omega) (by first | exact Nat.le_of_ble_eq_true rfl | omega) ?_
              refine PRk ?_
              refine V_aload (i := 5) F dX12_boardOnce_123 rfl ?_
              refine V_callV (st := [.ref ((x u))]) (nn := 0) F dX12_boardOnce_125 lk_X12_86 (ct_Leg_number hq) ⟨5, _, _, _, rfl, (.inl hq)⟩ rfl rfl (Nat.le_of_ble_eq_true rfl) (Nat.le_of_ble_eq_true rfl) (Nat.le_of_ble_eq_true rfl) (by first | exact Nat.le_of_ble_eq_true rfl | omega) (by first | exact Nat.le_of_ble_eq_true rfl | omega) ?_
              refine PRk ?_
              refine V_callV (st := []) (nn := 1) F dX12_boardOnce_128 lk_X12_138 (ct_TR_isFull (hRn.2.2 u hu) (by omega) hI.2.2.2.2.1 hI.b) ⟨4, _, _, _, rfl, (.inl (hRn.2.2 u hu).1)⟩ rfl rfl (Nat.le_of_ble_eq_true rfl) (Nat.le_of_ble_eq_true rfl) (Nat.le_of_ble_eq_true rfl) (by first | exact Nat.le_of_ble_eq_true rfl | omega) (by first | exact Nat.le_of_ble_eq_true rfl | omega) ?_
              refine PRk ?_
              refine V_if_neB (tgt := 138) F dX12_boardOnce_131 (by decide) (fun c_131 => ?_) (fun c_131 => ?_)
              · refine V_iconst (v := nI 0) F dX12_boardOnce_138 rfl ?_
                refine V_istore_n (i := 3) F dX12_boardOnce_139 rfl (Nat.le_of_ble_eq_true rfl) (Nat.le_of_ble_eq_true rfl) ?_
                refine V_aload_n (i := 2) F dX12_boardOnce_140 rfl rfl ?_
                refine V_aload (i := 5) F dX12_boardOnce_141 rfl ?_
                refine V_callV (st := [.ref (af)]) (nn := 0) F dX12_boardOnce_143 lk_X12_96 (ct_Leg_to hq) ⟨5, _, _, _, rfl, (.inl hq)⟩ rfl rfl (Nat.le_of_ble_eq_true rfl) (Nat.le_of_ble_eq_true rfl) (Nat.le_of_ble_eq_true rfl) (by first | exact Nat.le_of_ble_eq_true rfl | omega) (by first | exact Nat.le_of_ble_eq_true rfl | omega) ?_
                refine PRk ?_
                refine V_iload_n (i := 3) F dX12_boardOnce_146 rfl rfl ?_
                refine V_if_eqN (tgt := 168) F dX12_boardOnce_147 (by decide) (by omega) (fun c_147 => ?_) (fun c_147 => absurd c_147 (by decide))
                refine V_aload_n (i := 2) F dX12_boardOnce_168 rfl rfl ?_
                refine V_aload (i := 5) F dX12_boardOnce_169 rfl ?_
                refine V_callV (st := [.ref (af), .int (nI (plG g u (k + 1))), .ref (af)]) (nn := 0) F dX12_boardOnce_171 lk_X12_96 (ct_Leg_to hq) ⟨5, _, _, _, rfl, (.inl hq)⟩ rfl rfl (Nat.le_of_ble_eq_true rfl) (Nat.le_of_ble_eq_true rfl) (Nat.le_of_ble_eq_true rfl) (by first | exact Nat.le_of_ble_eq_true rfl | omega) (by first | exact Nat.le_of_ble_eq_true rfl | omega) ?_
                refine PRk ?_
                refine V_ialdG F dX12_boardOnce_174 (.inl p4) (hI.pl hu (by omega)) hI.b.lt rfl ?_
                have p17 : h3 ((x u)) = some (.inr (4, [.int (nI (g (16 + 36 * u + 0))), .ref ((A u 0)), .ref ((A u 1)), .ref ((A u 2)), .ref ((A u 3)), .ref ((A u 4)), .int (nI (g (16 + 36 * u + 3))), .int (nI (g (16 + 36 * u + 2)))])) := (hRn.2.2 u hu).1
                obtain ⟨lr4, hit4⟩ := hI4
                refine V_iastG F dX12_boardOnce_175 p4 (hI.pl hu (by omega)) hI.b.lt ?_
                refine V_goto (tgt := 21) F dX12_boardOnce_176 (by decide) ?_
                refine VV.weak (L' := [some (.ref (j)), some (.ref (bA)), some (.ref (af)), some (.int (nI (0))), some (.ref (it)), none, none]) (LW.c1 (LW.c1 (LW.c1 (LW.c1 (LW.c1 (LW.c0 (LW.c0 LW.nil))))))) ?_
                have hfr := (f5.put (x := .inl (G.2.1 0, (g 0), .inl (fun i => nI (((up E (plG g u (k + 1)) (E (plG g u (k + 1))))) i)))) p4 ⟨rfl, rfl⟩ rfl (Or.inl (Or.inr (Or.inl rfl))))
                have pe : (hset h3 (af) (.inl (G.2.1 0, (g 0), .inl (fun i => nI (((up E (plG g u (k + 1)) (E (plG g u (k + 1))))) i))))) af = some (.inl (G.2.1 0, (g 0), .inl (fun i => nI (((up E (plG g u (k + 1)) (E (plG g u (k + 1))))) i)))) := (hset_self (e := .inl (G.2.1 0, (g 0), .inl (fun i => nI (((up E (plG g u (k + 1)) (E (plG g u (k + 1))))) i)))))
                have pj : (hset h3 (af) (.inl (G.2.1 0, (g 0), .inl (fun i => nI (((up E (plG g u (k + 1)) (E (plG g u (k + 1))))) i))))) j = some (.inr (10, [.ref (tt), .ref (lg), .ref (tr), .int (nI (a)), .int (nI (v)), .ref (eA), .ref (rA)])) := ((hset_ne (ne_oa p1 p4)).trans p1)
                have pt : (hset h3 (af) (.inl (G.2.1 0, (g 0), .inl (fun i => nI (((up E (plG g u (k + 1)) (E (plG g u (k + 1))))) i))))) tr = some (.inl (G.2.1 0, (g 0), .inl (fun i => nI ((fun i => g (8 + i)) i)))) := ((hset_ne htaf).trans p2)
                have pb : (hset h3 (af) (.inl (G.2.1 0, (g 0), .inl (fun i => nI (((up E (plG g u (k + 1)) (E (plG g u (k + 1))))) i))))) bA = some (.inl (G.2.1 0, (g 0), .inl (fun i => nI (b i)))) := ((hset_ne hbaf2).trans p3)
                have hcd : ¬ (((0 < k ∧ ab = 1) ∨ b (plG g u k) + (if (plG g u k) = a then 0 else g (8 + (plG g u k))) ≤ LvG g u k) ∧ ¬ ldG g u k = g (16 + 36 * u + 0)) := by
                  rcases Nat.decEq (plG g u k) a with z | z
                  · simp only [if_neg z] at *; omega
                  · simp only [if_pos z] at *; omega
                have hF5 : Fr nM h ((hset h3 (af) (.inl (G.2.1 0, (g 0), .inl (fun i => nI (((up E (plG g u (k + 1)) (E (plG g u (k + 1))))) i)))))) := hF.cal hfr (fun b z => z.elim (fun q => Or.inr (q ▸ hit0)) (fun q => Or.inr (q.elim (fun q => q ▸ haf0) (fun q => q ▸ haf0))))
                have hI5 : ITR ((hset h3 (af) (.inl (G.2.1 0, (g 0), .inl (fun i => nI (((up E (plG g u (k + 1)) (E (plG g u (k + 1))))) i)))))) it lg (i + 1) (lgL g).length := ⟨lr4, (hset_ne (Ne.symm hait)).trans hit4⟩
                refine ih_21 (i + 1) 0 E _ (by omega) (by omega) (by omega) hI5 pj (pe.trans (by rw [up_id])) pt pb hF5 ?_ ?_
                · exact hEM
                · rw [foldl_take (d := (0, 0)) hi, hfo, hp0]
                  exact if_neg hcd
              · refine V_iconst (v := nI 1) F dX12_boardOnce_134 rfl ?_
                refine V_goto (tgt := 139) F dX12_boardOnce_135 (by decide) ?_
                refine V_istore_n (i := 3) F dX12_boardOnce_139 rfl (Nat.le_of_ble_eq_true rfl) (Nat.le_of_ble_eq_true rfl) ?_
                refine V_aload_n (i := 2) F dX12_boardOnce_140 rfl rfl ?_
                refine V_aload (i := 5) F dX12_boardOnce_141 rfl ?_
                refine V_callV (st := [.ref (af)]) (nn := 0) F dX12_boardOnce_143 lk_X12_96 (ct_Leg_to hq) ⟨5, _, _, _, rfl, (.inl hq)⟩ rfl rfl (Nat.le_of_ble_eq_true rfl) (Nat.le_of_ble_eq_true rfl) (Nat.le_of_ble_eq_true rfl) (by first | exact Nat.le_of_ble_eq_true rfl | omega) (by first | exact Nat.le_of_ble_eq_true rfl | omega) ?_
                refine PRk ?_
                refine V_iload_n (i := 3) F dX12_boardOnce_146 rfl rfl ?_
                refine V_if_eqN (tgt := 168) F dX12_boardOnce_147 (by decide) (by omega) (fun c_147 => absurd c_147 (by decide)) (fun c_147 => ?_)
                refine V_aload_n (i := 2) F dX12_boardOnce_150 rfl rfl ?_
                refine V_aload (i := 5) F dX12_boardOnce_151 rfl ?_
                refine V_callV (st := [.ref (af), .int (nI (plG g u (k + 1))), .ref (af)]) (nn := 0) F dX12_boardOnce_153 lk_X12_96 (ct_Leg_to hq) ⟨5, _, _, _, rfl, (.inl hq)⟩ rfl rfl (Nat.le_of_ble_eq_true rfl) (Nat.le_of_ble_eq_true rfl) (Nat.le_of_ble_eq_true rfl) (by first | exact Nat.le_of_ble_eq_true rfl | omega) (by first | exact Nat.le_of_ble_eq_true rfl | omega) ?_
                refine PRk ?_
                refine V_ialdG F dX12_boardOnce_156 (.inl p4) (hI.pl hu (by omega)) hI.b.lt rfl ?_
                refine V_aload (i := 5) F dX12_boardOnce_157 rfl ?_
                refine V_callV (st := [.int (nI (E (plG g u (k + 1)))), .int (nI (plG g u (k + 1))), .ref (af)]) (nn := 0) F dX12_boardOnce_159 lk_X12_99 (ct_Leg_arrival hq) ⟨5, _, _, _, rfl, (.inl hq)⟩ rfl rfl (Nat.le_of_ble_eq_true rfl) (Nat.le_of_ble_eq_true rfl) (Nat.le_of_ble_eq_true rfl) (by first | exact Nat.le_of_ble_eq_true rfl | omega) (by first | exact Nat.le_of_ble_eq_true rfl | omega) ?_
                refine PRk ?_
                refine V_mminN (a := (E (plG g u (k + 1)))) (b := (CmG g u (k + 1))) F dX12_boardOnce_162 q1456 (by have := hEM (plG g u (k + 1)); omega) (Nat.lt_trans (CmG_31 hI.b (by omega)) (by decide)) (Nat.le_of_ble_eq_true rfl) (Nat.le_of_ble_eq_true rfl) (by first | exact Nat.le_of_ble_eq_true rfl | omega) (by first | exact Nat.le_of_ble_eq_true rfl | omega) ?_
                refine V_goto (tgt := 175) F dX12_boardOnce_165 (by decide) ?_
                have p18 : h3 ((x u)) = some (.inr (4, [.int (nI (g (16 + 36 * u + 0))), .ref ((A u 0)), .ref ((A u 1)), .ref ((A u 2)), .ref ((A u 3)), .ref ((A u 4)), .int (nI (g (16 + 36 * u + 3))), .int (nI (g (16 + 36 * u + 2)))])) := (hRn.2.2 u hu).1
                obtain ⟨lr4, hit4⟩ := hI4
                refine V_iastG F dX12_boardOnce_175 p4 (hI.pl hu (by omega)) hI.b.lt ?_
                refine V_goto (tgt := 21) F dX12_boardOnce_176 (by decide) ?_
                refine VV.weak (L' := [some (.ref (j)), some (.ref (bA)), some (.ref (af)), some (.int (nI (1))), some (.ref (it)), none, none]) (LW.c1 (LW.c1 (LW.c1 (LW.c1 (LW.c1 (LW.c0 (LW.c0 LW.nil))))))) ?_
                have hfr := (f5.put (x := .inl (G.2.1 0, (g 0), .inl (fun i => nI (((up E (plG g u (k + 1)) (min (E (plG g u (k + 1))) (CmG g u (k + 1))))) i)))) p4 ⟨rfl, rfl⟩ rfl (Or.inl (Or.inr (Or.inl rfl))))
                have pe : (hset h3 (af) (.inl (G.2.1 0, (g 0), .inl (fun i => nI (((up E (plG g u (k + 1)) (min (E (plG g u (k + 1))) (CmG g u (k + 1))))) i))))) af = some (.inl (G.2.1 0, (g 0), .inl (fun i => nI (((up E (plG g u (k + 1)) (min (E (plG g u (k + 1))) (CmG g u (k + 1))))) i)))) := (hset_self (e := .inl (G.2.1 0, (g 0), .inl (fun i => nI (((up E (plG g u (k + 1)) (min (E (plG g u (k + 1))) (CmG g u (k + 1))))) i)))))
                have pj : (hset h3 (af) (.inl (G.2.1 0, (g 0), .inl (fun i => nI (((up E (plG g u (k + 1)) (min (E (plG g u (k + 1))) (CmG g u (k + 1))))) i))))) j = some (.inr (10, [.ref (tt), .ref (lg), .ref (tr), .int (nI (a)), .int (nI (v)), .ref (eA), .ref (rA)])) := ((hset_ne (ne_oa p1 p4)).trans p1)
                have pt : (hset h3 (af) (.inl (G.2.1 0, (g 0), .inl (fun i => nI (((up E (plG g u (k + 1)) (min (E (plG g u (k + 1))) (CmG g u (k + 1))))) i))))) tr = some (.inl (G.2.1 0, (g 0), .inl (fun i => nI ((fun i => g (8 + i)) i)))) := ((hset_ne htaf).trans p2)
                have pb : (hset h3 (af) (.inl (G.2.1 0, (g 0), .inl (fun i => nI (((up E (plG g u (k + 1)) (min (E (plG g u (k + 1))) (CmG g u (k + 1))))) i))))) bA = some (.inl (G.2.1 0, (g 0), .inl (fun i => nI (b i)))) := ((hset_ne hbaf2).trans p3)
                have hcd : (((0 < k ∧ ab = 1) ∨ b (plG g u k) + (if (plG g u k) = a then 0 else g (8 + (plG g u k))) ≤ LvG g u k) ∧ ¬ ldG g u k = g (16 + 36 * u + 0)) := by
                  rcases Nat.decEq (plG g u k) a with z | z
                  · simp only [if_neg z] at *; omega
                  · simp only [if_pos z] at *; omega
                have hF5 : Fr nM h ((hset h3 (af) (.inl (G.2.1 0, (g 0), .inl (fun i => nI (((up E (plG g u (k + 1)) (min (E (plG g u (k + 1))) (CmG g u (k + 1))))) i)))))) := hF.cal hfr (fun b z => z.elim (fun q => Or.inr (q ▸ hit0)) (fun q => Or.inr (q.elim (fun q => q ▸ haf0) (fun q => q ▸ haf0))))
                have hI5 : ITR ((hset h3 (af) (.inl (G.2.1 0, (g 0), .inl (fun i => nI (((up E (plG g u (k + 1)) (min (E (plG g u (k + 1))) (CmG g u (k + 1))))) i)))))) it lg (i + 1) (lgL g).length := ⟨lr4, (hset_ne (Ne.symm hait)).trans hit4⟩
                refine ih_21 (i + 1) 1 ((up E (plG g u (k + 1)) (min (E (plG g u (k + 1))) (CmG g u (k + 1))))) _ (by omega) (by omega) (by omega) hI5 pj pe pt pb hF5 ?_ ?_
                · intro z; unfold up; split <;> first | exact Nat.le_trans (Nat.min_le_left _ _) (hEM _) | exact hEM z
                · rw [foldl_take (d := (0, 0)) hi, hfo, hp0]
                  exact if_pos hcd
            · refine V_aload (i := 5) F dX12_boardOnce_91 rfl ?_
              refine V_callV (st := []) (nn := 0) F dX12_boardOnce_93 lk_X12_44 (ct_Leg_departure hq) ⟨5, _, _, _, rfl, (.inl hq)⟩ rfl rfl (Nat.le_of_ble_eq_true rfl) (Nat.le_of_ble_eq_true rfl) (Nat.le_of_ble_eq_true rfl) (by first | exact Nat.le_of_ble_eq_true rfl | omega) (by first | exact Nat.le_of_ble_eq_true rfl | omega) ?_
              refine PRk ?_
              refine V_iload (i := 6) F dX12_boardOnce_96 rfl ?_
              refine V_icmp_ltN (tgt := 105) F dX12_boardOnce_98 (by decide) (Nat.lt_trans (LvG_31 hI.b (by omega)) (by decide)) (by have := hbM (plG g u k); have := hI.b (8 + plG g u k); omega) (fun c_98 => ?_) (fun c_98 => ?_)
              · refine V_iconst (v := nI 0) F dX12_boardOnce_105 rfl ?_
                refine V_istore_n (i := 3) F dX12_boardOnce_106 rfl (Nat.le_of_ble_eq_true rfl) (Nat.le_of_ble_eq_true rfl) ?_
                refine V_iload_n (i := 3) F dX12_boardOnce_107 rfl rfl ?_
                refine V_if_eqN (tgt := 138) F dX12_boardOnce_108 (by decide) (by omega) (fun c_108 => ?_) (fun c_108 => absurd c_108 (by decide))
                refine V_iconst (v := nI 0) F dX12_boardOnce_138 rfl ?_
                refine V_istore_n (i := 3) F dX12_boardOnce_139 rfl (Nat.le_of_ble_eq_true rfl) (Nat.le_of_ble_eq_true rfl) ?_
                refine V_aload_n (i := 2) F dX12_boardOnce_140 rfl rfl ?_
                refine V_aload (i := 5) F dX12_boardOnce_141 rfl ?_
                refine V_callV (st := [.ref (af)]) (nn := 0) F dX12_boardOnce_143 lk_X12_96 (ct_Leg_to hq) ⟨5, _, _, _, rfl, (.inl hq)⟩ rfl rfl (Nat.le_of_ble_eq_true rfl) (Nat.le_of_ble_eq_true rfl) (Nat.le_of_ble_eq_true rfl) (by first | exact Nat.le_of_ble_eq_true rfl | omega) (by first | exact Nat.le_of_ble_eq_true rfl | omega) ?_
                refine PRk ?_
                refine V_iload_n (i := 3) F dX12_boardOnce_146 rfl rfl ?_
                refine V_if_eqN (tgt := 168) F dX12_boardOnce_147 (by decide) (by omega) (fun c_147 => ?_) (fun c_147 => absurd c_147 (by decide))
                refine V_aload_n (i := 2) F dX12_boardOnce_168 rfl rfl ?_
                refine V_aload (i := 5) F dX12_boardOnce_169 rfl ?_
                refine V_callV (st := [.ref (af), .int (nI (plG g u (k + 1))), .ref (af)]) (nn := 0) F dX12_boardOnce_171 lk_X12_96 (ct_Leg_to hq) ⟨5, _, _, _, rfl, (.inl hq)⟩ rfl rfl (Nat.le_of_ble_eq_true rfl) (Nat.le_of_ble_eq_true rfl) (Nat.le_of_ble_eq_true rfl) (by first | exact Nat.le_of_ble_eq_true rfl | omega) (by first | exact Nat.le_of_ble_eq_true rfl | omega) ?_
                refine PRk ?_
                refine V_ialdG F dX12_boardOnce_174 (.inl p4) (hI.pl hu (by omega)) hI.b.lt rfl ?_
                have p19 : h3 ((x u)) = some (.inr (4, [.int (nI (g (16 + 36 * u + 0))), .ref ((A u 0)), .ref ((A u 1)), .ref ((A u 2)), .ref ((A u 3)), .ref ((A u 4)), .int (nI (g (16 + 36 * u + 3))), .int (nI (g (16 + 36 * u + 2)))])) := (hRn.2.2 u hu).1
                obtain ⟨lr4, hit4⟩ := hI4
                refine V_iastG F dX12_boardOnce_175 p4 (hI.pl hu (by omega)) hI.b.lt ?_
                refine V_goto (tgt := 21) F dX12_boardOnce_176 (by decide) ?_
                refine VV.weak (L' := [some (.ref (j)), some (.ref (bA)), some (.ref (af)), some (.int (nI (0))), some (.ref (it)), none, none]) (LW.c1 (LW.c1 (LW.c1 (LW.c1 (LW.c1 (LW.c0 (LW.c0 LW.nil))))))) ?_
                have hfr := (f5.put (x := .inl (G.2.1 0, (g 0), .inl (fun i => nI (((up E (plG g u (k + 1)) (E (plG g u (k + 1))))) i)))) p4 ⟨rfl, rfl⟩ rfl (Or.inl (Or.inr (Or.inl rfl))))
                have pe : (hset h3 (af) (.inl (G.2.1 0, (g 0), .inl (fun i => nI (((up E (plG g u (k + 1)) (E (plG g u (k + 1))))) i))))) af = some (.inl (G.2.1 0, (g 0), .inl (fun i => nI (((up E (plG g u (k + 1)) (E (plG g u (k + 1))))) i)))) := (hset_self (e := .inl (G.2.1 0, (g 0), .inl (fun i => nI (((up E (plG g u (k + 1)) (E (plG g u (k + 1))))) i)))))
                have pj : (hset h3 (af) (.inl (G.2.1 0, (g 0), .inl (fun i => nI (((up E (plG g u (k + 1)) (E (plG g u (k + 1))))) i))))) j = some (.inr (10, [.ref (tt), .ref (lg), .ref (tr), .int (nI (a)), .int (nI (v)), .ref (eA), .ref (rA)])) := ((hset_ne (ne_oa p1 p4)).trans p1)
                have pt : (hset h3 (af) (.inl (G.2.1 0, (g 0), .inl (fun i => nI (((up E (plG g u (k + 1)) (E (plG g u (k + 1))))) i))))) tr = some (.inl (G.2.1 0, (g 0), .inl (fun i => nI ((fun i => g (8 + i)) i)))) := ((hset_ne htaf).trans p2)
                have pb : (hset h3 (af) (.inl (G.2.1 0, (g 0), .inl (fun i => nI (((up E (plG g u (k + 1)) (E (plG g u (k + 1))))) i))))) bA = some (.inl (G.2.1 0, (g 0), .inl (fun i => nI (b i)))) := ((hset_ne hbaf2).trans p3)
                have hcd : ¬ (((0 < k ∧ ab = 1) ∨ b (plG g u k) + (if (plG g u k) = a then 0 else g (8 + (plG g u k))) ≤ LvG g u k) ∧ ¬ ldG g u k = g (16 + 36 * u + 0)) := by
                  rcases Nat.decEq (plG g u k) a with z | z
                  · simp only [if_neg z] at *; omega
                  · simp only [if_pos z] at *; omega
                have hF5 : Fr nM h ((hset h3 (af) (.inl (G.2.1 0, (g 0), .inl (fun i => nI (((up E (plG g u (k + 1)) (E (plG g u (k + 1))))) i)))))) := hF.cal hfr (fun b z => z.elim (fun q => Or.inr (q ▸ hit0)) (fun q => Or.inr (q.elim (fun q => q ▸ haf0) (fun q => q ▸ haf0))))
                have hI5 : ITR ((hset h3 (af) (.inl (G.2.1 0, (g 0), .inl (fun i => nI (((up E (plG g u (k + 1)) (E (plG g u (k + 1))))) i)))))) it lg (i + 1) (lgL g).length := ⟨lr4, (hset_ne (Ne.symm hait)).trans hit4⟩
                refine ih_21 (i + 1) 0 E _ (by omega) (by omega) (by omega) hI5 pj (pe.trans (by rw [up_id])) pt pb hF5 ?_ ?_
                · exact hEM
                · rw [foldl_take (d := (0, 0)) hi, hfo, hp0]
                  exact if_neg hcd
              · refine V_iconst (v := nI 1) F dX12_boardOnce_101 rfl ?_
                refine V_goto (tgt := 106) F dX12_boardOnce_102 (by decide) ?_
                refine V_istore_n (i := 3) F dX12_boardOnce_106 rfl (Nat.le_of_ble_eq_true rfl) (Nat.le_of_ble_eq_true rfl) ?_
                refine V_iload_n (i := 3) F dX12_boardOnce_107 rfl rfl ?_
                refine V_if_eqN (tgt := 138) F dX12_boardOnce_108 (by decide) (by omega) (fun c_108 => absurd c_108 (by decide)) (fun c_108 => ?_)
                refine V_aload_n (i := 0) F dX12_boardOnce_111 rfl rfl ?_
                refine V_getf F dX12_boardOnce_112 fc_X12_9_X12 (.inl p1) rfl ?_
                refine V_aload (i := 5) F dX12_boardOnce_115 rfl ?_
                refine V_callV (st := [.ref (tt)]) (nn := 0) F dX12_boardOnce_117 lk_X12_83 (ct_Leg_train hq) ⟨5, _, _, _, rfl, (.inl hq)⟩ rfl rfl (Nat.le_of_ble_eq_true rfl) (Nat.le_of_ble_eq_true rfl) (Nat.le_of_ble_eq_true rfl) (by first | exact Nat.le_of_ble_eq_true rfl | omega) (by first | exact Nat.le_of_ble_eq_true rfl | omega) ?_
                refine PRk ?_
                refine V_callV (st := []) (nn := 1) F dX12_boardOnce_120 lk_X12_121 (ct_TT_get hRn hI hu) ⟨3, _, _, _, rfl, .inl hRn.1⟩ rfl rfl (Nat.le_of_ble_eq_true rfl) (Nat.le_of_ble_eq_true rfl) (Nat.le_of_ble_eq_true rfl) (by first | exact Nat.le_of_ble_eq_true rfl | omega) (by first | exact Nat.le_of_ble_eq_true rfl | omega) ?_
                refine PRk ?_
                refine V_aload (i := 5) F dX12_boardOnce_123 rfl ?_
                refine V_callV (st := [.ref ((x u))]) (nn := 0) F dX12_boardOnce_125 lk_X12_86 (ct_Leg_number hq) ⟨5, _, _, _, rfl, (.inl hq)⟩ rfl rfl (Nat.le_of_ble_eq_true rfl) (Nat.le_of_ble_eq_true rfl) (Nat.le_of_ble_eq_true rfl) (by first | exact Nat.le_of_ble_eq_true rfl | omega) (by first | exact Nat.le_of_ble_eq_true rfl | omega) ?_
                refine PRk ?_
                refine V_callV (st := []) (nn := 1) F dX12_boardOnce_128 lk_X12_138 (ct_TR_isFull (hRn.2.2 u hu) (by omega) hI.2.2.2.2.1 hI.b) ⟨4, _, _, _, rfl, (.inl (hRn.2.2 u hu).1)⟩ rfl rfl (Nat.le_of_ble_eq_true rfl) (Nat.le_of_ble_eq_true rfl) (Nat.le_of_ble_eq_true rfl) (by first | exact Nat.le_of_ble_eq_true rfl | omega) (by first | exact Nat.le_of_ble_eq_true rfl | omega) ?_
                refine PRk ?_
                refine V_if_neB (tgt := 138) F dX12_boardOnce_131 (by decide) (fun c_131 => ?_) (fun c_131 => ?_)
                · refine V_iconst (v := nI 0) F dX12_boardOnce_138 rfl ?_
                  refine V_istore_n (i := 3) F dX12_boardOnce_139 rfl (Nat.le_of_ble_eq_true rfl) (Nat.le_of_ble_eq_true rfl) ?_
                  refine V_aload_n (i := 2) F dX12_boardOnce_140 rfl rfl ?_
                  refine V_aload (i := 5) F dX12_boardOnce_141 rfl ?_
                  refine V_callV (st := [.ref (af)]) (nn := 0) F dX12_boardOnce_143 lk_X12_96 (ct_Leg_to hq) ⟨5, _, _, _, rfl, (.inl hq)⟩ rfl rfl (Nat.le_of_ble_eq_true rfl) (Nat.le_of_ble_eq_true rfl) (Nat.le_of_ble_eq_true rfl) (by first | exact Nat.le_of_ble_eq_true rfl | omega) (by first | exact Nat.le_of_ble_eq_true rfl | omega) ?_
                  refine PRk ?_
                  refine V_iload_n (i := 3) F dX12_boardOnce_146 rfl rfl ?_
                  refine V_if_eqN (tgt := 168) F dX12_boardOnce_147 (by decide) (by omega) (fun c_147 => ?_) (fun c_147 => absurd c_147 (by decide))
                  refine V_aload_n (i := 2) F dX12_boardOnce_168 rfl rfl ?_
                  refine V_aload (i := 5) F dX12_boardOnce_169 rfl ?_
                  refine V_callV (st := [.ref (af), .int (nI (plG g u (k + 1))), .ref (af)]) (nn := 0) F dX12_boardOnce_171 lk_X12_96 (ct_Leg_to hq) ⟨5, _, _, _, rfl, (.inl hq)⟩ rfl rfl (Nat.le_of_ble_eq_true rfl) (Nat.le_of_ble_eq_true rfl) (Nat.le_of_ble_eq_true rfl) (by first | exact Nat.le_of_ble_eq_true rfl | omega) (by first | exact Nat.le_of_ble_eq_true rfl | omega) ?_
                  refine PRk ?_
                  refine V_ialdG F dX12_boardOnce_174 (.inl p4) (hI.pl hu (by omega)) hI.b.lt rfl ?_
                  have p20 : h3 ((x u)) = some (.inr (4, [.int (nI (g (16 + 36 * u + 0))), .ref ((A u 0)), .ref ((A u 1)), .ref ((A u 2)), .ref ((A u 3)), .ref ((A u 4)), .int (nI (g (16 + 36 * u + 3))), .int (nI (g (16 + 36 * u + 2)))])) := (hRn.2.2 u hu).1
                  obtain ⟨lr4, hit4⟩ := hI4
                  refine V_iastG F dX12_boardOnce_175 p4 (hI.pl hu (by omega)) hI.b.lt ?_
                  refine V_goto (tgt := 21) F dX12_boardOnce_176 (by decide) ?_
                  refine VV.weak (L' := [some (.ref (j)), some (.ref (bA)), some (.ref (af)), some (.int (nI (0))), some (.ref (it)), none, none]) (LW.c1 (LW.c1 (LW.c1 (LW.c1 (LW.c1 (LW.c0 (LW.c0 LW.nil))))))) ?_
                  have hfr := (f5.put (x := .inl (G.2.1 0, (g 0), .inl (fun i => nI (((up E (plG g u (k + 1)) (E (plG g u (k + 1))))) i)))) p4 ⟨rfl, rfl⟩ rfl (Or.inl (Or.inr (Or.inl rfl))))
                  have pe : (hset h3 (af) (.inl (G.2.1 0, (g 0), .inl (fun i => nI (((up E (plG g u (k + 1)) (E (plG g u (k + 1))))) i))))) af = some (.inl (G.2.1 0, (g 0), .inl (fun i => nI (((up E (plG g u (k + 1)) (E (plG g u (k + 1))))) i)))) := (hset_self (e := .inl (G.2.1 0, (g 0), .inl (fun i => nI (((up E (plG g u (k + 1)) (E (plG g u (k + 1))))) i)))))
                  have pj : (hset h3 (af) (.inl (G.2.1 0, (g 0), .inl (fun i => nI (((up E (plG g u (k + 1)) (E (plG g u (k + 1))))) i))))) j = some (.inr (10, [.ref (tt), .ref (lg), .ref (tr), .int (nI (a)), .int (nI (v)), .ref (eA), .ref (rA)])) := ((hset_ne (ne_oa p1 p4)).trans p1)
                  have pt : (hset h3 (af) (.inl (G.2.1 0, (g 0), .inl (fun i => nI (((up E (plG g u (k + 1)) (E (plG g u (k + 1))))) i))))) tr = some (.inl (G.2.1 0, (g 0), .inl (fun i => nI ((fun i => g (8 + i)) i)))) := ((hset_ne htaf).trans p2)
                  have pb : (hset h3 (af) (.inl (G.2.1 0, (g 0), .inl (fun i => nI (((up E (plG g u (k + 1)) (E (plG g u (k + 1))))) i))))) bA = some (.inl (G.2.1 0, (g 0), .inl (fun i => nI (b i)))) := ((hset_ne hbaf2).trans p3)
                  have hcd : ¬ (((0 < k ∧ ab = 1) ∨ b (plG g u k) + (if (plG g u k) = a then 0 else g (8 + (plG g u k))) ≤ LvG g u k) ∧ ¬ ldG g u k = g (16 + 36 * u + 0)) := by
                    rcases Nat.decEq (plG g u k) a with z | z
                    · simp only [if_neg z] at *; omega
                    · simp only [if_pos z] at *; omega
                  have hF5 : Fr nM h ((hset h3 (af) (.inl (G.2.1 0, (g 0), .inl (fun i => nI (((up E (plG g u (k + 1)) (E (plG g u (k + 1))))) i)))))) := hF.cal hfr (fun b z => z.elim (fun q => Or.inr (q ▸ hit0)) (fun q => Or.inr (q.elim (fun q => q ▸ haf0) (fun q => q ▸ haf0))))
                  have hI5 : ITR ((hset h3 (af) (.inl (G.2.1 0, (g 0), .inl (fun i => nI (((up E (plG g u (k + 1)) (E (plG g u (k + 1))))) i)))))) it lg (i + 1) (lgL g).length := ⟨lr4, (hset_ne (Ne.symm hait)).trans hit4⟩
                  refine ih_21 (i + 1) 0 E _ (by omega) (by omega) (by omega) hI5 pj (pe.trans (by rw [up_id])) pt pb hF5 ?_ ?_
                  · exact hEM
                  · rw [foldl_take (d := (0, 0)) hi, hfo, hp0]
                    exact if_neg hcd
                · refine V_iconst (v := nI 1) F dX12_boardOnce_134 rfl ?_
                  refine V_goto (tgt := 139) F dX12_boardOnce_135 (by decide) ?_
                  refine V_istore_n (i := 3) F dX12_boardOnce_139 rfl (Nat.le_of_ble_eq_true rfl) (Nat.le_of_ble_eq_true rfl) ?_
                  refine V_aload_n (i := 2) F dX12_boardOnce_140 rfl rfl ?_
                  refine V_aload (i := 5) F dX12_boardOnce_141 rfl ?_
                  refine V_callV (st := [.ref (af)]) (nn := 0) F dX12_boardOnce_143 lk_X12_96 (ct_Leg_to hq) ⟨5, _, _, _, rfl, (.inl hq)⟩ rfl rfl (Nat.le_of_ble_eq_true rfl) (Nat.le_of_ble_eq_true rfl) (Nat.le_of_ble_eq_true rfl) (by first | exact Nat.le_of_ble_eq_true rfl | omega) (by first | exact Nat.le_of_ble_eq_true rfl | omega) ?_
                  refine PRk ?_
                  refine V_iload_n (i := 3) F dX12_boardOnce_146 rfl rfl ?_
                  refine V_if_eqN (tgt := 168) F dX12_boardOnce_147 (by decide) (by omega) (fun c_147 => absurd c_147 (by decide)) (fun c_147 => ?_)
                  refine V_aload_n (i := 2) F dX12_boardOnce_150 rfl rfl ?_
                  refine V_aload (i := 5) F dX12_boardOnce_151 rfl ?_
                  refine V_callV (st := [.ref (af), .int (nI (plG g u (k + 1))), .ref (af)]) (nn := 0) F dX12_boardOnce_153 lk_X12_96 (ct_Leg_to hq) ⟨5, _, _, _, rfl, (.inl hq)⟩ rfl rfl (Nat.le_of_ble_eq_true rfl) (Nat.le_of_ble_eq_true rfl) (Nat.le_of_ble_eq_true rfl) (by first | exact Nat.le_of_ble_eq_true rfl | omega) (by first | exact Nat.le_of_ble_eq_true rfl | omega) ?_
                  refine PRk ?_
                  refine V_ialdG F dX12_boardOnce_156 (.inl p4) (hI.pl hu (by omega)) hI.b.lt rfl ?_
                  refine V_aload (i := 5) F dX12_boardOnce_157 rfl ?_
                  refine V_callV (st := [.int (nI (E (plG g u (k + 1)))), .int (nI (plG g u (k + 1))), .ref (af)]) (nn := 0) F dX12_boardOnce_159 lk_X12_99 (ct_Leg_arrival hq) ⟨5, _, _, _, rfl, (.inl hq)⟩ rfl rfl (Nat.le_of_ble_eq_true rfl) (Nat.le_of_ble_eq_true rfl) (Nat.le_of_ble_eq_true rfl) (by first | exact Nat.le_of_ble_eq_true rfl | omega) (by first | exact Nat.le_of_ble_eq_true rfl | omega) ?_
                  refine PRk ?_
                  refine V_mminN (a := (E (plG g u (k + 1)))) (b := (CmG g u (k + 1))) F dX12_boardOnce_162 q1456 (by have := hEM (plG g u (k + 1)); omega) (Nat.lt_trans (CmG_31 hI.b (by omega)) (by decide)) (Nat.le_of_ble_eq_true rfl) (Nat.le_of_ble_eq_true rfl) (by first | exact Nat.le_of_ble_eq_true rfl | omega) (by first | exact Nat.le_of_ble_eq_true rfl | omega) ?_
                  refine V_goto (tgt := 175) F dX12_boardOnce_165 (by decide) ?_
                  have p21 : h3 ((x u)) = some (.inr (4, [.int (nI (g (16 + 36 * u + 0))), .ref ((A u 0)), .ref ((A u 1)), .ref ((A u 2)), .ref ((A u 3)), .ref ((A u 4)), .int (nI (g (16 + 36 * u + 3))), .int (nI (g (16 + 36 * u + 2)))])) := (hRn.2.2 u hu).1
                  obtain ⟨lr4, hit4⟩ := hI4
                  refine V_iastG F dX12_boardOnce_175 p4 (hI.pl hu (by omega)) hI.b.lt ?_
                  refine V_goto (tgt := 21) F dX12_boardOnce_176 (by decide) ?_
                  refine VV.weak (L' := [some (.ref (j)), some (.ref (bA)), some (.ref (af)), some (.int (nI (1))), some (.ref (it)), none, none]) (LW.c1 (LW.c1 (LW.c1 (LW.c1 (LW.c1 (LW.c0 (LW.c0 LW.nil))))))) ?_
                  have hfr := (f5.put (x := .inl (G.2.1 0, (g 0), .inl (fun i => nI (((up E (plG g u (k + 1)) (min (E (plG g u (k + 1))) (CmG g u (k + 1))))) i)))) p4 ⟨rfl, rfl⟩ rfl (Or.inl (Or.inr (Or.inl rfl))))
                  have pe : (hset h3 (af) (.inl (G.2.1 0, (g 0), .inl (fun i => nI (((up E (plG g u (k + 1)) (min (E (plG g u (k + 1))) (CmG g u (k + 1))))) i))))) af = some (.inl (G.2.1 0, (g 0), .inl (fun i => nI (((up E (plG g u (k + 1)) (min (E (plG g u (k + 1))) (CmG g u (k + 1))))) i)))) := (hset_self (e := .inl (G.2.1 0, (g 0), .inl (fun i => nI (((up E (plG g u (k + 1)) (min (E (plG g u (k + 1))) (CmG g u (k + 1))))) i)))))
                  have pj : (hset h3 (af) (.inl (G.2.1 0, (g 0), .inl (fun i => nI (((up E (plG g u (k + 1)) (min (E (plG g u (k + 1))) (CmG g u (k + 1))))) i))))) j = some (.inr (10, [.ref (tt), .ref (lg), .ref (tr), .int (nI (a)), .int (nI (v)), .ref (eA), .ref (rA)])) := ((hset_ne (ne_oa p1 p4)).trans p1)
                  have pt : (hset h3 (af) (.inl (G.2.1 0, (g 0), .inl (fun i => nI (((up E (plG g u (k + 1)) (min (E (plG g u (k + 1))) (CmG g u (k + 1))))) i))))) tr = some (.inl (G.2.1 0, (g 0), .inl (fun i => nI ((fun i => g (8 + i)) i)))) := ((hset_ne htaf).trans p2)
                  have pb : (hset h3 (af) (.inl (G.2.1 0, (g 0), .inl (fun i => nI (((up E (plG g u (k + 1)) (min (E (plG g u (k + 1))) (CmG g u (k + 1))))) i))))) bA = some (.inl (G.2.1 0, (g 0), .inl (fun i => nI (b i)))) := ((hset_ne hbaf2).trans p3)
                  have hcd : (((0 < k ∧ ab = 1) ∨ b (plG g u k) + (if (plG g u k) = a then 0 else g (8 + (plG g u k))) ≤ LvG g u k) ∧ ¬ ldG g u k = g (16 + 36 * u + 0)) := by
                    rcases Nat.decEq (plG g u k) a with z | z
                    · simp only [if_neg z] at *; omega
                    · simp only [if_pos z] at *; omega
                  have hF5 : Fr nM h ((hset h3 (af) (.inl (G.2.1 0, (g 0), .inl (fun i => nI (((up E (plG g u (k + 1)) (min (E (plG g u (k + 1))) (CmG g u (k + 1))))) i)))))) := hF.cal hfr (fun b z => z.elim (fun q => Or.inr (q ▸ hit0)) (fun q => Or.inr (q.elim (fun q => q ▸ haf0) (fun q => q ▸ haf0))))
                  have hI5 : ITR ((hset h3 (af) (.inl (G.2.1 0, (g 0), .inl (fun i => nI (((up E (plG g u (k + 1)) (min (E (plG g u (k + 1))) (CmG g u (k + 1))))) i)))))) it lg (i + 1) (lgL g).length := ⟨lr4, (hset_ne (Ne.symm hait)).trans hit4⟩
                  refine ih_21 (i + 1) 1 ((up E (plG g u (k + 1)) (min (E (plG g u (k + 1))) (CmG g u (k + 1))))) _ (by omega) (by omega) (by omega) hI5 pj pe pt pb hF5 ?_ ?_
                  · intro z; unfold up; split <;> first | exact Nat.le_trans (Nat.min_le_left _ _) (hEM _) | exact hEM z
                  · rw [foldl_take (d := (0, 0)) hi, hfo, hp0]
                    exact if_pos hcd
  refine VV.weak (L' := [some (.ref (j)), some (.ref (bA)), some (.ref (af)), some (.int (nI (0))), some (.ref (it)), none, none]) (LW.c1 (LW.c1 (LW.c1 (LW.c1 (LW.c1 (LW.c0 (LW.c0 LW.nil))))))) ?_
  have hfr := f7
  exact VV.wide (by omega) (by omega) (loop_21 ((lgL g).length + 1) 0 0 b _ (by omega) (Nat.zero_le _) (by decide) hIt p3 p6 p4 p5 hfr hbM rfl)
