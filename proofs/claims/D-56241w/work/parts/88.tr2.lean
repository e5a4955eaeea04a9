/-- the rows of a new train -/
def nwT (s d i : Nat) : Nat → Nat := if i = 0 then up (fun _ => 0) 0 s else if i = 2 then up (fun _ => 0) 0 d else fun _ => 0
/-- rows of addresses with one row changed -/
def upA (A : Nat → Nat → Nat) (k : Nat) (B : Nat → Nat) : Nat → Nat → Nat := fun t => if t = k then B else A t
theorem upA_s {A : Nat → Nat → Nat} {k : Nat} {B : Nat → Nat} : upA A k B k = B := if_pos rfl
theorem upA_n {A : Nat → Nat → Nat} {k t : Nat} {B : Nat → Nat} (h : t ≠ k) : upA A k B t = A t := if_neg h
theorem TRs.frk {G : GG} {h h2 : AH} {M : Nat → Prop} {x t : Nat} {A : Nat → Nat} {g : Nat → Nat} (hT : TRs G h x A g t) (hx : Fr M h h2) (h4 : offK M h (kO 4)) (hi : offK M h kI) : TRs G h2 x A g t := by
  have hT0 := hT
  obtain ⟨p, f, q, z⟩ := hT0
  exact hT.fr hx (h4.o p) (fun i hi5 => hi _ _ (q i hi5) rfl)
theorem TRs.nof {G : GG} {h : AH} {x t q : Nat} {A : Nat → Nat} {g : Nat → Nat} (hT : TRs G h x A g t) (hq : h q = none) : x ≠ q ∧ ∀ i, i < 5 → A i ≠ q := by
  obtain ⟨p, f, z, -⟩ := hT
  refine ⟨fun e => ?_, fun i hi e => ?_⟩
  · subst e; rw [hq] at p; cases p
  · have z1 := z i hi; rw [e, hq] at z1; cases z1
theorem ct_TR_init {G : GG} {l : Launch} {h : AH} {a s0 d0 c : Nat}  (ha : h a = some (.inr (4, [.int (nI 0), .null, .null, .null, .null, .null, .int (nI 0), .int (nI 0)]))) : Ct G l yX5_init_2 cX5_init_2 4 none 2 (6) (45) [.ref a, .int (nI s0), .int (nI d0), .int (nI c)] h (fun r h2 => r = none ∧ ∃ B : Nat → Nat, (∀ i, i < 5 → h (B i) = none) ∧ (∀ i j, i < 5 → j < 5 → B i = B j → i = j) ∧ h2 a = some (.inr (4, [.int (nI c), .ref (B 0), .ref (B 1), .ref (B 2), .ref (B 3), .ref (B 4), .int (nI 1), .int (nI 0)])) ∧ (∀ i, i < 5 → h2 (B i) = some (iA G 8 (fun k => nI (nwT s0 d0 i k)))) ∧ Fr (m1 a) h h2) := by
  refine Ct.of (by decide) (Nat.le_of_ble_eq_true rfl) (cat1 rfl) (fun X hXl F HN => ?_)
  subst hXl
  refine V_aload_n (i := 0) F dX5_init_2_0 rfl rfl ?_
  refine V_iload_n (i := 3) F dX5_init_2_1 rfl rfl ?_
  refine V_iconst (v := nI 5) F dX5_init_2_2 rfl ?_
  refine V_anewI F dX5_init_2_3 q2289 (by omega) (by first | exact Nat.le_of_ble_eq_true rfl | omega) (by first | exact Nat.le_of_ble_eq_true rfl | omega) ?_
  intro y hfy hby
  refine V_dup F dX5_init_2_6 rfl ?_
  refine V_iconst (v := nI 0) F dX5_init_2_7 rfl ?_
  refine V_bipush (v := nI 8) F dX5_init_2_8 rfl ?_
  have fz0 := ((Fr.rf (M := m1 a) (h := h)).nw (x := yA G 5 (fun _ => none)) hfy)
  refine V_newaI F dX5_init_2_10 (by omega) (by first | exact Nat.le_of_ble_eq_true rfl | omega) (by first | exact Nat.le_of_ble_eq_true rfl | omega) ?_
  intro b0 hfb0 hbb0
  have p1 : (hset h y (yA G 5 (fun _ => none))) a = some (.inr (4, [.int (nI (0)), .null, .null, .null, .null, .null, .int (nI (0)), .int (nI (0))])) := ((hset_ne (ne_nw ha hfy)).trans ha)
  have p2 : (hset h y (yA G 5 (fun _ => none))) y = some (yA G 5 (fun _ => none)) := (hset_self (e := yA G 5 (fun _ => none)))
  have hb00 := fz0.none hfb0
  refine V_aastI F dX5_init_2_12 ((hset_ne (ne_nw p2 hfb0)).trans p2) (.inl (hset_self (e := .inl (G.2.1 0, 8, .inl (fun _ => nI 0))))) (by omega) (by omega) ?_
  refine V_dup F dX5_init_2_13 rfl ?_
  refine V_iconst (v := nI 1) F dX5_init_2_14 rfl ?_
  refine V_bipush (v := nI 8) F dX5_init_2_15 rfl ?_
  have fz1 := ((((Fr.rf (M := m1 a) (h := h)).nw (x := yA G 5 (fun _ => none)) hfy).nw (x := .inl (G.2.1 0, 8, .inl (fun _ => nI 0))) hfb0).put (x := yA G 5 ((upq (fun _ => none) 0 (some b0)))) ((hset_ne (ne_nw p2 hfb0)).trans p2) ⟨rfl, rfl⟩ rfl ((Fr.rf (M := m1 a) (h := h)).yo hfy))
  refine V_newaI F dX5_init_2_17 (by omega) (by first | exact Nat.le_of_ble_eq_true rfl | omega) (by first | exact Nat.le_of_ble_eq_true rfl | omega) ?_
  intro b1 hfb1 hbb1
  have p3 : (hset (hset (hset h y (yA G 5 (fun _ => none))) b0 (.inl (G.2.1 0, 8, .inl (fun _ => nI 0)))) (y) (yA G 5 ((upq (fun _ => none) 0 (some b0))))) a = some (.inr (4, [.int (nI (0)), .null, .null, .null, .null, .null, .int (nI (0)), .int (nI (0))])) := ((hset_ne (ne_nw ha hfy)).trans ((hset_ne (ne_nw p1 hfb0)).trans p1))
  have p4 : (hset (hset (hset h y (yA G 5 (fun _ => none))) b0 (.inl (G.2.1 0, 8, .inl (fun _ => nI 0)))) (y) (yA G 5 ((upq (fun _ => none) 0 (some b0))))) b0 = some (.inl (G.2.1 0, 8, .inl (fun i => nI ((fun _ => 0) i)))) := ((hset_ne (Ne.symm (ne_nw p2 hfb0))).trans (hset_self (e := .inl (G.2.1 0, 8, .inl (fun _ => nI 0)))))
  have p5 : (hset (hset (hset h y (yA G 5 (fun _ => none))) b0 (.inl (G.2.1 0, 8, .inl (fun _ => nI 0)))) (y) (yA G 5 ((upq (fun _ => none) 0 (some b0))))) y = some (yA G 5 ((upq (fun _ => none) 0 (some b0)))) := (hset_self (e := yA G 5 ((upq (fun _ => none) 0 (some b0)))))
  have hd01 : b0 ≠ b1 := ne_nw p4 hfb1
  have hb10 := fz1.none hfb1
  refine V_aastI F dX5_init_2_19 ((hset_ne (ne_nw p5 hfb1)).trans p5) (.inl (hset_self (e := .inl (G.2.1 0, 8, .inl (fun _ => nI 0))))) (by omega) (by omega) ?_
  refine V_dup F dX5_init_2_20 rfl ?_
  refine V_iconst (v := nI 2) F dX5_init_2_21 rfl ?_
  refine V_bipush (v := nI 8) F dX5_init_2_22 rfl ?_
  have fz2 := ((((((Fr.rf (M := m1 a) (h := h)).nw (x := yA G 5 (fun _ => none)) hfy).nw (x := .inl (G.2.1 0, 8, .inl (fun _ => nI 0))) hfb0).put (x := yA G 5 ((upq (fun _ => none) 0 (some b0)))) ((hset_ne (ne_nw p2 hfb0)).trans p2) ⟨rfl, rfl⟩ rfl ((Fr.rf (M := m1 a) (h := h)).yo hfy)).nw (x := .inl (G.2.1 0, 8, .inl (fun _ => nI 0))) hfb1).put (x := yA G 5 ((upq ((upq (fun _ => none) 0 (some b0))) 1 (some b1)))) ((hset_ne (ne_nw p5 hfb1)).trans p5) ⟨rfl, rfl⟩ rfl ((Fr.rf (M := m1 a) (h := h)).yo hfy))
  refine V_newaI F dX5_init_2_24 (by omega) (by first | exact Nat.le_of_ble_eq_true rfl | omega) (by first | exact Nat.le_of_ble_eq_true rfl | omega) ?_
  intro b2 hfb2 hbb2
  have p6 : (hset (hset (hset (hset (hset h y (yA G 5 (fun _ => none))) b0 (.inl (G.2.1 0, 8, .inl (fun _ => nI 0)))) (y) (yA G 5 ((upq (fun _ => none) 0 (some b0))))) b1 (.inl (G.2.1 0, 8, .inl (fun _ => nI 0)))) (y) (yA G 5 ((upq ((upq (fun _ => none) 0 (some b0))) 1 (some b1))))) a = some (.inr (4, [.int (nI (0)), .null, .null, .null, .null, .null, .int (nI (0)), .int (nI (0))])) := ((hset_ne (ne_nw ha hfy)).trans ((hset_ne (ne_nw p3 hfb1)).trans p3))
  have p7 : (hset (hset (hset (hset (hset h y (yA G 5 (fun _ => none))) b0 (.inl (G.2.1 0, 8, .inl (fun _ => nI 0)))) (y) (yA G 5 ((upq (fun _ => none) 0 (some b0))))) b1 (.inl (G.2.1 0, 8, .inl (fun _ => nI 0)))) (y) (yA G 5 ((upq ((upq (fun _ => none) 0 (some b0))) 1 (some b1))))) b0 = some (.inl (G.2.1 0, 8, .inl (fun i => nI ((fun _ => 0) i)))) := ((hset_ne (Ne.symm (ne_nw p2 hfb0))).trans ((hset_ne (ne_nw p4 hfb1)).trans p4))
  have p8 : (hset (hset (hset (hset (hset h y (yA G 5 (fun _ => none))) b0 (.inl (G.2.1 0, 8, .inl (fun _ => nI 0)))) (y) (yA G 5 ((upq (fun _ => none) 0 (some b0))))) b1 (.inl (G.2.1 0, 8, .inl (fun _ => nI 0)))) (y) (yA G 5 ((upq ((upq (fun _ => none) 0 (some b0))) 1 (some b1))))) b1 = some (.inl (G.2.1 0, 8, .inl (fun i => nI ((fun _ => 0) i)))) := ((hset_ne (Ne.symm (ne_nw p5 hfb1))).trans (hset_self (e := .inl (G.2.1 0, 8, .inl (fun _ => nI 0)))))
  have p9 : (hset (hset (hset (hset (hset h y (yA G 5 (fun _ => none))) b0 (.inl (G.2.1 0, 8, .inl (fun _ => nI 0)))) (y) (yA G 5 ((upq (fun _ => none) 0 (some b0))))) b1 (.inl (G.2.1 0, 8, .inl (fun _ => nI 0)))) (y) (yA G 5 ((upq ((upq (fun _ => none) 0 (some b0))) 1 (some b1))))) y = some (yA G 5 ((upq ((upq (fun _ => none) 0 (some b0))) 1 (some b1)))) := (hset_self (e := yA G 5 ((upq ((upq (fun _ => none) 0 (some b0))) 1 (some b1)))))
  have hd02 : b0 ≠ b2 := ne_nw p7 hfb2
  have hd12 : b1 ≠ b2 := ne_nw p8 hfb2
  have hb20 := fz2.none hfb2
  refine V_aastI F dX5_init_2_26 ((hset_ne (ne_nw p9 hfb2)).trans p9) (.inl (hset_self (e := .inl (G.2.1 0, 8, .inl (fun _ => nI 0))))) (by omega) (by omega) ?_
  refine V_dup F dX5_init_2_27 rfl ?_
  refine V_iconst (v := nI 3) F dX5_init_2_28 rfl ?_
  refine V_bipush (v := nI 8) F dX5_init_2_29 rfl ?_
  have fz3 := ((((((((Fr.rf (M := m1 a) (h := h)).nw (x := yA G 5 (fun _ => none)) hfy).nw (x := .inl (G.2.1 0, 8, .inl (fun _ => nI 0))) hfb0).put (x := yA G 5 ((upq (fun _ => none) 0 (some b0)))) ((hset_ne (ne_nw p2 hfb0)).trans p2) ⟨rfl, rfl⟩ rfl ((Fr.rf (M := m1 a) (h := h)).yo hfy)).nw (x := .inl (G.2.1 0, 8, .inl (fun _ => nI 0))) hfb1).put (x := yA G 5 ((upq ((upq (fun _ => none) 0 (some b0))) 1 (some b1)))) ((hset_ne (ne_nw p5 hfb1)).trans p5) ⟨rfl, rfl⟩ rfl ((Fr.rf (M := m1 a) (h := h)).yo hfy)).nw (x := .inl (G.2.1 0, 8, .inl (fun _ => nI 0))) hfb2).put (x := yA G 5 ((upq ((upq ((upq (fun _ => none) 0 (some b0))) 1 (some b1))) 2 (some b2)))) ((hset_ne (ne_nw p9 hfb2)).trans p9) ⟨rfl, rfl⟩ rfl ((Fr.rf (M := m1 a) (h := h)).yo hfy))
  refine V_newaI F dX5_init_2_31 (by omega) (by first | exact Nat.le_of_ble_eq_true rfl | omega) (by first | exact Nat.le_of_ble_eq_true rfl | omega) ?_
  intro b3 hfb3 hbb3
  have p10 : (hset (hset (hset (hset (hset (hset (hset h y (yA G 5 (fun _ => none))) b0 (.inl (G.2.1 0, 8, .inl (fun _ => nI 0)))) (y) (yA G 5 ((upq (fun _ => none) 0 (some b0))))) b1 (.inl (G.2.1 0, 8, .inl (fun _ => nI 0)))) (y) (yA G 5 ((upq ((upq (fun _ => none) 0 (some b0))) 1 (some b1))))) b2 (.inl (G.2.1 0, 8, .inl (fun _ => nI 0)))) (y) (yA G 5 ((upq ((upq ((upq (fun _ => none) 0 (some b0))) 1 (some b1))) 2 (some b2))))) a = some (.inr (4, [.int (nI (0)), .null, .null, .null, .null, .null, .int (nI (0)), .int (nI (0))])) := ((hset_ne (ne_nw ha hfy)).trans ((hset_ne (ne_nw p6 hfb2)).trans p6))
  have p11 : (hset (hset (hset (hset (hset (hset (hset h y (yA G 5 (fun _ => none))) b0 (.inl (G.2.1 0, 8, .inl (fun _ => nI 0)))) (y) (yA G 5 ((upq (fun _ => none) 0 (some b0))))) b1 (.inl (G.2.1 0, 8, .inl (fun _ => nI 0)))) (y) (yA G 5 ((upq ((upq (fun _ => none) 0 (some b0))) 1 (some b1))))) b2 (.inl (G.2.1 0, 8, .inl (fun _ => nI 0)))) (y) (yA G 5 ((upq ((upq ((upq (fun _ => none) 0 (some b0))) 1 (some b1))) 2 (some b2))))) b0 = some (.inl (G.2.1 0, 8, .inl (fun i => nI ((fun _ => 0) i)))) := ((hset_ne (Ne.symm (ne_nw p2 hfb0))).trans ((hset_ne (ne_nw p7 hfb2)).trans p7))
  have p12 : (hset (hset (hset (hset (hset (hset (hset h y (yA G 5 (fun _ => none))) b0 (.inl (G.2.1 0, 8, .inl (fun _ => nI 0)))) (y) (yA G 5 ((upq (fun _ => none) 0 (some b0))))) b1 (.inl (G.2.1 0, 8, .inl (fun _ => nI 0)))) (y) (yA G 5 ((upq ((upq (fun _ => none) 0 (some b0))) 1 (some b1))))) b2 (.inl (G.2.1 0, 8, .inl (fun _ => nI 0)))) (y) (yA G 5 ((upq ((upq ((upq (fun _ => none) 0 (some b0))) 1 (some b1))) 2 (some b2))))) b1 = some (.inl (G.2.1 0, 8, .inl (fun i => nI ((fun _ => 0) i)))) := ((hset_ne (Ne.symm (ne_nw p5 hfb1))).trans ((hset_ne (ne_nw p8 hfb2)).trans p8))
  have p13 : (hset (hset (hset (hset (hset (hset (hset h y (yA G 5 (fun _ => none))) b0 (.inl (G.2.1 0, 8, .inl (fun _ => nI 0)))) (y) (yA G 5 ((upq (fun _ => none) 0 (some b0))))) b1 (.inl (G.2.1 0, 8, .inl (fun _ => nI 0)))) (y) (yA G 5 ((upq ((upq (fun _ => none) 0 (some b0))) 1 (some b1))))) b2 (.inl (G.2.1 0, 8, .inl (fun _ => nI 0)))) (y) (yA G 5 ((upq ((upq ((upq (fun _ => none) 0 (some b0))) 1 (some b1))) 2 (some b2))))) b2 = some (.inl (G.2.1 0, 8, .inl (fun i => nI ((fun _ => 0) i)))) := ((hset_ne (Ne.symm (ne_nw p9 hfb2))).trans (hset_self (e := .inl (G.2.1 0, 8, .inl (fun _ => nI 0)))))
  have p14 : (hset (hset (hset (hset (hset (hset (hset h y (yA G 5 (fun _ => none))) b0 (.inl (G.2.1 0, 8, .inl (fun _ => nI 0)))) (y) (yA G 5 ((upq (fun _ => none) 0 (some b0))))) b1 (.inl (G.2.1 0, 8, .inl (fun _ => nI 0)))) (y) (yA G 5 ((upq ((upq (fun _ => none) 0 (some b0))) 1 (some b1))))) b2 (.inl (G.2.1 0, 8, .inl (fun _ => nI 0)))) (y) (yA G 5 ((upq ((upq ((upq (fun _ => none) 0 (some b0))) 1 (some b1))) 2 (some b2))))) y = some (yA G 5 ((upq ((upq ((upq (fun _ => none) 0 (some b0))) 1 (some b1))) 2 (some b2)))) := (hset_self (e := yA G 5 ((upq ((upq ((upq (fun _ => none) 0 (some b0))) 1 (some b1))) 2 (some b2)))))
  have hd03 : b0 ≠ b3 := ne_nw p11 hfb3
  have hd13 : b1 ≠ b3 := ne_nw p12 hfb3
  have hd23 : b2 ≠ b3 := ne_nw p13 hfb3
  have hb30 := fz3.none hfb3
  refine V_aastI F dX5_init_2_33 ((hset_ne (ne_nw p14 hfb3)).trans p14) (.inl (hset_self (e := .inl (G.2.1 0, 8, .inl (fun _ => nI 0))))) (by omega) (by omega) ?_
  refine V_dup F dX5_init_2_34 rfl ?_
  refine V_iconst (v := nI 4) F dX5_init_2_35 rfl ?_
  refine V_bipush (v := nI 8) F dX5_init_2_36 rfl ?_
  have fz4 := ((((((((((Fr.rf (M := m1 a) (h := h)).nw (x := yA G 5 (fun _ => none)) hfy).nw (x := .inl (G.2.1 0, 8, .inl (fun _ => nI 0))) hfb0).put (x := yA G 5 ((upq (fun _ => none) 0 (some b0)))) ((hset_ne (ne_nw p2 hfb0)).trans p2) ⟨rfl, rfl⟩ rfl ((Fr.rf (M := m1 a) (h := h)).yo hfy)).nw (x := .inl (G.2.1 0, 8, .inl (fun _ => nI 0))) hfb1).put (x := yA G 5 ((upq ((upq (fun _ => none) 0 (some b0))) 1 (some b1)))) ((hset_ne (ne_nw p5 hfb1)).trans p5) ⟨rfl, rfl⟩ rfl ((Fr.rf (M := m1 a) (h := h)).yo hfy)).nw (x := .inl (G.2.1 0, 8, .inl (fun _ => nI 0))) hfb2).put (x := yA G 5 ((upq ((upq ((upq (fun _ => none) 0 (some b0))) 1 (some b1))) 2 (some b2)))) ((hset_ne (ne_nw p9 hfb2)).trans p9) ⟨rfl, rfl⟩ rfl ((Fr.rf (M := m1 a) (h := h)).yo hfy)).nw (x := .inl (G.2.1 0, 8, .inl (fun _ => nI 0))) hfb3).put (x := yA G 5 ((upq ((upq ((upq ((upq (fun _ => none) 0 (some b0))) 1 (some b1))) 2 (some b2))) 3 (some b3)))) ((hset_ne (ne_nw p14 hfb3)).trans p14) ⟨rfl, rfl⟩ rfl ((Fr.rf (M := m1 a) (h := h)).yo hfy))
  refine V_newaI F dX5_init_2_38 (by omega) (by first | exact Nat.le_of_ble_eq_true rfl | omega) (by first | exact Nat.le_of_ble_eq_true rfl | omega) ?_
  intro b4 hfb4 hbb4
  have p15 : (hset (hset (hset (hset (hset (hset (hset (hset (hset h y (yA G 5 (fun _ => none))) b0 (.inl (G.2.1 0, 8, .inl (fun _ => nI 0)))) (y) (yA G 5 ((upq (fun _ => none) 0 (some b0))))) b1 (.inl (G.2.1 0, 8, .inl (fun _ => nI 0)))) (y) (yA G 5 ((upq ((upq (fun _ => none) 0 (some b0))) 1 (some b1))))) b2 (.inl (G.2.1 0, 8, .inl (fun _ => nI 0)))) (y) (yA G 5 ((upq ((upq ((upq (fun _ => none) 0 (some b0))) 1 (some b1))) 2 (some b2))))) b3 (.inl (G.2.1 0, 8, .inl (fun _ => nI 0)))) (y) (yA G 5 ((upq ((upq ((upq ((upq (fun _ => none) 0 (some b0))) 1 (some b1))) 2 (some b2))) 3 (some b3))))) a = some (.inr (4, [.int (nI (0)), .null, .null, .null, .null, .null, .int (nI (0)), .int (nI (0))])) := ((hset_ne (ne_nw ha hfy)).trans ((hset_ne (ne_nw p10 hfb3)).trans p10))
  have p16 : (hset (hset (hset (hset (hset (hset (hset (hset (hset h y (yA G 5 (fun _ => none))) b0 (.inl (G.2.1 0, 8, .inl (fun _ => nI 0)))) (y) (yA G 5 ((upq (fun _ => none) 0 (some b0))))) b1 (.inl (G.2.1 0, 8, .inl (fun _ => nI 0)))) (y) (yA G 5 ((upq ((upq (fun _ => none) 0 (some b0))) 1 (some b1))))) b2 (.inl (G.2.1 0, 8, .inl (fun _ => nI 0)))) (y) (yA G 5 ((upq ((upq ((upq (fun _ => none) 0 (some b0))) 1 (some b1))) 2 (some b2))))) b3 (.inl (G.2.1 0, 8, .inl (fun _ => nI 0)))) (y) (yA G 5 ((upq ((upq ((upq ((upq (fun _ => none) 0 (some b0))) 1 (some b1))) 2 (some b2))) 3 (some b3))))) b0 = some (.inl (G.2.1 0, 8, .inl (fun i => nI ((fun _ => 0) i)))) := ((hset_ne (Ne.symm (ne_nw p2 hfb0))).trans ((hset_ne (ne_nw p11 hfb3)).trans p11))
  have p17 : (hset (hset (hset (hset (hset (hset (hset (hset (hset h y (yA G 5 (fun _ => none))) b0 (.inl (G.2.1 0, 8, .inl (fun _ => nI 0)))) (y) (yA G 5 ((upq (fun _ => none) 0 (some b0))))) b1 (.inl (G.2.1 0, 8, .inl (fun _ => nI 0)))) (y) (yA G 5 ((upq ((upq (fun _ => none) 0 (some b0))) 1 (some b1))))) b2 (.inl (G.2.1 0, 8, .inl (fun _ => nI 0)))) (y) (yA G 5 ((upq ((upq ((upq (fun _ => none) 0 (some b0))) 1 (some b1))) 2 (some b2))))) b3 (.inl (G.2.1 0, 8, .inl (fun _ => nI 0)))) (y) (yA G 5 ((upq ((upq ((upq ((upq (fun _ => none) 0 (some b0))) 1 (some b1))) 2 (some b2))) 3 (some b3))))) b1 = some (.inl (G.2.1 0, 8, .inl (fun i => nI ((fun _ => 0) i)))) := ((hset_ne (Ne.symm (ne_nw p5 hfb1))).trans ((hset_ne (ne_nw p12 hfb3)).trans p12))
  have p18 : (hset (hset (hset (hset (hset (hset (hset (hset (hset h y (yA G 5 (fun _ => none))) b0 (.inl (G.2.1 0, 8, .inl (fun _ => nI 0)))) (y) (yA G 5 ((upq (fun _ => none) 0 (some b0))))) b1 (.inl (G.2.1 0, 8, .inl (fun _ => nI 0)))) (y) (yA G 5 ((upq ((upq (fun _ => none) 0 (some b0))) 1 (some b1))))) b2 (.inl (G.2.1 0, 8, .inl (fun _ => nI 0)))) (y) (yA G 5 ((upq ((upq ((upq (fun _ => none) 0 (some b0))) 1 (some b1))) 2 (some b2))))) b3 (.inl (G.2.1 0, 8, .inl (fun _ => nI 0)))) (y) (yA G 5 ((upq ((upq ((upq ((upq (fun _ => none) 0 (some b0))) 1 (some b1))) 2 (some b2))) 3 (some b3))))) b2 = some (.inl (G.2.1 0, 8, .inl (fun i => nI ((fun _ => 0) i)))) := ((hset_ne (Ne.symm (ne_nw p9 hfb2))).trans ((hset_ne (ne_nw p13 hfb3)).trans p13))
  have p19 : (hset (hset (hset (hset (hset (hset (hset (hset (hset h y (yA G 5 (fun _ => none))) b0 (.inl (G.2.1 0, 8, .inl (fun _ => nI 0)))) (y) (yA G 5 ((upq (fun _ => none) 0 (some b0))))) b1 (.inl (G.2.1 0, 8, .inl (fun _ => nI 0)))) (y) (yA G 5 ((upq ((upq (fun _ => none) 0 (some b0))) 1 (some b1))))) b2 (.inl (G.2.1 0, 8, .inl (fun _ => nI 0)))) (y) (yA G 5 ((upq ((upq ((upq (fun _ => none) 0 (some b0))) 1 (some b1))) 2 (some b2))))) b3 (.inl (G.2.1 0, 8, .inl (fun _ => nI 0)))) (y) (yA G 5 ((upq ((upq ((upq ((upq (fun _ => none) 0 (some b0))) 1 (some b1))) 2 (some b2))) 3 (some b3))))) b3 = some (.inl (G.2.1 0, 8, .inl (fun i => nI ((fun _ => 0) i)))) := ((hset_ne (Ne.symm (ne_nw p14 hfb3))).trans (hset_self (e := .inl (G.2.1 0, 8, .inl (fun _ => nI 0)))))
  have p20 : (hset (hset (hset (hset (hset (hset (hset (hset (hset h y (yA G 5 (fun _ => none))) b0 (.inl (G.2.1 0, 8, .inl (fun _ => nI 0)))) (y) (yA G 5 ((upq (fun _ => none) 0 (some b0))))) b1 (.inl (G.2.1 0, 8, .inl (fun _ => nI 0)))) (y) (yA G 5 ((upq ((upq (fun _ => none) 0 (some b0))) 1 (some b1))))) b2 (.inl (G.2.1 0, 8, .inl (fun _ => nI 0)))) (y) (yA G 5 ((upq ((upq ((upq (fun _ => none) 0 (some b0))) 1 (some b1))) 2 (some b2))))) b3 (.inl (G.2.1 0, 8, .inl (fun _ => nI 0)))) (y) (yA G 5 ((upq ((upq ((upq ((upq (fun _ => none) 0 (some b0))) 1 (some b1))) 2 (some b2))) 3 (some b3))))) y = some (yA G 5 ((upq ((upq ((upq ((upq (fun _ => none) 0 (some b0))) 1 (some b1))) 2 (some b2))) 3 (some b3)))) := (hset_self (e := yA G 5 ((upq ((upq ((upq ((upq (fun _ => none) 0 (some b0))) 1 (some b1))) 2 (some b2))) 3 (some b3)))))
  have hd04 : b0 ≠ b4 := ne_nw p16 hfb4
  have hd14 : b1 ≠ b4 := ne_nw p17 hfb4
  have hd24 : b2 ≠ b4 := ne_nw p18 hfb4
  have hd34 : b3 ≠ b4 := ne_nw p19 hfb4
  have hb40 := fz4.none hfb4
  refine V_aastI F dX5_init_2_40 ((hset_ne (ne_nw p20 hfb4)).trans p20) (.inl (hset_self (e := .inl (G.2.1 0, 8, .inl (fun _ => nI 0))))) (by omega) (by omega) ?_
  have p21 : (hset (hset (hset (hset (hset (hset (hset (hset (hset (hset (hset h y (yA G 5 (fun _ => none))) b0 (.inl (G.2.1 0, 8, .inl (fun _ => nI 0)))) (y) (yA G 5 ((upq (fun _ => none) 0 (some b0))))) b1 (.inl (G.2.1 0, 8, .inl (fun _ => nI 0)))) (y) (yA G 5 ((upq ((upq (fun _ => none) 0 (some b0))) 1 (some b1))))) b2 (.inl (G.2.1 0, 8, .inl (fun _ => nI 0)))) (y) (yA G 5 ((upq ((upq ((upq (fun _ => none) 0 (some b0))) 1 (some b1))) 2 (some b2))))) b3 (.inl (G.2.1 0, 8, .inl (fun _ => nI 0)))) (y) (yA G 5 ((upq ((upq ((upq ((upq (fun _ => none) 0 (some b0))) 1 (some b1))) 2 (some b2))) 3 (some b3))))) b4 (.inl (G.2.1 0, 8, .inl (fun _ => nI 0)))) (y) (yA G 5 ((upq ((upq ((upq ((upq ((upq (fun _ => none) 0 (some b0))) 1 (some b1))) 2 (some b2))) 3 (some b3))) 4 (some b4))))) a = some (.inr (4, [.int (nI (0)), .null, .null, .null, .null, .null, .int (nI (0)), .int (nI (0))])) := ((hset_ne (ne_nw ha hfy)).trans ((hset_ne (ne_nw p15 hfb4)).trans p15))
  have p22 : (hset (hset (hset (hset (hset (hset (hset (hset (hset (hset (hset h y (yA G 5 (fun _ => none))) b0 (.inl (G.2.1 0, 8, .inl (fun _ => nI 0)))) (y) (yA G 5 ((upq (fun _ => none) 0 (some b0))))) b1 (.inl (G.2.1 0, 8, .inl (fun _ => nI 0)))) (y) (yA G 5 ((upq ((upq (fun _ => none) 0 (some b0))) 1 (some b1))))) b2 (.inl (G.2.1 0, 8, .inl (fun _ => nI 0)))) (y) (yA G 5 ((upq ((upq ((upq (fun _ => none) 0 (some b0))) 1 (some b1))) 2 (some b2))))) b3 (.inl (G.2.1 0, 8, .inl (fun _ => nI 0)))) (y) (yA G 5 ((upq ((upq ((upq ((upq (fun _ => none) 0 (some b0))) 1 (some b1))) 2 (some b2))) 3 (some b3))))) b4 (.inl (G.2.1 0, 8, .inl (fun _ => nI 0)))) (y) (yA G 5 ((upq ((upq ((upq ((upq ((upq (fun _ => none) 0 (some b0))) 1 (some b1))) 2 (some b2))) 3 (some b3))) 4 (some b4))))) b0 = some (.inl (G.2.1 0, 8, .inl (fun i => nI ((fun _ => 0) i)))) := ((hset_ne (Ne.symm (ne_nw p2 hfb0))).trans ((hset_ne (ne_nw p16 hfb4)).trans p16))
  have p23 : (hset (hset (hset (hset (hset (hset (hset (hset (hset (hset (hset h y (yA G 5 (fun _ => none))) b0 (.inl (G.2.1 0, 8, .inl (fun _ => nI 0)))) (y) (yA G 5 ((upq (fun _ => none) 0 (some b0))))) b1 (.inl (G.2.1 0, 8, .inl (fun _ => nI 0)))) (y) (yA G 5 ((upq ((upq (fun _ => none) 0 (some b0))) 1 (some b1))))) b2 (.inl (G.2.1 0, 8, .inl (fun _ => nI 0)))) (y) (yA G 5 ((upq ((upq ((upq (fun _ => none) 0 (some b0))) 1 (some b1))) 2 (some b2))))) b3 (.inl (G.2.1 0, 8, .inl (fun _ => nI 0)))) (y) (yA G 5 ((upq ((upq ((upq ((upq (fun _ => none) 0 (some b0))) 1 (some b1))) 2 (some b2))) 3 (some b3))))) b4 (.inl (G.2.1 0, 8, .inl (fun _ => nI 0)))) (y) (yA G 5 ((upq ((upq ((upq ((upq ((upq (fun _ => none) 0 (some b0))) 1 (some b1))) 2 (some b2))) 3 (some b3))) 4 (some b4))))) b1 = some (.inl (G.2.1 0, 8, .inl (fun i => nI ((fun _ => 0) i)))) := ((hset_ne (Ne.symm (ne_nw p5 hfb1))).trans ((hset_ne (ne_nw p17 hfb4)).trans p17))
  have p24 : (hset (hset (hset (hset (hset (hset (hset (hset (hset (hset (hset h y (yA G 5 (fun _ => none))) b0 (.inl (G.2.1 0, 8, .inl (fun _ => nI 0)))) (y) (yA G 5 ((upq (fun _ => none) 0 (some b0))))) b1 (.inl (G.2.1 0, 8, .inl (fun _ => nI 0)))) (y) (yA G 5 ((upq ((upq (fun _ => none) 0 (some b0))) 1 (some b1))))) b2 (.inl (G.2.1 0, 8, .inl (fun _ => nI 0)))) (y) (yA G 5 ((upq ((upq ((upq (fun _ => none) 0 (some b0))) 1 (some b1))) 2 (some b2))))) b3 (.inl (G.2.1 0, 8, .inl (fun _ => nI 0)))) (y) (yA G 5 ((upq ((upq ((upq ((upq (fun _ => none) 0 (some b0))) 1 (some b1))) 2 (some b2))) 3 (some b3))))) b4 (.inl (G.2.1 0, 8, .inl (fun _ => nI 0)))) (y) (yA G 5 ((upq ((upq ((upq ((upq ((upq (fun _ => none) 0 (some b0))) 1 (some b1))) 2 (some b2))) 3 (some b3))) 4 (some b4))))) b2 = some (.inl (G.2.1 0, 8, .inl (fun i => nI ((fun _ => 0) i)))) := ((hset_ne (Ne.symm (ne_nw p9 hfb2))).trans ((hset_ne (ne_nw p18 hfb4)).trans p18))
  have p25 : (hset (hset (hset (hset (hset (hset (hset (hset (hset (hset (hset h y (yA G 5 (fun _ => none))) b0 (.inl (G.2.1 0, 8, .inl (fun _ => nI 0)))) (y) (yA G 5 ((upq (fun _ => none) 0 (some b0))))) b1 (.inl (G.2.1 0, 8, .inl (fun _ => nI 0)))) (y) (yA G 5 ((upq ((upq (fun _ => none) 0 (some b0))) 1 (some b1))))) b2 (.inl (G.2.1 0, 8, .inl (fun _ => nI 0)))) (y) (yA G 5 ((upq ((upq ((upq (fun _ => none) 0 (some b0))) 1 (some b1))) 2 (some b2))))) b3 (.inl (G.2.1 0, 8, .inl (fun _ => nI 0)))) (y) (yA G 5 ((upq ((upq ((upq ((upq (fun _ => none) 0 (some b0))) 1 (some b1))) 2 (some b2))) 3 (some b3))))) b4 (.inl (G.2.1 0, 8, .inl (fun _ => nI 0)))) (y) (yA G 5 ((upq ((upq ((upq ((upq ((upq (fun _ => none) 0 (some b0))) 1 (some b1))) 2 (some b2))) 3 (some b3))) 4 (some b4))))) b3 = some (.inl (G.2.1 0, 8, .inl (fun i => nI ((fun _ => 0) i)))) := ((hset_ne (Ne.symm (ne_nw p14 hfb3))).trans ((hset_ne (ne_nw p19 hfb4)).trans p19))
  have p26 : (hset (hset (hset (hset (hset (hset (hset (hset (hset (hset (hset h y (yA G 5 (fun _ => none))) b0 (.inl (G.2.1 0, 8, .inl (fun _ => nI 0)))) (y) (yA G 5 ((upq (fun _ => none) 0 (some b0))))) b1 (.inl (G.2.1 0, 8, .inl (fun _ => nI 0)))) (y) (yA G 5 ((upq ((upq (fun _ => none) 0 (some b0))) 1 (some b1))))) b2 (.inl (G.2.1 0, 8, .inl (fun _ => nI 0)))) (y) (yA G 5 ((upq ((upq ((upq (fun _ => none) 0 (some b0))) 1 (some b1))) 2 (some b2))))) b3 (.inl (G.2.1 0, 8, .inl (fun _ => nI 0)))) (y) (yA G 5 ((upq ((upq ((upq ((upq (fun _ => none) 0 (some b0))) 1 (some b1))) 2 (some b2))) 3 (some b3))))) b4 (.inl (G.2.1 0, 8, .inl (fun _ => nI 0)))) (y) (yA G 5 ((upq ((upq ((upq ((upq ((upq (fun _ => none) 0 (some b0))) 1 (some b1))) 2 (some b2))) 3 (some b3))) 4 (some b4))))) b4 = some (.inl (G.2.1 0, 8, .inl (fun i => nI ((fun _ => 0) i)))) := ((hset_ne (Ne.symm (ne_nw p20 hfb4))).trans (hset_self (e := .inl (G.2.1 0, 8, .inl (fun _ => nI 0)))))
  have p27 : (hset (hset (hset (hset (hset (hset (hset (hset (hset (hset (hset h y (yA G 5 (fun _ => none))) b0 (.inl (G.2.1 0, 8, .inl (fun _ => nI 0)))) (y) (yA G 5 ((upq (fun _ => none) 0 (some b0))))) b1 (.inl (G.2.1 0, 8, .inl (fun _ => nI 0)))) (y) (yA G 5 ((upq ((upq (fun _ => none) 0 (some b0))) 1 (some b1))))) b2 (.inl (G.2.1 0, 8, .inl (fun _ => nI 0)))) (y) (yA G 5 ((upq ((upq ((upq (fun _ => none) 0 (some b0))) 1 (some b1))) 2 (some b2))))) b3 (.inl (G.2.1 0, 8, .inl (fun _ => nI 0)))) (y) (yA G 5 ((upq ((upq ((upq ((upq (fun _ => none) 0 (some b0))) 1 (some b1))) 2 (some b2))) 3 (some b3))))) b4 (.inl (G.2.1 0, 8, .inl (fun _ => nI 0)))) (y) (yA G 5 ((upq ((upq ((upq ((upq ((upq (fun _ => none) 0 (some b0))) 1 (some b1))) 2 (some b2))) 3 (some b3))) 4 (some b4))))) y = some (yA G 5 ((upq ((upq ((upq ((upq ((upq (fun _ => none) 0 (some b0))) 1 (some b1))) 2 (some b2))) 3 (some b3))) 4 (some b4)))) := (hset_self (e := yA G 5 ((upq ((upq ((upq ((upq ((upq (fun _ => none) 0 (some b0))) 1 (some b1))) 2 (some b2))) 3 (some b3))) 4 (some b4)))))
  refine V_callI (st := []) (nn := 2) F dX5_init_2_41 lk_X5_5 (ct_TR_init0 (c := c) p21 p27 rfl rfl rfl rfl rfl) rfl rfl (Nat.le_of_ble_eq_true rfl) (Nat.le_of_ble_eq_true rfl) (Nat.le_of_ble_eq_true rfl) (by first | exact Nat.le_of_ble_eq_true rfl | omega) (by first | exact Nat.le_of_ble_eq_true rfl | omega) ?_
  rintro _ h2 ⟨rfl, hc2, hx2⟩
  have p28 := hx2.get p22 (Ne.symm (ne_nw p1 hfb0)) rfl
  have p29 := hx2.get p23 (Ne.symm (ne_nw p3 hfb1)) rfl
  have p30 := hx2.get p24 (Ne.symm (ne_nw p6 hfb2)) rfl
  have p31 := hx2.get p25 (Ne.symm (ne_nw p10 hfb3)) rfl
  have p32 := hx2.get p26 (Ne.symm (ne_nw p15 hfb4)) rfl
  have p33 := hx2.get p27 (Ne.symm (ne_nw ha hfy)) rfl
  have f34 : Fr (m1 a) h h2 := ((((((((((((Fr.rf (M := m1 a) (h := h)).nw (x := yA G 5 (fun _ => none)) hfy).nw (x := .inl (G.2.1 0, 8, .inl (fun _ => nI 0))) hfb0).put (x := yA G 5 ((upq (fun _ => none) 0 (some b0)))) ((hset_ne (ne_nw p2 hfb0)).trans p2) ⟨rfl, rfl⟩ rfl ((Fr.rf (M := m1 a) (h := h)).yo hfy)).nw (x := .inl (G.2.1 0, 8, .inl (fun _ => nI 0))) hfb1).put (x := yA G 5 ((upq ((upq (fun _ => none) 0 (some b0))) 1 (some b1)))) ((hset_ne (ne_nw p5 hfb1)).trans p5) ⟨rfl, rfl⟩ rfl ((Fr.rf (M := m1 a) (h := h)).yo hfy)).nw (x := .inl (G.2.1 0, 8, .inl (fun _ => nI 0))) hfb2).put (x := yA G 5 ((upq ((upq ((upq (fun _ => none) 0 (some b0))) 1 (some b1))) 2 (some b2)))) ((hset_ne (ne_nw p9 hfb2)).trans p9) ⟨rfl, rfl⟩ rfl ((Fr.rf (M := m1 a) (h := h)).yo hfy)).nw (x := .inl (G.2.1 0, 8, .inl (fun _ => nI 0))) hfb3).put (x := yA G 5 ((upq ((upq ((upq ((upq (fun _ => none) 0 (some b0))) 1 (some b1))) 2 (some b2))) 3 (some b3)))) ((hset_ne (ne_nw p14 hfb3)).trans p14) ⟨rfl, rfl⟩ rfl ((Fr.rf (M := m1 a) (h := h)).yo hfy)).nw (x := .inl (G.2.1 0, 8, .inl (fun _ => nI 0))) hfb4).put (x := yA G 5 ((upq ((upq ((upq ((upq ((upq (fun _ => none) 0 (some b0))) 1 (some b1))) 2 (some b2))) 3 (some b3))) 4 (some b4)))) ((hset_ne (ne_nw p20 hfb4)).trans p20) ⟨rfl, rfl⟩ rfl ((Fr.rf (M := m1 a) (h := h)).yo hfy)).cal hx2 (Yo.m1 (Or.inl rfl))
  refine V_aload_n (i := 0) F dX5_init_2_44 rfl rfl ?_
  refine V_getf F dX5_init_2_45 fc_X5_11_X5 (.inl hc2) rfl ?_
  refine V_iconst (v := nI 0) F dX5_init_2_48 rfl ?_
  refine V_iload_n (i := 1) F dX5_init_2_49 rfl rfl ?_
  refine V_iastG F dX5_init_2_50 p28 (by decide) (by decide) ?_
  refine V_aload_n (i := 0) F dX5_init_2_51 rfl rfl ?_
  refine V_getf F dX5_init_2_52 fc_X5_14_X5 (.inl ((hset_ne (ne_nw p1 hfb0)).trans hc2)) rfl ?_
  refine V_iconst (v := nI 0) F dX5_init_2_55 rfl ?_
  refine V_iload_n (i := 2) F dX5_init_2_56 rfl rfl ?_
  have p35 : (hset h2 (b0) (.inl (G.2.1 0, 8, .inl (fun i => nI (((up (fun _ => 0) 0 s0)) i))))) b1 = some (.inl (G.2.1 0, 8, .inl (fun i => nI ((fun _ => 0) i)))) := ((hset_ne (Ne.symm hd01)).trans p29)
  have p36 : (hset h2 (b0) (.inl (G.2.1 0, 8, .inl (fun i => nI (((up (fun _ => 0) 0 s0)) i))))) b2 = some (.inl (G.2.1 0, 8, .inl (fun i => nI ((fun _ => 0) i)))) := ((hset_ne (Ne.symm hd02)).trans p30)
  have p37 : (hset h2 (b0) (.inl (G.2.1 0, 8, .inl (fun i => nI (((up (fun _ => 0) 0 s0)) i))))) b3 = some (.inl (G.2.1 0, 8, .inl (fun i => nI ((fun _ => 0) i)))) := ((hset_ne (Ne.symm hd03)).trans p31)
  have p38 : (hset h2 (b0) (.inl (G.2.1 0, 8, .inl (fun i => nI (((up (fun _ => 0) 0 s0)) i))))) b4 = some (.inl (G.2.1 0, 8, .inl (fun i => nI ((fun _ => 0) i)))) := ((hset_ne (Ne.symm hd04)).trans p32)
  have p39 : (hset h2 (b0) (.inl (G.2.1 0, 8, .inl (fun i => nI (((up (fun _ => 0) 0 s0)) i))))) y = some (yA G 5 ((upq ((upq ((upq ((upq ((upq (fun _ => none) 0 (some b0))) 1 (some b1))) 2 (some b2))) 3 (some b3))) 4 (some b4)))) := ((hset_ne (ne_nw p2 hfb0)).trans p33)
  have p40 : (hset h2 (b0) (.inl (G.2.1 0, 8, .inl (fun i => nI (((up (fun _ => 0) 0 s0)) i))))) a = some (.inr (4, [.int (nI (c)), .ref (b0), .ref (b1), .ref (b2), .ref (b3), .ref (b4), .int (nI (0)), .int (nI (0))])) := ((hset_ne (ne_nw p1 hfb0)).trans hc2)
  have p41 : (hset h2 (b0) (.inl (G.2.1 0, 8, .inl (fun i => nI (((up (fun _ => 0) 0 s0)) i))))) b0 = some (.inl (G.2.1 0, 8, .inl (fun i => nI (((up (fun _ => 0) 0 s0)) i)))) := (hset_self (e := .inl (G.2.1 0, 8, .inl (fun i => nI (((up (fun _ => 0) 0 s0)) i)))))
  refine V_iastG F dX5_init_2_57 p36 (by decide) (by decide) ?_
  refine V_aload_n (i := 0) F dX5_init_2_58 rfl rfl ?_
  refine V_iconst (v := nI 1) F dX5_init_2_59 rfl ?_
  have p42 : (hset (hset h2 (b0) (.inl (G.2.1 0, 8, .inl (fun i => nI (((up (fun _ => 0) 0 s0)) i))))) (b2) (.inl (G.2.1 0, 8, .inl (fun i => nI (((up (fun _ => 0) 0 d0)) i))))) b1 = some (.inl (G.2.1 0, 8, .inl (fun i => nI ((fun _ => 0) i)))) := ((hset_ne hd12).trans p35)
  have p43 : (hset (hset h2 (b0) (.inl (G.2.1 0, 8, .inl (fun i => nI (((up (fun _ => 0) 0 s0)) i))))) (b2) (.inl (G.2.1 0, 8, .inl (fun i => nI (((up (fun _ => 0) 0 d0)) i))))) b3 = some (.inl (G.2.1 0, 8, .inl (fun i => nI ((fun _ => 0) i)))) := ((hset_ne (Ne.symm hd23)).trans p37)
  have p44 : (hset (hset h2 (b0) (.inl (G.2.1 0, 8, .inl (fun i => nI (((up (fun _ => 0) 0 s0)) i))))) (b2) (.inl (G.2.1 0, 8, .inl (fun i => nI (((up (fun _ => 0) 0 d0)) i))))) b4 = some (.inl (G.2.1 0, 8, .inl (fun i => nI ((fun _ => 0) i)))) := ((hset_ne (Ne.symm hd24)).trans p38)
  have p45 : (hset (hset h2 (b0) (.inl (G.2.1 0, 8, .inl (fun i => nI (((up (fun _ => 0) 0 s0)) i))))) (b2) (.inl (G.2.1 0, 8, .inl (fun i => nI (((up (fun _ => 0) 0 d0)) i))))) y = some (yA G 5 ((upq ((upq ((upq ((upq ((upq (fun _ => none) 0 (some b0))) 1 (some b1))) 2 (some b2))) 3 (some b3))) 4 (some b4)))) := ((hset_ne (ne_nw p9 hfb2)).trans p39)
  have p46 : (hset (hset h2 (b0) (.inl (G.2.1 0, 8, .inl (fun i => nI (((up (fun _ => 0) 0 s0)) i))))) (b2) (.inl (G.2.1 0, 8, .inl (fun i => nI (((up (fun _ => 0) 0 d0)) i))))) a = some (.inr (4, [.int (nI (c)), .ref (b0), .ref (b1), .ref (b2), .ref (b3), .ref (b4), .int (nI (0)), .int (nI (0))])) := ((hset_ne (ne_nw p6 hfb2)).trans p40)
  have p47 : (hset (hset h2 (b0) (.inl (G.2.1 0, 8, .inl (fun i => nI (((up (fun _ => 0) 0 s0)) i))))) (b2) (.inl (G.2.1 0, 8, .inl (fun i => nI (((up (fun _ => 0) 0 d0)) i))))) b0 = some (.inl (G.2.1 0, 8, .inl (fun i => nI (((up (fun _ => 0) 0 s0)) i)))) := ((hset_ne hd02).trans p41)
  have p48 : (hset (hset h2 (b0) (.inl (G.2.1 0, 8, .inl (fun i => nI (((up (fun _ => 0) 0 s0)) i))))) (b2) (.inl (G.2.1 0, 8, .inl (fun i => nI (((up (fun _ => 0) 0 d0)) i))))) b2 = some (.inl (G.2.1 0, 8, .inl (fun i => nI (((up (fun _ => 0) 0 d0)) i)))) := (hset_self (e := .inl (G.2.1 0, 8, .inl (fun i => nI (((up (fun _ => 0) 0 d0)) i)))))
  refine V_putf F dX5_init_2_60 fp_X5_17_X5 p46 rfl rfl (Nat.le_of_ble_eq_true rfl) ?_
  refine VV.heap (h' := (hset (hset (hset h2 (b0) (.inl (G.2.1 0, 8, .inl (fun i => nI (((up (fun _ => 0) 0 s0)) i))))) (b2) (.inl (G.2.1 0, 8, .inl (fun i => nI (((up (fun _ => 0) 0 d0)) i))))) (a) (.inr (4, [.int (nI (c)), .ref (b0), .ref (b1), .ref (b2), .ref (b3), .ref (b4), .int (nI (1)), .int (nI (0))])))) rfl ?_
  have pc : (hset (hset (hset h2 (b0) (.inl (G.2.1 0, 8, .inl (fun i => nI (((up (fun _ => 0) 0 s0)) i))))) (b2) (.inl (G.2.1 0, 8, .inl (fun i => nI (((up (fun _ => 0) 0 d0)) i))))) (a) (.inr (4, [.int (nI (c)), .ref (b0), .ref (b1), .ref (b2), .ref (b3), .ref (b4), .int (nI (1)), .int (nI (0))]))) a = some (.inr (4, [.int (nI (c)), .ref (b0), .ref (b1), .ref (b2), .ref (b3), .ref (b4), .int (nI (1)), .int (nI (0))])) := (hset_self (e := .inr (4, [.int (nI (c)), .ref (b0), .ref (b1), .ref (b2), .ref (b3), .ref (b4), .int (nI (1)), .int (nI (0))])))
  have pb0 : (hset (hset (hset h2 (b0) (.inl (G.2.1 0, 8, .inl (fun i => nI (((up (fun _ => 0) 0 s0)) i))))) (b2) (.inl (G.2.1 0, 8, .inl (fun i => nI (((up (fun _ => 0) 0 d0)) i))))) (a) (.inr (4, [.int (nI (c)), .ref (b0), .ref (b1), .ref (b2), .ref (b3), .ref (b4), .int (nI (1)), .int (nI (0))]))) b0 = some (.inl (G.2.1 0, 8, .inl (fun i => nI (((up (fun _ => 0) 0 s0)) i)))) := ((hset_ne (Ne.symm (ne_nw p1 hfb0))).trans p47)
  have pb1 : (hset (hset (hset h2 (b0) (.inl (G.2.1 0, 8, .inl (fun i => nI (((up (fun _ => 0) 0 s0)) i))))) (b2) (.inl (G.2.1 0, 8, .inl (fun i => nI (((up (fun _ => 0) 0 d0)) i))))) (a) (.inr (4, [.int (nI (c)), .ref (b0), .ref (b1), .ref (b2), .ref (b3), .ref (b4), .int (nI (1)), .int (nI (0))]))) b1 = some (.inl (G.2.1 0, 8, .inl (fun i => nI ((fun _ => 0) i)))) := ((hset_ne (Ne.symm (ne_nw p3 hfb1))).trans p42)
  have pb2 : (hset (hset (hset h2 (b0) (.inl (G.2.1 0, 8, .inl (fun i => nI (((up (fun _ => 0) 0 s0)) i))))) (b2) (.inl (G.2.1 0, 8, .inl (fun i => nI (((up (fun _ => 0) 0 d0)) i))))) (a) (.inr (4, [.int (nI (c)), .ref (b0), .ref (b1), .ref (b2), .ref (b3), .ref (b4), .int (nI (1)), .int (nI (0))]))) b2 = some (.inl (G.2.1 0, 8, .inl (fun i => nI (((up (fun _ => 0) 0 d0)) i)))) := ((hset_ne (Ne.symm (ne_nw p6 hfb2))).trans p48)
  have pb3 : (hset (hset (hset h2 (b0) (.inl (G.2.1 0, 8, .inl (fun i => nI (((up (fun _ => 0) 0 s0)) i))))) (b2) (.inl (G.2.1 0, 8, .inl (fun i => nI (((up (fun _ => 0) 0 d0)) i))))) (a) (.inr (4, [.int (nI (c)), .ref (b0), .ref (b1), .ref (b2), .ref (b3), .ref (b4), .int (nI (1)), .int (nI (0))]))) b3 = some (.inl (G.2.1 0, 8, .inl (fun i => nI ((fun _ => 0) i)))) := ((hset_ne (Ne.symm (ne_nw p10 hfb3))).trans p43)
  have pb4 : (hset (hset (hset h2 (b0) (.inl (G.2.1 0, 8, .inl (fun i => nI (((up (fun _ => 0) 0 s0)) i))))) (b2) (.inl (G.2.1 0, 8, .inl (fun i => nI (((up (fun _ => 0) 0 d0)) i))))) (a) (.inr (4, [.int (nI (c)), .ref (b0), .ref (b1), .ref (b2), .ref (b3), .ref (b4), .int (nI (1)), .int (nI (0))]))) b4 = some (.inl (G.2.1 0, 8, .inl (fun i => nI ((fun _ => 0) i)))) := ((hset_ne (Ne.symm (ne_nw p15 hfb4))).trans p44)
  exact V_vret F dX5_init_2_63 (by first | exact Nat.le_of_ble_eq_true rfl | omega) (by first | exact Nat.le_of_ble_eq_true rfl | omega) ⟨rfl, fun i => [b0, b1, b2, b3, b4].getD i 0, (by intro i hi; match i, hi with | 0, _ => exact hb00 | 1, _ => exact hb10 | 2, _ => exact hb20 | 3, _ => exact hb30 | 4, _ => exact hb40), (inj5 hd01 hd02 hd03 hd04 hd12 hd13 hd14 hd23 hd24 hd34), pc, (by intro i hi; match i, hi with | 0, _ => exact pb0 | 1, _ => exact pb1 | 2, _ => exact pb2 | 3, _ => exact pb3 | 4, _ => exact pb4), (((f34.put (x := .inl (G.2.1 0, 8, .inl (fun i => nI (((up (fun _ => 0) 0 s0)) i)))) p28 ⟨rfl, rfl⟩ rfl (((Fr.rf (M := m1 a) (h := h)).nw (x := yA G 5 (fun _ => none)) hfy).yo hfb0)).put (x := .inl (G.2.1 0, 8, .inl (fun i => nI (((up (fun _ => 0) 0 d0)) i)))) p36 ⟨rfl, rfl⟩ rfl (((((((Fr.rf (M := m1 a) (h := h)).nw (x := yA G 5 (fun _ => none)) hfy).nw (x := .inl (G.2.1 0, 8, .inl (fun _ => nI 0))) hfb0).put (x := yA G 5 ((upq (fun _ => none) 0 (some b0)))) ((hset_ne (ne_nw p2 hfb0)).trans p2) ⟨rfl, rfl⟩ rfl ((Fr.rf (M := m1 a) (h := h)).yo hfy)).nw (x := .inl (G.2.1 0, 8, .inl (fun _ => nI 0))) hfb1).put (x := yA G 5 ((upq ((upq (fun _ => none) 0 (some b0))) 1 (some b1)))) ((hset_ne (ne_nw p5 hfb1)).trans p5) ⟨rfl, rfl⟩ rfl ((Fr.rf (M := m1 a) (h := h)).yo hfy)).yo hfb2)).put (x := .inr (4, [.int (nI (c)), .ref (b0), .ref (b1), .ref (b2), .ref (b3), .ref (b4), .int (nI (1)), .int (nI (0))])) p46 rfl rfl (Or.inl rfl))⟩
theorem ct_TT_init {G : GG} {l : Launch} {h : AH} {a : Nat}  (ha : h a = some (.inr (3, [.null]))) : Ct G l yX3_init cX3_init 1 none 4 (1) (3) [.ref a] h (fun r h2 => r = none ∧ ∃ tl, h tl = none ∧ ALs G h2 tl (ad G 1) 0 0 (fun _ => 0) ∧ h2 a = some (.inr (3, [.ref tl])) ∧ Fr (m1 a) h h2) := by
  refine Ct.of (by decide) (Nat.le_of_ble_eq_true rfl) (cat1 rfl) (fun X hXl F HN => ?_)
  subst hXl
  refine V_aload_n (i := 0) F dX3_init_0 rfl rfl ?_
  refine V_objInit F dX3_init_1 q281 q180 q181 (Nat.le_of_ble_eq_true rfl) (Nat.le_of_ble_eq_true rfl) ?_
  refine V_aload_n (i := 0) F dX3_init_4 rfl rfl ?_
  refine V_new F dX3_init_5 nw_X3_9 (by first | exact Nat.le_of_ble_eq_true rfl | omega) (by first | exact Nat.le_of_ble_eq_true rfl | omega) ?_
  intro tl hftl hbtl
  refine V_dup F dX3_init_8 rfl ?_
  refine V_callI (st := [.ref (tl), .ref (a)]) (nn := 0) F dX3_init_9 lk_X3_11 (ct_AL_init (fun _ => 0) (hset_self (e := .inr (18, [.int 0, .null, .int 0])))) rfl rfl (Nat.le_of_ble_eq_true rfl) (Nat.le_of_ble_eq_true rfl) (Nat.le_of_ble_eq_true rfl) (by first | exact Nat.le_of_ble_eq_true rfl | omega) (by first | exact Nat.le_of_ble_eq_true rfl | omega) ?_
  rintro _ h2 ⟨rfl, hAl, hx2⟩
  have p1 := hx2.get ((hset_ne (ne_nw ha hftl)).trans ha) (ne_nw ha hftl) rfl
  have f2 : Fr (m1 a) h h2 := ((Fr.rf (M := m1 a) (h := h)).nw (x := .inr (18, [.int 0, .null, .int 0])) hftl).cal hx2 (Yo.m1 ((Fr.rf (M := m1 a) (h := h)).yo hftl))
  have hpu : Fr (m1 a) h2 (hset h2 a (.inr (3, [.ref tl]))) := Fr.rf.put p1 rfl rfl (Or.inl rfl)
  have hAl2 := hAl.fr1 hpu p1 (by decide)
  refine V_putF F dX3_init_12 ff_X3_12_X3 p1 HN rfl rfl (Nat.le_of_ble_eq_true rfl) ?_
  refine VV.heap (h' := (hset h2 (a) (.inr (3, [.ref (tl)])))) rfl ?_
  exact V_vret F dX3_init_15 (by first | exact Nat.le_of_ble_eq_true rfl | omega) (by first | exact Nat.le_of_ble_eq_true rfl | omega) ⟨rfl, tl, hftl, hAl2, (hset_self (e := .inr (3, [.ref (tl)]))), (f2.put (x := .inr (3, [.ref (tl)])) p1 rfl rfl (Or.inl rfl))⟩
theorem isO_tr {G : GG} {h : AH} {x t : Nat} {A : Nat → Nat} {g : Nat → Nat} (hT : TRs G h x A g t) : isO G h x := ⟨"SleeperRailway$Train", ⟨4, _, _, _, rfl, .inl hT.1⟩, q4250⟩
theorem ct_TT_copy {G : GG} {l : Launch} {h : AH} {tt tl ta : Nat} {x : Nat → Nat} {A : Nat → Nat → Nat} {g : Nat → Nat}  (hR : RWr G h (tt, tl, ta, x, A) g) (hI : GW g)  : Ct G l yX3_copy cX3_copy 3 (some (.object "SleeperRailway$Timetable")) 8 (60) (900) [.ref tt] h (fun r h2 => ∃ q tl2 ta2 x2 A2, r = some (.ref q) ∧ h q = none ∧ h tl2 = none ∧ h ta2 = none ∧ RWr G h2 (q, tl2, ta2, x2, A2) g ∧ (∀ t, t < g 1 → h (x2 t) = none ∧ ∀ i, i < 5 → h (A2 t i) = none) ∧ (∀ t u, t < g 1 → u < g 1 → x2 t = x2 u → t = u) ∧ (∀ t u i j, t < g 1 → u < g 1 → i < 5 → j < 5 → A2 t i = A2 u j → t = u ∧ i = j) ∧ Fr nM h h2) := by
  refine Ct.of (by decide) (Nat.le_of_ble_eq_true rfl) (cat1 rfl) (fun X hXl F HN => ?_)
  subst hXl
  refine VV.bs (fun hB0 => ?_)
  have h6 := hI.2.2.1
  refine V_new F dX3_copy_0 nw_X3_13 (by first | exact Nat.le_of_ble_eq_true rfl | omega) (by first | exact Nat.le_of_ble_eq_true rfl | omega) ?_
  intro q hfq hbq
  have p1 : h tt = some (.inr (3, [.ref (tl)])) := hR.1
  refine V_dup F dX3_copy_3 rfl ?_
  refine V_callI (st := [.ref (q)]) (nn := 0) F dX3_copy_4 lk_X3_18 (ct_TT_init (hset_self (e := .inr (3, [.null])))) rfl rfl (Nat.le_of_ble_eq_true rfl) (Nat.le_of_ble_eq_true rfl) (Nat.le_of_ble_eq_true rfl) (by first | exact Nat.le_of_ble_eq_true rfl | omega) (by first | exact Nat.le_of_ble_eq_true rfl | omega) ?_
  rintro _ h1 ⟨rfl, tl2, htl0, hA1, hq1, hx1⟩
  have hfr0 := ((Fr.rf (M := nM) (h := h)).nw (x := .inr (3, [.null])) hfq)
  have hF1 : Fr nM h h1 := hfr0.cal hx1 (Yo.m1 (Or.inr hfq))
  have htl2 := hfr0.none htl0
  refine V_astore_n (i := 1) F dX3_copy_7 rfl (Nat.le_of_ble_eq_true rfl) (Nat.le_of_ble_eq_true rfl) ?_
  refine V_iconst (v := nI 0) F dX3_copy_8 rfl ?_
  refine V_istore_n (i := 2) F dX3_copy_9 rfl (Nat.le_of_ble_eq_true rfl) (Nat.le_of_ble_eq_true rfl) ?_
  have loop_10 : ∀ (nn : Nat) (k ta2 : Nat) (x2 : Nat → Nat) (A2 : Nat → Nat → Nat) (hh : AH), g 1 - k < nn → k ≤ g 1 → hh q = some (.inr (3, [.ref tl2])) → ALs G hh tl2 ta2 k k x2 → h ta2 = none → Fr nM h hh → (∀ t, t < k → TRs G hh (x2 t) (A2 t) g t) → (∀ t, t < k → h (x2 t) = none ∧ ∀ i, i < 5 → h (A2 t i) = none) → (∀ t u, t < k → u < k → x2 t = x2 u → t = u) → (∀ t u i j, t < k → u < k → i < 5 → j < 5 → A2 t i = A2 u j → t = u ∧ i = j) → VV G X 3 ((EQ G X (60) (900) (fun r h2 => ∃ q tl2 ta2 x2 A2, r = some (.ref q) ∧ h q = none ∧ h tl2 = none ∧ h ta2 = none ∧ RWr G h2 (q, tl2, ta2, x2, A2) g ∧ (∀ t, t < g 1 → h (x2 t) = none ∧ ∀ i, i < 5 → h (A2 t i) = none) ∧ (∀ t u, t < g 1 → u < g 1 → x2 t = x2 u → t = u) ∧ (∀ t u i j, t < g 1 → u < g 1 → i < 5 → j < 5 → A2 t i = A2 u j → t = u ∧ i = j) ∧ Fr nM h h2))) hh (2 + 8 * k) (4 + 90 * k) [some (.ref (tt)), some (.ref (q)), some (.int (nI (k)))] [] 10 := by
    intro nn
    induction nn with
    | zero => intro k ta2 x2 A2 hh hm hk9 hq hA2 hta hF hTS hfr hxi hAi; exact absurd hm (by omega)
    | succ nn ih_10 =>
      intro k ta2 x2 A2 hh hm hk9 hq hA2 hta hF hTS hfr hxi hAi
      refine V_iload_n (i := 2) F dX3_copy_10 rfl rfl ?_
      refine V_aload_n (i := 0) F dX3_copy_11 rfl rfl ?_
      refine V_getf F dX3_copy_12 fc_X3_12_X3 (.inl (hR.fr0 hF).1) rfl ?_
      refine V_callF (st := [.int (nI (k))]) (nn := 0) F dX3_copy_15 ⟨lw_F q408 q388 q390 q111 q392, ⟨q386, List.mem_append_left _ q385, q391, q389, q387⟩, (by decide +kernel), (by decide +kernel)⟩ (ct_AL_size (hR.fr0 hF).2.1) (hR.fr0 hF).2.1.isC rfl rfl (Nat.le_of_ble_eq_true rfl) (Nat.le_of_ble_eq_true rfl) (Nat.le_of_ble_eq_true rfl) (by first | exact Nat.le_of_ble_eq_true rfl | omega) (by first | exact Nat.le_of_ble_eq_true rfl | omega) ?_
      refine PRk ?_
      refine V_icmp_geN (tgt := 55) F dX3_copy_20 (by decide) (by omega) (by omega) (fun c_20 => ?_) (fun c_20 => ?_)
      · refine V_aload_n (i := 1) F dX3_copy_55 rfl rfl ?_
        have hkg : k = g 1 := by omega
        subst hkg
        exact V_aret F dX3_copy_56 (Or.inl ⟨_, rfl⟩) (Or.inr ⟨_, rfl⟩) (by first | exact Nat.le_of_ble_eq_true rfl | omega) (by first | exact Nat.le_of_ble_eq_true rfl | omega) ⟨q, tl2, ta2, x2, A2, rfl, hfq, htl2, hta, ⟨hq, hA2, hTS⟩, hfr, hxi, hAi, hF⟩
      · refine V_aload_n (i := 1) F dX3_copy_23 rfl rfl ?_
        refine V_getf F dX3_copy_24 fc_X3_12_X3 (.inl hq) rfl ?_
        refine V_aload_n (i := 0) F dX3_copy_27 rfl rfl ?_
        refine V_getf F dX3_copy_28 fc_X3_12_X3 (.inl (hR.fr0 hF).1) rfl ?_
        refine V_iload_n (i := 2) F dX3_copy_31 rfl rfl ?_
        have hk : k < g 1 := by omega
        have hTk := (hR.fr0 hF).2.2 k hk
        refine V_callF (st := [.ref (tl2)]) (nn := 1) F dX3_copy_32 ⟨lw_F q905 q473 q475 q111 q477, ⟨q472, List.mem_append_left _ q471, q476, q474, q387⟩, (by decide +kernel), (by decide +kernel)⟩ (ct_AL_get (hR.fr0 hF).2.1 (k := k) (by omega) (by omega)) (hR.fr0 hF).2.1.isC rfl rfl (Nat.le_of_ble_eq_true rfl) (Nat.le_of_ble_eq_true rfl) (Nat.le_of_ble_eq_true rfl) (by first | exact Nat.le_of_ble_eq_true rfl | omega) (by first | exact Nat.le_of_ble_eq_true rfl | omega) ?_
        refine PRk ?_
        refine V_ckS F dX3_copy_37 q906 ⟨4, _, _, _, rfl, (.inl hTk.1)⟩ ?_
        refine V_callV (st := [.ref (tl2)]) (nn := 0) F dX3_copy_40 lk_X3_31 (ct_TR_copy hTk) ⟨4, _, _, _, rfl, (.inl hTk.1)⟩ rfl rfl (Nat.le_of_ble_eq_true rfl) (Nat.le_of_ble_eq_true rfl) (Nat.le_of_ble_eq_true rfl) (by first | exact Nat.le_of_ble_eq_true rfl | omega) (by first | exact Nat.le_of_ble_eq_true rfl | omega) ?_
        rintro _ h3 ⟨c, B, rfl, hc0, hB, hBi, hTc, hx3⟩
        have hF3 := hF.cal0 hx3
        have hA3 := hA2.fr0 hx3
        refine VV.bs (fun hB9 => ?_)
        refine V_callF (st := []) (nn := 1) F dX3_copy_43 ⟨lw_F q1173 q1176 q1178 q111 q1180, ⟨q1175, List.mem_append_left _ q1174, q1179, q1177, q387⟩, (by decide +kernel), (by decide +kernel)⟩ (ct_AL_add hA3 (isO_tr hTc) (by omega)) hA3.isC rfl rfl (Nat.le_of_ble_eq_true rfl) (Nat.le_of_ble_eq_true rfl) (Nat.le_of_ble_eq_true rfl) (by first | exact Nat.le_of_ble_eq_true rfl | omega) (by first | exact Nat.le_of_ble_eq_true rfl | omega) ?_
        rintro _ h4 ⟨rfl, ta4, hA4, hx4, hq4⟩
        have hF4 : Fr nM h h4 := hF3.cal hx4 (Yo.m2 (Or.inr htl2) (Or.inr hta))
        have hof := fun k hk => offK.al (S := kO k) hA3 hB9 (fun _ => kO_ne hk) (fun _ _ _ => rfl)
        have hoi := offK.al (S := kI) hA3 hB9 (fun _ => rfl) (fun _ _ _ => rfl)
        have hq4b := hx4.get (hx3.get hq id rfl) ((hof 3 (by decide)).o (hx3.get hq id rfl)) rfl
        have hta4 := hF3.ar2 hta hq4
        refine V_pop F dX3_copy_48 rfl ?_
        refine V_iinc (i := 2) (v := nI (k + 1)) F dX3_copy_49 rfl (nI_add (k) 1) (Nat.le_of_ble_eq_true rfl) ?_
        refine V_goto (tgt := 10) F dX3_copy_52 (by decide) ?_
        refine VV.weak (L' := [some (.ref (tt)), some (.ref (q)), some (.int (nI (k + 1)))]) (LW.c1 (LW.c1 (LW.c1 LW.nil))) ?_
        refine VV.wide (by omega) (by omega) (ih_10 (k + 1) ta4 (up x2 k c) (upA A2 k B) _ (by omega) (by omega) hq4b hA4 hta4 hF4 ?_ ?_ ?_ ?_)
        · intro t ht
          by_cases e : t = k
          · subst e; rw [up_s, upA_s]; exact hTc.frk hx4 (hof 4 (by decide)) hoi
          · rw [up_n e, upA_n e]; exact ((hTS t (by omega)).fr0 hx3).frk hx4 (hof 4 (by decide)) hoi
        · intro t ht
          by_cases e : t = k
          · subst e; rw [up_s, upA_s]; exact ⟨hF.none hc0, fun i hi => hF.none (hB i hi)⟩
          · rw [up_n e, upA_n e]; exact hfr t (by omega)
        · intro t u ht hu e
          by_cases e1 : t = k
          · by_cases e2 : u = k
            · rw [e1, e2]
            · subst e1; rw [up_s, up_n e2] at e; exact absurd e.symm ((hTS u (by omega)).nof hc0).1
          · by_cases e2 : u = k
            · subst e2; rw [up_s, up_n e1] at e; exact absurd e ((hTS t (by omega)).nof hc0).1
            · rw [up_n e1, up_n e2] at e; exact hxi t u (by omega) (by omega) e
        · intro t u i j ht hu hi hj e
          by_cases e1 : t = k
          · by_cases e2 : u = k
            · rw [e1, e2, upA_s] at e; exact ⟨by rw [e1, e2], hBi i j hi hj e⟩
            · subst e1; rw [upA_s, upA_n e2] at e; exact absurd e.symm (((hTS u (by omega)).nof (hB i hi)).2 j hj)
          · by_cases e2 : u = k
            · subst e2; rw [upA_s, upA_n e1] at e; exact absurd e (((hTS t (by omega)).nof (hB j hj)).2 i hi)
            · rw [upA_n e1, upA_n e2] at e; exact hAi t u i j (by omega) (by omega) hi hj e
  refine VV.weak (L' := [some (.ref (tt)), some (.ref (q)), some (.int (nI (0)))]) (LW.c1 (LW.c1 (LW.c1 LW.nil))) ?_
  refine VV.wide (by omega) (by omega) (loop_10 (g 1 + 1) 0 (ad G 1) (fun _ => 0) (fun _ _ => 0) h1 (by omega) (Nat.zero_le _) hq1 hA1 (F.hb1 hB0) hF1 ?_ ?_ ?_ ?_)
  · intros; exact absurd (by assumption) (Nat.not_lt_zero _)
  · intros; exact absurd (by assumption) (Nat.not_lt_zero _)
  · intros; exact absurd (by assumption) (Nat.not_lt_zero _)
  · intros; exact absurd (by assumption) (Nat.not_lt_zero _)
