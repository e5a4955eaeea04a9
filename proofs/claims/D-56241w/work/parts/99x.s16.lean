set_option maxRecDepth 100000
/-! ===== scripts ===== -/
theorem nc_cs : Cond.not (.castable "SleeperRailway$CommandFailure" "SleeperRailway$SyntaxFailure") ∈ flatC narrow_1 := by decide +kernel
/-- the arguments of a command -/
def afK (vs : List Nat) : Nat → Int32 := fun i => nI (vs.getD i 0)
theorem ten {k : Nat} (hk : k < 10) : k = 0 ∨ k = 1 ∨ k = 2 ∨ k = 3 ∨ k = 4 ∨ k = 5 ∨ k = 6 ∨ k = 7 ∨ k = 8 ∨ k = 9 := by omega
theorem cdK_cg {k : Nat} {g : Nat → Nat} {f f2 : Nat → Int32} (hk : k < 10) (h : ∀ i, i < arK k → f i = f2 i) : cdK k g f = cdK k g f2 := by
  rcases ten hk with rfl | rfl | rfl | rfl | rfl | rfl | rfl | rfl | rfl | rfl <;> (simp only [cdK]; (try rw [h 0 (by decide)]); (try rw [h 1 (by decide)]); (try rw [h 2 (by decide)]); (try rw [h 3 (by decide)]))
theorem CHG_cg {k : Nat} {g g2 : Nat → Nat} {v : Int32} {f f2 : Nat → Int32} (hk : k < 10) (h : ∀ i, i < arK k → f i = f2 i) (hc : CHG k g f v g2) : CHG k g f2 v g2 := by
  rcases ten hk with rfl | rfl | rfl | rfl | rfl | rfl | rfl | rfl | rfl | rfl <;> (simp only [CHG] at hc ⊢; (try rw [h 0 (by decide)] at hc); (try rw [h 1 (by decide)] at hc); (try rw [h 2 (by decide)] at hc); (try rw [h 3 (by decide)] at hc); exact hc)
/-- commands one after the other -/
def RUN : List (Nat × List Nat) → (Nat → Nat) → (Nat → Nat) → Prop
  | [], g, g2 => g2 = g
  | x :: L, g, g2 => ∃ v g1, cdK x.1 g (afK x.2) = 0 ∧ CHG x.1 g (afK x.2) v g1 ∧ RUN L g1 g2
def RUX (L : List (Nat × List Nat)) (g : Nat → Nat) (idx : Nat) : Prop := ∃ gi, idx < L.length ∧ RUN (L.take idx) g gi ∧ cdK (L.getD idx (0, [])).1 gi (afK (L.getD idx (0, [])).2) ≠ 0
theorem RUN.snoc {x : Nat × List Nat} {gi g2 : Nat → Nat} {v : Int32} (h1 : cdK x.1 gi (afK x.2) = 0) (h2 : CHG x.1 gi (afK x.2) v g2) : ∀ {L : List (Nat × List Nat)} {g : Nat → Nat}, RUN L g gi → RUN (L ++ [x]) g g2
  | [], g, h => by
    have e : gi = g := h
    subst e
    exact ⟨v, g2, h1, h2, rfl⟩
  | y :: L, g, h => by
    obtain ⟨v1, g1, q1, q2, q3⟩ := h
    exact ⟨v1, g1, q1, q2, RUN.snoc h1 h2 q3⟩
theorem RUN.step {L : List (Nat × List Nat)} {i : Nat} {g gi g2 : Nat → Nat} {v : Int32} (hi : i < L.length) (hR : RUN (L.take i) g gi) (h1 : cdK (L.getD i (0, [])).1 gi (afK (L.getD i (0, [])).2) = 0) (h2 : CHG (L.getD i (0, [])).1 gi (afK (L.getD i (0, [])).2) v g2) : RUN (L.take (i + 1)) g g2 := by
  rw [List.take_succ, List.getElem?_eq_getElem hi]
  have e : L.getD i (0, []) = L[i] := by rw [List.getD_eq_getElem?_getD, List.getElem?_eq_getElem hi]; rfl
  rw [e] at h1 h2
  exact RUN.snoc h1 h2 hR
/-- every change keeps INV (a law of rows alone) -/
def INVP : Prop := ∀ (n k : Nat) (g g2 : Nat → Nat) (f : Nat → Int32) (v : Int32), n < 1000 → INV n g → k < 10 → cdK k g f = 0 → CHG k g f v g2 → INV (n + 1) g2
theorem CMT.k10 {l : List Nat} : ∀ {L : List (Nat × List Nat)} {a a2 : Nat}, CMT l L a a2 → ∀ x, x ∈ L → x.1 < 10
  | [], _, _, _, x, hx => by cases hx
  | y :: L, a, a2, h, x, hx => by
    obtain ⟨a3, b3, q1, ⟨w, a4, r1, r2, -⟩, q3⟩ := h
    rcases List.mem_cons.mp hx with rfl | hx
    · exact r2
    · exact CMT.k10 q3 x hx
theorem PRS.k10 {l : List Nat} {a0 : Nat} {L : List (Nat × List Nat)} (h : PRS l a0 L) : ∀ x, x ∈ L → x.1 < 10 := by
  obtain ⟨y, L', a1, rfl, ⟨w, a4, r1, r2, -⟩, h3⟩ := h
  intro x hx
  rcases List.mem_cons.mp hx with rfl | hx
  · exact r2
  · exact h3.k10 x hx

theorem ct_X1_execute {G : GG} {l : Launch} {h : AH} {P : Nat → Prop} {xo n : Nat} {g : Nat → Nat} {sn : Option (Nat → Nat)} {hs : List (Nat → Nat)} {l0 : List Nat} {ep fc : Int32} {ot : List Nat} {hb : AH} {al ar0 : Nat} {L : List (Nat × List Nat)} {fcs : Nat → Nat}  (hl0 : l.stackTraces = false) (hIP : INVP) (hC : CW G P hb xo g sn hs l0 ep fc ot) (hPb : ∀ z, hb z = none → P z) (hF : Fr nM hb h) (hL : CML G hb h al ar0 L fcs) (hLn : L.length ≤ 30) (hLk : ∀ x, x ∈ L → x.1 < 10) (hV : INV n g) (hn9 : n ≤ 900) (hs8 : hs.length ≤ 8)  : CtH G l yX1_execute cX1_execute 5 (some .int) [((20 : Nat), (35 : Nat), (38 : Nat), (77 : Nat))] 15 (300 + 620 * L.length) (3000 + 21100 * L.length) [.ref xo, .ref al] h (fun r0 h2 => ∃ g2, r0 = some (.int (nI L.length)) ∧ RUN L g g2 ∧ INV (n + L.length) g2 ∧ CW G P h2 xo g2 sn (pushH hs g) l0 ep fc ot ∧ Fr P hb h2) (fun E q h2 => E = "SleeperRailway$CommandFailure" ∧ h q = none ∧ (∃ idx, RUX L g idx ∧ h2 q = some (.inr (16, [.int (nI idx)]))) ∧ Fr nM h h2) := by
  refine CtH.of (by decide) (Nat.le_of_ble_eq_true rfl) (cat1 rfl) (fun X hXl F HT => ?_)
  subst hXl
  have HTo : ∀ p, (p < 20 ∨ 35 ≤ p) → ∀ x ∈ (xc X).exceptionTable.toList, covers x p = false := fun p hp x hx => by rw [HT] at hx; cases List.mem_singleton.mp hx; show (decide (20 ≤ p) && decide (p < 35)) = false; rcases hp with hp | hp <;> simp <;> omega
  have hCh := hC.fr0 hF
  obtain ⟨r, so, hl, sb, o, mc, A, V, b, N, hx, hRG, -⟩ := id hCh
  obtain ⟨⟨⟨ti, tia, tf⟩, ⟨tt, tl, ta, x, A9⟩, ⟨sm, smc, sA, sK, sV⟩, ⟨bm, bmc, bA, bK, bV⟩⟩, hW, -⟩ := id hRG
  refine V_aload_n (i := 0) F dX1_execute_0 rfl rfl ?_
  refine V_getf F dX1_execute_1 fc_X1_44_X1 (.inl hx) rfl ?_
  refine V_callV (st := []) (nn := 0) F dX1_execute_4 lk_X1_60 (ct_RW_copy hW hV.W hV.id hV.bd hV.n4 hV.n5) ⟨2, _, _, _, rfl, .inl hW.1⟩ rfl rfl (Nat.le_of_ble_eq_true rfl) (Nat.le_of_ble_eq_true rfl) (Nat.le_of_ble_eq_true rfl) (by omega) (by omega) ?_
  rintro _ h1 ⟨q, D1, rfl, hW1, hO1, hx1⟩
  refine V_astore_n (i := 2) F dX1_execute_7 rfl (Nat.le_of_ble_eq_true rfl) (Nat.le_of_ble_eq_true rfl) ?_
  refine V_iconst (v := nI 0) F dX1_execute_8 rfl ?_
  refine V_istore_n (i := 3) F dX1_execute_9 rfl (Nat.le_of_ble_eq_true rfl) (Nat.le_of_ble_eq_true rfl) ?_
  have loop_10 : ∀ (nn : Nat) (i : Nat) (gi : Nat → Nat) (hh : AH) (D : RD), L.length - i < nn → i ≤ L.length → RW G hh q D gi → RO G h q D gi → Fr nM h hh → INV (n + i) gi → RUN (L.take i) g gi → VV G X 5 ((EQX G X (300 + 620 * L.length) (3000 + 21100 * L.length) (fun r0 h2 => ∃ g2, r0 = some (.int (nI L.length)) ∧ RUN L g g2 ∧ INV (n + L.length) g2 ∧ CW G P h2 xo g2 sn (pushH hs g) l0 ep fc ot ∧ Fr P hb h2) (fun E q h2 => E = "SleeperRailway$CommandFailure" ∧ h q = none ∧ (∃ idx, RUX L g idx ∧ h2 q = some (.inr (16, [.int (nI idx)]))) ∧ Fr nM h h2))) hh (200 + 612 * i) (2200 + 21050 * i) [some (.ref (xo)), some (.ref (al)), some (.ref (q)), some (.int (nI (i))), none] [] 10 := by
    intro nn
    induction nn with
    | zero => intro i gi hh D hm hi hWi hOi hFj hVi hRi; exact absurd hm (by omega)
    | succ nn ih_10 =>
      intro i gi hh D hm hi hWi hOi hFj hVi hRi
      obtain ⟨⟨ti9, tia9, tf9⟩, ⟨tt9, tl9, ta9, x9, A99⟩, ⟨sm9, smc9, sA9, sK9, sV9⟩, ⟨bm9, bmc9, bA9, bK9, bV9⟩⟩ := D
      have hLj := hL.1.fr0 hFj
      refine V_iload_n (i := 3) F dX1_execute_10 rfl rfl ?_
      refine V_aload_n (i := 1) F dX1_execute_11 rfl rfl ?_
      refine V_callF (st := [.int (nI (i))]) (nn := 0) F dX1_execute_12 ⟨lw_F q384 q388 q390 q111 q392, ⟨q386, List.mem_append_left _ q385, q391, q389, q387⟩, (by decide +kernel), (by decide +kernel)⟩ (ct_AL_size hLj) hLj.isC rfl rfl (Nat.le_of_ble_eq_true rfl) (Nat.le_of_ble_eq_true rfl) (Nat.le_of_ble_eq_true rfl) (by omega) (by omega) ?_
      refine PRk ?_
      refine V_icmp_geN (tgt := 57) F dX1_execute_17 (by decide) (by omega) (by omega) (fun c_17 => ?_) (fun c_17 => ?_)
      · refine V_aload_n (i := 0) F dX1_execute_57 rfl rfl ?_
        refine V_aload_n (i := 2) F dX1_execute_58 rfl rfl ?_
        refine V_aload_n (i := 1) F dX1_execute_59 rfl rfl ?_
        refine V_callF (st := [.ref (q), .ref (xo)]) (nn := 0) F dX1_execute_60 ⟨lw_F q384 q388 q390 q111 q392, ⟨q386, List.mem_append_left _ q385, q391, q389, q387⟩, (by decide +kernel), (by decide +kernel)⟩ (ct_AL_size hLj) hLj.isC rfl rfl (Nat.le_of_ble_eq_true rfl) (Nat.le_of_ble_eq_true rfl) (Nat.le_of_ble_eq_true rfl) (by omega) (by omega) ?_
        refine PRk ?_
        refine V_callV (st := []) (nn := 2) F dX1_execute_65 lk_X1_73 (ct_X1_commit (n := n) (hCh.fr0 hFj) (fun z hz => hPb z (hF.none (hFj.none hz))) hs8 (hOi.rg hWi (fun z hz => hPb z (hF.none hz)))) ⟨1, _, _, _, rfl, .inl (hFj.get hx id rfl)⟩ rfl rfl (Nat.le_of_ble_eq_true rfl) (Nat.le_of_ble_eq_true rfl) (Nat.le_of_ble_eq_true rfl) (by omega) (by omega) ?_
        rintro _ h6 ⟨rfl, hC6, hx6⟩
        have hie : i = L.length := by omega
        subst hie
        exact VV.rx (V_iret F dX1_execute_68 rfl (by first | exact Nat.le_of_ble_eq_true rfl | omega) (by first | exact Nat.le_of_ble_eq_true rfl | omega) ⟨gi, rfl, by rw [List.take_length] at hRi; exact hRi, hVi, hC6, ((hF.cal0 hFj).mono (fun _ z => z.elim) : Fr P hb hh).cal hx6 (fun z q => Or.inl q)⟩)
      · obtain ⟨wa, ar, f9, nA9, -, -, -, hci0, hai0, hn1, hn2, hS9, hf9⟩ := hL.2 i (by omega)
        have hci := hFj.get hci0 id rfl
        have hai := hFj.get hai0 id rfl
        have hk9 := hLk _ (getD_mem (d := (0, [])) (show i < L.length by omega))
        have hS9j := hS9.fr hFj offK.nM (fun _ _ _ _ _ => id)
        refine V_aload_n (i := 1) F dX1_execute_20 rfl rfl ?_
        refine V_iload_n (i := 3) F dX1_execute_21 rfl rfl ?_
        refine V_callF (st := []) (nn := 1) F dX1_execute_22 ⟨lw_F q2819 q473 q475 q111 q477, ⟨q472, List.mem_append_left _ q471, q476, q474, q387⟩, (by decide +kernel), (by decide +kernel)⟩ (ct_AL_get hLj (by omega) (by omega)) hLj.isC rfl rfl (Nat.le_of_ble_eq_true rfl) (Nat.le_of_ble_eq_true rfl) (Nat.le_of_ble_eq_true rfl) (by omega) (by omega) ?_
        refine PRk ?_
        refine V_ckS F dX1_execute_27 q2343 ⟨6, _, _, _, rfl, (.inl hci)⟩ ?_
        refine V_aload_n (i := 2) F dX1_execute_30 rfl rfl ?_
        refine V_xcV (st := []) (nn := 1) F dX1_execute_31 lk_X1_69 (ct_X7_applyTo hl0 hk9 hci hai hn1 hn2 hS9j hWi hOi hVi hFj) ⟨6, _, _, _, rfl, .inl hci⟩ rfl rfl (Nat.le_of_ble_eq_true rfl) (Nat.le_of_ble_eq_true rfl) (Nat.le_of_ble_eq_true rfl) (by omega) (by omega) ?_ ?_
        · rintro _ h5 ⟨v5, g5, rfl, hcd, hCH, ⟨D5, hW5, hO5⟩, hx5⟩
          have hF5 : Fr nM h h5 := ((hFj.mono (fun _ z => z.elim) : Fr (fH h) h hh).cal hx5 (fun z q => Or.inl q)).fHn
          have hcd5 := (cdK_cg (f2 := afK (L.getD i (0, [])).2) hk9 hf9).symm.trans hcd
          have hCH5 := CHG_cg hk9 hf9 hCH
          refine V_pop F dX1_execute_34 rfl ?_
          refine V_goto (tgt := 51) F dX1_execute_35 (by decide) ?_
          refine V_iinc (i := 3) (v := nI (i + 1)) F dX1_execute_51 rfl (nI_add (i) 1) (Nat.le_of_ble_eq_true rfl) ?_
          refine V_goto (tgt := 10) F dX1_execute_54 (by decide) ?_
          refine VV.weak (L' := [some (.ref (xo)), some (.ref (al)), some (.ref (q)), some (.int (nI (i + 1))), none]) (LW.c1 (LW.c1 (LW.c1 (LW.c1 (LW.c0 LW.nil))))) ?_
          refine VV.wide (by omega) (by omega) (ih_10 (i + 1) g5 _ _ (by omega) (by omega) hW5 hO5 hF5 (hIP (n + i) _ _ _ _ _ (show n + i < 1000 by omega) hVi hk9 hcd hCH) (RUN.step (by omega) hRi hcd5 hCH5))
        · intro E q9 h7 hp9
          obtain ⟨rfl, hq0, hcd, -, hx7⟩ := hp9
          have hF7 : Fr nM h h7 := ((hFj.mono (fun _ z => z.elim) : Fr (fH h) h hh).cal hx7 (fun z q => Or.inl q)).fHn
          refine V_xcatch F (name := "SleeperRailway$Failure") [] ⟨20, 35, 38, 77⟩ [] (by rw [HT]; rfl) (fun z hz => by cases hz) (by decide) (by decide) q2268 q4234 ?_
          refine V_astore (i := 4) F dX1_execute_38 (Nat.le_of_ble_eq_true rfl) (Nat.le_of_ble_eq_true rfl) ?_
          refine V_newF F dX1_execute_40 nw_X1_397 rfl (by omega) (by omega) ?_
          intro q8 hfq hbq
          refine VS_dup F dX1_execute_43 rfl ?_
          refine VS_iload_n (i := 3) F dX1_execute_44 rfl rfl ?_
          refine VS_aload (i := 4) F dX1_execute_45 rfl ?_
          refine VS_callF (nn := 2) (As := [.int (nI i), .ref q9]) F dX1_execute_47 lk_X1_399 (ct_X19_init hl0 hfq hbq) (fun H hH => hH) rfl rfl (Nat.le_of_ble_eq_true rfl) (Nat.le_of_ble_eq_true rfl) (by decide) (by omega) (by omega) ?_
          rintro _ _ ⟨rfl, rfl⟩
          refine V_athrow F dX1_execute_50 ⟨16, _, _, _, rfl, .inl hset_self⟩ ?_
          exact V_xout F (HTo 50 (by decide)) (by omega) (by omega) ⟨rfl, hF7.none hfq, ⟨i, ⟨gi, by omega, hRi, by rw [← cdK_cg (f2 := afK (L.getD i (0, [])).2) hk9 hf9]; exact hcd⟩, hset_self⟩, hF7.nw hfq⟩
  refine VV.weak (L' := [some (.ref (xo)), some (.ref (al)), some (.ref (q)), some (.int (nI (0))), none]) (LW.c1 (LW.c1 (LW.c1 (LW.c1 (LW.c0 LW.nil))))) ?_
  exact VV.wide (by omega) (by omega) (loop_10 (L.length + 1) 0 g _ _ (by omega) (Nat.zero_le _) hW1 hO1 hx1 hV rfl)
