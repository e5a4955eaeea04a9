set_option maxRecDepth 100000
/-! ===== the ten changes as one ===== -/
def wdS (k : Nat) : String := ["station", "train", "stop", "late", "case", "label", "send", "take", "book", "drop"].getD k ""
/-- how many arguments -/
def arK (k : Nat) : Nat := [1, 3, 4, 2, 3, 2, 1, 1, 3, 1].getD k 0
def cdK (k : Nat) (g : Nat → Nat) (f : Nat → Int32) : Nat := match k with
  | 0 => cdAS g (f 0) | 1 => cdAT g (f 0) (f 1) (f 2) | 2 => cdET g (f 0) (f 1) (f 2) (f 3) | 3 => cdDT g (f 0) (f 1) | 4 => cdAC g (f 0) (f 1) (f 2)
  | 5 => ccRL g (f 0) (f 1) | 6 => ccSD g (f 0) | 7 => ccCO g (f 0) | 8 => cdBK g (f 0) (f 1) (f 2) | _ => ccCB g (f 0)
def kdK (k : Nat) : Nat → String := match k with
  | 0 => kdAS | 1 => kdAT | 2 => kdET | 3 => kdDT | 4 => kdAC | 5 => kdRL | 6 => kdSD | 7 => kdCO | 8 => kdBK | _ => kdCB
/-- a change k on the row g with the arguments f gives the answer v and the row g2 -/
def CHG (k : Nat) (g : Nat → Nat) (f : Nat → Int32) (v : Int32) (g2 : Nat → Nat) : Prop := match k with
  | 0 => v = nI (g 0) ∧ g2 = nxAS g (tn (f 0))
  | 1 => v = nI (g 1) ∧ g2 = nxAT g (tn (f 0)) (tn (f 1)) (tn (f 2))
  | 2 => v = nI (g (16 + 36 * tn (f 0) + 3)) ∧ g2 = nxET g (tn (f 0)) (tn (f 1)) (tn (f 2)) (tn (f 3))
  | 3 => v = nI (g (16 + 36 * tn (f 0) + 2)) ∧ g2 = nxDT g (tn (f 0)) (tn (f 1))
  | 4 => v = nI (g 4) ∧ g2 = nxAC g (tn (f 0)) (tn (f 1)) (tn (f 2))
  | 5 => ∃ k, fdO g 232 (f 0) (g 2) = some k ∧ v = nI (g (232 + 4 * k + 2)) ∧ g2 = nxRL g k (tn (f 1))
  | 6 => ∃ k e R, fdO g 232 (f 0) (g 2) = some k ∧ ARR g (g (232 + 4 * k + 1)) (g (232 + 4 * k + 3)) e R ∧ e (g (232 + 4 * k + 2)) < 1000000 ∧ v = nI (ltG g e R (g (232 + 4 * k + 1)) (g (232 + 4 * k + 3)) 8 (g (232 + 4 * k + 2))).length ∧
      g2 = nxSC g k (ltG g e R (g (232 + 4 * k + 1)) (g (232 + 4 * k + 3)) 8 (g (232 + 4 * k + 2))) (e (g (232 + 4 * k + 2)))
  | 7 => ∃ k, fdO g 232 (f 0) (g 2) = some k ∧ v = nI (g 2 - 1) ∧ g2 = nxCO g k
  | 8 => v = nI (g 5) ∧ g2 = nxBK g (tn (f 0)) (tn (f 1)) (tn (f 2))
  | _ => ∃ k, fdO g 264 (f 0) (g 3) = some k ∧ v = nI (g 3 - 1) ∧ g2 = nxCB g k
/-- what holds of every railway that comes about by at most n changes -/
def INV (n : Nat) (g : Nat → Nat) : Prop :=
  GW g ∧ (∀ i j, i < j → j < g 2 → g (232 + 4 * i + 0) < g (232 + 4 * j + 0)) ∧ (∀ i j, i < j → j < g 3 → g (264 + 4 * i + 0) < g (264 + 4 * j + 0)) ∧
  (∀ i, i < g 2 → g (232 + 4 * i + 0) < g 4) ∧ (∀ i, i < g 3 → g (264 + 4 * i + 0) < g 5) ∧ (g 2 ≤ g 4 ∧ g 3 ≤ g 5) ∧
  (∀ t, g 1 ≤ t → t < 6 → ∀ j, j < 36 → g (16 + 36 * t + j) = 0) ∧
  (∀ o, o < g 3 → g (264 + 4 * o + 1) < g 1 ∧ g (264 + 4 * o + 2) < g (264 + 4 * o + 3) ∧ g (264 + 4 * o + 3) < g (16 + 36 * g (264 + 4 * o + 1) + 3)) ∧
  (∀ i, i < g 2 → g (232 + 4 * i + 1) < g 0 ∧ g (232 + 4 * i + 2) < g 0 ∧ g (232 + 4 * i + 3) ≤ 9999) ∧
  LdC g ∧ (g 6 = 2 * ((lgL g).foldl (fun (a : Nat) (x : Nat × Nat) => a + (g (16 + 36 * x.1 + (28 + x.2)))) 0)) ∧ (∀ i, g i < 2 ^ 19) ∧ (∀ s, s < g 0 → 1 ≤ g (8 + s) ∧ g (8 + s) ≤ 30) ∧
  (∀ t, t < g 1 → (1 ≤ g (16 + 36 * t + 0) ∧ g (16 + 36 * t + 0) ≤ 5) ∧ g (16 + 36 * t + 1) ≤ 1439 ∧ g (16 + 36 * t + 2) ≤ 120 ∧ ∀ k, 0 < k → k < g (16 + 36 * t + 3) → (1 ≤ g (16 + 36 * t + (4 + 3 * k + 1)) ∧ g (16 + 36 * t + (4 + 3 * k + 1)) ≤ 300) ∧ g (16 + 36 * t + (4 + 3 * k + 2)) ≤ 60) ∧
  (g 4 ≤ n ∧ g 5 ≤ n ∧ g 7 ≤ n) ∧ (∀ t k, t < g 1 → g (16 + 36 * t + 3) ≤ k + 1 → k < 8 → g (16 + 36 * t + (28 + k)) = 0)
section INVp
variable {n : Nat} {g : Nat → Nat}
theorem INV.W (h : INV n g) : GW g := h.1
theorem INV.id (h : INV n g) : ∀ i j, i < j → j < g 2 → g (232 + 4 * i + 0) < g (232 + 4 * j + 0) := h.2.1
theorem INV.bd (h : INV n g) : ∀ i j, i < j → j < g 3 → g (264 + 4 * i + 0) < g (264 + 4 * j + 0) := h.2.2.1
theorem INV.nx (h : INV n g) : ∀ i, i < g 2 → g (232 + 4 * i + 0) < g 4 := h.2.2.2.1
theorem INV.nb (h : INV n g) : ∀ i, i < g 3 → g (264 + 4 * i + 0) < g 5 := h.2.2.2.2.1
theorem INV.n4 (h : INV n g) : g 2 ≤ g 4 := h.2.2.2.2.2.1.1
theorem INV.n5 (h : INV n g) : g 3 ≤ g 5 := h.2.2.2.2.2.1.2
theorem INV.z (h : INV n g) : ∀ t, g 1 ≤ t → t < 6 → ∀ j, j < 36 → g (16 + 36 * t + j) = 0 := h.2.2.2.2.2.2.1
theorem INV.bv (h : INV n g) : ∀ o, o < g 3 → g (264 + 4 * o + 1) < g 1 ∧ g (264 + 4 * o + 2) < g (264 + 4 * o + 3) ∧ g (264 + 4 * o + 3) < g (16 + 36 * g (264 + 4 * o + 1) + 3) := h.2.2.2.2.2.2.2.1
theorem INV.cs (h : INV n g) : ∀ i, i < g 2 → g (232 + 4 * i + 1) < g 0 ∧ g (232 + 4 * i + 2) < g 0 ∧ g (232 + 4 * i + 3) ≤ 9999 := h.2.2.2.2.2.2.2.2.1
theorem INV.L (h : INV n g) : LdC g := h.2.2.2.2.2.2.2.2.2.1
theorem INV.co (h : INV n g) : g 6 = 2 * ((lgL g).foldl (fun (a : Nat) (x : Nat × Nat) => a + (g (16 + 36 * x.1 + (28 + x.2)))) 0) := h.2.2.2.2.2.2.2.2.2.2.1
theorem INV.b (h : INV n g) : ∀ i, g i < 2 ^ 19 := h.2.2.2.2.2.2.2.2.2.2.2.1
theorem INV.tr (h : INV n g) : ∀ s, s < g 0 → 1 ≤ g (8 + s) ∧ g (8 + s) ≤ 30 := h.2.2.2.2.2.2.2.2.2.2.2.2.1
theorem INV.tm (h : INV n g) : ∀ t, t < g 1 → (1 ≤ g (16 + 36 * t + 0) ∧ g (16 + 36 * t + 0) ≤ 5) ∧ g (16 + 36 * t + 1) ≤ 1439 ∧ g (16 + 36 * t + 2) ≤ 120 ∧ ∀ k, 0 < k → k < g (16 + 36 * t + 3) → (1 ≤ g (16 + 36 * t + (4 + 3 * k + 1)) ∧ g (16 + 36 * t + (4 + 3 * k + 1)) ≤ 300) ∧ g (16 + 36 * t + (4 + 3 * k + 2)) ≤ 60 := h.2.2.2.2.2.2.2.2.2.2.2.2.2.1
theorem INV.cn (h : INV n g) : g 4 ≤ n ∧ g 5 ≤ n ∧ g 7 ≤ n := h.2.2.2.2.2.2.2.2.2.2.2.2.2.2.1
theorem INV.w0 (h : INV n g) : ∀ t k, t < g 1 → g (16 + 36 * t + 3) ≤ k + 1 → k < 8 → g (16 + 36 * t + (28 + k)) = 0 := h.2.2.2.2.2.2.2.2.2.2.2.2.2.2.2
theorem LvG_le (h : INV n g) {t : Nat} (ht : t < g 1) : ∀ k, k < g (16 + 36 * t + 3) → LvG g t k ≤ 1559 + 360 * k
  | 0, _ => by
    obtain ⟨-, h1, h2, -⟩ := h.tm t ht
    show g (16 + 36 * t + 1) + g (16 + 36 * t + 2) ≤ _
    omega
  | k + 1, hk => by
    have h1 := LvG_le h ht k (by omega)
    obtain ⟨-, -, -, h4⟩ := h.tm t ht
    obtain ⟨⟨-, h5⟩, h6⟩ := h4 (k + 1) (by omega) hk
    show LvG g t k + (g (16 + 36 * t + (4 + 3 * (k + 1) + 1)) + g (16 + 36 * t + (4 + 3 * (k + 1) + 2))) ≤ _
    omega
theorem INV.T (h : INV n g) : TmC g := by
  intro t k hl
  obtain ⟨ht, hk⟩ := hl
  have h8 := (h.W.2.2.2.2.2.1 t ht).2
  have h1 := LvG_le h ht k (by omega)
  obtain ⟨-, -, -, h4⟩ := h.tm t ht
  obtain ⟨⟨h5, h6⟩, -⟩ := h4 (k + 1) (by omega) (by omega)
  have e : CmG g t (k + 1) = LvG g t k + g (16 + 36 * t + (4 + 3 * (k + 1) + 1)) := rfl
  exact ⟨by omega, by omega, by omega⟩
theorem INV.up (h : INV n g) {m : Nat} (hm : n ≤ m) : INV m g :=
  ⟨h.1, h.2.1, h.2.2.1, h.2.2.2.1, h.2.2.2.2.1, h.2.2.2.2.2.1, h.2.2.2.2.2.2.1, h.2.2.2.2.2.2.2.1, h.2.2.2.2.2.2.2.2.1, h.2.2.2.2.2.2.2.2.2.1, h.2.2.2.2.2.2.2.2.2.2.1, h.2.2.2.2.2.2.2.2.2.2.2.1, h.2.2.2.2.2.2.2.2.2.2.2.2.1, h.2.2.2.2.2.2.2.2.2.2.2.2.2.1, by have := h.cn; omega, h.w0⟩
end INVp
/-- how a change fails -/
def CFy (G : GG) (h0 h : AH) (c : Nat) (kd : Nat → String) : String → Nat → AH → Prop := fun E q h2 => E = "SleeperRailway$ConditionFailure" ∧ h q = none ∧ c ≠ 0 ∧ (∃ a, Gstr G (kd c) a ∧ h2 q = some (.inr (7, [.ref a]))) ∧ Fr (fH h0) h h2
theorem CFy.of {G : GG} {h0 h h1 h2 : AH} {c : Nat} {kd : Nat → String} {E : String} {q : Nat} (hx : Fr (fH h0) h h1) (hc : CFx G h1 c kd E q h2) : CFy G h0 h c kd E q h2 := by
  obtain ⟨h1c, a, hG, e1, e2, e3, e4⟩ := hc
  exact ⟨e1, hx.none e2, h1c, ⟨a, hG, e3⟩, hx.cal0 e4⟩
theorem RW.frS {G : GG} {h h2 : AH} {r a : Nat} {D : RD} {g : Nat → Nat} (hW : RW G h r D g) (hx : Fr (mS h a) h h2) : RW G h2 r D g := by
  rcases hx.mS' with z | ⟨fs, q, z⟩
  · exact hW.fr0 z
  · exact hW.fr1 z q (by decide)
theorem CHG0 {g : Nat → Nat} {f : Nat → Int32} : CHG 0 g f (nI (g 0)) (nxAS g (tn (f 0))) := by unfold CHG; exact ⟨rfl, rfl⟩

theorem tx_station : txl "station" = [115, 116, 97, 116, 105, 111, 110] := by decide +kernel
theorem hx_station : strH (txl "station") = -1897135820 := by decide +kernel
theorem tx_train : txl "train" = [116, 114, 97, 105, 110] := by decide +kernel
theorem hx_train : strH (txl "train") = 110621192 := by decide +kernel
theorem tx_stop : txl "stop" = [115, 116, 111, 112] := by decide +kernel
theorem hx_stop : strH (txl "stop") = 3540994 := by decide +kernel
theorem tx_late : txl "late" = [108, 97, 116, 101] := by decide +kernel
theorem hx_late : strH (txl "late") = 3314342 := by decide +kernel
theorem tx_case : txl "case" = [99, 97, 115, 101] := by decide +kernel
theorem hx_case : strH (txl "case") = 3046192 := by decide +kernel
theorem tx_label : txl "label" = [108, 97, 98, 101, 108] := by decide +kernel
theorem hx_label : strH (txl "label") = 102727412 := by decide +kernel
theorem tx_send : txl "send" = [115, 101, 110, 100] := by decide +kernel
theorem hx_send : strH (txl "send") = 3526536 := by decide +kernel
theorem tx_take : txl "take" = [116, 97, 107, 101] := by decide +kernel
theorem hx_take : strH (txl "take") = 3552391 := by decide +kernel
theorem tx_book : txl "book" = [98, 111, 111, 107] := by decide +kernel
theorem hx_book : strH (txl "book") = 3029737 := by decide +kernel
theorem tx_drop : txl "drop" = [100, 114, 111, 112] := by decide +kernel
theorem hx_drop : strH (txl "drop") = 3092207 := by decide +kernel
theorem ct_X7_at {G : GG} {l : Launch} {h : AH} {c wa ar nA k : Nat} {f : Nat → Int32}  (hc : h c = some (.inr (6, [.ref wa, .ref ar]))) (har : h ar = some (.inl (G.2.1 0, nA, .inl f))) (hk : k < nA) (hn : nA < 100) : Ct G l yX7_at cX7_at 2 (some .int) 0 (0) (0) [.ref c, .int (nI k)] h (PR (.int (f k)) h) := by
  refine Ct.of (by decide) (Nat.le_of_ble_eq_true rfl) (cat1 rfl) (fun X hXl F HN => ?_)
  subst hXl
  refine V_aload_n (i := 0) F dX7_at_0 rfl rfl ?_
  refine V_getf F dX7_at_1 fc_X7_13_X7 (Or.inl hc) rfl ?_
  refine V_iload_n (i := 1) F dX7_at_4 rfl rfl ?_
  refine V_ialdN F 0 dX7_at_5 rfl (Or.inl har) hk (by omega) ?_
  exact V_iret F dX7_at_6 rfl (by first | exact Nat.le_of_ble_eq_true rfl | omega) (by first | exact Nat.le_of_ble_eq_true rfl | omega) ⟨rfl, rfl⟩
theorem ct_X7_apply0 {G : GG} {l : Launch} {h : AH} {h0 : AH} {r ti tia : Nat} {tf : Nat → Nat} {tt tl ta : Nat} {x : Nat → Nat} {A : Nat → Nat → Nat} {sm smc : Nat} {sA sK sV : Nat → Nat} {bm bmc : Nat} {bA bK bV : Nat → Nat} {g : Nat → Nat} {c wa ar nA n : Nat} {f : Nat → Int32}  (hl0 : l.stackTraces = false) (hc : h c = some (.inr (6, [.ref wa, .ref ar]))) (har : h ar = some (.inl (G.2.1 0, nA, .inl f))) (hnA : 1 ≤ nA) (hnB : nA < 100) (hS : STH G h wa (txl "station")) (hW : RW G h r ((ti, tia, tf), (tt, tl, ta, x, A), (sm, smc, sA, sK, sV), (bm, bmc, bA, bK, bV)) g) (hO : RO G h0 r ((ti, tia, tf), (tt, tl, ta, x, A), (sm, smc, sA, sK, sV), (bm, bmc, bA, bK, bV)) g) (hV : INV n g) (hF0 : Fr nM h0 h)  : CtX G l yX7_applyTo cX7_applyTo 4 (some .int) 14 (600) (21000) [.ref c, .ref r] h (fun r0 h2 => ∃ v g2, r0 = some (.int v) ∧ cdK 0 g f = 0 ∧ CHG 0 g f v g2 ∧ (∃ D2, RW G h2 r D2 g2 ∧ RO G h0 r D2 g2) ∧ Fr (fH h0) h h2) (CFy G h0 h (cdK 0 g f) (kdK 0)) := by
  refine CtX.of (by decide) (Nat.le_of_ble_eq_true rfl) (cat1 rfl) (fun X hXl F HT => ?_)
  subst hXl
  refine V_aload_n (i := 0) F dX7_applyTo_0 rfl rfl ?_
  refine V_getf F dX7_applyTo_1 fc_X7_7_X7 (.inl hc) rfl ?_
  refine V_astore_n (i := 2) F dX7_applyTo_4 rfl (Nat.le_of_ble_eq_true rfl) (Nat.le_of_ble_eq_true rfl) ?_
  refine V_iconst (v := -1) F dX7_applyTo_5 rfl ?_
  refine V_istore_n (i := 3) F dX7_applyTo_6 rfl (Nat.le_of_ble_eq_true rfl) (Nat.le_of_ble_eq_true rfl) ?_
  refine V_aload_n (i := 2) F dX7_applyTo_7 rfl rfl ?_
  refine V_callV (st := []) (nn := 0) F dX7_applyTo_8 lk_X7_17 (ct_J6_hashH hS) hS.str.isC rfl rfl (Nat.le_of_ble_eq_true rfl) (Nat.le_of_ble_eq_true rfl) (Nat.le_of_ble_eq_true rfl) (by omega) (by omega) ?_
  refine PRk ?_
  refine V_lookup (tgt := 92) F dX7_applyTo_11 (by decide) (off := 81) (by rw [hx_station]; decide +kernel) (by decide) ?_
  refine V_aload_n (i := 2) F dX7_applyTo_92 rfl rfl ?_
  refine V_ldcS F dX7_applyTo_93 q2421 ?_
  intro w1 hGw1
  refine V_callV (st := []) (nn := 1) F dX7_applyTo_95 lk_X7_25 (ct_J6_equals hS.str (hGw1.str (asc_of (by decide +kernel)) (by decide +kernel))) hS.str.isC rfl rfl (Nat.le_of_ble_eq_true rfl) (Nat.le_of_ble_eq_true rfl) (Nat.le_of_ble_eq_true rfl) (by omega) (by omega) ?_
  refine PRk ?_
  refine V_if_eqN (tgt := 218) F dX7_applyTo_98 (by decide) (by omega) (fun c_98 => absurd c_98 (by decide)) (fun c_98 => ?_)
  refine V_iconst (v := nI 0) F dX7_applyTo_101 rfl ?_
  refine V_istore_n (i := 3) F dX7_applyTo_102 rfl (Nat.le_of_ble_eq_true rfl) (Nat.le_of_ble_eq_true rfl) ?_
  refine V_goto (tgt := 218) F dX7_applyTo_103 (by decide) ?_
  refine V_iload_n (i := 3) F dX7_applyTo_218 rfl rfl ?_
  refine V_tableIn (tgt := 268) (off := 49) F dX7_applyTo_219 (by decide) (by decide) (by decide +kernel) (by decide) ?_
  refine V_aload_n (i := 1) F dX7_applyTo_268 rfl rfl ?_
  refine V_aload_n (i := 0) F dX7_applyTo_269 rfl rfl ?_
  refine V_iconst (v := nI 0) F dX7_applyTo_270 rfl ?_
  refine V_callV (st := [.ref (r)]) (nn := 1) F dX7_applyTo_271 lk_X7_45 (ct_X7_at (k := 0) hc har (Nat.lt_of_lt_of_le (by decide) hnA) hnB) ⟨6, _, _, _, rfl, (.inl hc)⟩ rfl rfl (Nat.le_of_ble_eq_true rfl) (Nat.le_of_ble_eq_true rfl) (Nat.le_of_ble_eq_true rfl) (by omega) (by omega) ?_
  refine PRk ?_
  refine V_xcV (st := []) (nn := 1) F dX7_applyTo_274 lk_X7_49 (ct_RW_addStation (dem_holds hl0) hW hO hV.W hF0) ⟨2, _, _, _, rfl, .inl hW.1⟩ rfl rfl (Nat.le_of_ble_eq_true rfl) (Nat.le_of_ble_eq_true rfl) (Nat.le_of_ble_eq_true rfl) (by omega) (by omega) ?_ ?_
  · rintro _ h3 ⟨rfl, hcd, ⟨D3, hW3, hO3⟩, hx3⟩
    exact VV.rx (V_iret F dX7_applyTo_277 rfl (by omega) (by omega) ⟨_, _, rfl, hcd, (by unfold CHG; exact ⟨rfl, rfl⟩), ⟨D3, hW3, hO3⟩, hx3⟩)
  · exact fun E q h3 hp => V_xout F (HT _) (by omega) (by omega) (CFy.of Fr.rf hp)
theorem ct_X7_apply1 {G : GG} {l : Launch} {h : AH} {h0 : AH} {r ti tia : Nat} {tf : Nat → Nat} {tt tl ta : Nat} {x : Nat → Nat} {A : Nat → Nat → Nat} {sm smc : Nat} {sA sK sV : Nat → Nat} {bm bmc : Nat} {bA bK bV : Nat → Nat} {g : Nat → Nat} {c wa ar nA n : Nat} {f : Nat → Int32}  (hl0 : l.stackTraces = false) (hc : h c = some (.inr (6, [.ref wa, .ref ar]))) (har : h ar = some (.inl (G.2.1 0, nA, .inl f))) (hnA : 3 ≤ nA) (hnB : nA < 100) (hS : STH G h wa (txl "train")) (hW : RW G h r ((ti, tia, tf), (tt, tl, ta, x, A), (sm, smc, sA, sK, sV), (bm, bmc, bA, bK, bV)) g) (hO : RO G h0 r ((ti, tia, tf), (tt, tl, ta, x, A), (sm, smc, sA, sK, sV), (bm, bmc, bA, bK, bV)) g) (hV : INV n g) (hF0 : Fr nM h0 h)  : CtX G l yX7_applyTo cX7_applyTo 4 (some .int) 14 (600) (21000) [.ref c, .ref r] h (fun r0 h2 => ∃ v g2, r0 = some (.int v) ∧ cdK 1 g f = 0 ∧ CHG 1 g f v g2 ∧ (∃ D2, RW G h2 r D2 g2 ∧ RO G h0 r D2 g2) ∧ Fr (fH h0) h h2) (CFy G h0 h (cdK 1 g f) (kdK 1)) := by
  refine CtX.of (by decide) (Nat.le_of_ble_eq_true rfl) (cat1 rfl) (fun X hXl F HT => ?_)
  subst hXl
  refine V_aload_n (i := 0) F dX7_applyTo_0 rfl rfl ?_
  refine V_getf F dX7_applyTo_1 fc_X7_7_X7 (.inl hc) rfl ?_
  refine V_astore_n (i := 2) F dX7_applyTo_4 rfl (Nat.le_of_ble_eq_true rfl) (Nat.le_of_ble_eq_true rfl) ?_
  refine V_iconst (v := -1) F dX7_applyTo_5 rfl ?_
  refine V_istore_n (i := 3) F dX7_applyTo_6 rfl (Nat.le_of_ble_eq_true rfl) (Nat.le_of_ble_eq_true rfl) ?_
  refine V_aload_n (i := 2) F dX7_applyTo_7 rfl rfl ?_
  refine V_callV (st := []) (nn := 0) F dX7_applyTo_8 lk_X7_17 (ct_J6_hashH hS) hS.str.isC rfl rfl (Nat.le_of_ble_eq_true rfl) (Nat.le_of_ble_eq_true rfl) (Nat.le_of_ble_eq_true rfl) (by omega) (by omega) ?_
  refine PRk ?_
  refine V_lookup (tgt := 106) F dX7_applyTo_11 (by decide) (off := 95) (by rw [hx_train]; decide +kernel) (by decide) ?_
  refine V_aload_n (i := 2) F dX7_applyTo_106 rfl rfl ?_
  refine V_ldcS F dX7_applyTo_107 q2429 ?_
  intro w1 hGw1
  refine V_callV (st := []) (nn := 1) F dX7_applyTo_109 lk_X7_25 (ct_J6_equals hS.str (hGw1.str (asc_of (by decide +kernel)) (by decide +kernel))) hS.str.isC rfl rfl (Nat.le_of_ble_eq_true rfl) (Nat.le_of_ble_eq_true rfl) (Nat.le_of_ble_eq_true rfl) (by omega) (by omega) ?_
  refine PRk ?_
  refine V_if_eqN (tgt := 218) F dX7_applyTo_112 (by decide) (by omega) (fun c_112 => absurd c_112 (by decide)) (fun c_112 => ?_)
  refine V_iconst (v := nI 1) F dX7_applyTo_115 rfl ?_
  refine V_istore_n (i := 3) F dX7_applyTo_116 rfl (Nat.le_of_ble_eq_true rfl) (Nat.le_of_ble_eq_true rfl) ?_
  refine V_goto (tgt := 218) F dX7_applyTo_117 (by decide) ?_
  refine V_iload_n (i := 3) F dX7_applyTo_218 rfl rfl ?_
  refine V_tableIn (tgt := 278) (off := 59) F dX7_applyTo_219 (by decide) (by decide) (by decide +kernel) (by decide) ?_
  refine V_aload_n (i := 1) F dX7_applyTo_278 rfl rfl ?_
  refine V_aload_n (i := 0) F dX7_applyTo_279 rfl rfl ?_
  refine V_iconst (v := nI 0) F dX7_applyTo_280 rfl ?_
  refine V_callV (st := [.ref (r)]) (nn := 1) F dX7_applyTo_281 lk_X7_45 (ct_X7_at (k := 0) hc har (Nat.lt_of_lt_of_le (by decide) hnA) hnB) ⟨6, _, _, _, rfl, (.inl hc)⟩ rfl rfl (Nat.le_of_ble_eq_true rfl) (Nat.le_of_ble_eq_true rfl) (Nat.le_of_ble_eq_true rfl) (by omega) (by omega) ?_
  refine PRk ?_
  refine V_aload_n (i := 0) F dX7_applyTo_284 rfl rfl ?_
  refine V_iconst (v := nI 1) F dX7_applyTo_285 rfl ?_
  refine V_callV (st := [.int (f 0), .ref (r)]) (nn := 1) F dX7_applyTo_286 lk_X7_45 (ct_X7_at (k := 1) hc har (Nat.lt_of_lt_of_le (by decide) hnA) hnB) ⟨6, _, _, _, rfl, (.inl hc)⟩ rfl rfl (Nat.le_of_ble_eq_true rfl) (Nat.le_of_ble_eq_true rfl) (Nat.le_of_ble_eq_true rfl) (by omega) (by omega) ?_
  refine PRk ?_
  refine V_aload_n (i := 0) F dX7_applyTo_289 rfl rfl ?_
  refine V_iconst (v := nI 2) F dX7_applyTo_290 rfl ?_
  refine V_callV (st := [.int (f 1), .int (f 0), .ref (r)]) (nn := 1) F dX7_applyTo_291 lk_X7_45 (ct_X7_at (k := 2) hc har (Nat.lt_of_lt_of_le (by decide) hnA) hnB) ⟨6, _, _, _, rfl, (.inl hc)⟩ rfl rfl (Nat.le_of_ble_eq_true rfl) (Nat.le_of_ble_eq_true rfl) (Nat.le_of_ble_eq_true rfl) (by omega) (by omega) ?_
  refine PRk ?_
  refine V_xcV (st := []) (nn := 3) F dX7_applyTo_294 lk_X7_54 (ct_RW_addTrain (dem_holds hl0) hW hO hV.W hF0 (fun z => hV.z _ (Nat.le_refl _) z) (fun o ho => (hV.bv o ho).1)) ⟨2, _, _, _, rfl, .inl hW.1⟩ rfl rfl (Nat.le_of_ble_eq_true rfl) (Nat.le_of_ble_eq_true rfl) (Nat.le_of_ble_eq_true rfl) (by omega) (by omega) ?_ ?_
  · rintro _ h3 ⟨rfl, hcd, ⟨D3, hW3, hO3⟩, hx3⟩
    exact VV.rx (V_iret F dX7_applyTo_297 rfl (by omega) (by omega) ⟨_, _, rfl, hcd, (by unfold CHG; exact ⟨rfl, rfl⟩), ⟨D3, hW3, hO3⟩, hx3⟩)
  · exact fun E q h3 hp => V_xout F (HT _) (by omega) (by omega) (CFy.of Fr.rf hp)
theorem ct_X7_apply2 {G : GG} {l : Launch} {h : AH} {h0 : AH} {r ti tia : Nat} {tf : Nat → Nat} {tt tl ta : Nat} {x : Nat → Nat} {A : Nat → Nat → Nat} {sm smc : Nat} {sA sK sV : Nat → Nat} {bm bmc : Nat} {bA bK bV : Nat → Nat} {g : Nat → Nat} {c wa ar nA n : Nat} {f : Nat → Int32}  (hl0 : l.stackTraces = false) (hc : h c = some (.inr (6, [.ref wa, .ref ar]))) (har : h ar = some (.inl (G.2.1 0, nA, .inl f))) (hnA : 4 ≤ nA) (hnB : nA < 100) (hS : STH G h wa (txl "stop")) (hW : RW G h r ((ti, tia, tf), (tt, tl, ta, x, A), (sm, smc, sA, sK, sV), (bm, bmc, bA, bK, bV)) g) (hO : RO G h0 r ((ti, tia, tf), (tt, tl, ta, x, A), (sm, smc, sA, sK, sV), (bm, bmc, bA, bK, bV)) g) (hV : INV n g) (hF0 : Fr nM h0 h)  : CtX G l yX7_applyTo cX7_applyTo 4 (some .int) 14 (600) (21000) [.ref c, .ref r] h (fun r0 h2 => ∃ v g2, r0 = some (.int v) ∧ cdK 2 g f = 0 ∧ CHG 2 g f v g2 ∧ (∃ D2, RW G h2 r D2 g2 ∧ RO G h0 r D2 g2) ∧ Fr (fH h0) h h2) (CFy G h0 h (cdK 2 g f) (kdK 2)) := by
  refine CtX.of (by decide) (Nat.le_of_ble_eq_true rfl) (cat1 rfl) (fun X hXl F HT => ?_)
  subst hXl
  refine V_aload_n (i := 0) F dX7_applyTo_0 rfl rfl ?_
  refine V_getf F dX7_applyTo_1 fc_X7_7_X7 (.inl hc) rfl ?_
  refine V_astore_n (i := 2) F dX7_applyTo_4 rfl (Nat.le_of_ble_eq_true rfl) (Nat.le_of_ble_eq_true rfl) ?_
  refine V_iconst (v := -1) F dX7_applyTo_5 rfl ?_
  refine V_istore_n (i := 3) F dX7_applyTo_6 rfl (Nat.le_of_ble_eq_true rfl) (Nat.le_of_ble_eq_true rfl) ?_
  refine V_aload_n (i := 2) F dX7_applyTo_7 rfl rfl ?_
  refine V_callV (st := []) (nn := 0) F dX7_applyTo_8 lk_X7_17 (ct_J6_hashH hS) hS.str.isC rfl rfl (Nat.le_of_ble_eq_true rfl) (Nat.le_of_ble_eq_true rfl) (Nat.le_of_ble_eq_true rfl) (by omega) (by omega) ?_
  refine PRk ?_
  refine V_lookup (tgt := 120) F dX7_applyTo_11 (by decide) (off := 109) (by rw [hx_stop]; decide +kernel) (by decide) ?_
  refine V_aload_n (i := 2) F dX7_applyTo_120 rfl rfl ?_
  refine V_ldcS F dX7_applyTo_121 q2430 ?_
  intro w1 hGw1
  refine V_callV (st := []) (nn := 1) F dX7_applyTo_123 lk_X7_25 (ct_J6_equals hS.str (hGw1.str (asc_of (by decide +kernel)) (by decide +kernel))) hS.str.isC rfl rfl (Nat.le_of_ble_eq_true rfl) (Nat.le_of_ble_eq_true rfl) (Nat.le_of_ble_eq_true rfl) (by omega) (by omega) ?_
  refine PRk ?_
  refine V_if_eqN (tgt := 218) F dX7_applyTo_126 (by decide) (by omega) (fun c_126 => absurd c_126 (by decide)) (fun c_126 => ?_)
  refine V_iconst (v := nI 2) F dX7_applyTo_129 rfl ?_
  refine V_istore_n (i := 3) F dX7_applyTo_130 rfl (Nat.le_of_ble_eq_true rfl) (Nat.le_of_ble_eq_true rfl) ?_
  refine V_goto (tgt := 218) F dX7_applyTo_131 (by decide) ?_
  refine V_iload_n (i := 3) F dX7_applyTo_218 rfl rfl ?_
  refine V_tableIn (tgt := 298) (off := 79) F dX7_applyTo_219 (by decide) (by decide) (by decide +kernel) (by decide) ?_
  refine V_aload_n (i := 1) F dX7_applyTo_298 rfl rfl ?_
  refine V_aload_n (i := 0) F dX7_applyTo_299 rfl rfl ?_
  refine V_iconst (v := nI 0) F dX7_applyTo_300 rfl ?_
  refine V_callV (st := [.ref (r)]) (nn := 1) F dX7_applyTo_301 lk_X7_45 (ct_X7_at (k := 0) hc har (Nat.lt_of_lt_of_le (by decide) hnA) hnB) ⟨6, _, _, _, rfl, (.inl hc)⟩ rfl rfl (Nat.le_of_ble_eq_true rfl) (Nat.le_of_ble_eq_true rfl) (Nat.le_of_ble_eq_true rfl) (by omega) (by omega) ?_
  refine PRk ?_
  refine V_aload_n (i := 0) F dX7_applyTo_304 rfl rfl ?_
  refine V_iconst (v := nI 1) F dX7_applyTo_305 rfl ?_
  refine V_callV (st := [.int (f 0), .ref (r)]) (nn := 1) F dX7_applyTo_306 lk_X7_45 (ct_X7_at (k := 1) hc har (Nat.lt_of_lt_of_le (by decide) hnA) hnB) ⟨6, _, _, _, rfl, (.inl hc)⟩ rfl rfl (Nat.le_of_ble_eq_true rfl) (Nat.le_of_ble_eq_true rfl) (Nat.le_of_ble_eq_true rfl) (by omega) (by omega) ?_
  refine PRk ?_
  refine V_aload_n (i := 0) F dX7_applyTo_309 rfl rfl ?_
  refine V_iconst (v := nI 2) F dX7_applyTo_310 rfl ?_
  refine V_callV (st := [.int (f 1), .int (f 0), .ref (r)]) (nn := 1) F dX7_applyTo_311 lk_X7_45 (ct_X7_at (k := 2) hc har (Nat.lt_of_lt_of_le (by decide) hnA) hnB) ⟨6, _, _, _, rfl, (.inl hc)⟩ rfl rfl (Nat.le_of_ble_eq_true rfl) (Nat.le_of_ble_eq_true rfl) (Nat.le_of_ble_eq_true rfl) (by omega) (by omega) ?_
  refine PRk ?_
  refine V_aload_n (i := 0) F dX7_applyTo_314 rfl rfl ?_
  refine V_iconst (v := nI 3) F dX7_applyTo_315 rfl ?_
  refine V_callV (st := [.int (f 2), .int (f 1), .int (f 0), .ref (r)]) (nn := 1) F dX7_applyTo_316 lk_X7_45 (ct_X7_at (k := 3) hc har (Nat.lt_of_lt_of_le (by decide) hnA) hnB) ⟨6, _, _, _, rfl, (.inl hc)⟩ rfl rfl (Nat.le_of_ble_eq_true rfl) (Nat.le_of_ble_eq_true rfl) (Nat.le_of_ble_eq_true rfl) (by omega) (by omega) ?_
  refine PRk ?_
  refine V_xcV (st := []) (nn := 4) F dX7_applyTo_319 lk_X7_58 (ct_RW_extendTrain (dem_holds hl0) hW hO hV.W ) ⟨2, _, _, _, rfl, .inl hW.1⟩ rfl rfl (Nat.le_of_ble_eq_true rfl) (Nat.le_of_ble_eq_true rfl) (Nat.le_of_ble_eq_true rfl) (by omega) (by omega) ?_ ?_
  · rintro _ h3 ⟨rfl, hcd, ⟨D3, hW3, hO3⟩, hx3⟩
    exact VV.rx (V_iret F dX7_applyTo_322 rfl (by omega) (by omega) ⟨_, _, rfl, hcd, (by unfold CHG; exact ⟨rfl, rfl⟩), ⟨D3, hW3, hO3⟩, hx3⟩)
  · exact fun E q h3 hp => V_xout F (HT _) (by omega) (by omega) (CFy.of Fr.rf hp)
theorem ct_X7_apply3 {G : GG} {l : Launch} {h : AH} {h0 : AH} {r ti tia : Nat} {tf : Nat → Nat} {tt tl ta : Nat} {x : Nat → Nat} {A : Nat → Nat → Nat} {sm smc : Nat} {sA sK sV : Nat → Nat} {bm bmc : Nat} {bA bK bV : Nat → Nat} {g : Nat → Nat} {c wa ar nA n : Nat} {f : Nat → Int32}  (hl0 : l.stackTraces = false) (hc : h c = some (.inr (6, [.ref wa, .ref ar]))) (har : h ar = some (.inl (G.2.1 0, nA, .inl f))) (hnA : 2 ≤ nA) (hnB : nA < 100) (hS : STH G h wa (txl "late")) (hW : RW G h r ((ti, tia, tf), (tt, tl, ta, x, A), (sm, smc, sA, sK, sV), (bm, bmc, bA, bK, bV)) g) (hO : RO G h0 r ((ti, tia, tf), (tt, tl, ta, x, A), (sm, smc, sA, sK, sV), (bm, bmc, bA, bK, bV)) g) (hV : INV n g) (hF0 : Fr nM h0 h)  : CtX G l yX7_applyTo cX7_applyTo 4 (some .int) 14 (600) (21000) [.ref c, .ref r] h (fun r0 h2 => ∃ v g2, r0 = some (.int v) ∧ cdK 3 g f = 0 ∧ CHG 3 g f v g2 ∧ (∃ D2, RW G h2 r D2 g2 ∧ RO G h0 r D2 g2) ∧ Fr (fH h0) h h2) (CFy G h0 h (cdK 3 g f) (kdK 3)) := by
  refine CtX.of (by decide) (Nat.le_of_ble_eq_true rfl) (cat1 rfl) (fun X hXl F HT => ?_)
  subst hXl
  refine V_aload_n (i := 0) F dX7_applyTo_0 rfl rfl ?_
  refine V_getf F dX7_applyTo_1 fc_X7_7_X7 (.inl hc) rfl ?_
  refine V_astore_n (i := 2) F dX7_applyTo_4 rfl (Nat.le_of_ble_eq_true rfl) (Nat.le_of_ble_eq_true rfl) ?_
  refine V_iconst (v := -1) F dX7_applyTo_5 rfl ?_
  refine V_istore_n (i := 3) F dX7_applyTo_6 rfl (Nat.le_of_ble_eq_true rfl) (Nat.le_of_ble_eq_true rfl) ?_
  refine V_aload_n (i := 2) F dX7_applyTo_7 rfl rfl ?_
  refine V_callV (st := []) (nn := 0) F dX7_applyTo_8 lk_X7_17 (ct_J6_hashH hS) hS.str.isC rfl rfl (Nat.le_of_ble_eq_true rfl) (Nat.le_of_ble_eq_true rfl) (Nat.le_of_ble_eq_true rfl) (by omega) (by omega) ?_
  refine PRk ?_
  refine V_lookup (tgt := 134) F dX7_applyTo_11 (by decide) (off := 123) (by rw [hx_late]; decide +kernel) (by decide) ?_
  refine V_aload_n (i := 2) F dX7_applyTo_134 rfl rfl ?_
  refine V_ldcS F dX7_applyTo_135 q2431 ?_
  intro w1 hGw1
  refine V_callV (st := []) (nn := 1) F dX7_applyTo_137 lk_X7_25 (ct_J6_equals hS.str (hGw1.str (asc_of (by decide +kernel)) (by decide +kernel))) hS.str.isC rfl rfl (Nat.le_of_ble_eq_true rfl) (Nat.le_of_ble_eq_true rfl) (Nat.le_of_ble_eq_true rfl) (by omega) (by omega) ?_
  refine PRk ?_
  refine V_if_eqN (tgt := 218) F dX7_applyTo_140 (by decide) (by omega) (fun c_140 => absurd c_140 (by decide)) (fun c_140 => ?_)
  refine V_iconst (v := nI 3) F dX7_applyTo_143 rfl ?_
  refine V_istore_n (i := 3) F dX7_applyTo_144 rfl (Nat.le_of_ble_eq_true rfl) (Nat.le_of_ble_eq_true rfl) ?_
  refine V_goto (tgt := 218) F dX7_applyTo_145 (by decide) ?_
  refine V_iload_n (i := 3) F dX7_applyTo_218 rfl rfl ?_
  refine V_tableIn (tgt := 323) (off := 104) F dX7_applyTo_219 (by decide) (by decide) (by decide +kernel) (by decide) ?_
  refine V_aload_n (i := 1) F dX7_applyTo_323 rfl rfl ?_
  refine V_aload_n (i := 0) F dX7_applyTo_324 rfl rfl ?_
  refine V_iconst (v := nI 0) F dX7_applyTo_325 rfl ?_
  refine V_callV (st := [.ref (r)]) (nn := 1) F dX7_applyTo_326 lk_X7_45 (ct_X7_at (k := 0) hc har (Nat.lt_of_lt_of_le (by decide) hnA) hnB) ⟨6, _, _, _, rfl, (.inl hc)⟩ rfl rfl (Nat.le_of_ble_eq_true rfl) (Nat.le_of_ble_eq_true rfl) (Nat.le_of_ble_eq_true rfl) (by omega) (by omega) ?_
  refine PRk ?_
  refine V_aload_n (i := 0) F dX7_applyTo_329 rfl rfl ?_
  refine V_iconst (v := nI 1) F dX7_applyTo_330 rfl ?_
  refine V_callV (st := [.int (f 0), .ref (r)]) (nn := 1) F dX7_applyTo_331 lk_X7_45 (ct_X7_at (k := 1) hc har (Nat.lt_of_lt_of_le (by decide) hnA) hnB) ⟨6, _, _, _, rfl, (.inl hc)⟩ rfl rfl (Nat.le_of_ble_eq_true rfl) (Nat.le_of_ble_eq_true rfl) (Nat.le_of_ble_eq_true rfl) (by omega) (by omega) ?_
  refine PRk ?_
  refine V_xcV (st := []) (nn := 2) F dX7_applyTo_334 lk_X7_62 (ct_RW_delayTrain (dem_holds hl0) hW hO hV.W ) ⟨2, _, _, _, rfl, .inl hW.1⟩ rfl rfl (Nat.le_of_ble_eq_true rfl) (Nat.le_of_ble_eq_true rfl) (Nat.le_of_ble_eq_true rfl) (by omega) (by omega) ?_ ?_
  · rintro _ h3 ⟨rfl, hcd, ⟨D3, hW3, hO3⟩, hx3⟩
    exact VV.rx (V_iret F dX7_applyTo_337 rfl (by omega) (by omega) ⟨_, _, rfl, hcd, (by unfold CHG; exact ⟨rfl, rfl⟩), ⟨D3, hW3, hO3⟩, hx3⟩)
  · exact fun E q h3 hp => V_xout F (HT _) (by omega) (by omega) (CFy.of Fr.rf hp)
theorem ct_X7_apply4 {G : GG} {l : Launch} {h : AH} {h0 : AH} {r ti tia : Nat} {tf : Nat → Nat} {tt tl ta : Nat} {x : Nat → Nat} {A : Nat → Nat → Nat} {sm smc : Nat} {sA sK sV : Nat → Nat} {bm bmc : Nat} {bA bK bV : Nat → Nat} {g : Nat → Nat} {c wa ar nA n : Nat} {f : Nat → Int32}  (hl0 : l.stackTraces = false) (hc : h c = some (.inr (6, [.ref wa, .ref ar]))) (har : h ar = some (.inl (G.2.1 0, nA, .inl f))) (hnA : 3 ≤ nA) (hnB : nA < 100) (hS : STH G h wa (txl "case")) (hW : RW G h r ((ti, tia, tf), (tt, tl, ta, x, A), (sm, smc, sA, sK, sV), (bm, bmc, bA, bK, bV)) g) (hO : RO G h0 r ((ti, tia, tf), (tt, tl, ta, x, A), (sm, smc, sA, sK, sV), (bm, bmc, bA, bK, bV)) g) (hV : INV n g) (hF0 : Fr nM h0 h)  : CtX G l yX7_applyTo cX7_applyTo 4 (some .int) 14 (600) (21000) [.ref c, .ref r] h (fun r0 h2 => ∃ v g2, r0 = some (.int v) ∧ cdK 4 g f = 0 ∧ CHG 4 g f v g2 ∧ (∃ D2, RW G h2 r D2 g2 ∧ RO G h0 r D2 g2) ∧ Fr (fH h0) h h2) (CFy G h0 h (cdK 4 g f) (kdK 4)) := by
  refine CtX.of (by decide) (Nat.le_of_ble_eq_true rfl) (cat1 rfl) (fun X hXl F HT => ?_)
  subst hXl
  refine V_aload_n (i := 0) F dX7_applyTo_0 rfl rfl ?_
  refine V_getf F dX7_applyTo_1 fc_X7_7_X7 (.inl hc) rfl ?_
  refine V_astore_n (i := 2) F dX7_applyTo_4 rfl (Nat.le_of_ble_eq_true rfl) (Nat.le_of_ble_eq_true rfl) ?_
  refine V_iconst (v := -1) F dX7_applyTo_5 rfl ?_
  refine V_istore_n (i := 3) F dX7_applyTo_6 rfl (Nat.le_of_ble_eq_true rfl) (Nat.le_of_ble_eq_true rfl) ?_
  refine V_aload_n (i := 2) F dX7_applyTo_7 rfl rfl ?_
  refine V_callV (st := []) (nn := 0) F dX7_applyTo_8 lk_X7_17 (ct_J6_hashH hS) hS.str.isC rfl rfl (Nat.le_of_ble_eq_true rfl) (Nat.le_of_ble_eq_true rfl) (Nat.le_of_ble_eq_true rfl) (by omega) (by omega) ?_
  refine PRk ?_
  refine V_lookup (tgt := 148) F dX7_applyTo_11 (by decide) (off := 137) (by rw [hx_case]; decide +kernel) (by decide) ?_
  refine V_aload_n (i := 2) F dX7_applyTo_148 rfl rfl ?_
  refine V_ldcS F dX7_applyTo_149 q2432 ?_
  intro w1 hGw1
  refine V_callV (st := []) (nn := 1) F dX7_applyTo_151 lk_X7_25 (ct_J6_equals hS.str (hGw1.str (asc_of (by decide +kernel)) (by decide +kernel))) hS.str.isC rfl rfl (Nat.le_of_ble_eq_true rfl) (Nat.le_of_ble_eq_true rfl) (Nat.le_of_ble_eq_true rfl) (by omega) (by omega) ?_
  refine PRk ?_
  refine V_if_eqN (tgt := 218) F dX7_applyTo_154 (by decide) (by omega) (fun c_154 => absurd c_154 (by decide)) (fun c_154 => ?_)
  refine V_iconst (v := nI 4) F dX7_applyTo_157 rfl ?_
  refine V_istore_n (i := 3) F dX7_applyTo_158 rfl (Nat.le_of_ble_eq_true rfl) (Nat.le_of_ble_eq_true rfl) ?_
  refine V_goto (tgt := 218) F dX7_applyTo_159 (by decide) ?_
  refine V_iload_n (i := 3) F dX7_applyTo_218 rfl rfl ?_
  refine V_tableIn (tgt := 338) (off := 119) F dX7_applyTo_219 (by decide) (by decide) (by decide +kernel) (by decide) ?_
  refine V_aload_n (i := 1) F dX7_applyTo_338 rfl rfl ?_
  refine V_aload_n (i := 0) F dX7_applyTo_339 rfl rfl ?_
  refine V_iconst (v := nI 0) F dX7_applyTo_340 rfl ?_
  refine V_callV (st := [.ref (r)]) (nn := 1) F dX7_applyTo_341 lk_X7_45 (ct_X7_at (k := 0) hc har (Nat.lt_of_lt_of_le (by decide) hnA) hnB) ⟨6, _, _, _, rfl, (.inl hc)⟩ rfl rfl (Nat.le_of_ble_eq_true rfl) (Nat.le_of_ble_eq_true rfl) (Nat.le_of_ble_eq_true rfl) (by omega) (by omega) ?_
  refine PRk ?_
  refine V_aload_n (i := 0) F dX7_applyTo_344 rfl rfl ?_
  refine V_iconst (v := nI 1) F dX7_applyTo_345 rfl ?_
  refine V_callV (st := [.int (f 0), .ref (r)]) (nn := 1) F dX7_applyTo_346 lk_X7_45 (ct_X7_at (k := 1) hc har (Nat.lt_of_lt_of_le (by decide) hnA) hnB) ⟨6, _, _, _, rfl, (.inl hc)⟩ rfl rfl (Nat.le_of_ble_eq_true rfl) (Nat.le_of_ble_eq_true rfl) (Nat.le_of_ble_eq_true rfl) (by omega) (by omega) ?_
  refine PRk ?_
  refine V_aload_n (i := 0) F dX7_applyTo_349 rfl rfl ?_
  refine V_iconst (v := nI 2) F dX7_applyTo_350 rfl ?_
  refine V_callV (st := [.int (f 1), .int (f 0), .ref (r)]) (nn := 1) F dX7_applyTo_351 lk_X7_45 (ct_X7_at (k := 2) hc har (Nat.lt_of_lt_of_le (by decide) hnA) hnB) ⟨6, _, _, _, rfl, (.inl hc)⟩ rfl rfl (Nat.le_of_ble_eq_true rfl) (Nat.le_of_ble_eq_true rfl) (Nat.le_of_ble_eq_true rfl) (by omega) (by omega) ?_
  refine PRk ?_
  refine V_xcV (st := []) (nn := 3) F dX7_applyTo_354 lk_X7_66 (ct_RW_addSuitcase (dem_holds hl0) hW hO hV.W hF0 hV.nx) ⟨2, _, _, _, rfl, .inl hW.1⟩ rfl rfl (Nat.le_of_ble_eq_true rfl) (Nat.le_of_ble_eq_true rfl) (Nat.le_of_ble_eq_true rfl) (by omega) (by omega) ?_ ?_
  · rintro _ h3 ⟨rfl, hcd, ⟨D3, hW3, hO3⟩, hx3⟩
    exact VV.rx (V_iret F dX7_applyTo_357 rfl (by omega) (by omega) ⟨_, _, rfl, hcd, (by unfold CHG; exact ⟨rfl, rfl⟩), ⟨D3, hW3, hO3⟩, hx3⟩)
  · exact fun E q h3 hp => V_xout F (HT _) (by omega) (by omega) (CFy.of Fr.rf hp)
theorem ct_X7_apply5 {G : GG} {l : Launch} {h : AH} {h0 : AH} {r ti tia : Nat} {tf : Nat → Nat} {tt tl ta : Nat} {x : Nat → Nat} {A : Nat → Nat → Nat} {sm smc : Nat} {sA sK sV : Nat → Nat} {bm bmc : Nat} {bA bK bV : Nat → Nat} {g : Nat → Nat} {c wa ar nA n : Nat} {f : Nat → Int32}  (hl0 : l.stackTraces = false) (hc : h c = some (.inr (6, [.ref wa, .ref ar]))) (har : h ar = some (.inl (G.2.1 0, nA, .inl f))) (hnA : 2 ≤ nA) (hnB : nA < 100) (hS : STH G h wa (txl "label")) (hW : RW G h r ((ti, tia, tf), (tt, tl, ta, x, A), (sm, smc, sA, sK, sV), (bm, bmc, bA, bK, bV)) g) (hO : RO G h0 r ((ti, tia, tf), (tt, tl, ta, x, A), (sm, smc, sA, sK, sV), (bm, bmc, bA, bK, bV)) g) (hV : INV n g) (hF0 : Fr nM h0 h)  : CtX G l yX7_applyTo cX7_applyTo 4 (some .int) 14 (600) (21000) [.ref c, .ref r] h (fun r0 h2 => ∃ v g2, r0 = some (.int v) ∧ cdK 5 g f = 0 ∧ CHG 5 g f v g2 ∧ (∃ D2, RW G h2 r D2 g2 ∧ RO G h0 r D2 g2) ∧ Fr (fH h0) h h2) (CFy G h0 h (cdK 5 g f) (kdK 5)) := by
  refine CtX.of (by decide) (Nat.le_of_ble_eq_true rfl) (cat1 rfl) (fun X hXl F HT => ?_)
  subst hXl
  refine V_aload_n (i := 0) F dX7_applyTo_0 rfl rfl ?_
  refine V_getf F dX7_applyTo_1 fc_X7_7_X7 (.inl hc) rfl ?_
  refine V_astore_n (i := 2) F dX7_applyTo_4 rfl (Nat.le_of_ble_eq_true rfl) (Nat.le_of_ble_eq_true rfl) ?_
  refine V_iconst (v := -1) F dX7_applyTo_5 rfl ?_
  refine V_istore_n (i := 3) F dX7_applyTo_6 rfl (Nat.le_of_ble_eq_true rfl) (Nat.le_of_ble_eq_true rfl) ?_
  refine V_aload_n (i := 2) F dX7_applyTo_7 rfl rfl ?_
  refine V_callV (st := []) (nn := 0) F dX7_applyTo_8 lk_X7_17 (ct_J6_hashH hS) hS.str.isC rfl rfl (Nat.le_of_ble_eq_true rfl) (Nat.le_of_ble_eq_true rfl) (Nat.le_of_ble_eq_true rfl) (by omega) (by omega) ?_
  refine PRk ?_
  refine V_lookup (tgt := 162) F dX7_applyTo_11 (by decide) (off := 151) (by rw [hx_label]; decide +kernel) (by decide) ?_
  refine V_aload_n (i := 2) F dX7_applyTo_162 rfl rfl ?_
  refine V_ldcS F dX7_applyTo_163 q2433 ?_
  intro w1 hGw1
  refine V_callV (st := []) (nn := 1) F dX7_applyTo_165 lk_X7_25 (ct_J6_equals hS.str (hGw1.str (asc_of (by decide +kernel)) (by decide +kernel))) hS.str.isC rfl rfl (Nat.le_of_ble_eq_true rfl) (Nat.le_of_ble_eq_true rfl) (Nat.le_of_ble_eq_true rfl) (by omega) (by omega) ?_
  refine PRk ?_
  refine V_if_eqN (tgt := 218) F dX7_applyTo_168 (by decide) (by omega) (fun c_168 => absurd c_168 (by decide)) (fun c_168 => ?_)
  refine V_iconst (v := nI 5) F dX7_applyTo_171 rfl ?_
  refine V_istore_n (i := 3) F dX7_applyTo_172 rfl (Nat.le_of_ble_eq_true rfl) (Nat.le_of_ble_eq_true rfl) ?_
  refine V_goto (tgt := 218) F dX7_applyTo_173 (by decide) ?_
  refine V_iload_n (i := 3) F dX7_applyTo_218 rfl rfl ?_
  refine V_tableIn (tgt := 358) (off := 139) F dX7_applyTo_219 (by decide) (by decide) (by decide +kernel) (by decide) ?_
  refine V_aload_n (i := 1) F dX7_applyTo_358 rfl rfl ?_
  refine V_aload_n (i := 0) F dX7_applyTo_359 rfl rfl ?_
  refine V_iconst (v := nI 0) F dX7_applyTo_360 rfl ?_
  refine V_callV (st := [.ref (r)]) (nn := 1) F dX7_applyTo_361 lk_X7_45 (ct_X7_at (k := 0) hc har (Nat.lt_of_lt_of_le (by decide) hnA) hnB) ⟨6, _, _, _, rfl, (.inl hc)⟩ rfl rfl (Nat.le_of_ble_eq_true rfl) (Nat.le_of_ble_eq_true rfl) (Nat.le_of_ble_eq_true rfl) (by omega) (by omega) ?_
  refine PRk ?_
  refine V_aload_n (i := 0) F dX7_applyTo_364 rfl rfl ?_
  refine V_iconst (v := nI 1) F dX7_applyTo_365 rfl ?_
  refine V_callV (st := [.int (f 0), .ref (r)]) (nn := 1) F dX7_applyTo_366 lk_X7_45 (ct_X7_at (k := 1) hc har (Nat.lt_of_lt_of_le (by decide) hnA) hnB) ⟨6, _, _, _, rfl, (.inl hc)⟩ rfl rfl (Nat.le_of_ble_eq_true rfl) (Nat.le_of_ble_eq_true rfl) (Nat.le_of_ble_eq_true rfl) (by omega) (by omega) ?_
  refine PRk ?_
  refine V_xcV (st := []) (nn := 2) F dX7_applyTo_369 lk_X7_69 (ct_RW_relabel (dem_holds hl0) hW hO hV.W hV.id) ⟨2, _, _, _, rfl, .inl hW.1⟩ rfl rfl (Nat.le_of_ble_eq_true rfl) (Nat.le_of_ble_eq_true rfl) (Nat.le_of_ble_eq_true rfl) (by omega) (by omega) ?_ ?_
  · rintro _ h3 ⟨hcd, kk, hfd, rfl, ⟨D3, hW3, hO3⟩, hx3⟩
    exact VV.rx (V_iret F dX7_applyTo_372 rfl (by omega) (by omega) ⟨_, _, rfl, hcd, (by unfold CHG; exact ⟨kk, hfd, rfl, rfl⟩), ⟨D3, hW3, hO3⟩, hx3⟩)
  · exact fun E q h3 hp => V_xout F (HT _) (by omega) (by omega) (CFy.of Fr.rf hp)
theorem ct_X7_apply6 {G : GG} {l : Launch} {h : AH} {h0 : AH} {r ti tia : Nat} {tf : Nat → Nat} {tt tl ta : Nat} {x : Nat → Nat} {A : Nat → Nat → Nat} {sm smc : Nat} {sA sK sV : Nat → Nat} {bm bmc : Nat} {bA bK bV : Nat → Nat} {g : Nat → Nat} {c wa ar nA n : Nat} {f : Nat → Int32}  (hl0 : l.stackTraces = false) (hc : h c = some (.inr (6, [.ref wa, .ref ar]))) (har : h ar = some (.inl (G.2.1 0, nA, .inl f))) (hnA : 1 ≤ nA) (hnB : nA < 100) (hS : STH G h wa (txl "send")) (hW : RW G h r ((ti, tia, tf), (tt, tl, ta, x, A), (sm, smc, sA, sK, sV), (bm, bmc, bA, bK, bV)) g) (hO : RO G h0 r ((ti, tia, tf), (tt, tl, ta, x, A), (sm, smc, sA, sK, sV), (bm, bmc, bA, bK, bV)) g) (hV : INV n g) (hF0 : Fr nM h0 h)  : CtX G l yX7_applyTo cX7_applyTo 4 (some .int) 14 (600) (21000) [.ref c, .ref r] h (fun r0 h2 => ∃ v g2, r0 = some (.int v) ∧ cdK 6 g f = 0 ∧ CHG 6 g f v g2 ∧ (∃ D2, RW G h2 r D2 g2 ∧ RO G h0 r D2 g2) ∧ Fr (fH h0) h h2) (CFy G h0 h (cdK 6 g f) (kdK 6)) := by
  refine CtX.of (by decide) (Nat.le_of_ble_eq_true rfl) (cat1 rfl) (fun X hXl F HT => ?_)
  subst hXl
  refine V_aload_n (i := 0) F dX7_applyTo_0 rfl rfl ?_
  refine V_getf F dX7_applyTo_1 fc_X7_7_X7 (.inl hc) rfl ?_
  refine V_astore_n (i := 2) F dX7_applyTo_4 rfl (Nat.le_of_ble_eq_true rfl) (Nat.le_of_ble_eq_true rfl) ?_
  refine V_iconst (v := -1) F dX7_applyTo_5 rfl ?_
  refine V_istore_n (i := 3) F dX7_applyTo_6 rfl (Nat.le_of_ble_eq_true rfl) (Nat.le_of_ble_eq_true rfl) ?_
  refine V_aload_n (i := 2) F dX7_applyTo_7 rfl rfl ?_
  refine V_callV (st := []) (nn := 0) F dX7_applyTo_8 lk_X7_17 (ct_J6_hashH hS) hS.str.isC rfl rfl (Nat.le_of_ble_eq_true rfl) (Nat.le_of_ble_eq_true rfl) (Nat.le_of_ble_eq_true rfl) (by omega) (by omega) ?_
  refine PRk ?_
  refine V_lookup (tgt := 176) F dX7_applyTo_11 (by decide) (off := 165) (by rw [hx_send]; decide +kernel) (by decide) ?_
  refine V_aload_n (i := 2) F dX7_applyTo_176 rfl rfl ?_
  refine V_ldcS F dX7_applyTo_177 q2434 ?_
  intro w1 hGw1
  refine V_callV (st := []) (nn := 1) F dX7_applyTo_179 lk_X7_25 (ct_J6_equals hS.str (hGw1.str (asc_of (by decide +kernel)) (by decide +kernel))) hS.str.isC rfl rfl (Nat.le_of_ble_eq_true rfl) (Nat.le_of_ble_eq_true rfl) (Nat.le_of_ble_eq_true rfl) (by omega) (by omega) ?_
  refine PRk ?_
  refine V_if_eqN (tgt := 218) F dX7_applyTo_182 (by decide) (by omega) (fun c_182 => absurd c_182 (by decide)) (fun c_182 => ?_)
  refine V_bipush (v := nI 6) F dX7_applyTo_185 rfl ?_
  refine V_istore_n (i := 3) F dX7_applyTo_187 rfl (Nat.le_of_ble_eq_true rfl) (Nat.le_of_ble_eq_true rfl) ?_
  refine V_goto (tgt := 218) F dX7_applyTo_188 (by decide) ?_
  refine V_iload_n (i := 3) F dX7_applyTo_218 rfl rfl ?_
  refine V_tableIn (tgt := 373) (off := 154) F dX7_applyTo_219 (by decide) (by decide) (by decide +kernel) (by decide) ?_
  refine V_aload_n (i := 1) F dX7_applyTo_373 rfl rfl ?_
  refine V_aload_n (i := 0) F dX7_applyTo_374 rfl rfl ?_
  refine V_iconst (v := nI 0) F dX7_applyTo_375 rfl ?_
  refine V_callV (st := [.ref (r)]) (nn := 1) F dX7_applyTo_376 lk_X7_45 (ct_X7_at (k := 0) hc har (Nat.lt_of_lt_of_le (by decide) hnA) hnB) ⟨6, _, _, _, rfl, (.inl hc)⟩ rfl rfl (Nat.le_of_ble_eq_true rfl) (Nat.le_of_ble_eq_true rfl) (Nat.le_of_ble_eq_true rfl) (by omega) (by omega) ?_
  refine PRk ?_
  refine V_xcV (st := []) (nn := 1) F dX7_applyTo_379 lk_X7_72 (ct_RW_send (dem_holds hl0) hW hO hV.W hV.id hV.T hV.L hV.b hV.cs) ⟨2, _, _, _, rfl, .inl hW.1⟩ rfl rfl (Nat.le_of_ble_eq_true rfl) (Nat.le_of_ble_eq_true rfl) (Nat.le_of_ble_eq_true rfl) (by omega) (by omega) ?_ ?_
  · rintro _ h3 ⟨hcd, kk, e3, R3, hfd, hAR, he3, rfl, ⟨D3, hW3, hO3⟩, hx3⟩
    exact VV.rx (V_iret F dX7_applyTo_382 rfl (by omega) (by omega) ⟨_, _, rfl, hcd, (by unfold CHG; exact ⟨kk, e3, R3, hfd, hAR, he3, rfl, rfl⟩), ⟨D3, hW3, hO3⟩, hx3⟩)
  · exact fun E q h3 hp => V_xout F (HT _) (by omega) (by omega) (CFy.of Fr.rf hp)
theorem ct_X7_apply7 {G : GG} {l : Launch} {h : AH} {h0 : AH} {r ti tia : Nat} {tf : Nat → Nat} {tt tl ta : Nat} {x : Nat → Nat} {A : Nat → Nat → Nat} {sm smc : Nat} {sA sK sV : Nat → Nat} {bm bmc : Nat} {bA bK bV : Nat → Nat} {g : Nat → Nat} {c wa ar nA n : Nat} {f : Nat → Int32}  (hl0 : l.stackTraces = false) (hc : h c = some (.inr (6, [.ref wa, .ref ar]))) (har : h ar = some (.inl (G.2.1 0, nA, .inl f))) (hnA : 1 ≤ nA) (hnB : nA < 100) (hS : STH G h wa (txl "take")) (hW : RW G h r ((ti, tia, tf), (tt, tl, ta, x, A), (sm, smc, sA, sK, sV), (bm, bmc, bA, bK, bV)) g) (hO : RO G h0 r ((ti, tia, tf), (tt, tl, ta, x, A), (sm, smc, sA, sK, sV), (bm, bmc, bA, bK, bV)) g) (hV : INV n g) (hF0 : Fr nM h0 h)  : CtX G l yX7_applyTo cX7_applyTo 4 (some .int) 14 (600) (21000) [.ref c, .ref r] h (fun r0 h2 => ∃ v g2, r0 = some (.int v) ∧ cdK 7 g f = 0 ∧ CHG 7 g f v g2 ∧ (∃ D2, RW G h2 r D2 g2 ∧ RO G h0 r D2 g2) ∧ Fr (fH h0) h h2) (CFy G h0 h (cdK 7 g f) (kdK 7)) := by
  refine CtX.of (by decide) (Nat.le_of_ble_eq_true rfl) (cat1 rfl) (fun X hXl F HT => ?_)
  subst hXl
  refine V_aload_n (i := 0) F dX7_applyTo_0 rfl rfl ?_
  refine V_getf F dX7_applyTo_1 fc_X7_7_X7 (.inl hc) rfl ?_
  refine V_astore_n (i := 2) F dX7_applyTo_4 rfl (Nat.le_of_ble_eq_true rfl) (Nat.le_of_ble_eq_true rfl) ?_
  refine V_iconst (v := -1) F dX7_applyTo_5 rfl ?_
  refine V_istore_n (i := 3) F dX7_applyTo_6 rfl (Nat.le_of_ble_eq_true rfl) (Nat.le_of_ble_eq_true rfl) ?_
  refine V_aload_n (i := 2) F dX7_applyTo_7 rfl rfl ?_
  refine V_callV (st := []) (nn := 0) F dX7_applyTo_8 lk_X7_17 (ct_J6_hashH hS) hS.str.isC rfl rfl (Nat.le_of_ble_eq_true rfl) (Nat.le_of_ble_eq_true rfl) (Nat.le_of_ble_eq_true rfl) (by omega) (by omega) ?_
  refine PRk ?_
  refine V_lookup (tgt := 191) F dX7_applyTo_11 (by decide) (off := 180) (by rw [hx_take]; decide +kernel) (by decide) ?_
  refine V_aload_n (i := 2) F dX7_applyTo_191 rfl rfl ?_
  refine V_ldcS F dX7_applyTo_192 q2435 ?_
  intro w1 hGw1
  refine V_callV (st := []) (nn := 1) F dX7_applyTo_194 lk_X7_25 (ct_J6_equals hS.str (hGw1.str (asc_of (by decide +kernel)) (by decide +kernel))) hS.str.isC rfl rfl (Nat.le_of_ble_eq_true rfl) (Nat.le_of_ble_eq_true rfl) (Nat.le_of_ble_eq_true rfl) (by omega) (by omega) ?_
  refine PRk ?_
  refine V_if_eqN (tgt := 218) F dX7_applyTo_197 (by decide) (by omega) (fun c_197 => absurd c_197 (by decide)) (fun c_197 => ?_)
  refine V_bipush (v := nI 7) F dX7_applyTo_200 rfl ?_
  refine V_istore_n (i := 3) F dX7_applyTo_202 rfl (Nat.le_of_ble_eq_true rfl) (Nat.le_of_ble_eq_true rfl) ?_
  refine V_goto (tgt := 218) F dX7_applyTo_203 (by decide) ?_
  refine V_iload_n (i := 3) F dX7_applyTo_218 rfl rfl ?_
  refine V_tableIn (tgt := 383) (off := 164) F dX7_applyTo_219 (by decide) (by decide) (by decide +kernel) (by decide) ?_
  refine V_aload_n (i := 1) F dX7_applyTo_383 rfl rfl ?_
  refine V_aload_n (i := 0) F dX7_applyTo_384 rfl rfl ?_
  refine V_iconst (v := nI 0) F dX7_applyTo_385 rfl ?_
  refine V_callV (st := [.ref (r)]) (nn := 1) F dX7_applyTo_386 lk_X7_45 (ct_X7_at (k := 0) hc har (Nat.lt_of_lt_of_le (by decide) hnA) hnB) ⟨6, _, _, _, rfl, (.inl hc)⟩ rfl rfl (Nat.le_of_ble_eq_true rfl) (Nat.le_of_ble_eq_true rfl) (Nat.le_of_ble_eq_true rfl) (by omega) (by omega) ?_
  refine PRk ?_
  refine V_xcV (st := []) (nn := 1) F dX7_applyTo_389 lk_X7_74 (ct_RW_collect (dem_holds hl0) hW hO hV.W hV.id) ⟨2, _, _, _, rfl, .inl hW.1⟩ rfl rfl (Nat.le_of_ble_eq_true rfl) (Nat.le_of_ble_eq_true rfl) (Nat.le_of_ble_eq_true rfl) (by omega) (by omega) ?_ ?_
  · rintro _ h3 ⟨hcd, kk, hfd, rfl, ⟨D3, hW3, hO3⟩, hx3⟩
    exact VV.rx (V_iret F dX7_applyTo_392 rfl (by omega) (by omega) ⟨_, _, rfl, hcd, (by unfold CHG; exact ⟨kk, hfd, rfl, rfl⟩), ⟨D3, hW3, hO3⟩, hx3⟩)
  · exact fun E q h3 hp => V_xout F (HT _) (by omega) (by omega) (CFy.of Fr.rf hp)
theorem ct_X7_apply8 {G : GG} {l : Launch} {h : AH} {h0 : AH} {r ti tia : Nat} {tf : Nat → Nat} {tt tl ta : Nat} {x : Nat → Nat} {A : Nat → Nat → Nat} {sm smc : Nat} {sA sK sV : Nat → Nat} {bm bmc : Nat} {bA bK bV : Nat → Nat} {g : Nat → Nat} {c wa ar nA n : Nat} {f : Nat → Int32}  (hl0 : l.stackTraces = false) (hc : h c = some (.inr (6, [.ref wa, .ref ar]))) (har : h ar = some (.inl (G.2.1 0, nA, .inl f))) (hnA : 3 ≤ nA) (hnB : nA < 100) (hS : STH G h wa (txl "book")) (hW : RW G h r ((ti, tia, tf), (tt, tl, ta, x, A), (sm, smc, sA, sK, sV), (bm, bmc, bA, bK, bV)) g) (hO : RO G h0 r ((ti, tia, tf), (tt, tl, ta, x, A), (sm, smc, sA, sK, sV), (bm, bmc, bA, bK, bV)) g) (hV : INV n g) (hF0 : Fr nM h0 h)  : CtX G l yX7_applyTo cX7_applyTo 4 (some .int) 14 (600) (21000) [.ref c, .ref r] h (fun r0 h2 => ∃ v g2, r0 = some (.int v) ∧ cdK 8 g f = 0 ∧ CHG 8 g f v g2 ∧ (∃ D2, RW G h2 r D2 g2 ∧ RO G h0 r D2 g2) ∧ Fr (fH h0) h h2) (CFy G h0 h (cdK 8 g f) (kdK 8)) := by
  refine CtX.of (by decide) (Nat.le_of_ble_eq_true rfl) (cat1 rfl) (fun X hXl F HT => ?_)
  subst hXl
  refine V_aload_n (i := 0) F dX7_applyTo_0 rfl rfl ?_
  refine V_getf F dX7_applyTo_1 fc_X7_7_X7 (.inl hc) rfl ?_
  refine V_astore_n (i := 2) F dX7_applyTo_4 rfl (Nat.le_of_ble_eq_true rfl) (Nat.le_of_ble_eq_true rfl) ?_
  refine V_iconst (v := -1) F dX7_applyTo_5 rfl ?_
  refine V_istore_n (i := 3) F dX7_applyTo_6 rfl (Nat.le_of_ble_eq_true rfl) (Nat.le_of_ble_eq_true rfl) ?_
  refine V_aload_n (i := 2) F dX7_applyTo_7 rfl rfl ?_
  refine V_callV (st := []) (nn := 0) F dX7_applyTo_8 lk_X7_17 (ct_J6_hashH hS) hS.str.isC rfl rfl (Nat.le_of_ble_eq_true rfl) (Nat.le_of_ble_eq_true rfl) (Nat.le_of_ble_eq_true rfl) (by omega) (by omega) ?_
  refine PRk ?_
  refine V_lookup (tgt := 206) F dX7_applyTo_11 (by decide) (off := 195) (by rw [hx_book]; decide +kernel) (by decide) ?_
  refine V_aload_n (i := 2) F dX7_applyTo_206 rfl rfl ?_
  refine V_ldcS F dX7_applyTo_207 q2436 ?_
  intro w1 hGw1
  refine V_callV (st := []) (nn := 1) F dX7_applyTo_209 lk_X7_25 (ct_J6_equals hS.str (hGw1.str (asc_of (by decide +kernel)) (by decide +kernel))) hS.str.isC rfl rfl (Nat.le_of_ble_eq_true rfl) (Nat.le_of_ble_eq_true rfl) (Nat.le_of_ble_eq_true rfl) (by omega) (by omega) ?_
  refine PRk ?_
  refine V_if_eqN (tgt := 218) F dX7_applyTo_212 (by decide) (by omega) (fun c_212 => absurd c_212 (by decide)) (fun c_212 => ?_)
  refine V_bipush (v := nI 8) F dX7_applyTo_215 rfl ?_
  refine V_istore_n (i := 3) F dX7_applyTo_217 rfl (Nat.le_of_ble_eq_true rfl) (Nat.le_of_ble_eq_true rfl) ?_
  refine V_iload_n (i := 3) F dX7_applyTo_218 rfl rfl ?_
  refine V_tableIn (tgt := 393) (off := 174) F dX7_applyTo_219 (by decide) (by decide) (by decide +kernel) (by decide) ?_
  refine V_aload_n (i := 1) F dX7_applyTo_393 rfl rfl ?_
  refine V_aload_n (i := 0) F dX7_applyTo_394 rfl rfl ?_
  refine V_iconst (v := nI 0) F dX7_applyTo_395 rfl ?_
  refine V_callV (st := [.ref (r)]) (nn := 1) F dX7_applyTo_396 lk_X7_45 (ct_X7_at (k := 0) hc har (Nat.lt_of_lt_of_le (by decide) hnA) hnB) ⟨6, _, _, _, rfl, (.inl hc)⟩ rfl rfl (Nat.le_of_ble_eq_true rfl) (Nat.le_of_ble_eq_true rfl) (Nat.le_of_ble_eq_true rfl) (by omega) (by omega) ?_
  refine PRk ?_
  refine V_aload_n (i := 0) F dX7_applyTo_399 rfl rfl ?_
  refine V_iconst (v := nI 1) F dX7_applyTo_400 rfl ?_
  refine V_callV (st := [.int (f 0), .ref (r)]) (nn := 1) F dX7_applyTo_401 lk_X7_45 (ct_X7_at (k := 1) hc har (Nat.lt_of_lt_of_le (by decide) hnA) hnB) ⟨6, _, _, _, rfl, (.inl hc)⟩ rfl rfl (Nat.le_of_ble_eq_true rfl) (Nat.le_of_ble_eq_true rfl) (Nat.le_of_ble_eq_true rfl) (by omega) (by omega) ?_
  refine PRk ?_
  refine V_aload_n (i := 0) F dX7_applyTo_404 rfl rfl ?_
  refine V_iconst (v := nI 2) F dX7_applyTo_405 rfl ?_
  refine V_callV (st := [.int (f 1), .int (f 0), .ref (r)]) (nn := 1) F dX7_applyTo_406 lk_X7_45 (ct_X7_at (k := 2) hc har (Nat.lt_of_lt_of_le (by decide) hnA) hnB) ⟨6, _, _, _, rfl, (.inl hc)⟩ rfl rfl (Nat.le_of_ble_eq_true rfl) (Nat.le_of_ble_eq_true rfl) (Nat.le_of_ble_eq_true rfl) (by omega) (by omega) ?_
  refine PRk ?_
  refine V_xcV (st := []) (nn := 3) F dX7_applyTo_409 lk_X7_77 (ct_RW_book (dem_holds hl0) hW hO hV.W hF0 hV.L hV.nb) ⟨2, _, _, _, rfl, .inl hW.1⟩ rfl rfl (Nat.le_of_ble_eq_true rfl) (Nat.le_of_ble_eq_true rfl) (Nat.le_of_ble_eq_true rfl) (by omega) (by omega) ?_ ?_
  · rintro _ h3 ⟨rfl, hcd, ⟨D3, hW3, hO3⟩, hx3⟩
    exact VV.rx (V_iret F dX7_applyTo_412 rfl (by omega) (by omega) ⟨_, _, rfl, hcd, (by unfold CHG; exact ⟨rfl, rfl⟩), ⟨D3, hW3, hO3⟩, hx3⟩)
  · exact fun E q h3 hp => V_xout F (HT _) (by omega) (by omega) (CFy.of Fr.rf hp)
theorem ct_X7_apply9 {G : GG} {l : Launch} {h : AH} {h0 : AH} {r ti tia : Nat} {tf : Nat → Nat} {tt tl ta : Nat} {x : Nat → Nat} {A : Nat → Nat → Nat} {sm smc : Nat} {sA sK sV : Nat → Nat} {bm bmc : Nat} {bA bK bV : Nat → Nat} {g : Nat → Nat} {c wa ar nA n : Nat} {f : Nat → Int32}  (hl0 : l.stackTraces = false) (hc : h c = some (.inr (6, [.ref wa, .ref ar]))) (har : h ar = some (.inl (G.2.1 0, nA, .inl f))) (hnA : 1 ≤ nA) (hnB : nA < 100) (hS : STH G h wa (txl "drop")) (hW : RW G h r ((ti, tia, tf), (tt, tl, ta, x, A), (sm, smc, sA, sK, sV), (bm, bmc, bA, bK, bV)) g) (hO : RO G h0 r ((ti, tia, tf), (tt, tl, ta, x, A), (sm, smc, sA, sK, sV), (bm, bmc, bA, bK, bV)) g) (hV : INV n g) (hF0 : Fr nM h0 h)  : CtX G l yX7_applyTo cX7_applyTo 4 (some .int) 14 (600) (21000) [.ref c, .ref r] h (fun r0 h2 => ∃ v g2, r0 = some (.int v) ∧ cdK 9 g f = 0 ∧ CHG 9 g f v g2 ∧ (∃ D2, RW G h2 r D2 g2 ∧ RO G h0 r D2 g2) ∧ Fr (fH h0) h h2) (CFy G h0 h (cdK 9 g f) (kdK 9)) := by
  refine CtX.of (by decide) (Nat.le_of_ble_eq_true rfl) (cat1 rfl) (fun X hXl F HT => ?_)
  subst hXl
  refine V_aload_n (i := 0) F dX7_applyTo_0 rfl rfl ?_
  refine V_getf F dX7_applyTo_1 fc_X7_7_X7 (.inl hc) rfl ?_
  refine V_astore_n (i := 2) F dX7_applyTo_4 rfl (Nat.le_of_ble_eq_true rfl) (Nat.le_of_ble_eq_true rfl) ?_
  refine V_iconst (v := -1) F dX7_applyTo_5 rfl ?_
  refine V_istore_n (i := 3) F dX7_applyTo_6 rfl (Nat.le_of_ble_eq_true rfl) (Nat.le_of_ble_eq_true rfl) ?_
  refine V_aload_n (i := 2) F dX7_applyTo_7 rfl rfl ?_
  refine V_callV (st := []) (nn := 0) F dX7_applyTo_8 lk_X7_17 (ct_J6_hashH hS) hS.str.isC rfl rfl (Nat.le_of_ble_eq_true rfl) (Nat.le_of_ble_eq_true rfl) (Nat.le_of_ble_eq_true rfl) (by omega) (by omega) ?_
  refine PRk ?_
  refine V_lookup (tgt := 218) F dX7_applyTo_11 (by decide) (off := 207) (by rw [hx_drop]; decide +kernel) (by decide) ?_
  refine V_iload_n (i := 3) F dX7_applyTo_218 rfl rfl ?_
  refine V_tableOut (tgt := 413) F dX7_applyTo_219 (by decide) (by decide) ?_
  refine V_aload_n (i := 1) F dX7_applyTo_413 rfl rfl ?_
  refine V_aload_n (i := 0) F dX7_applyTo_414 rfl rfl ?_
  refine V_iconst (v := nI 0) F dX7_applyTo_415 rfl ?_
  refine V_callV (st := [.ref (r)]) (nn := 1) F dX7_applyTo_416 lk_X7_45 (ct_X7_at (k := 0) hc har (Nat.lt_of_lt_of_le (by decide) hnA) hnB) ⟨6, _, _, _, rfl, (.inl hc)⟩ rfl rfl (Nat.le_of_ble_eq_true rfl) (Nat.le_of_ble_eq_true rfl) (Nat.le_of_ble_eq_true rfl) (by omega) (by omega) ?_
  refine PRk ?_
  refine V_xcV (st := []) (nn := 1) F dX7_applyTo_419 lk_X7_79 (ct_RW_cancelBooking (dem_holds hl0) hW hO hV.W hV.bd hV.bv) ⟨2, _, _, _, rfl, .inl hW.1⟩ rfl rfl (Nat.le_of_ble_eq_true rfl) (Nat.le_of_ble_eq_true rfl) (Nat.le_of_ble_eq_true rfl) (by omega) (by omega) ?_ ?_
  · rintro _ h3 ⟨hcd, kk, hfd, rfl, ⟨D3, hW3, hO3⟩, hx3⟩
    exact VV.rx (V_iret F dX7_applyTo_422 rfl (by omega) (by omega) ⟨_, _, rfl, hcd, (by unfold CHG; exact ⟨kk, hfd, rfl, rfl⟩), ⟨D3, hW3, hO3⟩, hx3⟩)
  · exact fun E q h3 hp => V_xout F (HT _) (by omega) (by omega) (CFy.of Fr.rf hp)
theorem ct_X7_applyTo {G : GG} {l : Launch} {h : AH} {h0 : AH} {r ti tia : Nat} {tf : Nat → Nat} {tt tl ta : Nat} {x : Nat → Nat} {A : Nat → Nat → Nat} {sm smc : Nat} {sA sK sV : Nat → Nat} {bm bmc : Nat} {bA bK bV : Nat → Nat} {g : Nat → Nat} {c wa ar nA n k : Nat} {f : Nat → Int32} (hl0 : l.stackTraces = false) (hk : k < 10) (hc : h c = some (.inr (6, [.ref wa, .ref ar]))) (har : h ar = some (.inl (G.2.1 0, nA, .inl f))) (hnA : arK k ≤ nA) (hnB : nA < 100) (hS : STH G h wa (txl (wdS k))) (hW : RW G h r ((ti, tia, tf), (tt, tl, ta, x, A), (sm, smc, sA, sK, sV), (bm, bmc, bA, bK, bV)) g) (hO : RO G h0 r ((ti, tia, tf), (tt, tl, ta, x, A), (sm, smc, sA, sK, sV), (bm, bmc, bA, bK, bV)) g) (hV : INV n g) (hF0 : Fr nM h0 h) : CtX G l yX7_applyTo cX7_applyTo 4 (some .int) 14 (600) (21000) [.ref c, .ref r] h (fun r0 h2 => ∃ v g2, r0 = some (.int v) ∧ cdK k g f = 0 ∧ CHG k g f v g2 ∧ (∃ D2, RW G h2 r D2 g2 ∧ RO G h0 r D2 g2) ∧ Fr (fH h0) h h2) (CFy G h0 h (cdK k g f) (kdK k)) := by
  have hk9 : k = 0 ∨ k = 1 ∨ k = 2 ∨ k = 3 ∨ k = 4 ∨ k = 5 ∨ k = 6 ∨ k = 7 ∨ k = 8 ∨ k = 9 := by omega
  rcases hk9 with rfl | rfl | rfl | rfl | rfl | rfl | rfl | rfl | rfl | rfl
  · exact ct_X7_apply0 hl0 hc har hnA hnB hS hW hO hV hF0
  · exact ct_X7_apply1 hl0 hc har hnA hnB hS hW hO hV hF0
  · exact ct_X7_apply2 hl0 hc har hnA hnB hS hW hO hV hF0
  · exact ct_X7_apply3 hl0 hc har hnA hnB hS hW hO hV hF0
  · exact ct_X7_apply4 hl0 hc har hnA hnB hS hW hO hV hF0
  · exact ct_X7_apply5 hl0 hc har hnA hnB hS hW hO hV hF0
  · exact ct_X7_apply6 hl0 hc har hnA hnB hS hW hO hV hF0
  · exact ct_X7_apply7 hl0 hc har hnA hnB hS hW hO hV hF0
  · exact ct_X7_apply8 hl0 hc har hnA hnB hS hW hO hV hF0
  · exact ct_X7_apply9 hl0 hc har hnA hnB hS hW hO hV hF0
