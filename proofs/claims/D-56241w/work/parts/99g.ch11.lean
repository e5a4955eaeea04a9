/-! ===== a suitcase is sent: rows and cells ===== -/
def ixL (p : Nat × Nat) : Nat := 16 + 36 * p.1 + (28 + p.2)
/-- one suitcase more on a leg -/
def upL (g : Nat → Nat) (p : Nat × Nat) : Nat → Nat := up g (ixL p) (g (ixL p) + 1)
/-- the row behind legs that were taken and paid -/
def cinS (g : Nat → Nat) (L : List (Nat × Nat)) : Nat → Nat := L.foldl (fun y p => up (upL y p) 6 (upL y p 6 + 2)) g
def nxSC (g : Nat → Nat) (k : Nat) (L : List (Nat × Nat)) (et : Nat) : Nat → Nat := up (up (cinS g L) (232 + 4 * k + 1) (g (232 + 4 * k + 2))) (232 + 4 * k + 3) et
def aeG (g : Nat → Nat) (a v : Nat) : Nat → Nat := goE g a v (fun _ => 0)
def kdSD (c : Nat) : String := if c = 1 then "element" else "rule"
/-- the code of a sending, as the class has it -/
def ccSD (g : Nat → Nat) (p : Int32) : Nat := (fdO g 232 p (g 2)).elim 1 (fun k => if aeG g (g (232 + 4 * k + 1)) (g (232 + 4 * k + 3)) (g (232 + 4 * k + 2)) < 1000000 then 0 else 2)
section CIN
variable {g : Nat → Nat} {L : List (Nat × Nat)}
theorem cinS_snoc {p : Nat × Nat} : cinS g (L ++ [p]) = up (upL (cinS g L) p) 6 (upL (cinS g L) p 6 + 2) := by
  unfold cinS; rw [List.foldl_append]; rfl
theorem cinS_o {i : Nat} (h6 : i ≠ 6) (hno : ∀ p, p ∈ L → ixL p ≠ i) : cinS g L i = g i := by
  induction L generalizing g with
  | nil => rfl
  | cons p L ih =>
    have h1 : cinS g (p :: L) = cinS (up (upL g p) 6 (upL g p 6 + 2)) L := rfl
    rw [h1, ih (fun q hq => hno q (List.mem_cons_of_mem _ hq)), up_n h6]
    unfold upL
    rw [up_n (fun z => hno p List.mem_cons_self z.symm)]
theorem cinS_le {i : Nat} : cinS g L i ≤ g i + 3 * L.length := by
  induction L generalizing g with
  | nil => exact Nat.le_refl _
  | cons p L ih =>
    have h1 : cinS g (p :: L) = cinS (up (upL g p) 6 (upL g p 6 + 2)) L := rfl
    have h2 := ih (g := up (upL g p) 6 (upL g p 6 + 2))
    have h3 : ∀ j, upL g p j ≤ g j + 1 := fun j => by
      unfold upL up; split
      · rename_i q; rw [q]; exact Nat.le_refl _
      · exact Nat.le_succ _
    have h4 : up (upL g p) 6 (upL g p 6 + 2) i ≤ g i + 3 := by
      unfold up; split
      · rename_i q; rw [q]; have := h3 6; omega
      · have := h3 i; omega
    rw [h1, List.length_cons]
    omega
theorem LEG.ix {p : Nat × Nat} (hI : GW g) (h : LEG g p.1 p.2) : p.1 < 6 ∧ p.2 < 7 := ⟨hI.t6 h.1, h.k8 hI⟩
theorem cinS_lo (hI : GW g) (hL : ∀ p, p ∈ L → LEG g p.1 p.2) {i : Nat} (h : i < 16) (h6 : i ≠ 6) : cinS g L i = g i := cinS_o h6 (fun p _ => by unfold ixL; omega)
theorem cinS_hi (hI : GW g) (hL : ∀ p, p ∈ L → LEG g p.1 p.2) {i : Nat} (h : 232 ≤ i) : cinS g L i = g i := cinS_o (by omega) (fun p hp => by have := (hL p hp).ix hI; unfold ixL; omega)
theorem cinS_tr (hI : GW g) (hL : ∀ p, p ∈ L → LEG g p.1 p.2) {t j : Nat} (h : j < 28) : cinS g L (16 + 36 * t + j) = g (16 + 36 * t + j) := cinS_o (by omega) (fun p hp => by have := (hL p hp).ix hI; unfold ixL; omega)
theorem GW.cin (hI : GW g) (hb : ∀ i, g i < 2 ^ 19) (hL : ∀ p, p ∈ L → LEG g p.1 p.2) (hlen : L.length ≤ 56) : GW (cinS g L) := by
  have e0 : cinS g L 0 = g 0 := cinS_lo hI hL (by omega) (by omega)
  have e1 : cinS g L 1 = g 1 := cinS_lo hI hL (by omega) (by omega)
  refine ⟨fun i => ?_, by rw [e0]; exact hI.2.1, by rw [e1]; exact hI.2.2.1, by rw [cinS_lo hI hL (by omega) (by omega)]; exact hI.2.2.2.1, by rw [cinS_lo hI hL (by omega) (by omega)]; exact hI.2.2.2.2.1, fun t ht => ?_, fun t k ht hk => ?_⟩
  · have h1 := cinS_le (g := g) (L := L) (i := i)
    have h2 := hb i
    omega
  · rw [e1] at ht
    rw [cinS_tr hI hL (by omega)]
    exact hI.st ht
  · rw [e1] at ht
    rw [cinS_tr hI hL (by omega)] at hk
    have h8 := (hI.st ht).2
    show cinS g L (16 + 36 * t + (4 + 3 * k)) < cinS g L 0
    rw [cinS_tr hI hL (by omega), e0]
    exact hI.pl ht hk
end CIN
theorem TRs.ld {G : GG} {h : AH} {x t k : Nat} {A : Nat → Nat} {g : Nat → Nat} {f : Nat → Nat → Nat} (h8 : g (16 + 36 * t + 3) ≤ 8) (hk : k < 8) (hB : ∀ j, j < 8 → bkG (upL g (t, k)) t j (upL g (t, k) 3) = bkG g t j (g 3)) (p : h x = some (.inr (4, [.int (nI (g (16 + 36 * t + 0))), .ref (A 0), .ref (A 1), .ref (A 2), .ref (A 3), .ref (A 4), .int (nI (g (16 + 36 * t + 3))), .int (nI (g (16 + 36 * t + 2)))])))
    (q : ∀ i, i < 5 → h (A i) = some (iA G 8 (fun j => nI (f i j)))) (e0 : ∀ k, k < g (16 + 36 * t + 3) → f 0 k = plG g t k) (e1 : ∀ k, 0 < k → k < g (16 + 36 * t + 3) → f 1 k = avG g t k) (e2 : ∀ k, k < g (16 + 36 * t + 3) → f 2 k = dpG g t k) (e3 : ∀ k, k < 8 → f 3 k = g (16 + 36 * t + (28 + k))) (e4 : ∀ k, k < 8 → f 4 k = bkG g t k (g 3))
    (hAi : ∀ i j, i < 5 → j < 5 → A i = A j → i = j) : TRs G (hset h (A 3) (iA G 8 (fun i => nI (up (f 3) k (g (16 + 36 * t + (28 + k)) + 1) i)))) x A (upL g (t, k)) t := by
  have hlo : ∀ j, j < 28 → upL g (t, k) (16 + 36 * t + j) = g (16 + 36 * t + j) := fun j hj => up_n (by show 16 + 36 * t + j ≠ 16 + 36 * t + (28 + k); omega)
  have hdp : ∀ j, j < 8 → dpG (upL g (t, k)) t j = dpG g t j := by
    intro j
    induction j with
    | zero => intro _; exact hlo 1 (by omega)
    | succ j ih =>
      intro hj
      show dpG (upL g (t, k)) t j + (upL g (t, k) (16 + 36 * t + (4 + 3 * (j + 1) + 1)) + upL g (t, k) (16 + 36 * t + (4 + 3 * (j + 1) + 2))) = dpG g t j + _
      rw [ih (by omega), hlo (4 + 3 * (j + 1) + 1) (by omega), hlo (4 + 3 * (j + 1) + 2) (by omega)]
  refine ⟨by rw [hlo 0 (by omega), hlo 3 (by omega), hlo 2 (by omega)]; exact (hset_ne (ne_oa p (q 3 (by decide)))).trans p, fun i => if i = 3 then up (f 3) k (g (16 + 36 * t + (28 + k)) + 1) else f i, ?_, ?_, ?_, ?_, ?_, ?_⟩
  · intro i hi
    by_cases e : i = 3
    · subst e; exact hset_self
    · show hset h (A 3) _ (A i) = some (iA G 8 (fun j => nI ((if i = 3 then _ else f i) j)))
      rw [if_neg e]
      exact (hset_ne (fun z => e (hAi i 3 hi (by decide) z))).trans (q i hi)
  · intro j hj; rw [hlo 3 (by omega)] at hj; show f 0 j = _; rw [e0 j hj]; exact (hlo (4 + 3 * j) (by omega)).symm
  · intro j hj0 hj; rw [hlo 3 (by omega)] at hj; show f 1 j = _; rw [e1 j hj0 hj]; unfold avG; rw [hdp (j - 1) (by omega), hlo (4 + 3 * j + 1) (by omega)]
  · intro j hj; rw [hlo 3 (by omega)] at hj; show f 2 j = _; rw [e2 j hj, hdp j (by omega)]
  · intro j hj
    show up (f 3) k _ j = _
    by_cases e : j = k
    · subst e; rw [up_s]; exact up_s.symm
    · rw [up_n e, e3 j hj]; exact (up_n (by show 16 + 36 * t + (28 + j) ≠ 16 + 36 * t + (28 + k); omega)).symm
  · intro j hj; show f 4 j = _; rw [e4 j hj]; exact (hB j hj).symm
section RWL
variable {G : GG} {h h0 : AH} {r ti tia : Nat} {tf : Nat → Nat} {tt tl ta : Nat} {x : Nat → Nat} {A : Nat → Nat → Nat} {sm smc : Nat} {sA sK sV : Nat → Nat} {bm bmc : Nat} {bA bK bV : Nat → Nat} {g : Nat → Nat}
theorem RW.leg {t k : Nat} {f : Nat → Nat → Nat} (hW : RW G h r ((ti, tia, tf), (tt, tl, ta, x, A), (sm, smc, sA, sK, sV), (bm, bmc, bA, bK, bV)) g) (hO : RO G h0 r ((ti, tia, tf), (tt, tl, ta, x, A), (sm, smc, sA, sK, sV), (bm, bmc, bA, bK, bV)) g) (hI : GW g) (ht : t < g 1) (hk : k < 8)
    (p : h (x t) = some (.inr (4, [.int (nI (g (16 + 36 * t + 0))), .ref (A t 0), .ref (A t 1), .ref (A t 2), .ref (A t 3), .ref (A t 4), .int (nI (g (16 + 36 * t + 3))), .int (nI (g (16 + 36 * t + 2)))])))
    (q : ∀ i, i < 5 → h (A t i) = some (iA G 8 (fun j => nI (f i j)))) (e0 : ∀ k, k < g (16 + 36 * t + 3) → f 0 k = plG g t k) (e1 : ∀ k, 0 < k → k < g (16 + 36 * t + 3) → f 1 k = avG g t k) (e2 : ∀ k, k < g (16 + 36 * t + 3) → f 2 k = dpG g t k) (e3 : ∀ k, k < 8 → f 3 k = g (16 + 36 * t + (28 + k))) (e4 : ∀ k, k < 8 → f 4 k = bkG g t k (g 3)) :
    RW G (hset h (A t 3) (iA G 8 (fun i => nI (up (f 3) k (g (16 + 36 * t + (28 + k)) + 1) i)))) r ((ti, tia, tf), (tt, tl, ta, x, A), (sm, smc, sA, sK, sV), (bm, bmc, bA, bK, bV)) (upL g (t, k)) ∧ RO G h0 r ((ti, tia, tf), (tt, tl, ta, x, A), (sm, smc, sA, sK, sV), (bm, bmc, bA, bK, bV)) (upL g (t, k)) := by
  have h6 := hI.t6 ht
  have ho : ∀ i, i ≠ 16 + 36 * t + (28 + k) → upL g (t, k) i = g i := fun i hi => up_n hi
  exact RW.one (g2 := upL g (t, k)) hW hO hI ht (Fr.rf.put (q 3 (by decide)) ⟨rfl, rfl⟩ rfl (Or.inl (Or.inr ⟨3, by decide, rfl⟩)))
    (TRs.ld (hI.st ht).2 hk (fun j hj => bkG_cg (ho 3 (by omega)) (fun o ho2 i hi => ho _ (by omega))) p q e0 e1 e2 e3 e4 (fun i j hi hj z => (hO.Ai t t i j ht ht hi hj z).2))
    (fun i hi => ho _ (by omega)) (fun u hu hne j hj => ho _ (by omega)) (fun i hi => ho _ (by omega))
theorem RW.coin {c : Nat} (hW : RW G h r ((ti, tia, tf), (tt, tl, ta, x, A), (sm, smc, sA, sK, sV), (bm, bmc, bA, bK, bV)) g) (hO : RO G h0 r ((ti, tia, tf), (tt, tl, ta, x, A), (sm, smc, sA, sK, sV), (bm, bmc, bA, bK, bV)) g) (hI : GW g) :
    RW G (hset h r (.inr (2, [.ref ti, .ref tt, .ref sm, .ref bm, .int (nI (g 4)), .int (nI (g 5)), .int (nI c), .int (nI (g 7))]))) r ((ti, tia, tf), (tt, tl, ta, x, A), (sm, smc, sA, sK, sV), (bm, bmc, bA, bK, bV)) (up g 6 c) ∧ RO G h0 r ((ti, tia, tf), (tt, tl, ta, x, A), (sm, smc, sA, sK, sV), (bm, bmc, bA, bK, bV)) (up g 6 c) := by
  obtain ⟨hr, hWt, hWr, hWs, hWb⟩ := hW
  have hx : Fr (m1 r) h (hset h r (.inr (2, [.ref ti, .ref tt, .ref sm, .ref bm, .int (nI (g 4)), .int (nI (g 5)), .int (nI c), .int (nI (g 7))]))) := Fr.rf.put hr rfl rfl (Or.inl rfl)
  have ho : ∀ i, i ≠ 6 → up g 6 c i = g i := fun i hi => up_n hi
  have d0 : up g 6 c 0 = g 0 := ho 0 (by omega)
  have d1 : up g 6 c 1 = g 1 := ho 1 (by omega)
  have d2 : up g 6 c 2 = g 2 := ho 2 (by omega)
  have d3 : up g 6 c 3 = g 3 := ho 3 (by omega)
  exact ⟨⟨by rw [ho 4 (by omega), ho 5 (by omega), ho 7 (by omega), up_s]; exact hset_self,
    (hWt.fr1 hx hr (by decide)).cg d0 (fun k _ => ho _ (by have := hI.2.1; omega)),
    (hWr.fr1 hx hr (by decide)).cg hI d1 (fun t _ j _ => ho _ (by omega)) (fun t k _ _ => bkG_cg d3 (fun o _ j _ => ho _ (by omega))),
    (hWs.fr1 hx hr (by decide)).cg d2 (ho 4 (by omega)) (fun i _ j _ => ho _ (by omega)),
    (hWb.fr1 hx hr (by decide)).cg d3 (ho 5 (by omega)) (fun i _ j _ => ho _ (by omega))⟩,
    hO.r, hO.ti, hO.tia, hO.tt, hO.tl, hO.ta, hO.sm, hO.bm, d1 ▸ hO.x, d1 ▸ hO.A, d2 ▸ hO.sA, d3 ▸ hO.bA, hO.til, hO.tia2, hO.sb, d2 ▸ d3 ▸ hO.sbA, d1 ▸ hO.xi, d1 ▸ hO.Ai⟩
theorem RW.fr1 {a c : Nat} {fs : List Value} {h2 : AH} {D : RD} (hW : RW G h r D g) (hx : Fr (m1 a) h h2) (ha : h a = some (.inr (c, fs))) (hc : c ≠ 2 ∧ c ≠ 3 ∧ c ≠ 4 ∧ c ≠ 8 ∧ c ≠ 11 ∧ c ≠ 18 ∧ c ≠ 23 ∧ c ≠ 24 ∧ c ≠ 27) : RW G h2 r D g :=
  ⟨hx.get hW.1 (fun q => ne_oo hW.1 ha (Ne.symm hc.1) q) rfl, hW.2.1.fr1 hx ha ⟨hc.2.2.2.2.2.1, hc.2.2.2.2.2.2.2.2⟩, hW.2.2.1.fr1 hx ha ⟨hc.2.1, hc.2.2.2.2.2.1, hc.2.2.1⟩, hW.2.2.2.1.fr1 hx ha ⟨hc.2.2.2.2.2.2.1, hc.2.2.2.2.2.2.2.1, hc.2.2.2.2.2.2.2.2, hc.2.2.2.1⟩, hW.2.2.2.2.fr1 hx ha ⟨hc.2.2.2.2.2.2.1, hc.2.2.2.2.2.2.2.1, hc.2.2.2.2.2.2.2.2, hc.2.2.2.2.1⟩⟩
end RWL
/-- what a sending's loop changes -/
def sdM (r it n : Nat) (A : Nat → Nat → Nat) : Nat → Prop := fun b => b = r ∨ b = it ∨ ∃ t, t < n ∧ b = A t 3

theorem ct_RW_send {G : GG} {l : Launch} {h : AH} {h0 : AH} {r ti tia : Nat} {tf : Nat → Nat} {tt tl ta : Nat} {x : Nat → Nat} {A : Nat → Nat → Nat} {sm smc : Nat} {sA sK sV : Nat → Nat} {bm bmc : Nat} {bA bK bV : Nat → Nat} {g : Nat → Nat} {p : Int32}  (hdem : DEM G l) (hW : RW G h r ((ti, tia, tf), (tt, tl, ta, x, A), (sm, smc, sA, sK, sV), (bm, bmc, bA, bK, bV)) g) (hO : RO G h0 r ((ti, tia, tf), (tt, tl, ta, x, A), (sm, smc, sA, sK, sV), (bm, bmc, bA, bK, bV)) g) (hI : GW g) (hid : ∀ i j, i < j → j < g 2 → g (232 + 4 * i + 0) < g (232 + 4 * j + 0)) (hT : TmC g) (hC : LdC g) (hbd : ∀ i, g i < 2 ^ 19) (hcs : ∀ i, i < g 2 → g (232 + 4 * i + 1) < g 0 ∧ g (232 + 4 * i + 2) < g 0 ∧ g (232 + 4 * i + 3) ≤ 9999) : CtX G l yX2_send cX2_send 8 (some .int) 13 (600) (21000) [.ref r, .int p] h (fun r0 h2 => ccSD g p = 0 ∧ ∃ k e R, fdO g 232 p (g 2) = some k ∧ ARR g (g (232 + 4 * k + 1)) (g (232 + 4 * k + 3)) e R ∧ e (g (232 + 4 * k + 2)) < 1000000 ∧ r0 = some (.int (nI (ltG g e R (g (232 + 4 * k + 1)) (g (232 + 4 * k + 3)) 8 (g (232 + 4 * k + 2))).length)) ∧ (∃ D2, RW G h2 r D2 (nxSC g k (ltG g e R (g (232 + 4 * k + 1)) (g (232 + 4 * k + 3)) 8 (g (232 + 4 * k + 2))) (e (g (232 + 4 * k + 2)))) ∧ RO G h0 r D2 (nxSC g k (ltG g e R (g (232 + 4 * k + 1)) (g (232 + 4 * k + 3)) 8 (g (232 + 4 * k + 2))) (e (g (232 + 4 * k + 2))))) ∧ Fr (fH h0) h h2) (CFx G h (ccSD g p) kdSD) := by
  refine CtX.of (by decide) (Nat.le_of_ble_eq_true rfl) (cat1 rfl) (fun X hXl F HT => ?_)
  subst hXl
  obtain ⟨hr, hWt, hWr, hWs, hWb⟩ : h r = some (.inr (2, [.ref ti, .ref tt, .ref sm, .ref bm, .int (nI (g 4)), .int (nI (g 5)), .int (nI (g 6)), .int (nI (g 7))])) ∧ RWt G h (ti, tia, tf) g ∧ RWr G h (tt, tl, ta, x, A) g ∧ RWs G h (sm, smc, sA, sK, sV) g ∧ RWb G h (bm, bmc, bA, bK, bV) g := id hW
  have hasc : ∀ i j, i < j → j < g 2 → nI (g (232 + 4 * i + 0)) < nI (g (232 + 4 * j + 0)) := fun i j hij hj => (nI_ltI (Nat.lt_trans (hI.b _) (by decide)) (Nat.lt_trans (hI.b _) (by decide))).mpr (hid i j hij hj)
  have hg8 := hI.2.1
  refine V_aload_n (i := 0) F dX2_send_0 rfl rfl ?_
  refine V_getf F dX2_send_1 fc_X2_28_X2 (.inl hr) rfl ?_
  refine V_iload_n (i := 1) F dX2_send_4 rfl rfl ?_
  refine V_callS (st := [.ref (sm)]) (nn := 1) F dX2_send_5 lk_X2_81 (ct_I_valueOf (x := p)) rfl rfl (Nat.le_of_ble_eq_true rfl) (Nat.le_of_ble_eq_true rfl) (Nat.le_of_ble_eq_true rfl) (by omega) (by omega) ?_
  rintro _ h1 ⟨q1, rfl, hq1, hx1⟩
  have hF1 : Fr nM h h1 := hx1
  have hK1 : ∀ i, i < g 2 → IV G h1 (sK i) (nI (g (232 + 4 * i + 0))) := fun i hi => ((hWs.fr0 hF1).2.2 i hi).1
  obtain ⟨pos, fd, hcm, hp1, hp2, hp3, -, -⟩ := cmp_asc (l := xl X) hq1 hK1 hasc
  refine V_callV (st := []) (nn := 1) F dX2_send_8 lk_X2_175 (ct_TM_has (hWs.fr0 hF1).1 hcm) (hWs.fr0 hF1).1.isC rfl rfl (Nat.le_of_ble_eq_true rfl) (Nat.le_of_ble_eq_true rfl) (Nat.le_of_ble_eq_true rfl) (by omega) (by omega) ?_
  refine PRk ?_
  refine V_ldcS F dX2_send_11 q2538 ?_
  intro w1 hGw1
  refine V_xcSN (st := []) (nn := 2) F dX2_send_13 lk_X2_128 q2448 (hdem ((cB (fd))) w1 (h1)) rfl rfl (Nat.le_of_ble_eq_true rfl) (Nat.le_of_ble_eq_true rfl) (Nat.le_of_ble_eq_true rfl) (by omega) (by omega) ?_ ?_
  · rintro _ _ ⟨rfl, rfl, hd_13⟩
    have hP_13 : fd = true := cB_nz hd_13
    obtain ⟨hk, hkv⟩ := hp2 hP_13
    subst hkv
    have hfo : fdO g 232 (nI (g (232 + 4 * pos + 0))) (g 2) = some pos := fdO_some hk rfl (fun i hi e => by have := hasc i pos hi hk; rw [e] at this; exact Int32.lt_irrefl this)
    obtain ⟨hst1, hst2, hrd⟩ := hcs pos hk
    refine V_aload_n (i := 0) F dX2_send_16 rfl rfl ?_
    refine V_getf F dX2_send_17 fc_X2_28_X2 (.inl (hF1.get hr id rfl)) rfl ?_
    refine V_iload_n (i := 1) F dX2_send_20 rfl rfl ?_
    refine V_callS (st := [.ref (sm)]) (nn := 1) F dX2_send_21 lk_X2_81 (ct_I_valueOf (x := nI (g (232 + 4 * pos + 0)))) rfl rfl (Nat.le_of_ble_eq_true rfl) (Nat.le_of_ble_eq_true rfl) (Nat.le_of_ble_eq_true rfl) (by omega) (by omega) ?_
    rintro _ h2 ⟨q2, rfl, hq2, hx2⟩
    have hF2 : Fr nM h h2 := hF1.cal0 hx2
    have hK2 : ∀ i, i < g 2 → IV G h2 (sK i) (nI (g (232 + 4 * i + 0))) := fun i hi => ((hWs.fr0 hF2).2.2 i hi).1
    refine V_callV (st := []) (nn := 1) F dX2_send_24 lk_X2_180 (ct_TM_get (hWs.fr0 hF2).1 (cmp_at (kv := fun i => nI (g (232 + 4 * i + 0))) hq2 hK2 hasc hk) rfl) (hWs.fr0 hF2).1.isC rfl rfl (Nat.le_of_ble_eq_true rfl) (Nat.le_of_ble_eq_true rfl) (Nat.le_of_ble_eq_true rfl) (by omega) (by omega) ?_
    refine PRk ?_
    refine V_ckS F dX2_send_27 q2336 ⟨8, _, _, _, rfl, (.inl ((hWs.fr0 hF2).2.2 pos hk).2)⟩ ?_
    refine V_astore_n (i := 2) F dX2_send_30 rfl (Nat.le_of_ble_eq_true rfl) (Nat.le_of_ble_eq_true rfl) ?_
    refine V_aload_n (i := 2) F dX2_send_31 rfl rfl ?_
    refine V_callV (st := []) (nn := 0) F dX2_send_32 lk_X2_189 (ct_Su_destination ((hWs.fr0 hF2).2.2 pos hk).2) ⟨8, _, _, _, rfl, (.inl ((hWs.fr0 hF2).2.2 pos hk).2)⟩ rfl rfl (Nat.le_of_ble_eq_true rfl) (Nat.le_of_ble_eq_true rfl) (Nat.le_of_ble_eq_true rfl) (by omega) (by omega) ?_
    refine PRk ?_
    refine V_istore_n (i := 3) F dX2_send_35 rfl (Nat.le_of_ble_eq_true rfl) (Nat.le_of_ble_eq_true rfl) ?_
    refine V_aload_n (i := 0) F dX2_send_36 rfl rfl ?_
    refine V_aload_n (i := 2) F dX2_send_37 rfl rfl ?_
    refine V_callV (st := [.ref (r)]) (nn := 0) F dX2_send_38 lk_X2_183 (ct_Su_station ((hWs.fr0 hF2).2.2 pos hk).2) ⟨8, _, _, _, rfl, (.inl ((hWs.fr0 hF2).2.2 pos hk).2)⟩ rfl rfl (Nat.le_of_ble_eq_true rfl) (Nat.le_of_ble_eq_true rfl) (Nat.le_of_ble_eq_true rfl) (by omega) (by omega) ?_
    refine PRk ?_
    refine V_aload_n (i := 2) F dX2_send_41 rfl rfl ?_
    refine V_callV (st := [.int (nI (g (232 + 4 * pos + 1))), .ref (r)]) (nn := 0) F dX2_send_42 lk_X2_186 (ct_Su_ready ((hWs.fr0 hF2).2.2 pos hk).2) ⟨8, _, _, _, rfl, (.inl ((hWs.fr0 hF2).2.2 pos hk).2)⟩ rfl rfl (Nat.le_of_ble_eq_true rfl) (Nat.le_of_ble_eq_true rfl) (Nat.le_of_ble_eq_true rfl) (by omega) (by omega) ?_
    refine PRk ?_
    refine V_callV (st := []) (nn := 2) F dX2_send_45 lk_X2_192 (ct_RW_journeys2 (hW.fr0 hF2) hI (Nat.lt_trans hst1 (by omega)) hrd) ⟨2, _, _, _, rfl, (.inl (hF2.get hr id rfl))⟩ rfl rfl (Nat.le_of_ble_eq_true rfl) (Nat.le_of_ble_eq_true rfl) (Nat.le_of_ble_eq_true rfl) (by omega) (by omega) ?_
    rintro _ h3 ⟨j, eA, rA, rfl, hj0, he0, hr0, hJ3, hx3⟩
    have hF3 : Fr nM h h3 := hF2.cal0 hx3
    refine V_callV (st := []) (nn := 0) F dX2_send_48 lk_X2_195 (ct_J_scan hJ3 hI (Nat.lt_trans hst1 (by omega)) hrd) hJ3.isC rfl rfl (Nat.le_of_ble_eq_true rfl) (Nat.le_of_ble_eq_true rfl) (Nat.le_of_ble_eq_true rfl) (by omega) (by omega) ?_
    rintro _ h4 ⟨SS, hSp, hSs, rfl, hJ4, hx4⟩
    have hF4 : Fr nM h h4 := hF3.cal hx4 (Yo.m2 (Or.inr (hF2.none he0)) (Or.inr (hF2.none hr0)))
    have hARR := scan_arr (a := g (232 + 4 * pos + 1)) (v := g (232 + 4 * pos + 3)) (e := bgP (g (232 + 4 * pos + 1)) (g (232 + 4 * pos + 3)) (fun _ => 0) (g 0)) hI hT hC hSp hSs bgP_ini
    generalize (SS.foldl (scS g (g (232 + 4 * pos + 1)) (g (232 + 4 * pos + 3))) (bgP (g (232 + 4 * pos + 1)) (g (232 + 4 * pos + 3)) (fun _ => 0) (g 0), fun _ => 0)).1 = e at hJ4 hARR
    generalize (SS.foldl (scS g (g (232 + 4 * pos + 1)) (g (232 + 4 * pos + 3))) (bgP (g (232 + 4 * pos + 1)) (g (232 + 4 * pos + 3)) (fun _ => 0) (g 0), fun _ => 0)).2 = R at hJ4 hARR
    obtain ⟨⟨tt2, tl2, ta2, x2, A2, lg, lar, tr, fl, jR, jF, jn1, jn2, jn3, jn4, jn5, hjj, hjl, hjt⟩, hje, hjr, heM, hRM⟩ := id hJ4
    have hae : e (g (232 + 4 * pos + 2)) = aeG g (g (232 + 4 * pos + 1)) (g (232 + 4 * pos + 3)) (g (232 + 4 * pos + 2)) := arr_uniq hARR.1 hARR.2.1 (goE_arr hI (by omega) (fun _ => by decide)).1 (goE_arr hI (by omega) (fun _ => by decide)).2 _ hst2
    refine V_astore (i := 4) F dX2_send_51 (Nat.le_of_ble_eq_true rfl) (Nat.le_of_ble_eq_true rfl) ?_
    refine V_aload (i := 4) F dX2_send_53 rfl ?_
    refine V_iload_n (i := 3) F dX2_send_55 rfl rfl ?_
    refine V_callV (st := []) (nn := 1) F dX2_send_56 lk_X2_199 (ct_J_earliest hjj hje hst2 (by omega) heM) ⟨10, _, _, _, rfl, .inl hjj⟩ rfl rfl (Nat.le_of_ble_eq_true rfl) (Nat.le_of_ble_eq_true rfl) (Nat.le_of_ble_eq_true rfl) (by omega) (by omega) ?_
    refine PRk ?_
    refine V_iconst (v := -1) F dX2_send_59 rfl ?_
    refine V_icmp_eq (tgt := 67) F dX2_send_60 (by decide) (fun c_60 => ?_) (fun c_60 => ?_)
    · have hno : ¬ e (g (232 + 4 * pos + 2)) < 1000000 := fun z => by rw [if_pos z] at c_60; exact absurd c_60 (fun y => by have h9 := congrArg Int32.toInt y; rw [nI_toInt (by omega), show (-1 : Int32).toInt = -1 from rfl] at h9; omega)
      refine V_iconst (v := nI 0) F dX2_send_67 rfl ?_
      refine V_ldcS F dX2_send_68 q2563 ?_
      intro w2 hGw2
      refine V_xcSN (st := []) (nn := 2) F dX2_send_70 lk_X2_128 q2448 (hdem ((nI (0))) w2 (h4)) rfl rfl (Nat.le_of_ble_eq_true rfl) (Nat.le_of_ble_eq_true rfl) (Nat.le_of_ble_eq_true rfl) (by omega) (by omega) ?_ ?_
      · exact fun _ _ hp => absurd rfl hp.2.2
      · exact fun E q h2 hp => V_xout F (HT _) (by omega) (by omega) (CFx.of (k := 2) (by unfold ccSD; rw [hfo]; show (if _ then 0 else 2) = 2; rw [if_neg (by rw [← hae]; exact hno)]) (by decide) hGw2 (TH.fr hF4 hp.2))
    · have hlt : e (g (232 + 4 * pos + 2)) < 1000000 := Decidable.byContradiction fun z => c_60 (by rw [if_neg z])
      refine V_iconst (v := nI 1) F dX2_send_63 rfl ?_
      refine V_goto (tgt := 68) F dX2_send_64 (by decide) ?_
      refine V_ldcS F dX2_send_68 q2563 ?_
      intro w3 hGw3
      refine V_xcSN (st := []) (nn := 2) F dX2_send_70 lk_X2_128 q2448 (hdem ((nI (1))) w3 (h4)) rfl rfl (Nat.le_of_ble_eq_true rfl) (Nat.le_of_ble_eq_true rfl) (Nat.le_of_ble_eq_true rfl) (by omega) (by omega) ?_ ?_
      · rintro _ _ ⟨rfl, rfl, hd_70⟩
        refine V_aload (i := 4) F dX2_send_73 rfl ?_
        refine V_iload_n (i := 3) F dX2_send_75 rfl rfl ?_
        refine V_callV (st := []) (nn := 1) F dX2_send_76 lk_X2_205 (ct_J_legsTo (K0 := 8) jR jF hjj hjl hjt hI (Nat.lt_trans hst1 (by omega)) hje hjr heM hRM hrd hst2 (lt_ok8 hI hT hARR hst1 hst2 hlt) (ltG_len hI 8 _)) ⟨10, _, _, _, rfl, .inl hjj⟩ rfl rfl (Nat.le_of_ble_eq_true rfl) (Nat.le_of_ble_eq_true rfl) (Nat.le_of_ble_eq_true rfl) (by omega) (by omega) ?_
        rintro _ h5 ⟨o, oar, of, rfl, ho0, har0, hL5, hx5⟩
        have hF5 : Fr nM h h5 := hF4.cal0 hx5
        have hmem : ∀ p, p ∈ ltG g e R (g (232 + 4 * pos + 1)) (g (232 + 4 * pos + 3)) 8 (g (232 + 4 * pos + 2)) → LEG g p.1 p.2 := fun p hp => ltG_mem 8 _ hp
        have hlen : (ltG g e R (g (232 + 4 * pos + 1)) (g (232 + 4 * pos + 3)) 8 (g (232 + 4 * pos + 2))).length ≤ 56 := ltG_len hI 8 _
        generalize hLL : ltG g e R (g (232 + 4 * pos + 1)) (g (232 + 4 * pos + 3)) 8 (g (232 + 4 * pos + 2)) = LL at hL5 hmem hlen
        refine V_astore (i := 5) F dX2_send_79 (Nat.le_of_ble_eq_true rfl) (Nat.le_of_ble_eq_true rfl) ?_
        refine V_aload (i := 5) F dX2_send_81 rfl ?_
        refine V_callF (st := []) (nn := 0) F dX2_send_83 ⟨lw_F q2579 q1326 q1328 q111 q1330, ⟨q1325, List.mem_append_left _ q1324, q1329, q1327, q387⟩, (by decide +kernel), (by decide +kernel)⟩ (ct_AL_iterator hL5.1) hL5.1.isC rfl rfl (Nat.le_of_ble_eq_true rfl) (Nat.le_of_ble_eq_true rfl) (Nat.le_of_ble_eq_true rfl) (by omega) (by omega) ?_
        rintro _ h6 ⟨it, rfl, hit1, hbit, hIt, hx6⟩
        have hF6 : Fr nM h h6 := hF5.cal0 hx6
        have hit0 := hF5.none hit1
        have hF46 : Fr nM h4 h6 := hx5.cal0 hx6
        refine V_astore (i := 6) F dX2_send_88 (Nat.le_of_ble_eq_true rfl) (Nat.le_of_ble_eq_true rfl) ?_
        have loop_90 : ∀ (nn : Nat) (i : Nat) (gi : Nat → Nat) (hh : AH), LL.length - i < nn → i ≤ LL.length → ITR hh it o i LL.length → RW G hh r ((ti, tia, tf), (tt, tl, ta, x, A), (sm, smc, sA, sK, sV), (bm, bmc, bA, bK, bV)) gi → RO G h0 r ((ti, tia, tf), (tt, tl, ta, x, A), (sm, smc, sA, sK, sV), (bm, bmc, bA, bK, bV)) gi → Fr (sdM r it (g 1) A) h6 hh → cinS g (LL.take i) = gi → VV G X 8 ((EQX G X (600) (21000) (fun r0 h2 => ccSD g (nI (g (232 + 4 * pos + 0))) = 0 ∧ ∃ k e R, fdO g 232 (nI (g (232 + 4 * pos + 0))) (g 2) = some k ∧ ARR g (g (232 + 4 * k + 1)) (g (232 + 4 * k + 3)) e R ∧ e (g (232 + 4 * k + 2)) < 1000000 ∧ r0 = some (.int (nI (ltG g e R (g (232 + 4 * k + 1)) (g (232 + 4 * k + 3)) 8 (g (232 + 4 * k + 2))).length)) ∧ (∃ D2, RW G h2 r D2 (nxSC g k (ltG g e R (g (232 + 4 * k + 1)) (g (232 + 4 * k + 3)) 8 (g (232 + 4 * k + 2))) (e (g (232 + 4 * k + 2)))) ∧ RO G h0 r D2 (nxSC g k (ltG g e R (g (232 + 4 * k + 1)) (g (232 + 4 * k + 3)) 8 (g (232 + 4 * k + 2))) (e (g (232 + 4 * k + 2))))) ∧ Fr (fH h0) h h2) (CFx G h (ccSD g (nI (g (232 + 4 * pos + 0)))) kdSD))) hh (500) (20500) [some (.ref (r)), some (.int (nI (g (232 + 4 * pos + 0)))), none, some (.int (nI (g (232 + 4 * pos + 2)))), some (.ref (j)), some (.ref (o)), some (.ref (it)), none] [] 90 := by
          intro nn
          induction nn with
          | zero => intro i gi hh hm hi9 hI7 hWi hOi hFi hgi; exact absurd hm (by omega)
          | succ nn ih_90 =>
            intro i gi hh hm hi9 hI7 hWi hOi hFi hgi
            obtain ⟨lr7, hit7⟩ := id hI7
            have hIi : GW gi := by rw [← hgi]; exact hI.cin hbd (fun p hp => hmem p (List.mem_of_mem_take hp)) (by rw [List.length_take]; omega)
            have e1i : gi 1 = g 1 := by rw [← hgi]; exact cinS_lo hI (fun p hp => hmem p (List.mem_of_mem_take hp)) (by omega) (by omega)
            have hAt : ∀ t, t < g 1 → ∃ f9 : Nat → Nat, h6 (A t 3) = some (iA G 8 (fun k => nI (f9 k))) := fun t ht => by obtain ⟨-, f9, hA9, -⟩ := (hWr.fr0 hF6).2.2 t ht; exact ⟨_, hA9 3 (by decide)⟩
            have hr6 := hF6.get hr id rfl
            obtain ⟨lr6, hit6⟩ := id hIt
            have hoff : ∀ k, k ≠ 2 → k ≠ 26 → offK (sdM r it (g 1) A) h6 (kO k) := by
              intro k h2k h26k y ey hy hs z
              rcases z with rfl | rfl | ⟨t, ht, rfl⟩
              · cases hr6.symm.trans hy; exact h2k (beq_iff_eq.mp hs).symm
              · cases hit6.symm.trans hy; exact h26k (beq_iff_eq.mp hs).symm
              · obtain ⟨f9, hf9⟩ := hAt t ht; cases hf9.symm.trans hy; cases hs
            have hqar : ∀ b c u, h6 b = some (qA G c u) → ¬ sdM r it (g 1) A b := by
              rintro b c u hb (z | z | ⟨t, ht, z⟩)
              · exact ne_ao hb hr6 z
              · exact ne_ao hb hit6 z
              · obtain ⟨f9, hf9⟩ := hAt t ht; exact ne_qi hb hf9 z
            have hL6 := hL5.fr0 hx6
            have hLh := hL6.fr hFi ((hoff 18 (by decide) (by decide)).o hL6.1.1) (fun c u z => hqar _ c u z) (hoff 5 (by decide) (by decide))
            refine V_aload (i := 6) F dX2_send_90 rfl ?_
            refine V_callF (st := []) (nn := 0) F dX2_send_92 ⟨lw_F q2028 q832 q834 q133 q836, ⟨q460, List.mem_append_left _ q459, q835, q833, q831⟩, (by decide +kernel), (by decide +kernel)⟩ (ct_Itr_hasNext hLh.1 hI7 (by omega) hi9) hI7.isC rfl rfl (Nat.le_of_ble_eq_true rfl) (Nat.le_of_ble_eq_true rfl) (Nat.le_of_ble_eq_true rfl) (by omega) (by omega) ?_
            refine PRk ?_
            refine V_if_eqB (tgt := 150) F dX2_send_97 (by decide) (fun c_97 => ?_) (fun c_97 => ?_)
            · have hie : i = LL.length := by omega
              have hgL : cinS g LL = gi := by rw [← hgi, hie, List.take_length]
              have hlo : ∀ j, j < 16 → j ≠ 6 → gi j = g j := fun j h1 h2 => by rw [← hgL]; exact cinS_lo hI hmem h1 h2
              have hhi : ∀ j, 232 ≤ j → gi j = g j := fun j h1 => by rw [← hgL]; exact cinS_hi hI hmem h1
              obtain ⟨hri, hWti, hWri, hWsi, hWbi⟩ := id hWi
              have e2i : gi 2 = g 2 := hlo 2 (by omega) (by omega)
              have hFh : Fr (fH h0) h hh := (hF6.mono (fun _ z => z.elim)).cal hFi (fun b z => z.elim (fun z => Or.inl (by rw [z]; exact hO.r)) (fun z => z.elim (fun z => Or.inr (by rw [z]; exact hit0)) (fun z => by obtain ⟨t, ht, z⟩ := z; exact Or.inl (by rw [z]; exact hO.A t ht 3 (by decide)))))
              have hjh : hh j = _ := hFi.get (hF46.get hjj id rfl) ((hoff 10 (by decide) (by decide)).o (hF46.get hjj id rfl)) rfl
              have heh : hh eA = _ := hFi.get (hF46.get hje id rfl) (fun z => z.elim (fun z => ne_ao (hF46.get hje id rfl) hr6 z) (fun z => z.elim (fun z => ne_ao (hF46.get hje id rfl) hit6 z) (fun z => by obtain ⟨t, ht, z⟩ := z; obtain ⟨-, f9, hA9, -⟩ := hWr.2.2 t ht; have y := hF2.none he0; rw [z] at y; rw [hA9 3 (by decide)] at y; cases y))) rfl
              have hk2 : pos < gi 2 := by rw [e2i]; exact hk
              have hasi : ∀ i j, i < j → j < gi 2 → nI (gi (232 + 4 * i + 0)) < nI (gi (232 + 4 * j + 0)) := fun i j h1 h2 => by rw [e2i] at h2; rw [hhi _ (by omega), hhi _ (by omega)]; exact hasc i j h1 h2
              refine V_aload_n (i := 0) F dX2_send_150 rfl rfl ?_
              refine V_getf F dX2_send_151 fc_X2_28_X2 (.inl hWi.1) rfl ?_
              refine V_iload_n (i := 1) F dX2_send_154 rfl rfl ?_
              refine V_callS (st := [.ref (sm)]) (nn := 1) F dX2_send_155 lk_X2_81 (ct_I_valueOf (x := nI (g (232 + 4 * pos + 0)))) rfl rfl (Nat.le_of_ble_eq_true rfl) (Nat.le_of_ble_eq_true rfl) (Nat.le_of_ble_eq_true rfl) (by omega) (by omega) ?_
              rintro _ h10 ⟨q3, rfl, hq3, hx10⟩
              have hW10 := hWi.fr0 hx10
              have hK3 : ∀ i, i < gi 2 → IV G h10 (sK i) (nI (gi (232 + 4 * i + 0))) := fun i hi => (hW10.2.2.2.1.2.2 i hi).1
              refine V_new F dX2_send_158 nw_X2_76 (by omega) (by omega) ?_
              intro su hfsu hbsu
              have p1 : h10 r = some (.inr (2, [.ref (ti), .ref (tt), .ref (sm), .ref (bm), .int (nI (gi 4)), .int (nI (gi 5)), .int (nI (gi 6)), .int (nI (gi 7))])) := hW10.1
              refine V_dup F dX2_send_161 rfl ?_
              refine V_iload_n (i := 1) F dX2_send_162 rfl rfl ?_
              refine V_iload_n (i := 3) F dX2_send_163 rfl rfl ?_
              refine V_iload_n (i := 3) F dX2_send_164 rfl rfl ?_
              refine V_aload (i := 4) F dX2_send_165 rfl ?_
              refine V_iload_n (i := 3) F dX2_send_167 rfl rfl ?_
              refine V_callV (st := [.int (nI (g (232 + 4 * pos + 2))), .int (nI (g (232 + 4 * pos + 2))), .int (nI (g (232 + 4 * pos + 0))), .ref (su), .ref (su), .ref (q3), .ref (sm)]) (nn := 1) F dX2_send_168 lk_X2_199 (ct_J_earliest ((hx10.nw (x := .inr (8, [.int 0, .int 0, .int 0, .int 0])) hfsu).get hjh id rfl) ((hx10.nw (x := .inr (8, [.int 0, .int 0, .int 0, .int 0])) hfsu).get heh id rfl) hst2 (by omega) heM) ⟨10, _, _, _, rfl, .inl ((hx10.nw (x := .inr (8, [.int 0, .int 0, .int 0, .int 0])) hfsu).get hjh id rfl)⟩ rfl rfl (Nat.le_of_ble_eq_true rfl) (Nat.le_of_ble_eq_true rfl) (Nat.le_of_ble_eq_true rfl) (by omega) (by omega) ?_
              refine PRk ?_
              refine V_callIN (st := [.ref (su), .ref (q3), .ref (sm)]) (nn := 4) F dX2_send_171 lk_X2_172 q2514 rfl (ct_Su_init (hset_self (e := .inr (8, [.int 0, .int 0, .int 0, .int 0])))) rfl rfl (Nat.le_of_ble_eq_true rfl) (Nat.le_of_ble_eq_true rfl) (Nat.le_of_ble_eq_true rfl) (by omega) (by omega) ?_
              rintro _ h11 ⟨rfl, hsu, hx11⟩
              have hfq := (hx10.nw (x := .inr (8, [.int 0, .int 0, .int 0, .int 0])) hfsu)
              have hF11 : Fr nM hh h11 := hfq.cal hx11 (Yo.m1 (Or.inr (hx10.none hfsu)))
              have hW11 := hWi.fr0 hF11
              have hq5 := hq3.fr ((Fr.rf (M := nM) (h := h10)).nw (x := .inr (8, [.int 0, .int 0, .int 0, .int 0])) hfsu) offK.nM
              have hq6 := hq5.fr hx11 (offK.m1 hset_self (kO_ne (by decide)))
              rw [if_pos hlt] at hsu
              have hq7 : IV G h11 q3 (nI (gi (232 + 4 * pos + 0))) := by rw [hhi _ (by omega)]; exact hq6
              refine V_callV (st := []) (nn := 2) F dX2_send_174 lk_X2_85 (ct_TM_set (v := su) hW11.2.2.2.1.1 (cmp_at (kv := fun i => nI (gi (232 + 4 * i + 0))) hq7 (fun i hi => (hW11.2.2.2.1.2.2 i hi).1) hasi hk2) rfl) hW11.2.2.2.1.1.isC rfl rfl (Nat.le_of_ble_eq_true rfl) (Nat.le_of_ble_eq_true rfl) (Nat.le_of_ble_eq_true rfl) (by omega) (by omega) ?_
              rintro _ h12 ⟨rfl, hM12, hx12⟩
              have hof := fun k (h1 : k ≠ 23) (h2 : k ≠ 24) => offK.mT (k := k) hW11.2.2.2.1.1 h1 h2
              have hLz := ((hLh.fr0 hF11).1.frQ hx12 (mT.al hW11.2.2.2.1.1 (hLh.fr0 hF11).1) (fun _ _ z => mT.ar hW11.2.2.2.1.1 z))
              refine V_pop F dX2_send_177 rfl ?_
              refine V_aload (i := 5) F dX2_send_178 rfl ?_
              refine V_callF (st := []) (nn := 0) F dX2_send_180 ⟨lw_F q1237 q388 q390 q111 q392, ⟨q386, List.mem_append_left _ q385, q391, q389, q387⟩, (by decide +kernel), (by decide +kernel)⟩ (ct_AL_size hLz) hLz.isC rfl rfl (Nat.le_of_ble_eq_true rfl) (Nat.le_of_ble_eq_true rfl) (Nat.le_of_ble_eq_true rfl) (by omega) (by omega) ?_
              refine PRk ?_
              obtain ⟨hr11, hWt11, hWr11, hWs11, hWb11⟩ := id hW11
              have h28 := hI.2.2.2.1
              have h310 := hI.2.2.2.2.1
              have hIi2 := hI.cin hbd hmem hlen
              rw [hgL] at hIi2
              have hno : ∀ i, i ≠ 232 + 4 * pos + 1 → i ≠ 232 + 4 * pos + 3 → (nxSC g pos LL (e (g (232 + 4 * pos + 2)))) i = gi i := fun i h1 h3 => by unfold nxSC; rw [up_n h3, up_n h1, hgL]
              have hn1 : (nxSC g pos LL (e (g (232 + 4 * pos + 2)))) (232 + 4 * pos + 1) = g (232 + 4 * pos + 2) := by unfold nxSC; rw [up_n (by omega), up_s]
              have hn3 : (nxSC g pos LL (e (g (232 + 4 * pos + 2)))) (232 + 4 * pos + 3) = e (g (232 + 4 * pos + 2)) := by unfold nxSC; rw [up_s]
              have hT12 := (hWt11.frT hWs11.1 hx12).cg (g2 := (nxSC g pos LL (e (g (232 + 4 * pos + 2))))) (hno _ (by omega) (by omega)) (fun j hj => hno _ (by have := hIi2.2.1; omega) (by have := hIi2.2.1; omega))
              have hR12 := (hWr11.frT hWs11.1 hx12).cg (g2 := (nxSC g pos LL (e (g (232 + 4 * pos + 2))))) hIi2 (hno _ (by omega) (by omega)) (fun t ht j hj => hno _ (by have := hIi2.t6 ht; omega) (by have := hIi2.t6 ht; omega)) (fun t k ht hk => bkG_cg (hno _ (by omega) (by omega)) (fun o ho j hj => hno _ (by omega) (by omega)))
              have hB12 := (hWb11.frT hWs11.1 hx12 (Ne.symm hOi.sb) (fun i j hi hj => Ne.symm (hOi.sbA j i hj hi))).cg (g2 := (nxSC g pos LL (e (g (232 + 4 * pos + 2))))) (hno _ (by omega) (by omega)) (hno _ (by omega) (by omega)) (fun i hi j hj => hno _ (by omega) (by omega))
              have d1 : (nxSC g pos LL (e (g (232 + 4 * pos + 2)))) 1 = gi 1 := hno _ (by omega) (by omega)
              have dd2 : (nxSC g pos LL (e (g (232 + 4 * pos + 2)))) 2 = gi 2 := hno _ (by omega) (by omega)
              have d3 : (nxSC g pos LL (e (g (232 + 4 * pos + 2)))) 3 = gi 3 := hno _ (by omega) (by omega)
              have hS12 : RWs G h12 (sm, smc, sA, sK, upo sV pos su) (nxSC g pos LL (e (g (232 + 4 * pos + 2)))) := by
                refine ⟨by rw [dd2]; exact hM12, by rw [dd2, hno 4 (by omega) (by omega)]; exact hWs11.2.1, fun i hi => ?_⟩
                rw [dd2] at hi
                refine ⟨by rw [hno _ (by omega) (by omega)]; exact (hWs11.2.2 i hi).1.fr hx12 (hof 27 (by decide) (by decide)), ?_⟩
                by_cases ei : i = pos
                · subst ei
                  show h12 (upo sV i su i) = _
                  rw [upo_s]; unfold SuE; rw [hn1, hn3, hno (232 + 4 * i + 0) (by omega) (by omega), hno (232 + 4 * i + 2) (by omega) (by omega), hhi _ (by omega), hhi _ (by omega)]
                  exact hx12.get hsu ((hof 8 (by decide) (by decide)).o hsu) rfl
                · show h12 (upo sV pos su i) = _
                  rw [upo_n ei]; unfold SuE; rw [hno (232 + 4 * i + 0) (by omega) (by omega), hno (232 + 4 * i + 1) (by omega) (by omega), hno (232 + 4 * i + 2) (by omega) (by omega), hno (232 + 4 * i + 3) (by omega) (by omega)]
                  exact hx12.get (hWs11.2.2 i hi).2 ((hof 8 (by decide) (by decide)).o (hWs11.2.2 i hi).2) rfl
              have hr12 := hx12.get hr11 ((hof 2 (by decide) (by decide)).o hr11) rfl
              have hF12 : Fr (fH h0) h h12 := (hFh.cal0 hF11).cal hx12 (fun b z => z.elim (fun z => Or.inl (by rw [z]; exact hO.sm)) (fun z => by obtain ⟨i, hi, z⟩ := z; exact Or.inl (by rw [z]; exact hOi.sA i hi)))
              have hcc : ccSD g (nI (g (232 + 4 * pos + 0))) = 0 := by unfold ccSD; rw [hfo]; show (if _ then 0 else 2) = 0; rw [if_pos (by rw [← hae]; exact hlt)]
              exact VV.rx (V_iret F dX2_send_185 rfl (by omega) (by omega) ⟨hcc, pos, e, R, hfo, hARR, hlt, by rw [hLL], by rw [hLL]; exact ⟨((ti, tia, tf), (tt, tl, ta, x, A), (sm, smc, sA, sK, upo sV pos su), (bm, bmc, bA, bK, bV)), ⟨by rw [hno 4 (by omega) (by omega), hno 5 (by omega) (by omega), hno 6 (by omega) (by omega), hno 7 (by omega) (by omega)]; exact hr12, hT12, hR12, hS12, hB12⟩, hOi.r, hOi.ti, hOi.tia, hOi.tt, hOi.tl, hOi.ta, hOi.sm, hOi.bm, d1 ▸ hOi.x, d1 ▸ hOi.A, dd2 ▸ hOi.sA, d3 ▸ hOi.bA, hOi.til, hOi.tia2, hOi.sb, dd2 ▸ d3 ▸ hOi.sbA, d1 ▸ hOi.xi, d1 ▸ hOi.Ai⟩, hF12⟩)
            · have hi : i < LL.length := c_97
              refine V_aload (i := 6) F dX2_send_100 rfl ?_
              refine V_callF (st := []) (nn := 0) F dX2_send_102 ⟨lw_F q2030 q1072 q1074 q133 q1076, ⟨q868, List.mem_append_left _ q867, q1075, q1073, q831⟩, (by decide +kernel), (by decide +kernel)⟩ (ct_Itr_next hLh.1 hI7 (by omega) (by omega) hi) hI7.isC rfl rfl (Nat.le_of_ble_eq_true rfl) (Nat.le_of_ble_eq_true rfl) (Nat.le_of_ble_eq_true rfl) (by omega) (by omega) ?_
              rintro _ h8 ⟨rfl, hI8, hx8⟩
              have hW8 := hWi.fr1 hx8 hit7 (by decide)
              have hq0 := hLh.2 i hi
              have hm0 := hmem _ (getD_mem (d := (0, 0)) hi)
              generalize hp0 : LL.getD i (0, 0) = pq0 at hq0 hm0
              obtain ⟨u, k⟩ := pq0
              have hq0 : hh (of i) = some (LgE g u k) := hq0
              have hl : LEG g u k := hm0
              have hk7 := hl.k8 hI
              have hu1 : u < gi 1 := by rw [e1i]; exact hl.1
              generalize hfq : of i = q at hq0
              have hq := hx8.get hq0 (ne_oo hq0 hit7 (by decide)) rfl
              obtain ⟨hxu, f, hAu, e0, e1, e2, e3, e4⟩ := id (hW8.2.2.1.2.2 u hu1)
              refine VV.stk (st' := [.ref (q)]) rfl ?_
              refine V_ckS F dX2_send_107 q2244 ⟨5, _, _, _, rfl, (.inl hq)⟩ ?_
              refine V_astore (i := 7) F dX2_send_110 (Nat.le_of_ble_eq_true rfl) (Nat.le_of_ble_eq_true rfl) ?_
              refine V_aload_n (i := 0) F dX2_send_112 rfl rfl ?_
              refine V_getf F dX2_send_113 fc_X2_21_X2 (.inl hW8.1) rfl ?_
              refine V_aload (i := 7) F dX2_send_116 rfl ?_
              refine V_callV (st := [.ref (tt)]) (nn := 0) F dX2_send_118 lk_X2_212 (ct_Leg_train hq) ⟨5, _, _, _, rfl, (.inl hq)⟩ rfl rfl (Nat.le_of_ble_eq_true rfl) (Nat.le_of_ble_eq_true rfl) (Nat.le_of_ble_eq_true rfl) (by omega) (by omega) ?_
              refine PRk ?_
              refine V_callV (st := []) (nn := 1) F dX2_send_121 lk_X2_154 (ct_TT_get hW8.2.2.1 hIi hu1) ⟨3, _, _, _, rfl, .inl hW8.2.2.1.1⟩ rfl rfl (Nat.le_of_ble_eq_true rfl) (Nat.le_of_ble_eq_true rfl) (Nat.le_of_ble_eq_true rfl) (by omega) (by omega) ?_
              refine PRk ?_
              refine V_getn F dX2_send_124 fc_X2_215_X5 (.inl hxu) rfl ?_
              refine V_aload (i := 7) F dX2_send_127 rfl ?_
              refine V_callV (st := [.ref ((A u 3))]) (nn := 0) F dX2_send_129 lk_X2_217 (ct_Leg_number hq) ⟨5, _, _, _, rfl, (.inl hq)⟩ rfl rfl (Nat.le_of_ble_eq_true rfl) (Nat.le_of_ble_eq_true rfl) (Nat.le_of_ble_eq_true rfl) (by omega) (by omega) ?_
              refine PRk ?_
              refine V_dup2 F dX2_send_132 rfl rfl ?_
              refine V_ialdG F dX2_send_133 (.inl (hAu 3 (by decide))) (by omega) (by decide) (e3 k (by omega)) ?_
              refine V_iconst (v := nI 1) F dX2_send_134 rfl ?_
              refine V_iaddN F dX2_send_135 ?_
              refine V_iastG F dX2_send_136 (hAu 3 (by decide)) (by omega) (by decide) ?_
              obtain ⟨hW9, hO9⟩ := RW.leg (k := k) hW8 hOi hIi hu1 (by omega) hxu hAu e0 e1 e2 e3 e4
              have hx9 : Fr (m1 (A u 3)) h8 (hset h8 (A u 3) (iA G 8 (fun i => nI (up (f 3) k (gi (16 + 36 * u + (28 + k)) + 1) i)))) := Fr.rf.put (hAu 3 (by decide)) ⟨rfl, rfl⟩ rfl (Or.inl rfl)
              have hI9 : ITR _ it o (i + 1) LL.length := hI8.fr hx9 (fun z => by obtain ⟨lr8, hit8⟩ := id hI8; exact ne_oa hit8 (hAu 3 (by decide)) z)
              generalize hh9 : hset h8 (A u 3) (iA G 8 (fun i => nI (up (f 3) k (gi (16 + 36 * u + (28 + k)) + 1) i))) = h9 at hW9 hO9 hx9 hI9
              have hI9g : GW (upL gi (u, k)) := by
                refine ⟨fun j => ?_, ?_⟩
                · have h1 := cinS_le (g := g) (L := LL.take i) (i := j)
                  have h2 := hbd j
                  have h3 := List.length_take_le i LL
                  have h4 : gi j ≤ g j + 3 * (LL.take i).length := by rw [← hgi]; exact h1
                  have h5 : upL gi (u, k) j ≤ gi j + 1 := by
                    unfold upL up; split
                    · rename_i q9; rw [q9]; exact Nat.le_refl _
                    · exact Nat.le_succ _
                  have : (LL.take i).length ≤ 56 := by omega
                  omega
                · have ho : ∀ j, j ≠ 16 + 36 * u + (28 + k) → upL gi (u, k) j = gi j := fun j hj => up_n hj
                  have hu6 := hIi.t6 hu1
                  refine ⟨by rw [ho 0 (by omega)]; exact hIi.2.1, by rw [ho 1 (by omega)]; exact hIi.2.2.1, by rw [ho 2 (by omega)]; exact hIi.2.2.2.1, by rw [ho 3 (by omega)]; exact hIi.2.2.2.2.1, fun t ht => ?_, fun t k2 ht hk2 => ?_⟩
                  · rw [ho 1 (by omega)] at ht; have := hIi.t6 ht; rw [ho _ (by omega)]; exact hIi.st ht
                  · rw [ho 1 (by omega)] at ht; have := hIi.t6 ht; rw [ho _ (by omega)] at hk2; have := (hIi.st ht).2; show upL gi (u, k) (16 + 36 * t + (4 + 3 * k2)) < upL gi (u, k) 0; rw [ho _ (by omega), ho 0 (by omega)]; exact hIi.pl ht hk2
              refine V_aload_n (i := 0) F dX2_send_137 rfl rfl ?_
              refine V_dup F dX2_send_138 rfl ?_
              refine V_getf F dX2_send_139 fc_X2_100_X2 (.inl hW9.1) rfl ?_
              refine V_iconst (v := nI 2) F dX2_send_142 rfl ?_
              refine V_iaddN F dX2_send_143 ?_
              refine V_putf F dX2_send_144 fp_X2_100_X2 hW9.1 rfl rfl (Nat.le_of_ble_eq_true rfl) ?_
              refine VV.heap (h' := (hset h9 (r) (.inr (2, [.ref (ti), .ref (tt), .ref (sm), .ref (bm), .int (nI ((upL gi (u, k)) 4)), .int (nI ((upL gi (u, k)) 5)), .int (nI (((upL gi (u, k)) 6) + 2)), .int (nI ((upL gi (u, k)) 7))])))) rfl ?_
              refine V_goto (tgt := 90) F dX2_send_147 (by decide) ?_
              refine VV.weak (L' := [some (.ref (r)), some (.int (nI (g (232 + 4 * pos + 0)))), none, some (.int (nI (g (232 + 4 * pos + 2)))), some (.ref (j)), some (.ref (o)), some (.ref (it)), none]) (LW.c1 (LW.c1 (LW.c0 (LW.c1 (LW.c1 (LW.c1 (LW.c1 (LW.c0 LW.nil)))))))) ?_
              obtain ⟨hWa, hOa⟩ := RW.coin (c := upL gi (u, k) 6 + 2) hW9 hO9 hI9g
              have hxa : Fr (m1 r) h9 ((hset h9 (r) (.inr (2, [.ref (ti), .ref (tt), .ref (sm), .ref (bm), .int (nI ((upL gi (u, k)) 4)), .int (nI ((upL gi (u, k)) 5)), .int (nI (((upL gi (u, k)) 6) + 2)), .int (nI ((upL gi (u, k)) 7))])))) := Fr.rf.put hW9.1 rfl rfl (Or.inl rfl)
              have hgn : cinS g (LL.take (i + 1)) = up (upL gi (u, k)) 6 (upL gi (u, k) 6 + 2) := by
                have e9 := foldl_take (f := fun y p => up (upL y p) 6 (upL y p 6 + 2)) (b := g) (d := (0, 0)) hi
                rw [hp0] at e9
                show List.foldl _ g _ = _
                rw [e9, ← hgi]; rfl
              have hFn : Fr (sdM r it (g 1) A) h6 ((hset h9 (r) (.inr (2, [.ref (ti), .ref (tt), .ref (sm), .ref (bm), .int (nI ((upL gi (u, k)) 4)), .int (nI ((upL gi (u, k)) 5)), .int (nI (((upL gi (u, k)) 6) + 2)), .int (nI ((upL gi (u, k)) 7))])))) := ((hFi.cal hx8 (Yo.m1 (Or.inl (Or.inr (Or.inl rfl))))).cal hx9 (Yo.m1 (Or.inl (Or.inr (Or.inr ⟨u, hl.1, rfl⟩))))).cal hxa (Yo.m1 (Or.inl (Or.inl rfl)))
              have hIa := hI9.fr hxa (fun z => by obtain ⟨lr9, hit9⟩ := id hI9; exact ne_oo hit9 hW9.1 (by decide) z)
              exact ih_90 (i + 1) _ _ (by omega) (by omega) hIa hWa hOa hFn hgn
        refine VV.weak (L' := [some (.ref (r)), some (.int (nI (g (232 + 4 * pos + 0)))), none, some (.int (nI (g (232 + 4 * pos + 2)))), some (.ref (j)), some (.ref (o)), some (.ref (it)), none]) (LW.c1 (LW.c1 (LW.c0 (LW.c1 (LW.c1 (LW.c1 (LW.c1 (LW.c0 LW.nil)))))))) ?_
        exact VV.wide (by omega) (by omega) (loop_90 (LL.length + 1) 0 g h6 (by omega) (Nat.zero_le _) hIt (hW.fr0 hF6) hO Fr.rf rfl)
      · exact fun E q h2 hp => absurd hp.1 (by decide)
  · exact fun E q h2 hp => V_xout F (HT _) (by omega) (by omega) (CFx.of (k := 1) (by have hz := cB_z hp.1; unfold ccSD; rw [fdO_none (hp3 hz)]; rfl) (by decide) hGw1 (TH.fr hF1 hp.2))
