/-! ===== journeys ===== -/
def m3 (a b c : Nat) : Nat → Prop := fun q => q = a ∨ q = b ∨ q = c
theorem m3.o {h : AH} {a b c x k kb : Nat} {f fb : List Value} {xc xd : ClassId × vp_A} (hx : h x = some (.inr (k, f))) (ha : h a = some (.inr (kb, fb))) (hk : k ≠ kb) (hb : h b = some (.inl xc)) (hc : h c = some (.inl xd)) : ¬ m3 a b c x :=
  fun q => q.elim (ne_oo hx ha hk) (fun q => q.elim (ne_oa hx hb) (ne_oa hx hc))
theorem m3.q {G : GG} {h : AH} {a b c x kb n nb nc : Nat} {f : Nat → Option Nat} {fb : List Value} {cb cd : ClassId} {g1 g2 : Nat → Int32} (hx : h x = some (qA G n f)) (ha : h a = some (.inr (kb, fb))) (hb : h b = some (.inl (cb, nb, .inl g1))) (hc : h c = some (.inl (cd, nc, .inl g2))) : ¬ m3 a b c x :=
  fun q => q.elim (ne_ao hx ha) (fun q => q.elim (ne_qi hx hb) (ne_qi hx hc))
theorem m3.k {h : AH} {a b c k kb : Nat} {fb : List Value} {xc xd : ClassId × vp_A} (ha : h a = some (.inr (kb, fb))) (hk : k ≠ kb) (hb : h b = some (.inl xc)) (hc : h c = some (.inl xd)) : offK (m3 a b c) h (kO k) := by
  intro y e hy hs q
  rcases q with rfl | rfl | rfl
  · cases ha.symm.trans hy
    exact hk (beq_iff_eq.mp hs).symm
  · cases hb.symm.trans hy; cases hs
  · cases hc.symm.trans hy; cases hs
section ZG
variable {G : GG} {X : CX} {cc : ByteArray} {nL : Nat} {own : String} {ret : Option FieldType} {d MC MS : Nat} {Q : State → Prop} {h : AH} {kc n : Nat} {L : LV} {st : List Value} {pc : Nat}
theorem V_zastG (F : Fx G X cc nL own ret d MC MS) {a N j : Nat} {R : Nat → Nat} (hd : decode cc pc = .ok (.bastore, 1)) (he : h a = some (zA G N (fun i => nI (R i)))) (hj : j < N) (hN : N < 2 ^ 31) (kk : VV G X nL Q (hset h a (zA G N (fun i => nI ((up R j 1) i)))) kc n L st (pc + 1)) : VV G X nL Q h kc n L (.int (nI 1) :: .int (nI j) :: .ref a :: st) pc := by
  refine V_zastN F 3 hd rfl he hj hN ?_
  rw [show vp_nar .boolean (nI 1) = nI 1 from rfl, upd_up]
  exact kk
end ZG
/-- the minute from which on a train can be boarded -/
def bmG (g e : Nat → Nat) (a v s : Nat) : Nat := if s = a then v else min 1000000 (e s + g (8 + s))
abbrev cbG (g e : Nat → Nat) (a v t k : Nat) : Prop := bmG g e a v (plG g t k) ≤ LvG g t k
/-- one leg of a scan -/
def scS (g : Nat → Nat) (a v : Nat) (x : (Nat → Nat) × (Nat → Nat)) (p : Nat × Nat) : (Nat → Nat) × (Nat → Nat) :=
  if cbG g x.1 a v p.1 p.2 ∨ (0 < p.2 ∧ x.2 (8 * p.1 + (p.2 - 1)) = 1) then (up x.1 (plG g p.1 (p.2 + 1)) (min (x.1 (plG g p.1 (p.2 + 1))) (CmG g p.1 (p.2 + 1))), up x.2 (8 * p.1 + p.2) 1) else x
abbrev jnE (G : GG) (tt lg tr a v eA rA : Nat) : va_E := .inr (10, [.ref tt, .ref lg, .ref tr, .int (nI a), .int (nI v), .ref eA, .ref rA])
/-- the journeys of an object at j: what never changes (h0: the heap when they were made) -/
def JN (G : GG) (h0 h : AH) (j : Nat) (g : Nat → Nat) (a v eA rA : Nat) : Prop :=
  ∃ (tt tl ta : Nat) (x : Nat → Nat) (A : Nat → Nat → Nat) (lg lar tr : Nat) (f : Nat → Nat),
    RWr G h0 (tt, tl, ta, x, A) g ∧ Fr nM h0 h ∧ h0 eA = none ∧ h0 rA = none ∧ eA ≠ rA ∧ tr ≠ eA ∧ tr ≠ rA ∧ h j = some (jnE G tt lg tr a v eA rA) ∧ LGS G h lg lar g (lgL g) f ∧ h tr = some (iA G (g 0) (fun i => nI (g (8 + i))))
/-- and the labels e, the legs ridden R -/
def JS (G : GG) (h0 h : AH) (j : Nat) (g : Nat → Nat) (a v eA rA : Nat) (e R : Nat → Nat) : Prop :=
  JN G h0 h j g a v eA rA ∧ h eA = some (iA G (g 0) (fun i => nI (e i))) ∧ h rA = some (zA G 48 (fun i => nI (R i))) ∧ (∀ i, e i ≤ 1000000) ∧ (∀ i, R i < 2)
theorem JS.fr {G : GG} {h0 h h2 : AH} {j a v eA rA : Nat} {g e R e2 R2 : Nat → Nat} (hJ : JS G h0 h j g a v eA rA e R) (hx : Fr (m2 eA rA) h h2) (h1 : h2 eA = some (iA G (g 0) (fun i => nI (e2 i)))) (h3 : h2 rA = some (zA G 48 (fun i => nI (R2 i)))) (h4 : ∀ i, e2 i ≤ 1000000) (h5 : ∀ i, R2 i < 2) : JS G h0 h2 j g a v eA rA e2 R2 := by
  obtain ⟨⟨tt, tl, ta, x, A, lg, lar, tr, f, q1, q2, q3, q4, q5, q6, q7, q8, q9, qa⟩, he, hr, -, -⟩ := hJ
  have hk : ∀ k, offK (m2 eA rA) h (kO k) := by
    intro k y e hy hs q
    rcases q with rfl | rfl
    · cases he.symm.trans hy; cases hs
    · cases hr.symm.trans hy; cases hs
  refine ⟨⟨tt, tl, ta, x, A, lg, lar, tr, f, q1, q2.cal hx (Yo.m2 (Or.inr q3) (Or.inr q4)), q3, q4, q5, q6, q7, hx.get q8 ((hk 10).o q8) rfl, q9.fr hx (fun q => q.elim (ne_oa q9.1.1 he) (ne_oa q9.1.1 hr)) (fun _ _ z q => q.elim (ne_qi z he) (ne_qi z hr)) (hk 5), hx.get qa (fun q => q.elim q6 q7) rfl⟩, h1, h3, h4, h5⟩
theorem JS.fr0 {G : GG} {h0 h h2 : AH} {j a v eA rA : Nat} {g e R : Nat → Nat} (hJ : JS G h0 h j g a v eA rA e R) (hx : Fr nM h h2) : JS G h0 h2 j g a v eA rA e R :=
  hJ.fr (hx.mono (fun _ q => q.elim)) (hx.get hJ.2.1 id rfl) (hx.get hJ.2.2.1 id rfl) hJ.2.2.2.1 hJ.2.2.2.2
theorem foldl_take {α β : Type} {f : β → α → β} {L : List α} {b : β} {i : Nat} {d : α} (hi : i < L.length) : (L.take (i + 1)).foldl f b = f ((L.take i).foldl f b) (L.getD i d) := by
  rw [List.take_succ, List.foldl_append, List.getElem?_eq_getElem hi, List.getD_eq_getElem?_getD, List.getElem?_eq_getElem hi]
  rfl

theorem ct_J_boarding {G : GG} {l : Launch} {h : AH} {j tt lg tr eA rA a v : Nat} {g e : Nat → Nat} {s : Nat}  (hj : h j = some (jnE G tt lg tr a v eA rA)) (heA : h eA = some (iA G (g 0) (fun i => nI (e i)))) (htr : h tr = some (iA G (g 0) (fun i => nI (g (8 + i))))) (hs : s < g 0) (hg0 : g 0 < 2 ^ 31) (hs31 : s < 2 ^ 31) (ha31 : a < 2 ^ 31) (heM : ∀ i, e i ≤ 1000000) (hB : GB g) : Ct G l yX12_boarding cX12_boarding 2 (some .int) 1 (0) (0) [.ref j, .int (nI s)] h (PR (.int (nI (bmG g e a v s))) h) := by
  refine Ct.of (by decide) (Nat.le_of_ble_eq_true rfl) (cat1 rfl) (fun X hXl F HN => ?_)
  subst hXl
  refine V_iload_n (i := 1) F dX12_boarding_0 rfl rfl ?_
  refine V_aload_n (i := 0) F dX12_boarding_1 rfl rfl ?_
  refine V_getf F dX12_boarding_2 fc_X12_23_X12 (.inl hj) rfl ?_
  refine V_icmp_neN (tgt := 15) F dX12_boarding_5 (by decide) hs31 ha31 (fun c_5 => ?_) (fun c_5 => ?_)
  · refine V_ldc (v := nI 1000000) F dX12_boarding_15 q1255 ?_
    refine V_aload_n (i := 0) F dX12_boarding_17 rfl rfl ?_
    refine V_getf F dX12_boarding_18 fc_X12_30_X12 (.inl hj) rfl ?_
    refine V_iload_n (i := 1) F dX12_boarding_21 rfl rfl ?_
    refine V_ialdG F dX12_boarding_22 (.inl heA) hs hg0 rfl ?_
    refine V_aload_n (i := 0) F dX12_boarding_23 rfl rfl ?_
    refine V_getf F dX12_boarding_24 fc_X12_19_X12 (.inl hj) rfl ?_
    refine V_iload_n (i := 1) F dX12_boarding_27 rfl rfl ?_
    refine V_ialdG F dX12_boarding_28 (.inl htr) hs hg0 rfl ?_
    refine V_iaddN F dX12_boarding_29 ?_
    refine V_mminN (a := 1000000) (b := ((e s) + (g (8 + s)))) F dX12_boarding_30 q1456 (by decide) (by have := heM s; have := hB (8 + s); omega) (Nat.le_of_ble_eq_true rfl) (Nat.le_of_ble_eq_true rfl) (by first | exact Nat.le_of_ble_eq_true rfl | omega) (by first | exact Nat.le_of_ble_eq_true rfl | omega) ?_
    exact V_iret F dX12_boarding_33 rfl (by first | exact Nat.le_of_ble_eq_true rfl | omega) (by first | exact Nat.le_of_ble_eq_true rfl | omega) ⟨by unfold bmG; rw [if_neg (by omega)], rfl⟩
  · refine V_aload_n (i := 0) F dX12_boarding_8 rfl rfl ?_
    refine V_getf F dX12_boarding_9 fc_X12_27_X12 (.inl hj) rfl ?_
    refine V_goto (tgt := 33) F dX12_boarding_12 (by decide) ?_
    exact V_iret F dX12_boarding_33 rfl (by first | exact Nat.le_of_ble_eq_true rfl | omega) (by first | exact Nat.le_of_ble_eq_true rfl | omega) ⟨by unfold bmG; rw [if_pos (by omega)], rfl⟩
theorem ct_J_canBoard {G : GG} {l : Launch} {h : AH} {j tt lg tr eA rA a v : Nat} {g e : Nat → Nat} {q t k : Nat}  (hj : h j = some (jnE G tt lg tr a v eA rA)) (heA : h eA = some (iA G (g 0) (fun i => nI (e i)))) (htr : h tr = some (iA G (g 0) (fun i => nI (g (8 + i))))) (hq : h q = some (LgE g t k)) (hs : plG g t k < g 0) (hg0 : g 0 < 2 ^ 31) (hl31 : LvG g t k < 2 ^ 31) (ha31 : a < 2 ^ 31) (hv31 : v < 2 ^ 31) (heM : ∀ i, e i ≤ 1000000) (hB : GB g) : Ct G l yX12_canBoard cX12_canBoard 2 (some .boolean) 2 (0) (0) [.ref j, .ref q] h (PR (.int (b2 (cbG g e a v t k))) h) := by
  refine Ct.of (by decide) (Nat.le_of_ble_eq_true rfl) (cat1 rfl) (fun X hXl F HN => ?_)
  subst hXl
  refine V_aload_n (i := 1) F dX12_canBoard_0 rfl rfl ?_
  refine V_callV (st := []) (nn := 0) F dX12_canBoard_1 lk_X12_44 (ct_Leg_departure hq) ⟨5, _, _, _, rfl, (.inl hq)⟩ rfl rfl (Nat.le_of_ble_eq_true rfl) (Nat.le_of_ble_eq_true rfl) (Nat.le_of_ble_eq_true rfl) (by first | exact Nat.le_of_ble_eq_true rfl | omega) (by first | exact Nat.le_of_ble_eq_true rfl | omega) ?_
  refine PRk ?_
  refine V_aload_n (i := 0) F dX12_canBoard_4 rfl rfl ?_
  refine V_aload_n (i := 1) F dX12_canBoard_5 rfl rfl ?_
  refine V_callV (st := [.ref (j), .int (nI (LvG g t k))]) (nn := 0) F dX12_canBoard_6 lk_X12_50 (ct_Leg_from hq) ⟨5, _, _, _, rfl, (.inl hq)⟩ rfl rfl (Nat.le_of_ble_eq_true rfl) (Nat.le_of_ble_eq_true rfl) (Nat.le_of_ble_eq_true rfl) (by first | exact Nat.le_of_ble_eq_true rfl | omega) (by first | exact Nat.le_of_ble_eq_true rfl | omega) ?_
  refine PRk ?_
  refine V_callV (st := [.int (nI (LvG g t k))]) (nn := 1) F dX12_canBoard_9 lk_X12_53 (ct_J_boarding hj heA htr hs hg0 (by omega) ha31 heM hB) ⟨10, _, _, _, rfl, (.inl hj)⟩ rfl rfl (Nat.le_of_ble_eq_true rfl) (Nat.le_of_ble_eq_true rfl) (Nat.le_of_ble_eq_true rfl) (by first | exact Nat.le_of_ble_eq_true rfl | omega) (by first | exact Nat.le_of_ble_eq_true rfl | omega) ?_
  refine PRk ?_
  refine V_icmp_ltN (tgt := 19) F dX12_canBoard_12 (by decide) hl31 (by unfold bmG; split <;> omega) (fun c_12 => ?_) (fun c_12 => ?_)
  · refine V_iconst (v := nI 0) F dX12_canBoard_19 rfl ?_
    exact V_iret F dX12_canBoard_20 rfl (by first | exact Nat.le_of_ble_eq_true rfl | omega) (by first | exact Nat.le_of_ble_eq_true rfl | omega) ⟨by rw [b2_f (by show ¬ (bmG g e a v (plG g t k) ≤ LvG g t k); omega)]; rfl, rfl⟩
  · refine V_iconst (v := nI 1) F dX12_canBoard_15 rfl ?_
    refine V_goto (tgt := 20) F dX12_canBoard_16 (by decide) ?_
    exact V_iret F dX12_canBoard_20 rfl (by first | exact Nat.le_of_ble_eq_true rfl | omega) (by first | exact Nat.le_of_ble_eq_true rfl | omega) ⟨by rw [b2_t (by show (bmG g e a v (plG g t k) ≤ LvG g t k); omega)]; rfl, rfl⟩
theorem ct_J_isOn {G : GG} {l : Launch} {h : AH} {j tt lg tr eA rA a v : Nat} {R : Nat → Nat} {t k : Nat}  (hj : h j = some (jnE G tt lg tr a v eA rA)) (hrA : h rA = some (zA G 48 (fun i => nI (R i)))) (ht : t < 6) (hk : k < 8) (hRM : ∀ i, R i < 2) : Ct G l yX12_isOn cX12_isOn 3 (some .boolean) 0 (0) (0) [.ref j, .int (nI t), .int (nI k - nI 1)] h (PR (.int (b2 (0 < k ∧ R (8 * t + (k - 1)) = 1))) h) := by
  refine Ct.of (by decide) (Nat.le_of_ble_eq_true rfl) (cat1 rfl) (fun X hXl F HN => ?_)
  subst hXl
  refine V_iload_n (i := 2) F dX12_isOn_0 rfl rfl ?_
  refine V_if_lt (tgt := 22) F dX12_isOn_1 (by decide) (fun c_1 => ?_) (fun c_1 => ?_)
  · have hk0 : k = 0 := by
      rcases Nat.eq_zero_or_pos k with z | z
      · exact z
      · rw [pk_sub z, lt_toInt, nI_toInt (by omega)] at c_1; have : (0 : Int32).toInt = 0 := rfl; omega
    refine V_iconst (v := nI 0) F dX12_isOn_22 rfl ?_
    exact V_iret F dX12_isOn_23 rfl (by first | exact Nat.le_of_ble_eq_true rfl | omega) (by first | exact Nat.le_of_ble_eq_true rfl | omega) ⟨by rw [b2_f (by rintro ⟨z1, z2⟩; omega)]; rfl, rfl⟩
  · have hk0 : 0 < k := by
      rcases Nat.eq_zero_or_pos k with z | z
      · subst z; exact absurd (by decide) c_1
      · exact z
    refine VV.loc (L' := [some (.ref (j)), some (.int (nI (t))), some (.int (nI ((k - 1))))]) (by rw [pk_sub hk0]; rfl) ?_
    refine V_aload_n (i := 0) F dX12_isOn_4 rfl rfl ?_
    refine V_getf F dX12_isOn_5 fc_X12_34_X12 (.inl hj) rfl ?_
    refine V_bipush (v := nI 8) F dX12_isOn_8 rfl ?_
    refine V_iload_n (i := 1) F dX12_isOn_10 rfl rfl ?_
    refine V_imulN F dX12_isOn_11 ?_
    refine V_iload_n (i := 2) F dX12_isOn_12 rfl rfl ?_
    refine V_iaddN F dX12_isOn_13 ?_
    refine V_zaldN F 3 dX12_isOn_14 rfl (.inl hrA) (by omega) (by decide) ?_
    refine V_if_eqN (tgt := 22) F dX12_isOn_15 (by decide) (by have := hRM (8 * t + (k - 1)); omega) (fun c_15 => ?_) (fun c_15 => ?_)
    · refine V_iconst (v := nI 0) F dX12_isOn_22 rfl ?_
      exact V_iret F dX12_isOn_23 rfl (by first | exact Nat.le_of_ble_eq_true rfl | omega) (by first | exact Nat.le_of_ble_eq_true rfl | omega) ⟨by rw [b2_f (by rintro ⟨z1, z2⟩; omega)]; rfl, rfl⟩
    · refine V_iconst (v := nI 1) F dX12_isOn_18 rfl ?_
      refine V_goto (tgt := 23) F dX12_isOn_19 (by decide) ?_
      exact V_iret F dX12_isOn_23 rfl (by first | exact Nat.le_of_ble_eq_true rfl | omega) (by first | exact Nat.le_of_ble_eq_true rfl | omega) ⟨by rw [b2_t ⟨hk0, by have := hRM (8 * t + (k - 1)); omega⟩]; rfl, rfl⟩
theorem ct_J_earliest {G : GG} {l : Launch} {h : AH} {j tt lg tr eA rA a v : Nat} {g e : Nat → Nat} {s : Nat}  (hj : h j = some (jnE G tt lg tr a v eA rA)) (heA : h eA = some (iA G (g 0) (fun i => nI (e i)))) (hs : s < g 0) (hg0 : g 0 < 2 ^ 31) (heM : ∀ i, e i ≤ 1000000) : Ct G l yX12_earliest cX12_earliest 2 (some .int) 0 (0) (0) [.ref j, .int (nI s)] h (PR (.int (if e s < 1000000 then nI (e s) else -1)) h) := by
  refine Ct.of (by decide) (Nat.le_of_ble_eq_true rfl) (cat1 rfl) (fun X hXl F HN => ?_)
  subst hXl
  refine V_aload_n (i := 0) F dX12_earliest_0 rfl rfl ?_
  refine V_getf F dX12_earliest_1 fc_X12_30_X12 (.inl hj) rfl ?_
  refine V_iload_n (i := 1) F dX12_earliest_4 rfl rfl ?_
  refine V_ialdG F dX12_earliest_5 (.inl heA) hs hg0 rfl ?_
  refine V_ldc (v := nI 1000000) F dX12_earliest_6 q1255 ?_
  refine V_icmp_geN (tgt := 20) F dX12_earliest_8 (by decide) (by have := heM s; omega) (by decide) (fun c_8 => ?_) (fun c_8 => ?_)
  · refine V_iconst (v := -1) F dX12_earliest_20 rfl ?_
    exact V_iret F dX12_earliest_21 rfl (by first | exact Nat.le_of_ble_eq_true rfl | omega) (by first | exact Nat.le_of_ble_eq_true rfl | omega) ⟨by rw [if_neg (by omega)], rfl⟩
  · refine V_aload_n (i := 0) F dX12_earliest_11 rfl rfl ?_
    refine V_getf F dX12_earliest_12 fc_X12_30_X12 (.inl hj) rfl ?_
    refine V_iload_n (i := 1) F dX12_earliest_15 rfl rfl ?_
    refine V_ialdG F dX12_earliest_16 (.inl heA) hs hg0 rfl ?_
    refine V_goto (tgt := 21) F dX12_earliest_17 (by decide) ?_
    exact V_iret F dX12_earliest_21 rfl (by first | exact Nat.le_of_ble_eq_true rfl | omega) (by first | exact Nat.le_of_ble_eq_true rfl | omega) ⟨by rw [if_pos (by omega)], rfl⟩
theorem ct_J_scan {G : GG} {l : Launch} {h : AH} {h0 : AH} {j eA rA a v : Nat} {g e R : Nat → Nat}  (hJ : JS G h0 h j g a v eA rA e R) (hI : GW g) (ha31 : a < 2 ^ 31) (hv : v ≤ 9999) : Ct G l yX12_scan cX12_scan 3 (some (.object "SleeperRailway$Journeys")) 8 (102) (6010) [.ref j] h (fun r h2 => ∃ S : List (Nat × Nat), S.Perm ((lgL g).filter (frB g)) ∧ S.Pairwise (dpL g) ∧ r = some (.ref j) ∧ JS G h0 h2 j g a v eA rA (S.foldl (scS g a v) (e, R)).1 (S.foldl (scS g a v) (e, R)).2 ∧ Fr (m2 eA rA) h h2) := by
  refine Ct.of (by decide) (Nat.le_of_ble_eq_true rfl) (cat1 rfl) (fun X hXl F HN => ?_)
  subst hXl
  obtain ⟨⟨tt, tl, ta, x, A, lg, lar, tr, f, hR0, hF0, he0, hr0, her, hte, htr2, hj, hLg, htr⟩, heA, hrA, heM, hRM⟩ := id hJ
  refine V_aload_n (i := 0) F dX12_scan_0 rfl rfl ?_
  refine V_getf F dX12_scan_1 fc_X12_9_X12 (.inl hj) rfl ?_
  refine V_aload_n (i := 0) F dX12_scan_4 rfl rfl ?_
  refine V_getf F dX12_scan_5 fc_X12_15_X12 (.inl hj) rfl ?_
  refine V_callV (st := []) (nn := 1) F dX12_scan_8 lk_X12_57 (ct_TT_free (hR0.fr0 hF0) hI hLg) ⟨3, _, _, _, rfl, .inl (hR0.fr0 hF0).1⟩ rfl rfl (Nat.le_of_ble_eq_true rfl) (Nat.le_of_ble_eq_true rfl) (Nat.le_of_ble_eq_true rfl) (by first | exact Nat.le_of_ble_eq_true rfl | omega) (by first | exact Nat.le_of_ble_eq_true rfl | omega) ?_
  rintro _ hp ⟨sl, sa, fS, S, rfl, hsl0, hsa0, hLs, hxp, hPm, hSo⟩
  have p1 := hxp.get hj id rfl
  have p2 := hxp.get heA id rfl
  have p3 := hxp.get hrA id rfl
  have p4 := hxp.get htr id rfl
  have f5 : Fr (m2 eA rA) h hp := (Fr.rf (M := m2 eA rA) (h := h)).cal0 hxp
  refine V_callF (st := []) (nn := 0) F dX12_scan_11 ⟨lw_F q1323 q1326 q1328 q111 q1330, ⟨q1325, List.mem_append_left _ q1324, q1329, q1327, q387⟩, (by decide +kernel), (by decide +kernel)⟩ (ct_AL_iterator hLs.1) (hLs.1).isC rfl rfl (Nat.le_of_ble_eq_true rfl) (Nat.le_of_ble_eq_true rfl) (Nat.le_of_ble_eq_true rfl) (by first | exact Nat.le_of_ble_eq_true rfl | omega) (by first | exact Nat.le_of_ble_eq_true rfl | omega) ?_
  rintro _ hY6 ⟨it, rfl, hit1, hbit, hIt, hx7⟩
  have hit0 := f5.none hit1
  have p8 := hx7.get p1 id rfl
  have p9 := hx7.get p2 id rfl
  have p10 := hx7.get p3 id rfl
  have p11 := hx7.get p4 id rfl
  have f12 : Fr (m2 eA rA) h hY6 := f5.cal0 hx7
  have hLs2 := hLs.fr0 hx7
  refine V_astore_n (i := 1) F dX12_scan_16 rfl (Nat.le_of_ble_eq_true rfl) (Nat.le_of_ble_eq_true rfl) ?_
  have loop_17 : ∀ (nn : Nat) (i : Nat) (e2 R2 : Nat → Nat) (hh : AH), S.length - i < nn → i ≤ S.length → ITR hh it sl i S.length → LGS G hh sl sa g S fS → hh j = some (jnE G tt lg tr a v eA rA) → hh eA = some (iA G (g 0) (fun i => nI (e2 i))) → hh rA = some (zA G 48 (fun i => nI (R2 i))) → hh tr = some (iA G (g 0) (fun i => nI (g (8 + i)))) → Fr (m2 eA rA) h hh → (∀ i, e2 i ≤ 1000000) → (∀ i, R2 i < 2) → (S.take i).foldl (scS g a v) (e, R) = (e2, R2) → VV G X 3 ((EQ G X (102) (6010) (fun r h2 => ∃ S : List (Nat × Nat), S.Perm ((lgL g).filter (frB g)) ∧ S.Pairwise (dpL g) ∧ r = some (.ref j) ∧ JS G h0 h2 j g a v eA rA (S.foldl (scS g a v) (e, R)).1 (S.foldl (scS g a v) (e, R)).2 ∧ Fr (m2 eA rA) h h2))) hh (101) (6004) [some (.ref (j)), some (.ref (it)), none] [] 17 := by
    intro nn
    induction nn with
    | zero => intro i e2 R2 hh hm hi9 hI3 hL hjn heA2 hrA2 htn hF heM2 hRM2 hfo; exact absurd hm (by omega)
    | succ nn ih_17 =>
      intro i e2 R2 hh hm hi9 hI3 hL hjn heA2 hrA2 htn hF heM2 hRM2 hfo
      have hS42 : S.length ≤ 42 := by have z1 := hPm.length_eq; have z2 := List.length_filter_le (frB g) (lgL g); have z3 := lgL_len hI; omega
      obtain ⟨lr3, hit3⟩ := id hI3
      have hl1 := m3.o hL.1.1 hit3 (by decide) heA2 hrA2
      have hl2 : ∀ c f, hh sa = some (qA G c f) → ¬ m3 it eA rA sa := fun c f z => m3.q z hit3 heA2 hrA2
      have hl3 : offK (m3 it eA rA) hh (kO 5) := m3.k hit3 (by decide) heA2 hrA2
      have hjit := ne_oo hjn hit3 (by decide)
      have heit := ne_ao heA2 hit3
      have hrit := ne_ao hrA2 hit3
      have htit := ne_ao htn hit3
      refine V_aload_n (i := 1) F dX12_scan_17 rfl rfl ?_
      refine V_callF (st := []) (nn := 0) F dX12_scan_18 ⟨lw_F q1436 q832 q834 q133 q836, ⟨q460, List.mem_append_left _ q459, q835, q833, q831⟩, (by decide +kernel), (by decide +kernel)⟩ (ct_Itr_hasNext hL.1 hI3 (by omega) hi9) hI3.isC rfl rfl (Nat.le_of_ble_eq_true rfl) (Nat.le_of_ble_eq_true rfl) (Nat.le_of_ble_eq_true rfl) (by first | exact Nat.le_of_ble_eq_true rfl | omega) (by first | exact Nat.le_of_ble_eq_true rfl | omega) ?_
      refine PRk ?_
      refine V_if_eqB (tgt := 99) F dX12_scan_23 (by decide) (fun c_23 => ?_) (fun c_23 => ?_)
      · refine V_aload_n (i := 0) F dX12_scan_99 rfl rfl ?_
        have hie : i = S.length := by omega
        rw [hie, List.take_length] at hfo
        exact V_aret F dX12_scan_100 (Or.inl ⟨_, rfl⟩) (Or.inr ⟨_, rfl⟩) (by first | exact Nat.le_of_ble_eq_true rfl | omega) (by first | exact Nat.le_of_ble_eq_true rfl | omega) ⟨S, hPm, hSo, rfl, by rw [hfo]; exact hJ.fr hF heA2 hrA2 heM2 hRM2, hF⟩
      · have hi : i < S.length := c_23
        refine V_aload_n (i := 1) F dX12_scan_26 rfl rfl ?_
        refine V_callF (st := []) (nn := 0) F dX12_scan_27 ⟨lw_F q1438 q1072 q1074 q133 q1076, ⟨q868, List.mem_append_left _ q867, q1075, q1073, q831⟩, (by decide +kernel), (by decide +kernel)⟩ (ct_Itr_next hL.1 hI3 (by omega) (by omega) hi) hI3.isC rfl rfl (Nat.le_of_ble_eq_true rfl) (Nat.le_of_ble_eq_true rfl) (Nat.le_of_ble_eq_true rfl) (by first | exact Nat.le_of_ble_eq_true rfl | omega) (by first | exact Nat.le_of_ble_eq_true rfl | omega) ?_
        rintro _ h3 ⟨rfl, hI4, hx3⟩
        have p1 := hx3.get hjn (fun z => hjit z) rfl
        have p2 := hx3.get heA2 (fun z => heit z) rfl
        have p3 := hx3.get hrA2 (fun z => hrit z) rfl
        have p4 := hx3.get htn (fun z => htit z) rfl
        have f5 : Fr ((m3 it eA rA)) hh h3 := (Fr.rf (M := (m3 it eA rA)) (h := hh)).cal hx3 (Yo.m1 (Or.inl (Or.inl rfl)))
        have hL2 := hL.fr f5 hl1 hl2 hl3
        have hq := hL2.2 i hi
        have hpm := (List.mem_filter.mp (hPm.subset (getD_mem (d := (0, 0)) hi))).1
        generalize hp0 : S.getD i (0, 0) = pq at hq hpm
        obtain ⟨u, k⟩ := pq
        have hq : h3 (fS i) = some (LgE g u k) := hq
        obtain ⟨hu, hk⟩ : u < g 1 ∧ k < g (16 + 36 * u + 3) - 1 := mem_lgL.mp hpm
        have hs8 := (hI.st hu).2
        have hu6 := hI.t6 hu
        generalize hfq : fS i = q at hq
        refine VV.stk (st' := [.ref (q)]) rfl ?_
        refine V_ckS F dX12_scan_32 q1439 ⟨5, _, _, _, rfl, (.inl hq)⟩ ?_
        refine V_astore_n (i := 2) F dX12_scan_35 rfl (Nat.le_of_ble_eq_true rfl) (Nat.le_of_ble_eq_true rfl) ?_
        refine V_aload_n (i := 0) F dX12_scan_36 rfl rfl ?_
        refine V_aload_n (i := 2) F dX12_scan_37 rfl rfl ?_
        refine V_callV (st := []) (nn := 1) F dX12_scan_38 lk_X12_79 (ct_J_canBoard p1 p2 p4 hq (hI.pl hu (by omega)) hI.b.lt (Nat.lt_trans (LvG_31 hI.b (by omega)) (by decide)) ha31 (by omega) heM2 hI.b) ⟨10, _, _, _, rfl, (.inl p1)⟩ rfl rfl (Nat.le_of_ble_eq_true rfl) (Nat.le_of_ble_eq_true rfl) (Nat.le_of_ble_eq_true rfl) (by first | exact Nat.le_of_ble_eq_true rfl | omega) (by first | exact Nat.le_of_ble_eq_true rfl | omega) ?_
        refine PRk ?_
        refine V_if_neB (tgt := 61) F dX12_scan_41 (by decide) (fun c_41 => ?_) (fun c_41 => ?_)
        · refine V_aload_n (i := 0) F dX12_scan_61 rfl rfl ?_
          refine V_getf F dX12_scan_62 fc_X12_34_X12 (.inl p1) rfl ?_
          refine V_aload_n (i := 2) F dX12_scan_65 rfl rfl ?_
          refine V_callV (st := [.ref (rA)]) (nn := 0) F dX12_scan_66 lk_X12_93 (ct_Leg_hash hq) ⟨5, _, _, _, rfl, (.inl hq)⟩ rfl rfl (Nat.le_of_ble_eq_true rfl) (Nat.le_of_ble_eq_true rfl) (Nat.le_of_ble_eq_true rfl) (by first | exact Nat.le_of_ble_eq_true rfl | omega) (by first | exact Nat.le_of_ble_eq_true rfl | omega) ?_
          refine PRk ?_
          refine V_iconst (v := nI 1) F dX12_scan_69 rfl ?_
          obtain ⟨lr4, hit4⟩ := hI4
          refine V_zastG F dX12_scan_70 p3 (by omega) (by decide) ?_
          refine V_aload_n (i := 0) F dX12_scan_71 rfl rfl ?_
          refine V_getf F dX12_scan_72 fc_X12_30_X12 (.inl ((hset_ne (ne_oa p1 p3)).trans p1)) rfl ?_
          refine V_aload_n (i := 2) F dX12_scan_75 rfl rfl ?_
          refine V_callV (st := [.ref (eA)]) (nn := 0) F dX12_scan_76 lk_X12_96 (ct_Leg_to ((hset_ne (ne_oa hq p3)).trans hq)) ⟨5, _, _, _, rfl, (.inl ((hset_ne (ne_oa hq p3)).trans hq))⟩ rfl rfl (Nat.le_of_ble_eq_true rfl) (Nat.le_of_ble_eq_true rfl) (Nat.le_of_ble_eq_true rfl) (by first | exact Nat.le_of_ble_eq_true rfl | omega) (by first | exact Nat.le_of_ble_eq_true rfl | omega) ?_
          refine PRk ?_
          refine V_aload_n (i := 0) F dX12_scan_79 rfl rfl ?_
          refine V_getf F dX12_scan_80 fc_X12_30_X12 (.inl ((hset_ne (ne_oa p1 p3)).trans p1)) rfl ?_
          refine V_aload_n (i := 2) F dX12_scan_83 rfl rfl ?_
          refine V_callV (st := [.ref (eA), .int (nI (plG g u (k + 1))), .ref (eA)]) (nn := 0) F dX12_scan_84 lk_X12_96 (ct_Leg_to ((hset_ne (ne_oa hq p3)).trans hq)) ⟨5, _, _, _, rfl, (.inl ((hset_ne (ne_oa hq p3)).trans hq))⟩ rfl rfl (Nat.le_of_ble_eq_true rfl) (Nat.le_of_ble_eq_true rfl) (Nat.le_of_ble_eq_true rfl) (by first | exact Nat.le_of_ble_eq_true rfl | omega) (by first | exact Nat.le_of_ble_eq_true rfl | omega) ?_
          refine PRk ?_
          refine V_ialdG F dX12_scan_87 (.inl ((hset_ne her).trans p2)) (hI.pl hu (by omega)) hI.b.lt rfl ?_
          refine V_aload_n (i := 2) F dX12_scan_88 rfl rfl ?_
          refine V_callV (st := [.int (nI (e2 (plG g u (k + 1)))), .int (nI (plG g u (k + 1))), .ref (eA)]) (nn := 0) F dX12_scan_89 lk_X12_99 (ct_Leg_arrival ((hset_ne (ne_oa hq p3)).trans hq)) ⟨5, _, _, _, rfl, (.inl ((hset_ne (ne_oa hq p3)).trans hq))⟩ rfl rfl (Nat.le_of_ble_eq_true rfl) (Nat.le_of_ble_eq_true rfl) (Nat.le_of_ble_eq_true rfl) (by first | exact Nat.le_of_ble_eq_true rfl | omega) (by first | exact Nat.le_of_ble_eq_true rfl | omega) ?_
          refine PRk ?_
          refine V_mminN (a := (e2 (plG g u (k + 1)))) (b := (CmG g u (k + 1))) F dX12_scan_92 q1456 (by have := heM2 (plG g u (k + 1)); omega) (Nat.lt_trans (CmG_31 hI.b (by omega)) (by decide)) (Nat.le_of_ble_eq_true rfl) (Nat.le_of_ble_eq_true rfl) (by first | exact Nat.le_of_ble_eq_true rfl | omega) (by first | exact Nat.le_of_ble_eq_true rfl | omega) ?_
          have p6 : (hset h3 (rA) (.inl (G.2.1 3, 48, .inl (fun i => nI (((up R2 (8 * u + k) 1)) i))))) j = some (.inr (10, [.ref (tt), .ref (lg), .ref (tr), .int (nI (a)), .int (nI (v)), .ref (eA), .ref (rA)])) := ((hset_ne (ne_oa p1 p3)).trans p1)
          have p7 : (hset h3 (rA) (.inl (G.2.1 3, 48, .inl (fun i => nI (((up R2 (8 * u + k) 1)) i))))) eA = some (.inl (G.2.1 0, (g 0), .inl (fun i => nI (e2 i)))) := ((hset_ne her).trans p2)
          have p8 : (hset h3 (rA) (.inl (G.2.1 3, 48, .inl (fun i => nI (((up R2 (8 * u + k) 1)) i))))) tr = some (.inl (G.2.1 0, (g 0), .inl (fun i => nI ((fun i => g (8 + i)) i)))) := ((hset_ne htr2).trans p4)
          have p9 : (hset h3 (rA) (.inl (G.2.1 3, 48, .inl (fun i => nI (((up R2 (8 * u + k) 1)) i))))) q = some (.inr (5, [.int (nI (u)), .int (nI (k)), .int (nI (plG g u k)), .int (nI (plG g u (k + 1))), .int (nI (LvG g u k)), .int (nI (CmG g u (k + 1)))])) := ((hset_ne (ne_oa hq p3)).trans hq)
          have p10 : (hset h3 (rA) (.inl (G.2.1 3, 48, .inl (fun i => nI (((up R2 (8 * u + k) 1)) i))))) rA = some (.inl (G.2.1 3, 48, .inl (fun i => nI (((up R2 (8 * u + k) 1)) i)))) := (hset_self (e := .inl (G.2.1 3, 48, .inl (fun i => nI (((up R2 (8 * u + k) 1)) i)))))
          refine V_iastG F dX12_scan_95 p7 (hI.pl hu (by omega)) hI.b.lt ?_
          refine V_goto (tgt := 17) F dX12_scan_96 (by decide) ?_
          refine VV.weak (L' := [some (.ref (j)), some (.ref (it)), none]) (LW.c1 (LW.c1 (LW.c0 LW.nil))) ?_
          have hfr := ((f5.put (x := .inl (G.2.1 3, 48, .inl (fun i => nI (((up R2 (8 * u + k) 1)) i)))) p3 ⟨rfl, rfl⟩ rfl (Or.inl (Or.inr (Or.inr rfl)))).put (x := .inl (G.2.1 0, (g 0), .inl (fun i => nI (((up e2 (plG g u (k + 1)) (min (e2 (plG g u (k + 1))) (CmG g u (k + 1))))) i)))) p7 ⟨rfl, rfl⟩ rfl (Or.inl (Or.inr (Or.inl rfl))))
          have pe : (hset (hset h3 (rA) (.inl (G.2.1 3, 48, .inl (fun i => nI (((up R2 (8 * u + k) 1)) i))))) (eA) (.inl (G.2.1 0, (g 0), .inl (fun i => nI (((up e2 (plG g u (k + 1)) (min (e2 (plG g u (k + 1))) (CmG g u (k + 1))))) i))))) eA = some (.inl (G.2.1 0, (g 0), .inl (fun i => nI (((up e2 (plG g u (k + 1)) (min (e2 (plG g u (k + 1))) (CmG g u (k + 1))))) i)))) := (hset_self (e := .inl (G.2.1 0, (g 0), .inl (fun i => nI (((up e2 (plG g u (k + 1)) (min (e2 (plG g u (k + 1))) (CmG g u (k + 1))))) i)))))
          have pr : (hset (hset h3 (rA) (.inl (G.2.1 3, 48, .inl (fun i => nI (((up R2 (8 * u + k) 1)) i))))) (eA) (.inl (G.2.1 0, (g 0), .inl (fun i => nI (((up e2 (plG g u (k + 1)) (min (e2 (plG g u (k + 1))) (CmG g u (k + 1))))) i))))) rA = some (.inl (G.2.1 3, 48, .inl (fun i => nI (((up R2 (8 * u + k) 1)) i)))) := ((hset_ne (Ne.symm her)).trans p10)
          have pj : (hset (hset h3 (rA) (.inl (G.2.1 3, 48, .inl (fun i => nI (((up R2 (8 * u + k) 1)) i))))) (eA) (.inl (G.2.1 0, (g 0), .inl (fun i => nI (((up e2 (plG g u (k + 1)) (min (e2 (plG g u (k + 1))) (CmG g u (k + 1))))) i))))) j = some (.inr (10, [.ref (tt), .ref (lg), .ref (tr), .int (nI (a)), .int (nI (v)), .ref (eA), .ref (rA)])) := ((hset_ne (ne_oa p6 p7)).trans p6)
          have pt : (hset (hset h3 (rA) (.inl (G.2.1 3, 48, .inl (fun i => nI (((up R2 (8 * u + k) 1)) i))))) (eA) (.inl (G.2.1 0, (g 0), .inl (fun i => nI (((up e2 (plG g u (k + 1)) (min (e2 (plG g u (k + 1))) (CmG g u (k + 1))))) i))))) tr = some (.inl (G.2.1 0, (g 0), .inl (fun i => nI ((fun i => g (8 + i)) i)))) := ((hset_ne hte).trans p8)
          have hcond : cbG g e2 a v u k ∨ (0 < k ∧ R2 (8 * u + (k - 1)) = 1) := by first | exact Or.inl c_41 | exact Or.inr c_58
          have hL3 := hL.fr hfr hl1 hl2 hl3
          have hI5 : ITR ((hset (hset h3 (rA) (.inl (G.2.1 3, 48, .inl (fun i => nI (((up R2 (8 * u + k) 1)) i))))) (eA) (.inl (G.2.1 0, (g 0), .inl (fun i => nI (((up e2 (plG g u (k + 1)) (min (e2 (plG g u (k + 1))) (CmG g u (k + 1))))) i)))))) it sl (i + 1) S.length := ⟨lr4, (hset_ne (Ne.symm heit)).trans ((hset_ne (Ne.symm hrit)).trans hit4)⟩
          have hF5 : Fr (m2 eA rA) h ((hset (hset h3 (rA) (.inl (G.2.1 3, 48, .inl (fun i => nI (((up R2 (8 * u + k) 1)) i))))) (eA) (.inl (G.2.1 0, (g 0), .inl (fun i => nI (((up e2 (plG g u (k + 1)) (min (e2 (plG g u (k + 1))) (CmG g u (k + 1))))) i)))))) := hF.cal hfr (fun b z => z.elim (fun q => Or.inr (q ▸ hit0)) (fun q => Or.inl q))
          refine VV.wide (by omega) (by omega) (ih_17 (i + 1) ((up e2 (plG g u (k + 1)) (min (e2 (plG g u (k + 1))) (CmG g u (k + 1))))) ((up R2 (8 * u + k) 1)) _ (by omega) (by omega) hI5 hL3 pj pe pr pt hF5 (fun z => by unfold up; split <;> first | exact Nat.le_trans (Nat.min_le_left _ _) (heM2 _) | exact heM2 z) (fun z => by unfold up; split <;> first | decide | exact hRM2 z) ?_)
          rw [foldl_take (d := (0, 0)) hi, hfo, hp0]
          exact if_pos hcond
        · refine V_aload_n (i := 0) F dX12_scan_44 rfl rfl ?_
          refine V_aload_n (i := 2) F dX12_scan_45 rfl rfl ?_
          refine V_callV (st := [.ref (j)]) (nn := 0) F dX12_scan_46 lk_X12_83 (ct_Leg_train hq) ⟨5, _, _, _, rfl, (.inl hq)⟩ rfl rfl (Nat.le_of_ble_eq_true rfl) (Nat.le_of_ble_eq_true rfl) (Nat.le_of_ble_eq_true rfl) (by first | exact Nat.le_of_ble_eq_true rfl | omega) (by first | exact Nat.le_of_ble_eq_true rfl | omega) ?_
          refine PRk ?_
          refine V_aload_n (i := 2) F dX12_scan_49 rfl rfl ?_
          refine V_callV (st := [.int (nI (u)), .ref (j)]) (nn := 0) F dX12_scan_50 lk_X12_86 (ct_Leg_number hq) ⟨5, _, _, _, rfl, (.inl hq)⟩ rfl rfl (Nat.le_of_ble_eq_true rfl) (Nat.le_of_ble_eq_true rfl) (Nat.le_of_ble_eq_true rfl) (by first | exact Nat.le_of_ble_eq_true rfl | omega) (by first | exact Nat.le_of_ble_eq_true rfl | omega) ?_
          refine PRk ?_
          refine V_iconst (v := nI 1) F dX12_scan_53 rfl ?_
          refine V_isub F dX12_scan_54 ?_
          refine V_callV (st := []) (nn := 2) F dX12_scan_55 lk_X12_89 (ct_J_isOn p1 p3 hu6 (by omega) hRM2) ⟨10, _, _, _, rfl, (.inl p1)⟩ rfl rfl (Nat.le_of_ble_eq_true rfl) (Nat.le_of_ble_eq_true rfl) (Nat.le_of_ble_eq_true rfl) (by first | exact Nat.le_of_ble_eq_true rfl | omega) (by first | exact Nat.le_of_ble_eq_true rfl | omega) ?_
          refine PRk ?_
          refine V_if_eqB (tgt := 96) F dX12_scan_58 (by decide) (fun c_58 => ?_) (fun c_58 => ?_)
          · refine V_goto (tgt := 17) F dX12_scan_96 (by decide) ?_
            refine VV.weak (L' := [some (.ref (j)), some (.ref (it)), none]) (LW.c1 (LW.c1 (LW.c0 LW.nil))) ?_
            have hfr := f5
            have pe : h3 eA = some (.inl (G.2.1 0, (g 0), .inl (fun i => nI (e2 i)))) := p2
            have pr : h3 rA = some (.inl (G.2.1 3, 48, .inl (fun i => nI (R2 i)))) := p3
            have pj : h3 j = some (.inr (10, [.ref (tt), .ref (lg), .ref (tr), .int (nI (a)), .int (nI (v)), .ref (eA), .ref (rA)])) := p1
            have pt : h3 tr = some (.inl (G.2.1 0, (g 0), .inl (fun i => nI ((fun i => g (8 + i)) i)))) := p4
            have hcond : ¬ (cbG g e2 a v u k ∨ (0 < k ∧ R2 (8 * u + (k - 1)) = 1)) := fun z => z.elim c_41 c_58
            have hL3 := hL.fr hfr hl1 hl2 hl3
            have hI5 : ITR (h3) it sl (i + 1) S.length := hI4
            have hF5 : Fr (m2 eA rA) h (h3) := hF.cal hfr (fun b z => z.elim (fun q => Or.inr (q ▸ hit0)) (fun q => Or.inl q))
            refine VV.wide (by omega) (by omega) (ih_17 (i + 1) e2 R2 _ (by omega) (by omega) hI5 hL3 pj pe pr pt hF5 heM2 hRM2 ?_)
            rw [foldl_take (d := (0, 0)) hi, hfo, hp0]
            exact if_neg hcond
          · refine V_aload_n (i := 0) F dX12_scan_61 rfl rfl ?_
            refine V_getf F dX12_scan_62 fc_X12_34_X12 (.inl p1) rfl ?_
            refine V_aload_n (i := 2) F dX12_scan_65 rfl rfl ?_
            refine V_callV (st := [.ref (rA)]) (nn := 0) F dX12_scan_66 lk_X12_93 (ct_Leg_hash hq) ⟨5, _, _, _, rfl, (.inl hq)⟩ rfl rfl (Nat.le_of_ble_eq_true rfl) (Nat.le_of_ble_eq_true rfl) (Nat.le_of_ble_eq_true rfl) (by first | exact Nat.le_of_ble_eq_true rfl | omega) (by first | exact Nat.le_of_ble_eq_true rfl | omega) ?_
            refine PRk ?_
            refine V_iconst (v := nI 1) F dX12_scan_69 rfl ?_
            obtain ⟨lr4, hit4⟩ := hI4
            refine V_zastG F dX12_scan_70 p3 (by omega) (by decide) ?_
            refine V_aload_n (i := 0) F dX12_scan_71 rfl rfl ?_
            refine V_getf F dX12_scan_72 fc_X12_30_X12 (.inl ((hset_ne (ne_oa p1 p3)).trans p1)) rfl ?_
            refine V_aload_n (i := 2) F dX12_scan_75 rfl rfl ?_
            refine V_callV (st := [.ref (eA)]) (nn := 0) F dX12_scan_76 lk_X12_96 (ct_Leg_to ((hset_ne (ne_oa hq p3)).trans hq)) ⟨5, _, _, _, rfl, (.inl ((hset_ne (ne_oa hq p3)).trans hq))⟩ rfl rfl (Nat.le_of_ble_eq_true rfl) (Nat.le_of_ble_eq_true rfl) (Nat.le_of_ble_eq_true rfl) (by first | exact Nat.le_of_ble_eq_true rfl | omega) (by first | exact Nat.le_of_ble_eq_true rfl | omega) ?_
            refine PRk ?_
            refine V_aload_n (i := 0) F dX12_scan_79 rfl rfl ?_
            refine V_getf F dX12_scan_80 fc_X12_30_X12 (.inl ((hset_ne (ne_oa p1 p3)).trans p1)) rfl ?_
            refine V_aload_n (i := 2) F dX12_scan_83 rfl rfl ?_
            refine V_callV (st := [.ref (eA), .int (nI (plG g u (k + 1))), .ref (eA)]) (nn := 0) F dX12_scan_84 lk_X12_96 (ct_Leg_to ((hset_ne (ne_oa hq p3)).trans hq)) ⟨5, _, _, _, rfl, (.inl ((hset_ne (ne_oa hq p3)).trans hq))⟩ rfl rfl (Nat.le_of_ble_eq_true rfl) (Nat.le_of_ble_eq_true rfl) (Nat.le_of_ble_eq_true rfl) (by first | exact Nat.le_of_ble_eq_true rfl | omega) (by first | exact Nat.le_of_ble_eq_true rfl | omega) ?_
            refine PRk ?_
            refine V_ialdG F dX12_scan_87 (.inl ((hset_ne her).trans p2)) (hI.pl hu (by omega)) hI.b.lt rfl ?_
            refine V_aload_n (i := 2) F dX12_scan_88 rfl rfl ?_
            refine V_callV (st := [.int (nI (e2 (plG g u (k + 1)))), .int (nI (plG g u (k + 1))), .ref (eA)]) (nn := 0) F dX12_scan_89 lk_X12_99 (ct_Leg_arrival ((hset_ne (ne_oa hq p3)).trans hq)) ⟨5, _, _, _, rfl, (.inl ((hset_ne (ne_oa hq p3)).trans hq))⟩ rfl rfl (Nat.le_of_ble_eq_true rfl) (Nat.le_of_ble_eq_true rfl) (Nat.le_of_ble_eq_true rfl) (by first | exact Nat.le_of_ble_eq_true rfl | omega) (by first | exact Nat.le_of_ble_eq_true rfl | omega) ?_
            refine PRk ?_
            refine V_mminN (a := (e2 (plG g u (k + 1)))) (b := (CmG g u (k + 1))) F dX12_scan_92 q1456 (by have := heM2 (plG g u (k + 1)); omega) (Nat.lt_trans (CmG_31 hI.b (by omega)) (by decide)) (Nat.le_of_ble_eq_true rfl) (Nat.le_of_ble_eq_true rfl) (by first | exact Nat.le_of_ble_eq_true rfl | omega) (by first | exact Nat.le_of_ble_eq_true rfl | omega) ?_
            have p11 : (hset h3 (rA) (.inl (G.2.1 3, 48, .inl (fun i => nI (((up R2 (8 * u + k) 1)) i))))) j = some (.inr (10, [.ref (tt), .ref (lg), .ref (tr), .int (nI (a)), .int (nI (v)), .ref (eA), .ref (rA)])) := ((hset_ne (ne_oa p1 p3)).trans p1)
            have p12 : (hset h3 (rA) (.inl (G.2.1 3, 48, .inl (fun i => nI (((up R2 (8 * u + k) 1)) i))))) eA = some (.inl (G.2.1 0, (g 0), .inl (fun i => nI (e2 i)))) := ((hset_ne her).trans p2)
            have p13 : (hset h3 (rA) (.inl (G.2.1 3, 48, .inl (fun i => nI (((up R2 (8 * u + k) 1)) i))))) tr = some (.inl (G.2.1 0, (g 0), .inl (fun i => nI ((fun i => g (8 + i)) i)))) := ((hset_ne htr2).trans p4)
            have p14 : (hset h3 (rA) (.inl (G.2.1 3, 48, .inl (fun i => nI (((up R2 (8 * u + k) 1)) i))))) q = some (.inr (5, [.int (nI (u)), .int (nI (k)), .int (nI (plG g u k)), .int (nI (plG g u (k + 1))), .int (nI (LvG g u k)), .int (nI (CmG g u (k + 1)))])) := ((hset_ne (ne_oa hq p3)).trans hq)
            have p15 : (hset h3 (rA) (.inl (G.2.1 3, 48, .inl (fun i => nI (((up R2 (8 * u + k) 1)) i))))) rA = some (.inl (G.2.1 3, 48, .inl (fun i => nI (((up R2 (8 * u + k) 1)) i)))) := (hset_self (e := .inl (G.2.1 3, 48, .inl (fun i => nI (((up R2 (8 * u + k) 1)) i)))))
            refine V_iastG F dX12_scan_95 p12 (hI.pl hu (by omega)) hI.b.lt ?_
            refine V_goto (tgt := 17) F dX12_scan_96 (by decide) ?_
            refine VV.weak (L' := [some (.ref (j)), some (.ref (it)), none]) (LW.c1 (LW.c1 (LW.c0 LW.nil))) ?_
            have hfr := ((f5.put (x := .inl (G.2.1 3, 48, .inl (fun i => nI (((up R2 (8 * u + k) 1)) i)))) p3 ⟨rfl, rfl⟩ rfl (Or.inl (Or.inr (Or.inr rfl)))).put (x := .inl (G.2.1 0, (g 0), .inl (fun i => nI (((up e2 (plG g u (k + 1)) (min (e2 (plG g u (k + 1))) (CmG g u (k + 1))))) i)))) p12 ⟨rfl, rfl⟩ rfl (Or.inl (Or.inr (Or.inl rfl))))
            have pe : (hset (hset h3 (rA) (.inl (G.2.1 3, 48, .inl (fun i => nI (((up R2 (8 * u + k) 1)) i))))) (eA) (.inl (G.2.1 0, (g 0), .inl (fun i => nI (((up e2 (plG g u (k + 1)) (min (e2 (plG g u (k + 1))) (CmG g u (k + 1))))) i))))) eA = some (.inl (G.2.1 0, (g 0), .inl (fun i => nI (((up e2 (plG g u (k + 1)) (min (e2 (plG g u (k + 1))) (CmG g u (k + 1))))) i)))) := (hset_self (e := .inl (G.2.1 0, (g 0), .inl (fun i => nI (((up e2 (plG g u (k + 1)) (min (e2 (plG g u (k + 1))) (CmG g u (k + 1))))) i)))))
            have pr : (hset (hset h3 (rA) (.inl (G.2.1 3, 48, .inl (fun i => nI (((up R2 (8 * u + k) 1)) i))))) (eA) (.inl (G.2.1 0, (g 0), .inl (fun i => nI (((up e2 (plG g u (k + 1)) (min (e2 (plG g u (k + 1))) (CmG g u (k + 1))))) i))))) rA = some (.inl (G.2.1 3, 48, .inl (fun i => nI (((up R2 (8 * u + k) 1)) i)))) := ((hset_ne (Ne.symm her)).trans p15)
            have pj : (hset (hset h3 (rA) (.inl (G.2.1 3, 48, .inl (fun i => nI (((up R2 (8 * u + k) 1)) i))))) (eA) (.inl (G.2.1 0, (g 0), .inl (fun i => nI (((up e2 (plG g u (k + 1)) (min (e2 (plG g u (k + 1))) (CmG g u (k + 1))))) i))))) j = some (.inr (10, [.ref (tt), .ref (lg), .ref (tr), .int (nI (a)), .int (nI (v)), .ref (eA), .ref (rA)])) := ((hset_ne (ne_oa p11 p12)).trans p11)
            have pt : (hset (hset h3 (rA) (.inl (G.2.1 3, 48, .inl (fun i => nI (((up R2 (8 * u + k) 1)) i))))) (eA) (.inl (G.2.1 0, (g 0), .inl (fun i => nI (((up e2 (plG g u (k + 1)) (min (e2 (plG g u (k + 1))) (CmG g u (k + 1))))) i))))) tr = some (.inl (G.2.1 0, (g 0), .inl (fun i => nI ((fun i => g (8 + i)) i)))) := ((hset_ne hte).trans p13)
            have hcond : cbG g e2 a v u k ∨ (0 < k ∧ R2 (8 * u + (k - 1)) = 1) := by first | exact Or.inl c_41 | exact Or.inr c_58
            have hL3 := hL.fr hfr hl1 hl2 hl3
            have hI5 : ITR ((hset (hset h3 (rA) (.inl (G.2.1 3, 48, .inl (fun i => nI (((up R2 (8 * u + k) 1)) i))))) (eA) (.inl (G.2.1 0, (g 0), .inl (fun i => nI (((up e2 (plG g u (k + 1)) (min (e2 (plG g u (k + 1))) (CmG g u (k + 1))))) i)))))) it sl (i + 1) S.length := ⟨lr4, (hset_ne (Ne.symm heit)).trans ((hset_ne (Ne.symm hrit)).trans hit4)⟩
            have hF5 : Fr (m2 eA rA) h ((hset (hset h3 (rA) (.inl (G.2.1 3, 48, .inl (fun i => nI (((up R2 (8 * u + k) 1)) i))))) (eA) (.inl (G.2.1 0, (g 0), .inl (fun i => nI (((up e2 (plG g u (k + 1)) (min (e2 (plG g u (k + 1))) (CmG g u (k + 1))))) i)))))) := hF.cal hfr (fun b z => z.elim (fun q => Or.inr (q ▸ hit0)) (fun q => Or.inl q))
            refine VV.wide (by omega) (by omega) (ih_17 (i + 1) ((up e2 (plG g u (k + 1)) (min (e2 (plG g u (k + 1))) (CmG g u (k + 1))))) ((up R2 (8 * u + k) 1)) _ (by omega) (by omega) hI5 hL3 pj pe pr pt hF5 (fun z => by unfold up; split <;> first | exact Nat.le_trans (Nat.min_le_left _ _) (heM2 _) | exact heM2 z) (fun z => by unfold up; split <;> first | decide | exact hRM2 z) ?_)
            rw [foldl_take (d := (0, 0)) hi, hfo, hp0]
            exact if_pos hcond
  refine VV.weak (L' := [some (.ref (j)), some (.ref (it)), none]) (LW.c1 (LW.c1 (LW.c0 LW.nil))) ?_
  have hfr := f12
  exact VV.wide (by omega) (by omega) (loop_17 (S.length + 1) 0 e R _ (by omega) (Nat.zero_le _) hIt hLs2 p8 p9 p10 p11 hfr heM hRM rfl)
