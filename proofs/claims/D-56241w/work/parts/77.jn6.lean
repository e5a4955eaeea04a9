/-- boardings one after the other, at most K -/
def bwN (g : Nat → Nat) (a s : Nat) : Nat → Nat → (Nat → Nat) → Nat × (Nat → Nat)
  | 0, n, b => (n, b)
  | K + 1, n, b => if b s = 1000000 then bwN g a s K (n + 1) (boF g b a) else (n, b)
/-- the last leg of a journey to s -/
def llG (g e R : Nat → Nat) (s : Nat) : Option (Nat × Nat) := (lgL g).find? (fun p => decide (plG g p.1 (p.2 + 1) = s ∧ CmG g p.1 (p.2 + 1) = e s ∧ R (8 * p.1 + p.2) = 1))
/-- from the leg k of the train t back to where it was boarded -/
def dnL (g e : Nat → Nat) (a v t : Nat) : Nat → List (Nat × Nat)
  | 0 => [(t, 0)]
  | k + 1 => if cbG g e a v t (k + 1) then [(t, k + 1)] else (t, k + 1) :: dnL g e a v t k
def dnK (g e : Nat → Nat) (a v t : Nat) : Nat → Nat
  | 0 => 0
  | k + 1 => if cbG g e a v t (k + 1) then k + 1 else dnK g e a v t k
def ltG (g e R : Nat → Nat) (a v : Nat) : Nat → Nat → List (Nat × Nat)
  | 0, _ => []
  | K + 1, s => if s = a then [] else match llG g e R s with
    | none => []
    | some (t, k) => dnL g e a v t k ++ ltG g e R a v K (plG g t (dnK g e a v t k))
def ltOK (g e R : Nat → Nat) (a v : Nat) : Nat → Nat → Prop
  | 0, s => s = a
  | K + 1, s => s = a ∨ ∃ t k, llG g e R s = some (t, k) ∧ (∃ j, j ≤ k ∧ cbG g e a v t j) ∧ ltOK g e R a v K (plG g t (dnK g e a v t k))
theorem find_take {α : Type} {L : List α} {p : α → Bool} {i : Nat} {d : α} (hi : i < L.length) (h : (L.take i).find? p = none) : (L.take (i + 1)).find? p = (if p (L.getD i d) = true then some (L.getD i d) else none) := by
  rw [List.take_succ, List.find?_append, h, List.getElem?_eq_getElem hi, List.getD_eq_getElem?_getD, List.getElem?_eq_getElem hi, Option.getD_some]
  by_cases q : p L[i] = true
  · rw [if_pos q]; simp [q]
  · rw [if_neg q]; simp [q]
theorem find_up {α : Type} {L : List α} {p : α → Bool} {i : Nat} {x : α} (h : (L.take i).find? p = some x) : L.find? p = some x := by
  rw [← List.take_append_drop i L, List.find?_append, h]; rfl
theorem ct_J_boardings {G : GG} {l : Launch} {h : AH} {h0 : AH} {tt tl ta : Nat} {x : Nat → Nat} {A : Nat → Nat → Nat} {lg lar tr : Nat} {fl : Nat → Nat} {j eA rA a v : Nat} {s0 : Nat} {g e : Nat → Nat}  (hR0 : RWr G h0 (tt, tl, ta, x, A) g) (hF0 : Fr nM h0 h) (hj : h j = some (jnE G tt lg tr a v eA rA)) (hLg : LGS G h lg lar g (lgL g) fl) (htr : h tr = some (iA G (g 0) (fun i => nI (g (8 + i))))) (hI : GW g) (ha31 : a < 2 ^ 31) (heA : h eA = some (iA G (g 0) (fun i => nI (e i)))) (heM : ∀ i, e i ≤ 1000000) (hv : v ≤ 1000000) (hs : s0 < g 0) : Ct G l yX12_boardings cX12_boardings 4 (some .int) 5 (100) (700) [.ref j, .int (nI s0)] h (fun r h2 => r = some (.int (if (bwN g a s0 49 0 (bgP a v e (g 0))).2 s0 = 1000000 then -1 else nI (bwN g a s0 49 0 (bgP a v e (g 0))).1)) ∧ Fr nM h h2) := by
  refine Ct.of (by decide) (Nat.le_of_ble_eq_true rfl) (cat1 rfl) (fun X hXl F HN => ?_)
  subst hXl
  have hg8 := hI.2.1
  refine V_aload_n (i := 0) F dX12_boardings_0 rfl rfl ?_
  refine V_getf F dX12_boardings_1 fc_X12_30_X12 (.inl hj) rfl ?_
  refine V_cloneI F dX12_boardings_4 q2969 (.inl heA) (Nat.le_of_ble_eq_true rfl) (Nat.le_of_ble_eq_true rfl) (by first | exact Nat.le_of_ble_eq_true rfl | omega) (by first | exact Nat.le_of_ble_eq_true rfl | omega) ?_
  intro bA hfbA hbbA
  have hbA0 := hfbA
  refine V_ckI F dX12_boardings_7 q2970 (.inl (hset_self (e := iA G (g 0) (fun i => nI (e i))))) ?_
  refine V_astore_n (i := 2) F dX12_boardings_10 rfl (Nat.le_of_ble_eq_true rfl) (Nat.le_of_ble_eq_true rfl) ?_
  refine V_iconst (v := nI 0) F dX12_boardings_11 rfl ?_
  refine V_istore_n (i := 3) F dX12_boardings_12 rfl (Nat.le_of_ble_eq_true rfl) (Nat.le_of_ble_eq_true rfl) ?_
  have loop_13 : ∀ (nn : Nat) (k : Nat) (E : Nat → Nat) (hh : AH), g 0 - k < nn → k ≤ g 0 → hh j = some (jnE G tt lg tr a v eA rA) → hh bA = some (iA G (g 0) (fun i => nI (E i))) → E = bgP a v e k → Fr nM h hh → VV G X 4 ((EQ G X (100) (700) (fun r h2 => r = some (.int (if (bwN g a s0 49 0 (bgP a v e (g 0))).2 s0 = 1000000 then -1 else nI (bwN g a s0 49 0 (bgP a v e (g 0))).1)) ∧ Fr nM h h2))) hh (1) (g 0) [some (.ref (j)), some (.int (nI (s0))), some (.ref (bA)), some (.int (nI (k)))] [] 13 := by
    intro nn
    induction nn with
    | zero => intro k E hh hm hk hjn hbn hEq hF; exact absurd hm (by omega)
    | succ nn ih_13 =>
      intro k E hh hm hk hjn hbn hEq hF
      refine V_iload_n (i := 3) F dX12_boardings_13 rfl rfl ?_
      refine V_aload_n (i := 2) F dX12_boardings_14 rfl rfl ?_
      refine V_alen (v := nI (g 0)) F 0 dX12_boardings_15 rfl (.inl hbn) rfl ?_
      refine V_icmp_geN (tgt := 45) F dX12_boardings_16 (by decide) (by omega) (by omega) (fun c_16 => ?_) (fun c_16 => ?_)
      · refine V_iconst (v := nI 0) F dX12_boardings_45 rfl ?_
        refine V_istore_n (i := 3) F dX12_boardings_46 rfl (Nat.le_of_ble_eq_true rfl) (Nat.le_of_ble_eq_true rfl) ?_
        have loop_47 : ∀ (nn : Nat) (m b2 : Nat) (B : Nat → Nat) (h2 : AH), 49 - m < nn → m ≤ 49 → h2 b2 = some (iA G (g 0) (fun i => nI (B i))) → (∀ i, B i ≤ 1000000) → Fr nM h h2 → h2 j = some (jnE G tt lg tr a v eA rA) → bwN g a s0 (49 - m) m B = (bwN g a s0 49 0 (bgP a v e (g 0))) → VV G X 4 ((EQ G X (100) (700) (fun r h2 => r = some (.int (if (bwN g a s0 49 0 (bgP a v e (g 0))).2 s0 = 1000000 then -1 else nI (bwN g a s0 49 0 (bgP a v e (g 0))).1)) ∧ Fr nM h h2))) h2 (1 + 2 * m) (g 0 + 13 * m) [some (.ref (j)), some (.int (nI (s0))), some (.ref (b2)), some (.int (nI (m)))] [] 47 := by
          intro nn
          induction nn with
          | zero => intro m b2 B h2 hm2 hm49 hb2 hbM2 hF2 hj2 hbw; exact absurd hm2 (by omega)
          | succ nn ih_47 =>
            intro m b2 B h2 hm2 hm49 hb2 hbM2 hF2 hj2 hbw
            refine V_aload_n (i := 2) F dX12_boardings_47 rfl rfl ?_
            refine V_iload_n (i := 1) F dX12_boardings_48 rfl rfl ?_
            refine V_ialdG F dX12_boardings_49 (.inl hb2) hs hI.b.lt rfl ?_
            refine V_ldc (v := nI 1000000) F dX12_boardings_50 q1255 ?_
            refine V_icmp_neN (tgt := 73) F dX12_boardings_52 (by decide) (by have := hbM2 s0; omega) (by decide) (fun c_52 => ?_) (fun c_52 => ?_)
            · refine V_aload_n (i := 2) F dX12_boardings_73 rfl rfl ?_
              refine V_iload_n (i := 1) F dX12_boardings_74 rfl rfl ?_
              refine V_ialdG F dX12_boardings_75 (.inl hb2) hs hI.b.lt rfl ?_
              refine V_ldc (v := nI 1000000) F dX12_boardings_76 q1255 ?_
              refine V_icmp_neN (tgt := 85) F dX12_boardings_78 (by decide) (by have := hbM2 s0; omega) (by decide) (fun c_78 => ?_) (fun c_78 => ?_)
              · refine V_iload_n (i := 3) F dX12_boardings_85 rfl rfl ?_
                have hend : bwN g a s0 (49 - m) m B = (m, B) := by
                  rcases Nat.eq_zero_or_pos (49 - m) with z | z
                  · rw [z]; rfl
                  · by_cases hz : B s0 = 1000000
                    · exact absurd z (by omega)
                    · rw [show 49 - m = (49 - m - 1) + 1 by omega]; exact if_neg hz
                rw [hend] at hbw
                exact V_iret F dX12_boardings_86 rfl (by first | exact Nat.le_of_ble_eq_true rfl | omega) (by first | exact Nat.le_of_ble_eq_true rfl | omega) ⟨by rw [← hbw, if_neg (by show ¬ (B s0 = 1000000); omega)], hF2⟩
              · refine V_iconst (v := -1) F dX12_boardings_81 rfl ?_
                refine V_goto (tgt := 86) F dX12_boardings_82 (by decide) ?_
                have hend : bwN g a s0 (49 - m) m B = (m, B) := by
                  rcases Nat.eq_zero_or_pos (49 - m) with z | z
                  · rw [z]; rfl
                  · by_cases hz : B s0 = 1000000
                    · exact absurd z (by omega)
                    · rw [show 49 - m = (49 - m - 1) + 1 by omega]; exact if_neg hz
                rw [hend] at hbw
                exact V_iret F dX12_boardings_86 rfl (by first | exact Nat.le_of_ble_eq_true rfl | omega) (by first | exact Nat.le_of_ble_eq_true rfl | omega) ⟨by rw [← hbw, if_pos (by show (B s0 = 1000000); omega)], hF2⟩
            · refine V_iload_n (i := 3) F dX12_boardings_55 rfl rfl ?_
              refine V_bipush (v := nI 48) F dX12_boardings_56 rfl ?_
              refine V_icmp_gtN (tgt := 73) F dX12_boardings_58 (by decide) (by omega) (by decide) (fun c_58 => ?_) (fun c_58 => ?_)
              · refine V_aload_n (i := 2) F dX12_boardings_73 rfl rfl ?_
                refine V_iload_n (i := 1) F dX12_boardings_74 rfl rfl ?_
                refine V_ialdG F dX12_boardings_75 (.inl hb2) hs hI.b.lt rfl ?_
                refine V_ldc (v := nI 1000000) F dX12_boardings_76 q1255 ?_
                refine V_icmp_neN (tgt := 85) F dX12_boardings_78 (by decide) (by have := hbM2 s0; omega) (by decide) (fun c_78 => ?_) (fun c_78 => ?_)
                · refine V_iload_n (i := 3) F dX12_boardings_85 rfl rfl ?_
                  have hend : bwN g a s0 (49 - m) m B = (m, B) := by
                    rcases Nat.eq_zero_or_pos (49 - m) with z | z
                    · rw [z]; rfl
                    · by_cases hz : B s0 = 1000000
                      · exact absurd z (by omega)
                      · rw [show 49 - m = (49 - m - 1) + 1 by omega]; exact if_neg hz
                  rw [hend] at hbw
                  exact V_iret F dX12_boardings_86 rfl (by first | exact Nat.le_of_ble_eq_true rfl | omega) (by first | exact Nat.le_of_ble_eq_true rfl | omega) ⟨by rw [← hbw, if_neg (by show ¬ (B s0 = 1000000); omega)], hF2⟩
                · refine V_iconst (v := -1) F dX12_boardings_81 rfl ?_
                  refine V_goto (tgt := 86) F dX12_boardings_82 (by decide) ?_
                  have hend : bwN g a s0 (49 - m) m B = (m, B) := by
                    rcases Nat.eq_zero_or_pos (49 - m) with z | z
                    · rw [z]; rfl
                    · by_cases hz : B s0 = 1000000
                      · exact absurd z (by omega)
                      · rw [show 49 - m = (49 - m - 1) + 1 by omega]; exact if_neg hz
                  rw [hend] at hbw
                  exact V_iret F dX12_boardings_86 rfl (by first | exact Nat.le_of_ble_eq_true rfl | omega) (by first | exact Nat.le_of_ble_eq_true rfl | omega) ⟨by rw [← hbw, if_pos (by show (B s0 = 1000000); omega)], hF2⟩
              · refine V_aload_n (i := 0) F dX12_boardings_61 rfl rfl ?_
                refine V_aload_n (i := 2) F dX12_boardings_62 rfl rfl ?_
                refine V_callV (st := []) (nn := 1) F dX12_boardings_63 lk_X12_163 (ct_J_boardOnce hR0 (hF0.cal0 hF2) hj2 (hLg.fr0 hF2) (hF2.get htr id rfl) hI ha31 hb2 hbM2) ⟨10, _, _, _, rfl, (.inl hj2)⟩ rfl rfl (Nat.le_of_ble_eq_true rfl) (Nat.le_of_ble_eq_true rfl) (Nat.le_of_ble_eq_true rfl) (by first | exact Nat.le_of_ble_eq_true rfl | omega) (by first | exact Nat.le_of_ble_eq_true rfl | omega) ?_
                rintro _ h3 ⟨q, rfl, hq0, hq, hqM, hx3⟩
                have hF3 := hF2.cal0 hx3
                refine V_astore_n (i := 2) F dX12_boardings_66 rfl (Nat.le_of_ble_eq_true rfl) (Nat.le_of_ble_eq_true rfl) ?_
                refine V_iinc (i := 3) (v := nI (m + 1)) F dX12_boardings_67 rfl (nI_add (m) 1) (Nat.le_of_ble_eq_true rfl) ?_
                refine V_goto (tgt := 47) F dX12_boardings_70 (by decide) ?_
                refine VV.weak (L' := [some (.ref (j)), some (.int (nI (s0))), some (.ref (q)), some (.int (nI (m + 1)))]) (LW.c1 (LW.c1 (LW.c1 (LW.c1 LW.nil)))) ?_
                refine VV.wide ?_ ?_ (ih_47 (m + 1) q (boF g B a) _ (by omega) (by omega) hq hqM hF3 (hF3.get hj id rfl) ?_)
                · omega
                · omega
                · rw [← hbw, show 49 - m = (49 - (m + 1)) + 1 by omega]
                  exact (if_pos (by omega) : bwN g a s0 ((49 - (m + 1)) + 1) m B = _).symm
        refine VV.weak (L' := [some (.ref (j)), some (.int (nI (s0))), some (.ref (bA)), some (.int (nI (0)))]) (LW.c1 (LW.c1 (LW.c1 (LW.c1 LW.nil)))) ?_
        have hkg : k = g 0 := by omega
        rw [hkg] at hEq
        rw [hEq] at hbn
        have heM2 : ∀ i, bgP a v e (g 0) i ≤ 1000000 := fun i => by unfold bgP; split; split; omega; exact Nat.le_refl _; exact heM i
        exact VV.wide (by omega) (by omega) (loop_47 50 0 bA _ _ (by omega) (by omega) hbn heM2 hF hjn rfl)
      · refine V_aload_n (i := 2) F dX12_boardings_19 rfl rfl ?_
        refine V_iload_n (i := 3) F dX12_boardings_20 rfl rfl ?_
        refine V_iload_n (i := 3) F dX12_boardings_21 rfl rfl ?_
        refine V_aload_n (i := 0) F dX12_boardings_22 rfl rfl ?_
        refine V_getf F dX12_boardings_23 fc_X12_23_X12 (.inl hjn) rfl ?_
        refine V_icmp_neN (tgt := 36) F dX12_boardings_26 (by decide) (by omega) ha31 (fun c_26 => ?_) (fun c_26 => ?_)
        · refine V_ldc (v := nI 1000000) F dX12_boardings_36 q1255 ?_
          refine V_iastG F dX12_boardings_38 hbn (by omega) (by omega) ?_
          refine V_iinc (i := 3) (v := nI (k + 1)) F dX12_boardings_39 rfl (nI_add (k) 1) (Nat.le_of_ble_eq_true rfl) ?_
          refine V_goto (tgt := 13) F dX12_boardings_42 (by decide) ?_
          refine VV.weak (L' := [some (.ref (j)), some (.int (nI (s0))), some (.ref (bA)), some (.int (nI (k + 1)))]) (LW.c1 (LW.c1 (LW.c1 (LW.c1 LW.nil)))) ?_
          have hfr := (hF.put (x := .inl (G.2.1 0, (g 0), .inl (fun i => nI (((up E k 1000000)) i)))) hbn ⟨rfl, rfl⟩ rfl (Or.inr hbA0))
          have pe : (hset hh (bA) (.inl (G.2.1 0, (g 0), .inl (fun i => nI (((up E k 1000000)) i))))) bA = some (.inl (G.2.1 0, (g 0), .inl (fun i => nI (((up E k 1000000)) i)))) := (hset_self (e := .inl (G.2.1 0, (g 0), .inl (fun i => nI (((up E k 1000000)) i)))))
          have pj : (hset hh (bA) (.inl (G.2.1 0, (g 0), .inl (fun i => nI (((up E k 1000000)) i))))) j = some (.inr (10, [.ref (tt), .ref (lg), .ref (tr), .int (nI (a)), .int (nI (v)), .ref (eA), .ref (rA)])) := ((hset_ne (ne_oa hjn hbn)).trans hjn)
          exact ih_13 (k + 1) _ _ (by omega) (by omega) pj pe (by rw [hEq]; exact bgP_s (by rw [if_neg (by omega)])) hfr
        · refine V_aload_n (i := 0) F dX12_boardings_29 rfl rfl ?_
          refine V_getf F dX12_boardings_30 fc_X12_27_X12 (.inl hjn) rfl ?_
          refine V_goto (tgt := 38) F dX12_boardings_33 (by decide) ?_
          refine V_iastG F dX12_boardings_38 hbn (by omega) (by omega) ?_
          refine V_iinc (i := 3) (v := nI (k + 1)) F dX12_boardings_39 rfl (nI_add (k) 1) (Nat.le_of_ble_eq_true rfl) ?_
          refine V_goto (tgt := 13) F dX12_boardings_42 (by decide) ?_
          refine VV.weak (L' := [some (.ref (j)), some (.int (nI (s0))), some (.ref (bA)), some (.int (nI (k + 1)))]) (LW.c1 (LW.c1 (LW.c1 (LW.c1 LW.nil)))) ?_
          have hfr := (hF.put (x := .inl (G.2.1 0, (g 0), .inl (fun i => nI (((up E k v)) i)))) hbn ⟨rfl, rfl⟩ rfl (Or.inr hbA0))
          have pe : (hset hh (bA) (.inl (G.2.1 0, (g 0), .inl (fun i => nI (((up E k v)) i))))) bA = some (.inl (G.2.1 0, (g 0), .inl (fun i => nI (((up E k v)) i)))) := (hset_self (e := .inl (G.2.1 0, (g 0), .inl (fun i => nI (((up E k v)) i)))))
          have pj : (hset hh (bA) (.inl (G.2.1 0, (g 0), .inl (fun i => nI (((up E k v)) i))))) j = some (.inr (10, [.ref (tt), .ref (lg), .ref (tr), .int (nI (a)), .int (nI (v)), .ref (eA), .ref (rA)])) := ((hset_ne (ne_oa hjn hbn)).trans hjn)
          exact ih_13 (k + 1) _ _ (by omega) (by omega) pj pe (by rw [hEq]; exact bgP_s (by rw [if_pos (by omega)])) hfr
  refine VV.weak (L' := [some (.ref (j)), some (.int (nI (s0))), some (.ref (bA)), some (.int (nI (0)))]) (LW.c1 (LW.c1 (LW.c1 (LW.c1 LW.nil)))) ?_
  have p1 : (hset h bA (iA G (g 0) (fun i => nI (e i)))) j = some (.inr (10, [.ref (tt), .ref (lg), .ref (tr), .int (nI (a)), .int (nI (v)), .ref (eA), .ref (rA)])) := ((hset_ne (ne_nw hj hfbA)).trans hj)
  have p2 : (hset h bA (iA G (g 0) (fun i => nI (e i)))) eA = some (.inl (G.2.1 0, (g 0), .inl (fun i => nI (e i)))) := ((hset_ne (ne_nw heA hfbA)).trans heA)
  have p3 : (hset h bA (iA G (g 0) (fun i => nI (e i)))) tr = some (.inl (G.2.1 0, (g 0), .inl (fun i => nI ((fun i => g (8 + i)) i)))) := ((hset_ne (ne_nw htr hfbA)).trans htr)
  have p4 : (hset h bA (iA G (g 0) (fun i => nI (e i)))) bA = some (.inl (G.2.1 0, (g 0), .inl (fun i => nI (e i)))) := (hset_self (e := iA G (g 0) (fun i => nI (e i))))
  have hfr := ((Fr.rf (M := nM) (h := h)).nw (x := iA G (g 0) (fun i => nI (e i))) hfbA)
  exact VV.wide (by omega) (by omega) (loop_13 (g 0 + 1) 0 _ _ (by omega) (Nat.zero_le _) p1 p4 bgP_0.symm hfr)
theorem ct_J_lastLeg {G : GG} {l : Launch} {h : AH} {h0 : AH} {tt tl ta : Nat} {x : Nat → Nat} {A : Nat → Nat → Nat} {lg lar tr : Nat} {fl : Nat → Nat} {j eA rA a v : Nat} {s0 t0 k0 : Nat} {g e R : Nat → Nat}  (hR0 : RWr G h0 (tt, tl, ta, x, A) g) (hF0 : Fr nM h0 h) (hj : h j = some (jnE G tt lg tr a v eA rA)) (hLg : LGS G h lg lar g (lgL g) fl) (htr : h tr = some (iA G (g 0) (fun i => nI (g (8 + i))))) (hI : GW g) (ha31 : a < 2 ^ 31) (heA : h eA = some (iA G (g 0) (fun i => nI (e i)))) (hrA : h rA = some (zA G 48 (fun i => nI (R i)))) (heM : ∀ i, e i ≤ 1000000) (hRM : ∀ i, R i < 2) (hs : s0 < g 0) (hll : llG g e R s0 = some (t0, k0)) : Ct G l yX12_lastLeg cX12_lastLeg 5 (some (.object "SleeperRailway$Leg")) 3 (1) (4) [.ref j, .int (nI s0)] h (fun r h2 => ∃ q, r = some (.ref q) ∧ h2 q = some (LgE g t0 k0) ∧ Fr nM h h2) := by
  refine Ct.of (by decide) (Nat.le_of_ble_eq_true rfl) (cat1 rfl) (fun X hXl F HN => ?_)
  subst hXl
  have hg8 := hI.2.1
  refine V_aload_n (i := 0) F dX12_lastLeg_0 rfl rfl ?_
  refine V_getf F dX12_lastLeg_1 fc_X12_15_X12 (.inl hj) rfl ?_
  refine V_callF (st := []) (nn := 0) F dX12_lastLeg_4 ⟨lw_F q1323 q1326 q1328 q111 q1330, ⟨q1325, List.mem_append_left _ q1324, q1329, q1327, q387⟩, (by decide +kernel), (by decide +kernel)⟩ (ct_AL_iterator (hLg.1.fr0 (Fr.rf (M := nM) (h := h)))) ((hLg.1.fr0 (Fr.rf (M := nM) (h := h)))).isC rfl rfl (Nat.le_of_ble_eq_true rfl) (Nat.le_of_ble_eq_true rfl) (Nat.le_of_ble_eq_true rfl) (by first | exact Nat.le_of_ble_eq_true rfl | omega) (by first | exact Nat.le_of_ble_eq_true rfl | omega) ?_
  rintro _ hY1 ⟨it, rfl, hit1, hbit, hIt, hx2⟩
  have hit0 := (Fr.rf (M := nM) (h := h)).none hit1
  have p3 := hx2.get hj id rfl
  have p4 := hx2.get heA id rfl
  have p5 := hx2.get hrA id rfl
  have f6 : Fr nM h hY1 := (Fr.rf (M := nM) (h := h)).cal0 hx2
  refine V_astore_n (i := 2) F dX12_lastLeg_9 rfl (Nat.le_of_ble_eq_true rfl) (Nat.le_of_ble_eq_true rfl) ?_
  have loop_10 : ∀ (nn : Nat) (i : Nat) (hh : AH), (lgL g).length - i < nn → i ≤ (lgL g).length → ITR hh it lg i (lgL g).length → Fr nM h hh → ((lgL g).take i).find? (fun p : Nat × Nat => decide (plG g p.1 (p.2 + 1) = s0 ∧ CmG g p.1 (p.2 + 1) = e s0 ∧ R (8 * p.1 + p.2) = 1)) = none → VV G X 5 ((EQ G X (1) (4) (fun r h2 => ∃ q, r = some (.ref q) ∧ h2 q = some (LgE g t0 k0) ∧ Fr nM h h2))) hh (1) (4) [some (.ref (j)), some (.int (nI (s0))), some (.ref (it)), none, none] [] 10 := by
    intro nn
    induction nn with
    | zero => intro i hh hm hi9 hI3 hF hno; exact absurd hm (by omega)
    | succ nn ih_10 =>
      intro i hh hm hi9 hI3 hF hno
      have h42 := lgL_len hI
      obtain ⟨lr3, hit3⟩ := id hI3
      refine V_aload_n (i := 2) F dX12_lastLeg_10 rfl rfl ?_
      refine V_callF (st := []) (nn := 0) F dX12_lastLeg_11 ⟨lw_F q1436 q832 q834 q133 q836, ⟨q460, List.mem_append_left _ q459, q835, q833, q831⟩, (by decide +kernel), (by decide +kernel)⟩ (ct_Itr_hasNext (hLg.1.fr0 hF) hI3 (by omega) hi9) hI3.isC rfl rfl (Nat.le_of_ble_eq_true rfl) (Nat.le_of_ble_eq_true rfl) (Nat.le_of_ble_eq_true rfl) (by first | exact Nat.le_of_ble_eq_true rfl | omega) (by first | exact Nat.le_of_ble_eq_true rfl | omega) ?_
      refine PRk ?_
      refine V_if_eqB (tgt := 79) F dX12_lastLeg_16 (by decide) (fun c_16 => ?_) (fun c_16 => ?_)
      · have hie : i = (lgL g).length := by omega
        rw [hie, List.take_length] at hno
        exact absurd (hno.symm.trans hll) (by simp)
      · have hi : i < (lgL g).length := c_16
        refine V_aload_n (i := 2) F dX12_lastLeg_19 rfl rfl ?_
        refine V_callF (st := []) (nn := 0) F dX12_lastLeg_20 ⟨lw_F q1438 q1072 q1074 q133 q1076, ⟨q868, List.mem_append_left _ q867, q1075, q1073, q831⟩, (by decide +kernel), (by decide +kernel)⟩ (ct_Itr_next (hLg.1.fr0 hF) hI3 (by omega) (by omega) hi) hI3.isC rfl rfl (Nat.le_of_ble_eq_true rfl) (Nat.le_of_ble_eq_true rfl) (Nat.le_of_ble_eq_true rfl) (by first | exact Nat.le_of_ble_eq_true rfl | omega) (by first | exact Nat.le_of_ble_eq_true rfl | omega) ?_
        rintro _ h3 ⟨rfl, hI4, hx3⟩
        have p1 := hx3.get (hF.get hj id rfl) (ne_oo (hF.get hj id rfl) hit3 (by decide)) rfl
        have p2 := hx3.get (hF.get heA id rfl) (ne_ao (hF.get heA id rfl) hit3) rfl
        have p3 := hx3.get (hF.get hrA id rfl) (ne_ao (hF.get hrA id rfl) hit3) rfl
        have f4 : Fr nM h h3 := hF.cal hx3 (Yo.m1 (Or.inr hit0))
        have hq := (hLg.fr0 f4).2 i hi
        obtain ⟨hu, hk⟩ := lgL_at hi
        have hs8 := (hI.st hu).2
        generalize hp0 : (lgL g).getD i (0, 0) = pq0 at hq hu hk hs8
        obtain ⟨u, k⟩ := pq0
        have hq : h3 (fl i) = some (LgE g u k) := hq
        have hu : u < g 1 := hu
        have hk : k < g (16 + 36 * u + 3) - 1 := hk
        have hs8 : g (16 + 36 * u + 3) ≤ 8 := hs8
        have hu6 := hI.t6 hu
        generalize hfq : fl i = q at hq
        refine VV.stk (st' := [.ref (q)]) rfl ?_
        refine V_ckS F dX12_lastLeg_25 q1439 ⟨5, _, _, _, rfl, (.inl hq)⟩ ?_
        refine V_astore_n (i := 3) F dX12_lastLeg_28 rfl (Nat.le_of_ble_eq_true rfl) (Nat.le_of_ble_eq_true rfl) ?_
        refine V_aload_n (i := 3) F dX12_lastLeg_29 rfl rfl ?_
        refine V_callV (st := []) (nn := 0) F dX12_lastLeg_30 lk_X12_96 (ct_Leg_to hq) ⟨5, _, _, _, rfl, (.inl hq)⟩ rfl rfl (Nat.le_of_ble_eq_true rfl) (Nat.le_of_ble_eq_true rfl) (Nat.le_of_ble_eq_true rfl) (by first | exact Nat.le_of_ble_eq_true rfl | omega) (by first | exact Nat.le_of_ble_eq_true rfl | omega) ?_
        refine PRk ?_
        refine V_iload_n (i := 1) F dX12_lastLeg_33 rfl rfl ?_
        refine V_icmp_neN (tgt := 54) F dX12_lastLeg_34 (by decide) (Nat.lt_trans (hI.b _) (by decide)) (by omega) (fun c_34 => ?_) (fun c_34 => ?_)
        · refine V_iconst (v := nI 0) F dX12_lastLeg_54 rfl ?_
          refine V_istore (i := 4) F dX12_lastLeg_55 (Nat.le_of_ble_eq_true rfl) (Nat.le_of_ble_eq_true rfl) ?_
          refine V_iload (i := 4) F dX12_lastLeg_57 rfl ?_
          refine V_if_eqN (tgt := 76) F dX12_lastLeg_59 (by decide) (by omega) (fun c_59 => ?_) (fun c_59 => absurd c_59 (by decide))
          refine V_goto (tgt := 10) F dX12_lastLeg_76 (by decide) ?_
          refine VV.weak (L' := [some (.ref (j)), some (.int (nI (s0))), some (.ref (it)), none, none]) (LW.c1 (LW.c1 (LW.c1 (LW.c0 (LW.c0 LW.nil))))) ?_
          have hfr := f4
          have hcd : ¬ (plG g u (k + 1) = s0 ∧ CmG g u (k + 1) = e s0 ∧ R (8 * u + k) = 1) := by rintro ⟨z1, z2, z3⟩; omega
          exact ih_10 (i + 1) _ (by omega) (by omega) hI4 hfr (by rw [find_take (d := (0, 0)) hi hno, hp0, if_neg (by simpa using hcd)])
        · refine V_aload_n (i := 3) F dX12_lastLeg_37 rfl rfl ?_
          refine V_callV (st := []) (nn := 0) F dX12_lastLeg_38 lk_X12_99 (ct_Leg_arrival hq) ⟨5, _, _, _, rfl, (.inl hq)⟩ rfl rfl (Nat.le_of_ble_eq_true rfl) (Nat.le_of_ble_eq_true rfl) (Nat.le_of_ble_eq_true rfl) (by first | exact Nat.le_of_ble_eq_true rfl | omega) (by first | exact Nat.le_of_ble_eq_true rfl | omega) ?_
          refine PRk ?_
          refine V_aload_n (i := 0) F dX12_lastLeg_41 rfl rfl ?_
          refine V_getf F dX12_lastLeg_42 fc_X12_30_X12 (.inl p1) rfl ?_
          refine V_iload_n (i := 1) F dX12_lastLeg_45 rfl rfl ?_
          refine V_ialdG F dX12_lastLeg_46 (.inl p2) hs hI.b.lt rfl ?_
          refine V_icmp_neN (tgt := 54) F dX12_lastLeg_47 (by decide) (Nat.lt_trans (CmG_31 hI.b (by omega)) (by decide)) (by have := heM s0; omega) (fun c_47 => ?_) (fun c_47 => ?_)
          · refine V_iconst (v := nI 0) F dX12_lastLeg_54 rfl ?_
            refine V_istore (i := 4) F dX12_lastLeg_55 (Nat.le_of_ble_eq_true rfl) (Nat.le_of_ble_eq_true rfl) ?_
            refine V_iload (i := 4) F dX12_lastLeg_57 rfl ?_
            refine V_if_eqN (tgt := 76) F dX12_lastLeg_59 (by decide) (by omega) (fun c_59 => ?_) (fun c_59 => absurd c_59 (by decide))
            refine V_goto (tgt := 10) F dX12_lastLeg_76 (by decide) ?_
            refine VV.weak (L' := [some (.ref (j)), some (.int (nI (s0))), some (.ref (it)), none, none]) (LW.c1 (LW.c1 (LW.c1 (LW.c0 (LW.c0 LW.nil))))) ?_
            have hfr := f4
            have hcd : ¬ (plG g u (k + 1) = s0 ∧ CmG g u (k + 1) = e s0 ∧ R (8 * u + k) = 1) := by rintro ⟨z1, z2, z3⟩; omega
            exact ih_10 (i + 1) _ (by omega) (by omega) hI4 hfr (by rw [find_take (d := (0, 0)) hi hno, hp0, if_neg (by simpa using hcd)])
          · refine V_iconst (v := nI 1) F dX12_lastLeg_50 rfl ?_
            refine V_goto (tgt := 55) F dX12_lastLeg_51 (by decide) ?_
            refine V_istore (i := 4) F dX12_lastLeg_55 (Nat.le_of_ble_eq_true rfl) (Nat.le_of_ble_eq_true rfl) ?_
            refine V_iload (i := 4) F dX12_lastLeg_57 rfl ?_
            refine V_if_eqN (tgt := 76) F dX12_lastLeg_59 (by decide) (by omega) (fun c_59 => absurd c_59 (by decide)) (fun c_59 => ?_)
            refine V_aload_n (i := 0) F dX12_lastLeg_62 rfl rfl ?_
            refine V_getf F dX12_lastLeg_63 fc_X12_34_X12 (.inl p1) rfl ?_
            refine V_aload_n (i := 3) F dX12_lastLeg_66 rfl rfl ?_
            refine V_callV (st := [.ref (rA)]) (nn := 0) F dX12_lastLeg_67 lk_X12_93 (ct_Leg_hash hq) ⟨5, _, _, _, rfl, (.inl hq)⟩ rfl rfl (Nat.le_of_ble_eq_true rfl) (Nat.le_of_ble_eq_true rfl) (Nat.le_of_ble_eq_true rfl) (by first | exact Nat.le_of_ble_eq_true rfl | omega) (by first | exact Nat.le_of_ble_eq_true rfl | omega) ?_
            refine PRk ?_
            refine V_zaldN F 3 dX12_lastLeg_70 rfl (.inl p3) (by omega) (by decide) ?_
            refine V_if_eqN (tgt := 76) F dX12_lastLeg_71 (by decide) (by have := hRM (8 * u + k); omega) (fun c_71 => ?_) (fun c_71 => ?_)
            · refine V_goto (tgt := 10) F dX12_lastLeg_76 (by decide) ?_
              refine VV.weak (L' := [some (.ref (j)), some (.int (nI (s0))), some (.ref (it)), none, none]) (LW.c1 (LW.c1 (LW.c1 (LW.c0 (LW.c0 LW.nil))))) ?_
              have hfr := f4
              have hcd : ¬ (plG g u (k + 1) = s0 ∧ CmG g u (k + 1) = e s0 ∧ R (8 * u + k) = 1) := by rintro ⟨z1, z2, z3⟩; omega
              exact ih_10 (i + 1) _ (by omega) (by omega) hI4 hfr (by rw [find_take (d := (0, 0)) hi hno, hp0, if_neg (by simpa using hcd)])
            · refine V_aload_n (i := 3) F dX12_lastLeg_74 rfl rfl ?_
              have hfr := f4
              have hcd : (plG g u (k + 1) = s0 ∧ CmG g u (k + 1) = e s0 ∧ R (8 * u + k) = 1) := ⟨by omega, by omega, by have := hRM (8 * u + k); omega⟩
              have hz := find_up (find_take (d := (0, 0)) hi hno |>.trans (if_pos (by rw [hp0]; simpa using hcd)))
              have hz2 := hll.symm.trans hz
              rw [hp0] at hz2
              cases hz2
              exact V_aret F dX12_lastLeg_75 (Or.inl ⟨_, rfl⟩) (Or.inr ⟨_, rfl⟩) (by first | exact Nat.le_of_ble_eq_true rfl | omega) (by first | exact Nat.le_of_ble_eq_true rfl | omega) ⟨q, rfl, hq, hfr⟩
  refine VV.weak (L' := [some (.ref (j)), some (.int (nI (s0))), some (.ref (it)), none, none]) (LW.c1 (LW.c1 (LW.c1 (LW.c0 (LW.c0 LW.nil))))) ?_
  have hfr := f6
  exact VV.wide (by omega) (by omega) (loop_10 ((lgL g).length + 1) 0 _ (by omega) (Nat.zero_le _) hIt hfr rfl)
