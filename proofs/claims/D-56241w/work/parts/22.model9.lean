set_option maxRecDepth 100000
/-- one less, from 0: -1 -/
def rP (n : Nat) : Int32 := match n with | 0 => -1 | j + 1 => nI j
theorem rP_s {j : Nat} : (nI j : Int32) + Int32.ofInt (-1) = rP j := by
  cases j with
  | zero => rfl
  | succ j => show nI (j + 1) + Int32.ofInt (-1) = nI j; rw [show (Int32.ofInt (-1) : Int32) = -1 from rfl]; exact nI_sub1 (by omega)
/-- the last stop before n at which a journey can board, no full leg behind -/
def baO (g e : Nat → Nat) (a v t : Nat) : Nat → Option Nat
  | 0 => none
  | k + 1 => if g (16 + 36 * t + 0) ≤ ldG g t k then none else if bdG g e a v t k then some k else baO g e a v t k
theorem baO_t {g e : Nat → Nat} {a v t k : Nat} (h : g (16 + 36 * t + 0) ≤ ldG g t k) : baO g e a v t (k + 1) = none := if_pos h
theorem baO_b {g e : Nat → Nat} {a v t k : Nat} (h : ¬ g (16 + 36 * t + 0) ≤ ldG g t k) (hb : bdG g e a v t k) : baO g e a v t (k + 1) = some k := (if_neg h).trans (if_pos hb)
theorem baO_n {g e : Nat → Nat} {a v t k : Nat} (h : ¬ g (16 + 36 * t + 0) ≤ ldG g t k) (hb : ¬ bdG g e a v t k) : baO g e a v t (k + 1) = baO g e a v t k := (if_neg h).trans (if_neg hb)
theorem baO_some {g e : Nat → Nat} {a v t f : Nat} : ∀ {n : Nat}, baO g e a v t n = some f → f < n ∧ bdG g e a v t f ∧ ∀ i, f ≤ i → i < n → ¬ g (16 + 36 * t + 0) ≤ ldG g t i
  | 0, h => by cases h
  | n + 1, h => by
    by_cases h1 : g (16 + 36 * t + 0) ≤ ldG g t n
    · rw [baO_t h1] at h; cases h
    · by_cases h2 : bdG g e a v t n
      · rw [baO_b h1 h2] at h; cases h
        exact ⟨Nat.lt_succ_self _, h2, fun i q1 q2 => by rw [show i = f by omega]; exact h1⟩
      · rw [baO_n h1 h2] at h
        obtain ⟨q1, q2, q3⟩ := baO_some h
        exact ⟨by omega, q2, fun i q4 q5 => by by_cases q6 : i = n; rw [q6]; exact h1; exact q3 i q4 (by omega)⟩
/-- the last leg of a journey to s: train, leg, where it boarded -/
def gkI (g e : Nat → Nat) (a v s t : Nat) : Nat → Option (Nat × Nat)
  | 0 => none
  | k + 1 => match gkI g e a v s t k with
    | some x => some x
    | none => if plG g t (k + 1) = s ∧ CmG g t (k + 1) = e s then (baO g e a v t (k + 1)).map (fun f => (k, f)) else none
def gkO (g e : Nat → Nat) (a v s : Nat) : Nat → Option (Nat × Nat × Nat)
  | 0 => none
  | t + 1 => match gkO g e a v s t with
    | some x => some x
    | none => (gkI g e a v s t (g (16 + 36 * t + 3) - 1)).map (fun x => (t, x))
theorem gkI_n {g e : Nat → Nat} {a v s t k : Nat} (h : gkI g e a v s t k = none) (hc : plG g t (k + 1) = s → CmG g t (k + 1) = e s → baO g e a v t (k + 1) = none) : gkI g e a v s t (k + 1) = none := by
  unfold gkI; rw [h]
  show (if _ then _ else _) = _
  split
  · next q => rw [hc q.1 q.2]; rfl
  · rfl
theorem gkI_s {g e : Nat → Nat} {a v s t k f : Nat} (h : gkI g e a v s t k = none) (h1 : plG g t (k + 1) = s) (h2 : CmG g t (k + 1) = e s) (hb : baO g e a v t (k + 1) = some f) : gkI g e a v s t (k + 1) = some (k, f) := by
  unfold gkI; rw [h]
  show (if _ then _ else _) = _
  rw [if_pos ⟨h1, h2⟩, hb]; rfl
theorem gkI_up {g e : Nat → Nat} {a v s t k : Nat} {x : Nat × Nat} (h : gkI g e a v s t k = some x) : ∀ n, k ≤ n → gkI g e a v s t n = some x := by
  intro n hn
  induction n with
  | zero => rw [← h, show k = 0 by omega]
  | succ n ih =>
    by_cases q : k = n + 1
    · rw [← q]; exact h
    · unfold gkI; rw [ih (by omega)]
theorem gkO_up {g e : Nat → Nat} {a v s k : Nat} {x : Nat × Nat × Nat} (h : gkO g e a v s k = some x) : ∀ n, k ≤ n → gkO g e a v s n = some x := by
  intro n hn
  induction n with
  | zero => rw [← h, show k = 0 by omega]
  | succ n ih =>
    by_cases q : k = n + 1
    · rw [← q]; exact h
    · unfold gkO; rw [ih (by omega)]
theorem gkO_n {g e : Nat → Nat} {a v s t : Nat} (h : gkO g e a v s t = none) (h1 : gkI g e a v s t (g (16 + 36 * t + 3) - 1) = none) : gkO g e a v s (t + 1) = none := by
  unfold gkO; rw [h, h1]; rfl
theorem gkO_s {g e : Nat → Nat} {a v s t : Nat} {x : Nat × Nat} (h : gkO g e a v s t = none) (h1 : gkI g e a v s t (g (16 + 36 * t + 3) - 1) = some x) : gkO g e a v s (t + 1) = some (t, x) := by
  unfold gkO; rw [h, h1]; rfl
def flX (x : Nat → Nat) (n d t : Nat) : Nat → Nat := fun i => if n ≤ i ∧ i < n + d then t else x i
def flY (y : Nat → Nat) (n d f : Nat) : Nat → Nat := fun i => if n ≤ i ∧ i < n + d then f + (i - n) else y i
theorem flX_0 {x : Nat → Nat} {n t : Nat} : flX x n 0 t = x := by funext i; exact if_neg (by omega)
theorem flY_0 {x : Nat → Nat} {n t : Nat} : flY x n 0 t = x := by funext i; exact if_neg (by omega)
theorem flX_s {x : Nat → Nat} {n d t : Nat} : up (flX x n d t) (n + d) t = flX x n (d + 1) t := by
  funext i; unfold up flX
  by_cases h1 : i = n + d
  · rw [if_pos h1, if_pos (by omega)]
  · rw [if_neg h1]
    by_cases h2 : n ≤ i ∧ i < n + d
    · rw [if_pos h2, if_pos (show n ≤ i ∧ i < n + (d + 1) by omega)]
    · rw [if_neg h2, if_neg (by omega)]
theorem flY_s {x : Nat → Nat} {n d f : Nat} : up (flY x n d f) (n + d) (f + d) = flY x n (d + 1) f := by
  funext i; unfold up flY
  by_cases h1 : i = n + d
  · rw [if_pos h1, if_pos (by omega), h1]; omega
  · rw [if_neg h1]
    by_cases h2 : n ≤ i ∧ i < n + d
    · rw [if_pos h2, if_pos (show n ≤ i ∧ i < n + (d + 1) by omega)]
    · rw [if_neg h2, if_neg (by omega)]
def tkH (G : GG) (h : AH) (m : Nat) (fs : List Value) (aX aY n : Nat) (x y : Nat → Nat) : AH := hset (hset (hset h aX (iA G 60 (fun i => nI (x i)))) aY (iA G 60 (fun i => nI (y i)))) m (.inr (0, fs.set 20 (.int (nI n))))
theorem tkH_m {G : GG} {h : AH} {m : Nat} {fs : List Value} {aX aY n : Nat} {x y : Nat → Nat} : tkH G h m fs aX aY n x y m = some (.inr (0, fs.set 20 (.int (nI n)))) := hset_self
theorem tkH_x {G : GG} {h : AH} {m : Nat} {fs : List Value} {aX aY n : Nat} {x y : Nat → Nat} (h1 : aX ≠ m) (h2 : aX ≠ aY) : tkH G h m fs aX aY n x y aX = some (iA G 60 (fun i => nI (x i))) := (hset_ne h1).trans ((hset_ne h2).trans hset_self)
theorem tkH_y {G : GG} {h : AH} {m : Nat} {fs : List Value} {aX aY n : Nat} {x y : Nat → Nat} (h1 : aY ≠ m) : tkH G h m fs aX aY n x y aY = some (iA G 60 (fun i => nI (y i))) := (hset_ne h1).trans hset_self
theorem tkH_o {G : GG} {h : AH} {m : Nat} {fs : List Value} {aX aY n b : Nat} {x y : Nat → Nat} (h1 : b ≠ m) (h2 : b ≠ aX) (h3 : b ≠ aY) : tkH G h m fs aX aY n x y b = h b := (hset_ne h1).trans ((hset_ne h3).trans (hset_ne h2))
theorem tkH_s {G : GG} {h : AH} {m : Nat} {fs : List Value} {aX aY n n2 : Nat} {x y x2 y2 : Nat → Nat} (h1 : aX ≠ m) (h2 : aX ≠ aY) (h3 : aY ≠ m) : hset (hset (hset (tkH G h m fs aX aY n x y) aX (iA G 60 (fun i => nI (x2 i)))) aY (iA G 60 (fun i => nI (y2 i)))) m (.inr (0, (fs.set 20 (.int (nI n))).set 20 (.int (nI n2)))) = tkH G h m fs aX aY n2 x2 y2 := by
  unfold tkH
  rw [List.set_set]
  rw [hset_comm (Ne.symm h1), hset_comm (Ne.symm h3), hset_hset]
  rw [hset_comm (Ne.symm h2), hset_hset, hset_hset]
theorem tkH_0 {G : GG} {h : AH} {m : Nat} {fs : List Value} {aX aY n : Nat} {x y : Nat → Nat} (hm : h m = some (.inr (0, fs))) (hf : fs[20]? = some (.int (nI n))) (hx : h aX = some (iA G 60 (fun i => nI (x i)))) (hy : h aY = some (iA G 60 (fun i => nI (y i)))) : tkH G h m fs aX aY n x y = h := by
  unfold tkH
  rw [hset_id hx, hset_id hy]
  have : fs.set 20 (.int (nI n)) = fs := by
    apply List.ext_getElem?
    intro i
    rw [List.getElem?_set]
    split
    · next q => subst q; split
                · exact hf.symm
                · next q2 => rw [List.getElem?_eq_none (by omega)]
    · rfl
  rw [this]; exact hset_id hm

theorem ct_boardedAt {G : GG} {l : Launch} {h : AH} {m : Nat} {fs : List Value} {aG : Nat} {g : Nat → Nat} {aE : Nat} {ge : Nat → Nat} {a : Nat} {v : Nat} {t k : Nat} (hm : h m = some (.inr (0, fs))) (h_g : fs[0]? = some (.ref aG)) (hg : h aG = some (iA G 304 (fun i => nI (g i)))) (h_early : fs[14]? = some (.ref aE)) (hea : h aE = some (iA G 8 (fun i => nI (ge i)))) (h_start : fs[16]? = some (.int (nI (a)))) (h_starts : fs[17]? = some (.int (nI (v)))) (hI : GW g) (ht : t < g 1) (hk : k + 1 < g (16 + 36 * t + 3)) (hv : v < 2 ^ 31) (ha : a < 2 ^ 31) (he0 : ∀ i, ge i < 2 ^ 27) : Ct G l yX4_boardedAt cX4_boardedAt 4 (some .int) 4 0 0 [.ref m, .int (nI t), .int (nI k)] h (PR (.int (rO (baO g ge a v t (k + 1)))) h) := by
  refine Ct.of (by decide) (Nat.le_of_ble_eq_true rfl) (cat1 rfl) (fun X hXl F HN => ?_)
  subst hXl
  have hI9 := hI
  obtain ⟨hB, hn0, hn1, hn2, hn3, hst, hpl⟩ := hI
  have hst9 := (hst t ht).2
  refine V_iload_n (i := 2) F dX4_boardedAt_0 rfl rfl ?_
  refine V_istore_n (i := 3) F dX4_boardedAt_1 rfl (Nat.le_of_ble_eq_true rfl) (Nat.le_of_ble_eq_true rfl) ?_
  have loop_2 : ∀ (nn : Nat) (n : Nat), n < nn → n ≤ k + 1 → baO g ge a v t n = baO g ge a v t (k + 1) → VV G X 4 (EQ G X 0 0 (PR (.int (rO (baO g ge a v t (k + 1)))) h)) h 0 0 [some (.ref (m)), some (.int (nI (t))), some (.int (nI (k))), some (.int (rP n))] [] 2 := by
    intro nn
    induction nn with
    | zero => intro n hn hnk hR; exact absurd hn (by omega)
    | succ nn ih_2 =>
      intro n hn hnk hR
      rcases n with _ | j
      · refine V_iload_n (i := 3) F dX4_boardedAt_2 rfl rfl ?_
        refine V_if_lt (tgt := 36) F dX4_boardedAt_3 (by decide) (fun c_3 => ?_) (fun c_3 => absurd (show (-1 : Int32) < 0 by decide) c_3)
        refine V_iconst (v := -1) F dX4_boardedAt_36 rfl ?_
        exact V_iret F dX4_boardedAt_37 rfl (Nat.le_of_ble_eq_true rfl) (Nat.le_of_ble_eq_true rfl) ⟨by rw [← hR]; rfl, rfl⟩
      · refine V_iload_n (i := 3) F dX4_boardedAt_2 rfl rfl ?_
        refine V_if_ltN (tgt := 36) F dX4_boardedAt_3 (by decide) (by omega) ?_
        refine V_aload_n (i := 0) F dX4_boardedAt_6 rfl rfl ?_
        refine V_iload_n (i := 1) F dX4_boardedAt_7 rfl rfl ?_
        refine V_iload_n (i := 3) F dX4_boardedAt_8 rfl rfl ?_
        refine V_cV2r F dX4_boardedAt_9 lk_X4_116 (ct_isTaken hm h_g hg (by omega) (by omega) hn3 hB) ⟨0, _, _, _, rfl, (.inl hm)⟩ (Nat.le_of_ble_eq_true rfl) (Nat.le_of_ble_eq_true rfl) (Nat.le_of_ble_eq_true rfl) (Nat.le_of_ble_eq_true rfl) (Nat.le_of_ble_eq_true rfl) ?_
        refine V_if_neB (tgt := 36) F dX4_boardedAt_12 (by decide) (fun c_12 => ?_) (fun c_12 => ?_)
        · refine V_iconst (v := -1) F dX4_boardedAt_36 rfl ?_
          exact V_iret F dX4_boardedAt_37 rfl (Nat.le_of_ble_eq_true rfl) (Nat.le_of_ble_eq_true rfl) ⟨by rw [← hR, baO_t c_12]; rfl, rfl⟩
        · refine V_aload_n (i := 0) F dX4_boardedAt_15 rfl rfl ?_
          refine V_iload_n (i := 1) F dX4_boardedAt_16 rfl rfl ?_
          refine V_iload_n (i := 3) F dX4_boardedAt_17 rfl rfl ?_
          refine V_aload_n (i := 0) F dX4_boardedAt_18 rfl rfl ?_
          refine V_getf F dX4_boardedAt_19 fc_X4_36_X4 (.inl hm) h_early ?_
          refine V_cV3r F dX4_boardedAt_22 lk_X4_112 (ct_isBoarded hm h_g hg h_start h_starts hea (by omega) (by omega) (Nat.lt_of_lt_of_le (hpl _ _ (by omega) (by omega)) hn0) hB hv ha he0) ⟨0, _, _, _, rfl, (.inl hm)⟩ (Nat.le_of_ble_eq_true rfl) (Nat.le_of_ble_eq_true rfl) (Nat.le_of_ble_eq_true rfl) (Nat.le_of_ble_eq_true rfl) (Nat.le_of_ble_eq_true rfl) ?_
          refine V_if_eqB (tgt := 30) F dX4_boardedAt_25 (by decide) (fun c_25 => ?_) (fun c_25 => ?_)
          · refine V_iinc (i := 3) (v := rP j) F dX4_boardedAt_30 rfl rP_s (Nat.le_of_ble_eq_true rfl) ?_
            refine V_goto (tgt := 2) F dX4_boardedAt_33 (by decide) ?_
            refine VV.weak (L' := [some (.ref (m)), some (.int (nI (t))), some (.int (nI (k))), some (.int (rP j))]) (LW.c1 (LW.c1 (LW.c1 (LW.c1 LW.nil)))) ?_
            exact ih_2 j (by omega) (by omega) ((baO_n c_12 c_25).symm.trans hR)
          · refine V_iload_n (i := 3) F dX4_boardedAt_28 rfl rfl ?_
            exact V_iret F dX4_boardedAt_29 rfl (Nat.le_of_ble_eq_true rfl) (Nat.le_of_ble_eq_true rfl) ⟨by rw [← hR, baO_b c_12 c_25]; rfl, rfl⟩
  refine VV.weak (L' := [some (.ref (m)), some (.int (nI (t))), some (.int (nI (k))), some (.int (rP (k + 1)))]) (LW.c1 (LW.c1 (LW.c1 (LW.c1 LW.nil)))) ?_
  exact loop_2 (k + 2) (k + 1) (by omega) (Nat.le_refl _) rfl
theorem ct_goesBackN {G : GG} {l : Launch} {h : AH} {m : Nat} {fs : List Value} {aG : Nat} {g : Nat → Nat} {aE : Nat} {ge : Nat → Nat} {aX : Nat} {gx : Nat → Nat} {aY : Nat} {gy : Nat → Nat} {a : Nat} {v : Nat} {tm : Nat} {s0 : Nat} (hm : h m = some (.inr (0, fs))) (h_g : fs[0]? = some (.ref aG)) (hg : h aG = some (iA G 304 (fun i => nI (g i)))) (h_early : fs[14]? = some (.ref aE)) (hea : h aE = some (iA G 8 (fun i => nI (ge i)))) (h_takenTrains : fs[18]? = some (.ref aX)) (htt : h aX = some (iA G 60 (fun i => nI (gx i)))) (h_takenLegs : fs[19]? = some (.ref aY)) (htl : h aY = some (iA G 60 (fun i => nI (gy i)))) (h_start : fs[16]? = some (.int (nI (a)))) (h_starts : fs[17]? = some (.int (nI (v)))) (h_takenMany : fs[20]? = some (.int (nI (tm)))) (hlen : fs.length = 25) (hI : GW g) (hs0 : s0 < 8) (hv : v < 2 ^ 31) (ha : a < 2 ^ 31) (he0 : ∀ i, ge i < 2 ^ 27) (htm : tm ≤ 50) (hGX : aG ≠ aX) (hGY : aG ≠ aY) (hXY : aX ≠ aY) (hgo : gkO g ge a v s0 (g 1) = none) : Ct G l yX4_goesBack cX4_goesBack 6 (some .int) 5 0 0 [.ref m, .int (nI s0)] h (PR (.int (nI a)) h) := by
  refine Ct.of (by decide) (Nat.le_of_ble_eq_true rfl) (cat1 rfl) (fun X hXl F HN => ?_)
  subst hXl
  have hI9 := hI
  obtain ⟨hB, hn0, hn1, hn2, hn3, hst, hpl⟩ := hI
  refine V_iconst (v := nI 0) F dX4_goesBack_0 rfl ?_
  refine V_istore_n (i := 2) F dX4_goesBack_1 rfl (Nat.le_of_ble_eq_true rfl) (Nat.le_of_ble_eq_true rfl) ?_
  have loop_2 : ∀ (nn : Nat) (j : Nat), g 1 < j + nn → j ≤ g 1 → gkO g ge a v s0 j = none → VV G X 6 (EQ G X 0 0 (PR (.int (nI a)) h)) h 0 0 [some (.ref (m)), some (.int (nI (s0))), some (.int (nI (j))), none, none, none] [] 2 := by
    intro nn
    induction nn with
    | zero => intro j hn hj hO; exact absurd hn (by omega)
    | succ nn ih_2 =>
      intro j hn hj hO
      refine V_iload_n (i := 2) F dX4_goesBack_2 rfl rfl ?_
      refine V_aload_n (i := 0) F dX4_goesBack_3 rfl rfl ?_
      refine V_getf F dX4_goesBack_4 fc_X4_7_X4 (.inl hm) h_g ?_
      refine V_iconst (v := nI 1) F dX4_goesBack_7 rfl ?_
      refine V_ialdG F dX4_goesBack_8 (.inl hg) (by omega) (by decide) rfl ?_
      refine V_icmp_geN (tgt := 142) F dX4_goesBack_9 (by decide) (by omega) hB.lt (fun c_9 => ?_) (fun c_9 => ?_)
      · refine V_aload_n (i := 0) F dX4_goesBack_142 rfl rfl ?_
        refine V_getf F dX4_goesBack_143 fc_X4_105_X4 (.inl hm) h_start ?_
        exact V_iret F dX4_goesBack_146 rfl (Nat.le_of_ble_eq_true rfl) (Nat.le_of_ble_eq_true rfl) ⟨rfl, rfl⟩
      · have hsj := hst j (by omega)
        refine V_iconst (v := nI 0) F dX4_goesBack_12 rfl ?_
        refine V_istore_n (i := 3) F dX4_goesBack_13 rfl (Nat.le_of_ble_eq_true rfl) (Nat.le_of_ble_eq_true rfl) ?_
        have loop_14 : ∀ (nn : Nat) (q : Nat), g (16 + 36 * j + 3) - 1 < q + nn → q ≤ g (16 + 36 * j + 3) - 1 → gkI g ge a v s0 j q = none → VV G X 6 (EQ G X 0 0 (PR (.int (nI a)) h)) h 0 0 [some (.ref (m)), some (.int (nI (s0))), some (.int (nI (j))), some (.int (nI (q))), none, none] [] 14 := by
          intro nn
          induction nn with
          | zero => intro q hn2 hq hQ; exact absurd hn2 (by omega)
          | succ nn ih_14 =>
            intro q hn2 hq hQ
            refine V_iload_n (i := 3) F dX4_goesBack_14 rfl rfl ?_
            refine V_aload_n (i := 0) F dX4_goesBack_15 rfl rfl ?_
            refine V_iload_n (i := 2) F dX4_goesBack_16 rfl rfl ?_
            refine V_iconst (v := nI 3) F dX4_goesBack_17 rfl ?_
            refine V_cV2r F dX4_goesBack_18 lk_X4_76 (ct_of hm h_g hg (by omega)) ⟨0, _, _, _, rfl, (.inl hm)⟩ (Nat.le_of_ble_eq_true rfl) (Nat.le_of_ble_eq_true rfl) (Nat.le_of_ble_eq_true rfl) (Nat.le_of_ble_eq_true rfl) (Nat.le_of_ble_eq_true rfl) ?_
            refine V_iconst (v := nI 1) F dX4_goesBack_21 rfl ?_
            refine V_isubN F dX4_goesBack_22 (by omega) ?_
            refine V_icmp_geN (tgt := 136) F dX4_goesBack_23 (by decide) (by omega) (by omega) (fun c_23 => ?_) (fun c_23 => ?_)
            · obtain rfl : q = g (16 + 36 * j + 3) - 1 := by omega
              refine V_iinc (i := 2) (v := nI (j + 1)) F dX4_goesBack_136 rfl (nI_add (j) 1) (Nat.le_of_ble_eq_true rfl) ?_
              refine V_goto (tgt := 2) F dX4_goesBack_139 (by decide) ?_
              refine VV.weak (L' := [some (.ref (m)), some (.int (nI (s0))), some (.int (nI (j + 1))), none, none, none]) (LW.c1 (LW.c1 (LW.c1 (LW.c0 (LW.c0 (LW.c0 LW.nil)))))) ?_
              exact ih_2 (j + 1) (by omega) (by omega) (gkO_n hO hQ)
            · refine V_aload_n (i := 0) F dX4_goesBack_26 rfl rfl ?_
              refine V_iload_n (i := 2) F dX4_goesBack_27 rfl rfl ?_
              refine V_iload_n (i := 3) F dX4_goesBack_28 rfl rfl ?_
              refine V_iconst (v := nI 1) F dX4_goesBack_29 rfl ?_
              refine V_iaddN F dX4_goesBack_30 ?_
              refine V_cV2r F dX4_goesBack_31 lk_X4_102 (ct_place hm h_g hg (by omega) (by omega)) ⟨0, _, _, _, rfl, (.inl hm)⟩ (Nat.le_of_ble_eq_true rfl) (Nat.le_of_ble_eq_true rfl) (Nat.le_of_ble_eq_true rfl) (Nat.le_of_ble_eq_true rfl) (Nat.le_of_ble_eq_true rfl) ?_
              refine V_iload_n (i := 1) F dX4_goesBack_34 rfl rfl ?_
              refine V_icmp_neN (tgt := 130) F dX4_goesBack_35 (by decide) hB.lt (by omega) (fun c_35 => ?_) (fun c_35 => ?_)
              · refine V_iinc (i := 3) (v := nI (q + 1)) F dX4_goesBack_130 rfl (nI_add (q) 1) (Nat.le_of_ble_eq_true rfl) ?_
                refine V_goto (tgt := 14) F dX4_goesBack_133 (by decide) ?_
                refine VV.weak (L' := [some (.ref (m)), some (.int (nI (s0))), some (.int (nI (j))), some (.int (nI (q + 1))), none, none]) (LW.c1 (LW.c1 (LW.c1 (LW.c1 (LW.c0 (LW.c0 LW.nil)))))) ?_
                exact ih_14 (q + 1) (by omega) (by omega) (gkI_n hQ (fun z => absurd z c_35))
              · refine V_aload_n (i := 0) F dX4_goesBack_38 rfl rfl ?_
                refine V_iload_n (i := 2) F dX4_goesBack_39 rfl rfl ?_
                refine V_iload_n (i := 3) F dX4_goesBack_40 rfl rfl ?_
                refine V_iconst (v := nI 1) F dX4_goesBack_41 rfl ?_
                refine V_iaddN F dX4_goesBack_42 ?_
                refine V_cV2r F dX4_goesBack_43 lk_X4_120 (ct_comes hm h_g hg (by omega) (by omega) (by omega)) ⟨0, _, _, _, rfl, (.inl hm)⟩ (Nat.le_of_ble_eq_true rfl) (Nat.le_of_ble_eq_true rfl) (Nat.le_of_ble_eq_true rfl) (Nat.le_of_ble_eq_true rfl) (Nat.le_of_ble_eq_true rfl) ?_
                refine V_aload_n (i := 0) F dX4_goesBack_46 rfl rfl ?_
                refine V_getf F dX4_goesBack_47 fc_X4_36_X4 (.inl hm) h_early ?_
                refine V_iload_n (i := 1) F dX4_goesBack_50 rfl rfl ?_
                refine V_ialdG F dX4_goesBack_51 (.inl hea) (by omega) (by decide) rfl ?_
                refine V_icmp_neN (tgt := 130) F dX4_goesBack_52 (by decide) (by have := CmG_31 hB (t := j) (k := q + 1) (by omega); omega) (by have := he0 s0; omega) (fun c_52 => ?_) (fun c_52 => ?_)
                · refine V_iinc (i := 3) (v := nI (q + 1)) F dX4_goesBack_130 rfl (nI_add (q) 1) (Nat.le_of_ble_eq_true rfl) ?_
                  refine V_goto (tgt := 14) F dX4_goesBack_133 (by decide) ?_
                  refine VV.weak (L' := [some (.ref (m)), some (.int (nI (s0))), some (.int (nI (j))), some (.int (nI (q + 1))), none, none]) (LW.c1 (LW.c1 (LW.c1 (LW.c1 (LW.c0 (LW.c0 LW.nil)))))) ?_
                  exact ih_14 (q + 1) (by omega) (by omega) (gkI_n hQ (fun _ z => absurd z c_52))
                · refine V_aload_n (i := 0) F dX4_goesBack_55 rfl rfl ?_
                  refine V_iload_n (i := 2) F dX4_goesBack_56 rfl rfl ?_
                  refine V_iload_n (i := 3) F dX4_goesBack_57 rfl rfl ?_
                  refine V_cV2r F dX4_goesBack_58 lk_X4_151 (ct_boardedAt hm h_g hg h_early hea h_start h_starts hI9 (by omega) (by omega) hv ha he0) ⟨0, _, _, _, rfl, (.inl hm)⟩ (Nat.le_of_ble_eq_true rfl) (Nat.le_of_ble_eq_true rfl) (Nat.le_of_ble_eq_true rfl) (Nat.le_of_ble_eq_true rfl) (Nat.le_of_ble_eq_true rfl) ?_
                  rcases hbo : baO g ge a v j (q + 1) with _ | f9
                  · refine V_if_ge (tgt := 67) F dX4_goesBack_61 (by decide) (fun c_61 => absurd c_61 (show ¬ (0 : Int32) ≤ -1 by decide)) (fun c_61 => ?_)
                    refine V_goto (tgt := 130) F dX4_goesBack_64 (by decide) ?_
                    refine V_iinc (i := 3) (v := nI (q + 1)) F dX4_goesBack_130 rfl (nI_add (q) 1) (Nat.le_of_ble_eq_true rfl) ?_
                    refine V_goto (tgt := 14) F dX4_goesBack_133 (by decide) ?_
                    refine VV.weak (L' := [some (.ref (m)), some (.int (nI (s0))), some (.int (nI (j))), some (.int (nI (q + 1))), none, none]) (LW.c1 (LW.c1 (LW.c1 (LW.c1 (LW.c0 (LW.c0 LW.nil)))))) ?_
                    exact ih_14 (q + 1) (by omega) (by omega) (gkI_n hQ (fun _ _ => hbo))
                  · have hf9 := (baO_some hbo).1
                    have hsol : gkO g ge a v s0 (g 1) = some (j, q, f9) := gkO_up (gkO_s hO (gkI_up (gkI_s hQ c_35 c_52 hbo) _ (by omega))) _ (by omega)
                    exact absurd (hsol.symm.trans hgo) (by simp)
        refine VV.weak (L' := [some (.ref (m)), some (.int (nI (s0))), some (.int (nI (j))), some (.int (nI (0))), none, none]) (LW.c1 (LW.c1 (LW.c1 (LW.c1 (LW.c0 (LW.c0 LW.nil)))))) ?_
        exact loop_14 (g (16 + 36 * j + 3) - 1 + 1) 0 (by omega) (by omega) rfl
  refine VV.weak (L' := [some (.ref (m)), some (.int (nI (s0))), some (.int (nI (0))), none, none, none]) (LW.c1 (LW.c1 (LW.c1 (LW.c0 (LW.c0 (LW.c0 LW.nil)))))) ?_
  exact loop_2 (g 1 + 1) 0 (by omega) (by omega) rfl
theorem ct_goesBackS {G : GG} {l : Launch} {h : AH} {m : Nat} {fs : List Value} {aG : Nat} {g : Nat → Nat} {aE : Nat} {ge : Nat → Nat} {aX : Nat} {gx : Nat → Nat} {aY : Nat} {gy : Nat → Nat} {a : Nat} {v : Nat} {tm : Nat} {s0 : Nat} {t0 k0 f0 : Nat} (hm : h m = some (.inr (0, fs))) (h_g : fs[0]? = some (.ref aG)) (hg : h aG = some (iA G 304 (fun i => nI (g i)))) (h_early : fs[14]? = some (.ref aE)) (hea : h aE = some (iA G 8 (fun i => nI (ge i)))) (h_takenTrains : fs[18]? = some (.ref aX)) (htt : h aX = some (iA G 60 (fun i => nI (gx i)))) (h_takenLegs : fs[19]? = some (.ref aY)) (htl : h aY = some (iA G 60 (fun i => nI (gy i)))) (h_start : fs[16]? = some (.int (nI (a)))) (h_starts : fs[17]? = some (.int (nI (v)))) (h_takenMany : fs[20]? = some (.int (nI (tm)))) (hlen : fs.length = 25) (hI : GW g) (hs0 : s0 < 8) (hv : v < 2 ^ 31) (ha : a < 2 ^ 31) (he0 : ∀ i, ge i < 2 ^ 27) (htm : tm ≤ 50) (hGX : aG ≠ aX) (hGY : aG ≠ aY) (hXY : aX ≠ aY) (hgo : gkO g ge a v s0 (g 1) = some (t0, k0, f0)) : Ct G l yX4_goesBack cX4_goesBack 6 (some .int) 5 0 0 [.ref m, .int (nI s0)] h (PR (.int (nI (plG g t0 f0))) (tkH G h m fs aX aY (tm + (k0 + 1 - f0)) (flX gx tm (k0 + 1 - f0) t0) (flY gy tm (k0 + 1 - f0) f0))) := by
  refine Ct.of (by decide) (Nat.le_of_ble_eq_true rfl) (cat1 rfl) (fun X hXl F HN => ?_)
  subst hXl
  have hI9 := hI
  obtain ⟨hB, hn0, hn1, hn2, hn3, hst, hpl⟩ := hI
  refine V_iconst (v := nI 0) F dX4_goesBack_0 rfl ?_
  refine V_istore_n (i := 2) F dX4_goesBack_1 rfl (Nat.le_of_ble_eq_true rfl) (Nat.le_of_ble_eq_true rfl) ?_
  have loop_2 : ∀ (nn : Nat) (j : Nat), g 1 < j + nn → j ≤ g 1 → gkO g ge a v s0 j = none → VV G X 6 (EQ G X 0 0 (PR (.int (nI (plG g t0 f0))) (tkH G h m fs aX aY (tm + (k0 + 1 - f0)) (flX gx tm (k0 + 1 - f0) t0) (flY gy tm (k0 + 1 - f0) f0)))) h 0 0 [some (.ref (m)), some (.int (nI (s0))), some (.int (nI (j))), none, none, none] [] 2 := by
    intro nn
    induction nn with
    | zero => intro j hn hj hO; exact absurd hn (by omega)
    | succ nn ih_2 =>
      intro j hn hj hO
      refine V_iload_n (i := 2) F dX4_goesBack_2 rfl rfl ?_
      refine V_aload_n (i := 0) F dX4_goesBack_3 rfl rfl ?_
      refine V_getf F dX4_goesBack_4 fc_X4_7_X4 (.inl hm) h_g ?_
      refine V_iconst (v := nI 1) F dX4_goesBack_7 rfl ?_
      refine V_ialdG F dX4_goesBack_8 (.inl hg) (by omega) (by decide) rfl ?_
      refine V_icmp_geN (tgt := 142) F dX4_goesBack_9 (by decide) (by omega) hB.lt (fun c_9 => ?_) (fun c_9 => ?_)
      · refine V_aload_n (i := 0) F dX4_goesBack_142 rfl rfl ?_
        refine V_getf F dX4_goesBack_143 fc_X4_105_X4 (.inl hm) h_start ?_
        exact absurd ((show j = g 1 by omega) ▸ hO) (by rw [hgo]; simp)
      · have hsj := hst j (by omega)
        refine V_iconst (v := nI 0) F dX4_goesBack_12 rfl ?_
        refine V_istore_n (i := 3) F dX4_goesBack_13 rfl (Nat.le_of_ble_eq_true rfl) (Nat.le_of_ble_eq_true rfl) ?_
        have loop_14 : ∀ (nn : Nat) (q : Nat), g (16 + 36 * j + 3) - 1 < q + nn → q ≤ g (16 + 36 * j + 3) - 1 → gkI g ge a v s0 j q = none → VV G X 6 (EQ G X 0 0 (PR (.int (nI (plG g t0 f0))) (tkH G h m fs aX aY (tm + (k0 + 1 - f0)) (flX gx tm (k0 + 1 - f0) t0) (flY gy tm (k0 + 1 - f0) f0)))) h 0 0 [some (.ref (m)), some (.int (nI (s0))), some (.int (nI (j))), some (.int (nI (q))), none, none] [] 14 := by
          intro nn
          induction nn with
          | zero => intro q hn2 hq hQ; exact absurd hn2 (by omega)
          | succ nn ih_14 =>
            intro q hn2 hq hQ
            refine V_iload_n (i := 3) F dX4_goesBack_14 rfl rfl ?_
            refine V_aload_n (i := 0) F dX4_goesBack_15 rfl rfl ?_
            refine V_iload_n (i := 2) F dX4_goesBack_16 rfl rfl ?_
            refine V_iconst (v := nI 3) F dX4_goesBack_17 rfl ?_
            refine V_cV2r F dX4_goesBack_18 lk_X4_76 (ct_of hm h_g hg (by omega)) ⟨0, _, _, _, rfl, (.inl hm)⟩ (Nat.le_of_ble_eq_true rfl) (Nat.le_of_ble_eq_true rfl) (Nat.le_of_ble_eq_true rfl) (Nat.le_of_ble_eq_true rfl) (Nat.le_of_ble_eq_true rfl) ?_
            refine V_iconst (v := nI 1) F dX4_goesBack_21 rfl ?_
            refine V_isubN F dX4_goesBack_22 (by omega) ?_
            refine V_icmp_geN (tgt := 136) F dX4_goesBack_23 (by decide) (by omega) (by omega) (fun c_23 => ?_) (fun c_23 => ?_)
            · obtain rfl : q = g (16 + 36 * j + 3) - 1 := by omega
              refine V_iinc (i := 2) (v := nI (j + 1)) F dX4_goesBack_136 rfl (nI_add (j) 1) (Nat.le_of_ble_eq_true rfl) ?_
              refine V_goto (tgt := 2) F dX4_goesBack_139 (by decide) ?_
              refine VV.weak (L' := [some (.ref (m)), some (.int (nI (s0))), some (.int (nI (j + 1))), none, none, none]) (LW.c1 (LW.c1 (LW.c1 (LW.c0 (LW.c0 (LW.c0 LW.nil)))))) ?_
              exact ih_2 (j + 1) (by omega) (by omega) (gkO_n hO hQ)
            · refine V_aload_n (i := 0) F dX4_goesBack_26 rfl rfl ?_
              refine V_iload_n (i := 2) F dX4_goesBack_27 rfl rfl ?_
              refine V_iload_n (i := 3) F dX4_goesBack_28 rfl rfl ?_
              refine V_iconst (v := nI 1) F dX4_goesBack_29 rfl ?_
              refine V_iaddN F dX4_goesBack_30 ?_
              refine V_cV2r F dX4_goesBack_31 lk_X4_102 (ct_place hm h_g hg (by omega) (by omega)) ⟨0, _, _, _, rfl, (.inl hm)⟩ (Nat.le_of_ble_eq_true rfl) (Nat.le_of_ble_eq_true rfl) (Nat.le_of_ble_eq_true rfl) (Nat.le_of_ble_eq_true rfl) (Nat.le_of_ble_eq_true rfl) ?_
              refine V_iload_n (i := 1) F dX4_goesBack_34 rfl rfl ?_
              refine V_icmp_neN (tgt := 130) F dX4_goesBack_35 (by decide) hB.lt (by omega) (fun c_35 => ?_) (fun c_35 => ?_)
              · refine V_iinc (i := 3) (v := nI (q + 1)) F dX4_goesBack_130 rfl (nI_add (q) 1) (Nat.le_of_ble_eq_true rfl) ?_
                refine V_goto (tgt := 14) F dX4_goesBack_133 (by decide) ?_
                refine VV.weak (L' := [some (.ref (m)), some (.int (nI (s0))), some (.int (nI (j))), some (.int (nI (q + 1))), none, none]) (LW.c1 (LW.c1 (LW.c1 (LW.c1 (LW.c0 (LW.c0 LW.nil)))))) ?_
                exact ih_14 (q + 1) (by omega) (by omega) (gkI_n hQ (fun z => absurd z c_35))
              · refine V_aload_n (i := 0) F dX4_goesBack_38 rfl rfl ?_
                refine V_iload_n (i := 2) F dX4_goesBack_39 rfl rfl ?_
                refine V_iload_n (i := 3) F dX4_goesBack_40 rfl rfl ?_
                refine V_iconst (v := nI 1) F dX4_goesBack_41 rfl ?_
                refine V_iaddN F dX4_goesBack_42 ?_
                refine V_cV2r F dX4_goesBack_43 lk_X4_120 (ct_comes hm h_g hg (by omega) (by omega) (by omega)) ⟨0, _, _, _, rfl, (.inl hm)⟩ (Nat.le_of_ble_eq_true rfl) (Nat.le_of_ble_eq_true rfl) (Nat.le_of_ble_eq_true rfl) (Nat.le_of_ble_eq_true rfl) (Nat.le_of_ble_eq_true rfl) ?_
                refine V_aload_n (i := 0) F dX4_goesBack_46 rfl rfl ?_
                refine V_getf F dX4_goesBack_47 fc_X4_36_X4 (.inl hm) h_early ?_
                refine V_iload_n (i := 1) F dX4_goesBack_50 rfl rfl ?_
                refine V_ialdG F dX4_goesBack_51 (.inl hea) (by omega) (by decide) rfl ?_
                refine V_icmp_neN (tgt := 130) F dX4_goesBack_52 (by decide) (by have := CmG_31 hB (t := j) (k := q + 1) (by omega); omega) (by have := he0 s0; omega) (fun c_52 => ?_) (fun c_52 => ?_)
                · refine V_iinc (i := 3) (v := nI (q + 1)) F dX4_goesBack_130 rfl (nI_add (q) 1) (Nat.le_of_ble_eq_true rfl) ?_
                  refine V_goto (tgt := 14) F dX4_goesBack_133 (by decide) ?_
                  refine VV.weak (L' := [some (.ref (m)), some (.int (nI (s0))), some (.int (nI (j))), some (.int (nI (q + 1))), none, none]) (LW.c1 (LW.c1 (LW.c1 (LW.c1 (LW.c0 (LW.c0 LW.nil)))))) ?_
                  exact ih_14 (q + 1) (by omega) (by omega) (gkI_n hQ (fun _ z => absurd z c_52))
                · refine V_aload_n (i := 0) F dX4_goesBack_55 rfl rfl ?_
                  refine V_iload_n (i := 2) F dX4_goesBack_56 rfl rfl ?_
                  refine V_iload_n (i := 3) F dX4_goesBack_57 rfl rfl ?_
                  refine V_cV2r F dX4_goesBack_58 lk_X4_151 (ct_boardedAt hm h_g hg h_early hea h_start h_starts hI9 (by omega) (by omega) hv ha he0) ⟨0, _, _, _, rfl, (.inl hm)⟩ (Nat.le_of_ble_eq_true rfl) (Nat.le_of_ble_eq_true rfl) (Nat.le_of_ble_eq_true rfl) (Nat.le_of_ble_eq_true rfl) (Nat.le_of_ble_eq_true rfl) ?_
                  rcases hbo : baO g ge a v j (q + 1) with _ | f9
                  · refine V_if_ge (tgt := 67) F dX4_goesBack_61 (by decide) (fun c_61 => absurd c_61 (show ¬ (0 : Int32) ≤ -1 by decide)) (fun c_61 => ?_)
                    refine V_goto (tgt := 130) F dX4_goesBack_64 (by decide) ?_
                    refine V_iinc (i := 3) (v := nI (q + 1)) F dX4_goesBack_130 rfl (nI_add (q) 1) (Nat.le_of_ble_eq_true rfl) ?_
                    refine V_goto (tgt := 14) F dX4_goesBack_133 (by decide) ?_
                    refine VV.weak (L' := [some (.ref (m)), some (.int (nI (s0))), some (.int (nI (j))), some (.int (nI (q + 1))), none, none]) (LW.c1 (LW.c1 (LW.c1 (LW.c1 (LW.c0 (LW.c0 LW.nil)))))) ?_
                    exact ih_14 (q + 1) (by omega) (by omega) (gkI_n hQ (fun _ _ => hbo))
                  · have hf9 := (baO_some hbo).1
                    have hsol : gkO g ge a v s0 (g 1) = some (j, q, f9) := gkO_up (gkO_s hO (gkI_up (gkI_s hQ c_35 c_52 hbo) _ (by omega))) _ (by omega)
                    have hE9 := Option.some.inj (hsol.symm.trans hgo)
                    simp only [Prod.mk.injEq] at hE9
                    obtain ⟨rfl, rfl, rfl⟩ := hE9
                    refine V_if_geN (tgt := 67) F dX4_goesBack_61 (by decide) (by have := (baO_some hbo).1; omega) ?_
                    refine V_aload_n (i := 0) F dX4_goesBack_67 rfl rfl ?_
                    refine V_iload_n (i := 2) F dX4_goesBack_68 rfl rfl ?_
                    refine V_iload_n (i := 3) F dX4_goesBack_69 rfl rfl ?_
                    refine V_cV2r F dX4_goesBack_70 lk_X4_151 (ct_boardedAt hm h_g hg h_early hea h_start h_starts hI9 (by omega) (by omega) hv ha he0) ⟨0, _, _, _, rfl, (.inl hm)⟩ (Nat.le_of_ble_eq_true rfl) (Nat.le_of_ble_eq_true rfl) (Nat.le_of_ble_eq_true rfl) (Nat.le_of_ble_eq_true rfl) (Nat.le_of_ble_eq_true rfl) ?_
                    refine VV.stk (st' := [.int (nI f9)]) (by rw [hbo]; rfl) ?_
                    refine V_istore (i := 4) F dX4_goesBack_73 (Nat.le_of_ble_eq_true rfl) (Nat.le_of_ble_eq_true rfl) ?_
                    refine V_iload (i := 4) F dX4_goesBack_75 rfl ?_
                    refine V_istore (i := 5) F dX4_goesBack_77 (Nat.le_of_ble_eq_true rfl) (Nat.le_of_ble_eq_true rfl) ?_
                    have loop_79 : ∀ (nn : Nat) (d : Nat), q + 1 < f9 + d + nn → f9 + d ≤ q + 1 → VV G X 6 (EQ G X 0 0 (PR (.int (nI (plG g j f9))) (tkH G h m fs aX aY (tm + (q + 1 - f9)) (flX gx tm (q + 1 - f9) j) (flY gy tm (q + 1 - f9) f9)))) (tkH G h m fs aX aY (tm + d) (flX gx tm d j) (flY gy tm d f9)) 0 0 [some (.ref (m)), some (.int (nI (s0))), some (.int (nI (j))), some (.int (nI (q))), some (.int (nI (f9))), some (.int (nI (f9 + d)))] [] 79 := by
                      intro nn
                      induction nn with
                      | zero => intro d hn3 hd; exact absurd hn3 (by omega)
                      | succ nn ih_79 =>
                        intro d hn3 hd
                        refine V_iload (i := 5) F dX4_goesBack_79 rfl ?_
                        refine V_iload_n (i := 3) F dX4_goesBack_81 rfl rfl ?_
                        refine V_icmp_gtN (tgt := 122) F dX4_goesBack_82 (by decide) (by omega) (by omega) (fun c_82 => ?_) (fun c_82 => ?_)
                        · refine V_aload_n (i := 0) F dX4_goesBack_122 rfl rfl ?_
                          refine V_iload_n (i := 2) F dX4_goesBack_123 rfl rfl ?_
                          refine V_iload (i := 4) F dX4_goesBack_124 rfl ?_
                          refine V_cV2r F dX4_goesBack_126 lk_X4_102 (ct_place tkH_m (gset h_g (by decide)) ((tkH_o (ne_ao hg hm) hGX hGY).trans hg) (by omega) (by omega)) ⟨0, _, _, _, rfl, (.inl tkH_m)⟩ (Nat.le_of_ble_eq_true rfl) (Nat.le_of_ble_eq_true rfl) (Nat.le_of_ble_eq_true rfl) (Nat.le_of_ble_eq_true rfl) (Nat.le_of_ble_eq_true rfl) ?_
                          obtain rfl : d = q + 1 - f9 := by omega
                          exact V_iret F dX4_goesBack_129 rfl (Nat.le_of_ble_eq_true rfl) (Nat.le_of_ble_eq_true rfl) ⟨rfl, rfl⟩
                        · refine V_aload_n (i := 0) F dX4_goesBack_85 rfl rfl ?_
                          refine V_getf F dX4_goesBack_86 fc_X4_42_X4 (.inl tkH_m) (gset h_takenTrains (by decide)) ?_
                          refine V_aload_n (i := 0) F dX4_goesBack_89 rfl rfl ?_
                          refine V_getf F dX4_goesBack_90 fc_X4_154_X4 (.inl tkH_m) (gself (lenk hlen (by decide))) ?_
                          refine V_iload_n (i := 2) F dX4_goesBack_93 rfl rfl ?_
                          refine V_iastG F dX4_goesBack_94 (tkH_x (ne_ao htt hm) hXY) (by omega) (by decide) ?_
                          refine V_aload_n (i := 0) F dX4_goesBack_95 rfl rfl ?_
                          refine V_getf F dX4_goesBack_96 fc_X4_45_X4 (.inl ((hset_ne (ne_oa hm htt)).trans tkH_m)) (gset h_takenLegs (by decide)) ?_
                          refine V_aload_n (i := 0) F dX4_goesBack_99 rfl rfl ?_
                          refine V_getf F dX4_goesBack_100 fc_X4_154_X4 (.inl ((hset_ne (ne_oa hm htt)).trans tkH_m)) (gself (lenk hlen (by decide))) ?_
                          refine V_iload (i := 5) F dX4_goesBack_103 rfl ?_
                          refine V_iastG F dX4_goesBack_105 ((hset_ne (Ne.symm hXY)).trans (tkH_y (ne_ao htl hm))) (by omega) (by decide) ?_
                          refine V_aload_n (i := 0) F dX4_goesBack_106 rfl rfl ?_
                          refine V_dup F dX4_goesBack_107 rfl ?_
                          refine V_getf F dX4_goesBack_108 fc_X4_154_X4 (.inl ((hset_ne (ne_oa hm htl)).trans ((hset_ne (ne_oa hm htt)).trans tkH_m))) (gself (lenk hlen (by decide))) ?_
                          refine V_iconst (v := nI 1) F dX4_goesBack_111 rfl ?_
                          refine V_iaddN F dX4_goesBack_112 ?_
                          refine V_putf F dX4_goesBack_113 fp_X4_154_X4 ((hset_ne (ne_oa hm htl)).trans ((hset_ne (ne_oa hm htt)).trans tkH_m)) rfl rfl (lenk (lens hlen) (by decide)) ?_
                          refine V_iinc (i := 5) (v := nI (f9 + d + 1)) F dX4_goesBack_116 rfl (nI_add (f9 + d) 1) (Nat.le_of_ble_eq_true rfl) ?_
                          refine V_goto (tgt := 79) F dX4_goesBack_119 (by decide) ?_
                          refine VV.weak (L' := [some (.ref (m)), some (.int (nI (s0))), some (.int (nI (j))), some (.int (nI (q))), some (.int (nI (f9))), some (.int (nI (f9 + (d + 1))))]) (LW.c1 (LW.c1 (LW.c1 (LW.c1 (LW.c1 (LW.c1 LW.nil)))))) ?_
                          refine VV.heap (by rw [flX_s, flY_s, tkH_s (ne_ao htt hm) hXY (ne_ao htl hm)]) ?_
                          exact ih_79 (d + 1) (by omega) (by omega)
                    refine VV.weak (L' := [some (.ref (m)), some (.int (nI (s0))), some (.int (nI (j))), some (.int (nI (q))), some (.int (nI (f9))), some (.int (nI (f9)))]) (LW.c1 (LW.c1 (LW.c1 (LW.c1 (LW.c1 (LW.c1 LW.nil)))))) ?_
                    refine VV.heap (h' := tkH G h m fs aX aY (tm + 0) (flX gx tm 0 j) (flY gy tm 0 f9)) (by rw [flX_0, flY_0]; exact (tkH_0 hm h_takenMany htt htl).symm) ?_
                    exact loop_79 (q + 2) 0 (by omega) (by omega)
        refine VV.weak (L' := [some (.ref (m)), some (.int (nI (s0))), some (.int (nI (j))), some (.int (nI (0))), none, none]) (LW.c1 (LW.c1 (LW.c1 (LW.c1 (LW.c0 (LW.c0 LW.nil)))))) ?_
        exact loop_14 (g (16 + 36 * j + 3) - 1 + 1) 0 (by omega) (by omega) rfl
  refine VV.weak (L' := [some (.ref (m)), some (.int (nI (s0))), some (.int (nI (0))), none, none, none]) (LW.c1 (LW.c1 (LW.c1 (LW.c0 (LW.c0 (LW.c0 LW.nil)))))) ?_
  exact loop_2 (g 1 + 1) 0 (by omega) (by omega) rfl
