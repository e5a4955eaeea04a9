set_option maxRecDepth 100000
theorem gkI_at {g e : Nat → Nat} {a v s t k f : Nat} : ∀ {n : Nat}, gkI g e a v s t n = some (k, f) → k < n ∧ plG g t (k + 1) = s ∧ CmG g t (k + 1) = e s ∧ baO g e a v t (k + 1) = some f
  | 0, h => by cases h
  | n + 1, h => by
    unfold gkI at h
    split at h
    · next x hx =>
      cases h
      obtain ⟨q1, q2⟩ := gkI_at hx
      exact ⟨by omega, q2⟩
    · next hx =>
      split at h
      · next hc =>
        rcases hb : baO g e a v t (n + 1) with _ | f9
        · rw [hb] at h; cases h
        · rw [hb] at h
          cases h
          exact ⟨Nat.lt_succ_self _, hc.1, hc.2, hb⟩
      · cases h
theorem gkO_at {g e : Nat → Nat} {a v s t k f : Nat} : ∀ {n : Nat}, gkO g e a v s n = some (t, k, f) → t < n ∧ k < g (16 + 36 * t + 3) - 1 ∧ plG g t (k + 1) = s ∧ CmG g t (k + 1) = e s ∧ baO g e a v t (k + 1) = some f
  | 0, h => by cases h
  | n + 1, h => by
    unfold gkO at h
    split at h
    · next x hx =>
      cases h
      obtain ⟨q1, q2⟩ := gkO_at hx
      exact ⟨by omega, q2⟩
    · next hx =>
      rcases hb : gkI g e a v s n (g (16 + 36 * n + 3) - 1) with _ | ⟨k9, f9⟩
      · rw [hb] at h; cases h
      · rw [hb] at h
        cases h
        exact ⟨Nat.lt_succ_self _, gkI_at hb⟩
theorem LvG_mono {g : Nat → Nat} {t a b : Nat} (h : a ≤ b) : LvG g t a ≤ LvG g t b := by
  induction b with
  | zero => rw [show a = 0 by omega]; exact Nat.le_refl _
  | succ b ih =>
    by_cases q : a = b + 1
    · rw [q]; exact Nat.le_refl _
    · have := ih (by omega)
      show LvG g t a ≤ LvG g t b + _
      omega
/-- how many of n are earlier than x -/
def cLN (e : Nat → Nat) (x : Nat) : Nat → Nat
  | 0 => 0
  | i + 1 => cLN e x i + if e i < x then 1 else 0
theorem cLN_le {e : Nat → Nat} {x : Nat} : ∀ n, cLN e x n ≤ n
  | 0 => Nat.le_refl _
  | n + 1 => by have := cLN_le (e := e) (x := x) n; unfold cLN; split <;> omega
theorem cLN_lt {e : Nat → Nat} {x s : Nat} (h : x ≤ e s) : ∀ n, s < n → cLN e x n < n
  | 0, q => absurd q (Nat.not_lt_zero _)
  | n + 1, q => by
    unfold cLN
    by_cases w : s = n
    · subst w; rw [if_neg (by omega)]; have := cLN_le (e := e) (x := x) s; omega
    · have := cLN_lt h n (by omega); split <;> omega
theorem cLN_mono {e : Nat → Nat} {x y : Nat} (h : x ≤ y) : ∀ n, cLN e x n ≤ cLN e y n
  | 0 => Nat.le_refl _
  | n + 1 => by
    have := cLN_mono (e := e) h n
    unfold cLN
    by_cases q : e n < x
    · rw [if_pos q, if_pos (by omega)]; omega
    · rw [if_neg q]; omega
theorem cLN_step {e : Nat → Nat} {x y s : Nat} (h : x ≤ e s) (hy : e s < y) : ∀ n, s < n → cLN e x n < cLN e y n
  | 0, q => absurd q (Nat.not_lt_zero _)
  | n + 1, q => by
    unfold cLN
    by_cases w : s = n
    · subst w; rw [if_neg (by omega), if_pos hy]; have := cLN_mono (e := e) (x := x) (y := y) (by omega) s; omega
    · have := cLN_step h hy n (by omega)
      by_cases z : e n < x
      · rw [if_pos z, if_pos (by omega)]; omega
      · rw [if_neg z]; omega
/-- a step of the chain: where it leads, and that it is earlier -/
theorem gkO_dn {g e : Nat → Nat} {a v s t k f n : Nat} (hI : GW g) (hn : n ≤ g 1) (hT : ∀ i, i < g 0 → 1 ≤ g (8 + i)) (h : gkO g e a v s n = some (t, k, f)) : t < g 1 ∧ k + 1 < g (16 + 36 * t + 3) ∧ f ≤ k ∧ plG g t f < g 0 ∧ (plG g t f = a ∨ e (plG g t f) < e s) := by
  obtain ⟨h1, h2, h3, h4, h5⟩ := gkO_at h
  obtain ⟨b1, b2, _⟩ := baO_some h5
  obtain ⟨hB, hn0, hn1, hn2, hn3, hst, hpl⟩ := hI
  have hs := hst t (by omega)
  have hp := hpl t f (by omega) (by omega)
  have hm := LvG_mono (g := g) (t := t) (show f ≤ k by omega)
  have hT9 := hT _ hp
  refine ⟨by omega, by omega, by omega, hp, ?_⟩
  rcases b2 with ⟨q, _⟩ | ⟨q, q1, q2⟩
  · exact Or.inl q
  · right
    have : LvG g t k ≤ CmG g t (k + 1) := by unfold CmG; rw [Nat.add_sub_cancel]; omega
    omega
def snL (g e : Nat → Nat) (a v : Nat) : Nat → Nat → Nat → (Nat → Nat) → (Nat → Nat) → Nat × (Nat → Nat) × (Nat → Nat)
  | 0, _, n, x, y => (n, x, y)
  | K + 1, s, n, x, y => if s = a then (n, x, y) else match gkO g e a v s (g 1) with
    | none => (n, x, y)
    | some (t, k, f) => snL g e a v K (plG g t f) (n + (k + 1 - f)) (flX x n (k + 1 - f) t) (flY y n (k + 1 - f) f)
theorem snL_a {g e : Nat → Nat} {a v K s n : Nat} {x y : Nat → Nat} (h : s = a) : snL g e a v K s n x y = (n, x, y) := by
  cases K with
  | zero => rfl
  | succ K => unfold snL; rw [if_pos h]
theorem snL_n {g e : Nat → Nat} {a v K s n : Nat} {x y : Nat → Nat} (h : gkO g e a v s (g 1) = none) : snL g e a v K s n x y = (n, x, y) := by
  cases K with
  | zero => rfl
  | succ K => unfold snL; rw [h]; split <;> rfl
theorem snL_s {g e : Nat → Nat} {a v K s n t k f : Nat} {x y : Nat → Nat} (hs : s ≠ a) (h : gkO g e a v s (g 1) = some (t, k, f)) : snL g e a v (K + 1) s n x y = snL g e a v K (plG g t f) (n + (k + 1 - f)) (flX x n (k + 1 - f) t) (flY y n (k + 1 - f) f) := by
  show (if s = a then _ else _) = _
  rw [if_neg hs, h]
def snM (e : Nat → Nat) (a s : Nat) : Nat := if s = a then 0 else cLN e (e s) 8 + 1
theorem snM_a {e : Nat → Nat} {a : Nat} : snM e a a = 0 := if_pos rfl
theorem snM_le {e : Nat → Nat} {a s : Nat} (hs : s < 8) : snM e a s ≤ 8 := by
  unfold snM; split
  · omega
  · have := cLN_lt (e := e) (Nat.le_refl (e s)) 8 hs; omega
theorem snM_dn {e : Nat → Nat} {a s s2 : Nat} (hs : s ≠ a) (h2 : s2 < 8) (h : s2 = a ∨ e s2 < e s) : snM e a s2 < snM e a s := by
  unfold snM; rw [if_neg hs]
  split
  · omega
  · next q => have := cLN_step (Nat.le_refl (e s2)) (show e s2 < e s by rcases h with z | z; exact absurd z q; exact z) 8 h2; omega
theorem tkH_1 {G : GG} {h : AH} {m : Nat} {fs : List Value} {aX aY n : Nat} {x y : Nat → Nat} (hx : h aX = some (iA G 60 (fun i => nI (x i)))) (hy : h aY = some (iA G 60 (fun i => nI (y i)))) : hset h m (.inr (0, fs.set 20 (.int (nI n)))) = tkH G h m fs aX aY n x y := by
  unfold tkH; rw [hset_id hx, hset_id hy]
theorem tkH_tk {G : GG} {h : AH} {m : Nat} {fs : List Value} {aX aY n n2 : Nat} {x y x2 y2 : Nat → Nat} (h1 : aX ≠ m) (h2 : aX ≠ aY) (h3 : aY ≠ m) : tkH G (tkH G h m fs aX aY n x y) m (fs.set 20 (.int (nI n))) aX aY n2 x2 y2 = tkH G h m fs aX aY n2 x2 y2 := tkH_s h1 h2 h3
/-- the suitcase's legs loaded -/
def inG (g x y : Nat → Nat) : Nat → Nat → Nat
  | 0 => g
  | j + 1 => up (inG g x y j) (16 + 36 * x j + 28 + y j) (inG g x y j (16 + 36 * x j + 28 + y j) + 1)
def nxSD (g : Nat → Nat) (k n : Nat) (x y e : Nat → Nat) : Nat → Nat := up (up (up (inG g x y n) 6 (inG g x y n 6 + 2 * n)) (232 + 4 * k + 1) (g (232 + 4 * k + 2))) (232 + 4 * k + 3) (e (g (232 + 4 * k + 2)))
def sdE (g ge : Nat → Nat) (k : Nat) : Nat → Nat := goE g (g (232 + 4 * k + 1)) (g (232 + 4 * k + 3)) ge
def sdR (g ge : Nat → Nat) (k : Nat) (x y : Nat → Nat) : Nat × (Nat → Nat) × (Nat → Nat) := snL g (sdE g ge k) (g (232 + 4 * k + 1)) (g (232 + 4 * k + 3)) 8 (g (232 + 4 * k + 2)) 0 x y
abbrev sdF (g : Nat → Nat) (k : Nat) (fs : List Value) (c : Nat) : List Value := (bgF (fs.set 7 (.int (nI 0))) (g (232 + 4 * k + 1)) (g (232 + 4 * k + 3))).set 7 (.int (nI c))
def sdH (G : GG) (h : AH) (m : Nat) (fs : List Value) (aE : Nat) (g ge : Nat → Nat) (k c : Nat) : AH := hset (bgH G h m (fs.set 7 (.int (nI 0))) (g (232 + 4 * k + 1)) (g (232 + 4 * k + 3)) aE (sdE g ge k)) m (.inr (0, sdF g k fs c))
theorem sdH_m {G : GG} {h : AH} {m : Nat} {fs : List Value} {aE : Nat} {g ge : Nat → Nat} {k c : Nat} : sdH G h m fs aE g ge k c m = some (.inr (0, sdF g k fs c)) := hset_self
theorem sdH_e {G : GG} {h : AH} {m : Nat} {fs : List Value} {aE : Nat} {g ge : Nat → Nat} {k c : Nat} (h1 : aE ≠ m) : sdH G h m fs aE g ge k c aE = some (iA G 8 (fun i => nI (sdE g ge k i))) := (hset_ne h1).trans bgH_e
theorem sdH_o {G : GG} {h : AH} {m : Nat} {fs : List Value} {aE b : Nat} {g ge : Nat → Nat} {k c : Nat} (h1 : b ≠ m) (h2 : b ≠ aE) : sdH G h m fs aE g ge k c b = h b := (hset_ne h1).trans (bgH_o h1 h2)

theorem ct_sendN {G : GG} {l : Launch} {h : AH} {m : Nat} {fs : List Value} {aG : Nat} {g : Nat → Nat} {p : Int32} (hm : h m = some (.inr (0, fs))) (h_g : fs[0]? = some (.ref aG)) (hg : h aG = some (iA G 304 (fun i => nI (g i)))) (hlen : fs.length = 25) (hI : GW g) (hfo : fdO g 232 p (g 2) = none) : Ct G l yX4_send cX4_send 6 (some .int) 3 0 0 [.ref m, .int p] h (PR (.int (nI 0)) (hset h m (.inr (0, fs.set 7 (.int (nI 1)))))) := by
  refine Ct.of (by decide) (Nat.le_of_ble_eq_true rfl) (cat1 rfl) (fun X hXl F HN => ?_)
  subst hXl
  obtain ⟨hB, hn0, hn1, hn2, hn3, hst, hpl⟩ := hI
  refine V_aload_n (i := 0) F dX4_send_0 rfl rfl ?_
  refine V_iload_n (i := 1) F dX4_send_1 rfl rfl ?_
  refine V_cV1r F dX4_send_2 lk_X4_148 (ct_isLostN hm h_g hg hlen hn2 hB hfo) ⟨0, _, _, _, rfl, (.inl hm)⟩ (Nat.le_of_ble_eq_true rfl) (Nat.le_of_ble_eq_true rfl) (Nat.le_of_ble_eq_true rfl) (Nat.le_of_ble_eq_true rfl) (Nat.le_of_ble_eq_true rfl) ?_
  refine V_if_eqN (tgt := 10) F dX4_send_5 (by decide) (by omega) (fun c_5 => absurd c_5 (by decide)) (fun c_5 => ?_)
  refine V_iconst (v := nI 0) F dX4_send_8 rfl ?_
  exact V_iret F dX4_send_9 rfl (Nat.le_of_ble_eq_true rfl) (Nat.le_of_ble_eq_true rfl) ⟨rfl, rfl⟩
theorem ct_sendS {G : GG} {l : Launch} {h : AH} {m : Nat} {fs : List Value} {aG : Nat} {g : Nat → Nat} {aE : Nat} {ge : Nat → Nat} {aX : Nat} {gx : Nat → Nat} {aY : Nat} {gy : Nat → Nat} {aK : Nat} {gk : Nat → Nat} {w : Nat} {ch : Nat} {p : Int32} {k : Nat} (hm : h m = some (.inr (0, fs))) (h_g : fs[0]? = some (.ref aG)) (hg : h aG = some (iA G 304 (fun i => nI (g i)))) (h_early : fs[14]? = some (.ref aE)) (hea : h aE = some (iA G 8 (fun i => nI (ge i)))) (h_takenTrains : fs[18]? = some (.ref aX)) (htt : h aX = some (iA G 60 (fun i => nI (gx i)))) (h_takenLegs : fs[19]? = some (.ref aY)) (htl : h aY = some (iA G 60 (fun i => nI (gy i)))) (h_kept : fs[1]? = some (.ref aK)) (hk : h aK = some (iA G 2432 (fun i => nI (gk i)))) (h_isWithin : fs[6]? = some (.int (nI (w)))) (h_changes : fs[5]? = some (.int (nI (ch)))) (hlen : fs.length = 25) (hI : GW g) (hw : w < 2) (hch : ch ≤ 8) (he0 : ∀ i, ge i < 2 ^ 27) (hTr : ∀ i, i < g 0 → 1 ≤ g (8 + i)) (hca : g (232 + 4 * k + 1) < g 0) (hct : g (232 + 4 * k + 2) < g 0) (hGE : aG ≠ aE) (hGX : aG ≠ aX) (hGY : aG ≠ aY) (hXY : aX ≠ aY) (hGK : aG ≠ aK) (hXE : aX ≠ aE) (hYE : aY ≠ aE) (hKE : aK ≠ aE) (hKX : aK ≠ aX) (hKY : aK ≠ aY) (hfo : fdO g 232 p (g 2) = some k) : Ct G l yX4_send cX4_send 6 (some .int) 6 0 0 [.ref m, .int p] h (PX (if (sdE g ge k) (g (232 + 4 * k + 2)) = 1000000 then 2 else 0) (fun c => sdH G h m fs aE g ge k c) (.int (nI (sdR g ge k gx gy).1)) (hset (kpH G (tkH G (sdH G h m fs aE g ge k 0) m (sdF g k fs 0) aX aY (sdR g ge k gx gy).1 (sdR g ge k gx gy).2.1 (sdR g ge k gx gy).2.2) m ((sdF g k fs 0).set 20 (.int (nI (sdR g ge k gx gy).1))) aK gk w ch g) aG (iA G 304 (fun i => nI (nxSD g k (sdR g ge k gx gy).1 (sdR g ge k gx gy).2.1 (sdR g ge k gx gy).2.2 (sdE g ge k) i))))) := by
  refine Ct.of (by decide) (Nat.le_of_ble_eq_true rfl) (cat1 rfl) (fun X hXl F HN => ?_)
  subst hXl
  have hI9 := hI
  obtain ⟨hB, hn0, hn1, hn2, hn3, hst, hpl⟩ := hI
  have hmE : m ≠ aE := ne_oa hm hea
  have hmK : m ≠ aK := ne_oa hm hk
  refine V_aload_n (i := 0) F dX4_send_0 rfl rfl ?_
  refine V_iload_n (i := 1) F dX4_send_1 rfl rfl ?_
  refine V_cV1r F dX4_send_2 lk_X4_148 (ct_isLostS hm h_g hg hlen hn2 hB hfo) ⟨0, _, _, _, rfl, (.inl hm)⟩ (Nat.le_of_ble_eq_true rfl) (Nat.le_of_ble_eq_true rfl) (Nat.le_of_ble_eq_true rfl) (Nat.le_of_ble_eq_true rfl) (Nat.le_of_ble_eq_true rfl) ?_
  refine V_if_eqN (tgt := 10) F dX4_send_5 (by decide) (by omega) (fun c_5 => ?_) (fun c_5 => absurd c_5 (by decide))
  refine V_aload_n (i := 0) F dX4_send_10 rfl rfl ?_
  refine V_iload_n (i := 1) F dX4_send_11 rfl rfl ?_
  have hk2 := (fdO_lt hfo).1
  refine V_cV1r F dX4_send_12 lk_X4_144 (ct_foundS hset_self (gset h_g (by decide)) ((hset_ne (ne_ao hg hm)).trans hg) hn2 hB hfo) ⟨0, _, _, _, rfl, (.inl hset_self)⟩ (Nat.le_of_ble_eq_true rfl) (Nat.le_of_ble_eq_true rfl) (Nat.le_of_ble_eq_true rfl) (Nat.le_of_ble_eq_true rfl) (Nat.le_of_ble_eq_true rfl) ?_
  refine V_istore_n (i := 2) F dX4_send_15 rfl (Nat.le_of_ble_eq_true rfl) (Nat.le_of_ble_eq_true rfl) ?_
  refine V_aload_n (i := 0) F dX4_send_16 rfl rfl ?_
  refine V_iload_n (i := 2) F dX4_send_17 rfl rfl ?_
  refine V_iconst (v := nI 2) F dX4_send_18 rfl ?_
  refine V_cV2r F dX4_send_19 lk_X4_141 (ct_the hset_self (gset h_g (by decide)) ((hset_ne (ne_ao hg hm)).trans hg) (by omega)) ⟨0, _, _, _, rfl, (.inl hset_self)⟩ (Nat.le_of_ble_eq_true rfl) (Nat.le_of_ble_eq_true rfl) (Nat.le_of_ble_eq_true rfl) (Nat.le_of_ble_eq_true rfl) (Nat.le_of_ble_eq_true rfl) ?_
  refine V_istore_n (i := 3) F dX4_send_22 rfl (Nat.le_of_ble_eq_true rfl) (Nat.le_of_ble_eq_true rfl) ?_
  refine V_aload_n (i := 0) F dX4_send_23 rfl rfl ?_
  refine V_aload_n (i := 0) F dX4_send_24 rfl rfl ?_
  refine V_iload_n (i := 2) F dX4_send_25 rfl rfl ?_
  refine V_iconst (v := nI 1) F dX4_send_26 rfl ?_
  refine V_cV2r F dX4_send_27 lk_X4_141 (ct_the hset_self (gset h_g (by decide)) ((hset_ne (ne_ao hg hm)).trans hg) (by omega)) ⟨0, _, _, _, rfl, (.inl hset_self)⟩ (Nat.le_of_ble_eq_true rfl) (Nat.le_of_ble_eq_true rfl) (Nat.le_of_ble_eq_true rfl) (Nat.le_of_ble_eq_true rfl) (Nat.le_of_ble_eq_true rfl) ?_
  refine V_aload_n (i := 0) F dX4_send_30 rfl rfl ?_
  refine V_iload_n (i := 2) F dX4_send_31 rfl rfl ?_
  refine V_iconst (v := nI 3) F dX4_send_32 rfl ?_
  refine V_cV2r F dX4_send_33 lk_X4_141 (ct_the hset_self (gset h_g (by decide)) ((hset_ne (ne_ao hg hm)).trans hg) (by omega)) ⟨0, _, _, _, rfl, (.inl hset_self)⟩ (Nat.le_of_ble_eq_true rfl) (Nat.le_of_ble_eq_true rfl) (Nat.le_of_ble_eq_true rfl) (Nat.le_of_ble_eq_true rfl) (Nat.le_of_ble_eq_true rfl) ?_
  have hg1 := hB (232 + 4 * k + 1)
  have hg3 := hB (232 + 4 * k + 3)
  have hsE : ∀ i, sdE g ge k i < 2 ^ 27 := goE_27 hI9 (by omega) he0
  refine V_cV2v F dX4_send_36 lk_X4_134 (ct_goes hset_self (gset h_g (by decide)) ((hset_ne (ne_ao hg hm)).trans hg) (gset h_early (by decide)) ((hset_ne (ne_ao hea hm)).trans hea) (lens hlen) hI9 hGE he0 (by omega) (by omega)) ⟨0, _, _, _, rfl, (.inl hset_self)⟩ (Nat.le_of_ble_eq_true rfl) (Nat.le_of_ble_eq_true rfl) (Nat.le_of_ble_eq_true rfl) (Nat.le_of_ble_eq_true rfl) (Nat.le_of_ble_eq_true rfl) ?_
  refine VV.heap (h' := bgH G h m (fs.set 7 (.int (nI 0))) (g (232 + 4 * k + 1)) (g (232 + 4 * k + 3)) aE (sdE g ge k)) bgH_h ?_
  refine V_aload_n (i := 0) F dX4_send_39 rfl rfl ?_
  refine V_aload_n (i := 0) F dX4_send_40 rfl rfl ?_
  refine V_getf F dX4_send_41 fc_X4_36_X4 (.inl (bgH_m hmE)) (gset (gset (gset h_early (by decide)) (by decide)) (by decide)) ?_
  refine V_iload_n (i := 3) F dX4_send_44 rfl rfl ?_
  refine V_ialdG F dX4_send_45 (.inl bgH_e) (by omega) (by decide) rfl ?_
  refine V_ldc (v := nI 1000000) F dX4_send_46 q3842 ?_
  refine V_icmp_neN (tgt := 55) F dX4_send_48 (by decide) (by have := hsE (g (232 + 4 * k + 2)); omega) (by decide) (fun c_48 => ?_) (fun c_48 => ?_)
  · refine V_iconst (v := nI 0) F dX4_send_55 rfl ?_
    refine V_cV1r F dX4_send_56 lk_X4_92 (ct_fails0 (bgH_m hmE) (lens (lens (lens hlen)))) ⟨0, _, _, _, rfl, (.inl (bgH_m hmE))⟩ (Nat.le_of_ble_eq_true rfl) (Nat.le_of_ble_eq_true rfl) (Nat.le_of_ble_eq_true rfl) (Nat.le_of_ble_eq_true rfl) (Nat.le_of_ble_eq_true rfl) ?_
    refine VV.heap (h' := sdH G h m fs aE g ge k 0) rfl ?_
    refine V_if_eqN (tgt := 64) F dX4_send_59 (by decide) (by omega) (fun c_59 => ?_) (fun c_59 => absurd c_59 (by decide))
    refine V_aload_n (i := 0) F dX4_send_64 rfl rfl ?_
    refine V_iconst (v := nI 0) F dX4_send_65 rfl ?_
    refine V_putf F dX4_send_66 fp_X4_154_X4 sdH_m rfl rfl (lenk (lens (lens (lens (lens hlen)))) (by decide)) ?_
    refine V_iload_n (i := 3) F dX4_send_69 rfl rfl ?_
    refine V_istore (i := 4) F dX4_send_70 (Nat.le_of_ble_eq_true rfl) (Nat.le_of_ble_eq_true rfl) ?_
    have loop_72 : ∀ (nn : Nat) (s9 n K : Nat) (x y : Nat → Nat), snM (sdE g ge k) (g (232 + 4 * k + 1)) s9 + 1 < nn → s9 < g 0 → snM (sdE g ge k) (g (232 + 4 * k + 1)) s9 ≤ K → (s9 = (g (232 + 4 * k + 1)) ∨ n + 7 * cLN (sdE g ge k) ((sdE g ge k) s9) 8 ≤ 49) → n ≤ 56 → (∀ i, i < n → x i < 6 ∧ y i < 8) → snL g (sdE g ge k) (g (232 + 4 * k + 1)) (g (232 + 4 * k + 3)) K s9 n x y = sdR g ge k gx gy → VV G X 6 (EQ G X 0 0 (PX (if (sdE g ge k) (g (232 + 4 * k + 2)) = 1000000 then 2 else 0) (fun c => sdH G h m fs aE g ge k c) (.int (nI (sdR g ge k gx gy).1)) (hset (kpH G (tkH G (sdH G h m fs aE g ge k 0) m (sdF g k fs 0) aX aY (sdR g ge k gx gy).1 (sdR g ge k gx gy).2.1 (sdR g ge k gx gy).2.2) m ((sdF g k fs 0).set 20 (.int (nI (sdR g ge k gx gy).1))) aK gk w ch g) aG (iA G 304 (fun i => nI (nxSD g k (sdR g ge k gx gy).1 (sdR g ge k gx gy).2.1 (sdR g ge k gx gy).2.2 (sdE g ge k) i)))))) (tkH G (sdH G h m fs aE g ge k 0) m (sdF g k fs 0) aX aY n x y) 0 0 [some (.ref (m)), some (.int (p)), some (.int (nI (k))), some (.int (nI (g (232 + 4 * k + 2)))), some (.int (nI (s9))), none] [] 72 := by
      intro nn
      induction nn with
      | zero => intro s9 n K x y hn hs9 hK hb hb2 hxy hR; exact absurd hn (by omega)
      | succ nn ih_72 =>
        intro s9 n K x y hn hs9 hK hb hb2 hxy hR
        refine V_iload (i := 4) F dX4_send_72 rfl ?_
        refine V_aload_n (i := 0) F dX4_send_74 rfl rfl ?_
        refine V_getf F dX4_send_75 fc_X4_105_X4 (.inl tkH_m) (gset (gset (gset (gself (lenk (lens hlen) (by decide))) (by decide)) (by decide)) (by decide)) ?_
        refine V_icmp_eqN (tgt := 92) F dX4_send_78 (by decide) (by omega) (by omega) (fun c_78 => ?_) (fun c_78 => ?_)
        · have hfin : sdR g ge k gx gy = (n, x, y) := hR.symm.trans (snL_a c_78)
          refine V_aload_n (i := 0) F dX4_send_92 rfl rfl ?_
          refine V_aload_n (i := 0) F dX4_send_93 rfl rfl ?_
          refine V_getf F dX4_send_94 fc_X4_7_X4 (.inl tkH_m) (gset (gset (gset (gset (gset h_g (by decide)) (by decide)) (by decide)) (by decide)) (by decide)) ?_
          refine V_cV1v F dX4_send_97 lk_X4_95 (ct_keeps tkH_m (lens (lens (lens (lens (lens hlen))))) (gset (gset (gset (gset (gset h_kept (by decide)) (by decide)) (by decide)) (by decide)) (by decide)) ((tkH_o (ne_ao hk hm) hKX hKY).trans ((sdH_o (ne_ao hk hm) hKE).trans hk)) (gset (gset (gset (gset (gset h_isWithin (by decide)) (by decide)) (by decide)) (by decide)) (by decide)) hw (gset (gset (gset (gset (gset h_changes (by decide)) (by decide)) (by decide)) (by decide)) (by decide)) hch ((tkH_o (ne_ao hg hm) hGX hGY).trans ((sdH_o (ne_ao hg hm) hGE).trans hg)) hGK) ⟨0, _, _, _, rfl, (.inl tkH_m)⟩ (Nat.le_of_ble_eq_true rfl) (Nat.le_of_ble_eq_true rfl) (Nat.le_of_ble_eq_true rfl) (Nat.le_of_ble_eq_true rfl) (Nat.le_of_ble_eq_true rfl) ?_
          refine V_iconst (v := nI 0) F dX4_send_100 rfl ?_
          refine V_istore (i := 5) F dX4_send_101 (Nat.le_of_ble_eq_true rfl) (Nat.le_of_ble_eq_true rfl) ?_
          have loop_103 : ∀ (nn : Nat) (j : Nat), n < j + nn → j ≤ n → VV G X 6 (EQ G X 0 0 (PX (if (sdE g ge k) (g (232 + 4 * k + 2)) = 1000000 then 2 else 0) (fun c => sdH G h m fs aE g ge k c) (.int (nI (sdR g ge k gx gy).1)) (hset (kpH G (tkH G (sdH G h m fs aE g ge k 0) m (sdF g k fs 0) aX aY (sdR g ge k gx gy).1 (sdR g ge k gx gy).2.1 (sdR g ge k gx gy).2.2) m ((sdF g k fs 0).set 20 (.int (nI (sdR g ge k gx gy).1))) aK gk w ch g) aG (iA G 304 (fun i => nI (nxSD g k (sdR g ge k gx gy).1 (sdR g ge k gx gy).2.1 (sdR g ge k gx gy).2.2 (sdE g ge k) i)))))) (hset (kpH G (tkH G (sdH G h m fs aE g ge k 0) m (sdF g k fs 0) aX aY n x y) m ((sdF g k fs 0).set 20 (.int (nI n))) aK gk w ch g) aG (iA G 304 (fun i => nI ((inG g x y j) i)))) 0 0 [some (.ref (m)), some (.int (p)), some (.int (nI (k))), some (.int (nI (g (232 + 4 * k + 2)))), none, some (.int (nI (j)))] [] 103 := by
            intro nn
            induction nn with
            | zero => intro j hn5 hj; exact absurd hn5 (by omega)
            | succ nn ih_103 =>
              intro j hn5 hj
              refine V_iload (i := 5) F dX4_send_103 rfl ?_
              refine V_aload_n (i := 0) F dX4_send_105 rfl rfl ?_
              refine V_getf F dX4_send_106 fc_X4_154_X4 (.inl ((hset_ne (ne_oa hm hg)).trans (kpH_m hmK))) (kpF_at (gself (lenk (lens (lens (lens (lens hlen)))) (by decide))) (by decide) (by decide)) ?_
              refine V_icmp_geN (tgt := 151) F dX4_send_109 (by decide) (by omega) (by omega) (fun c_109 => ?_) (fun c_109 => ?_)
              · obtain rfl : j = n := by omega
                refine V_aload_n (i := 0) F dX4_send_151 rfl rfl ?_
                refine V_getf F dX4_send_152 fc_X4_7_X4 (.inl ((hset_ne (ne_oa hm hg)).trans (kpH_m hmK))) (kpF_at (gset (gset (gset (gset (gset h_g (by decide)) (by decide)) (by decide)) (by decide)) (by decide)) (by decide) (by decide)) ?_
                refine V_bipush (v := nI 6) F dX4_send_155 rfl ?_
                refine V_dup2 F dX4_send_157 rfl rfl ?_
                refine V_ialdG F dX4_send_158 (.inl hset_self) (by omega) (by decide) rfl ?_
                refine V_iconst (v := nI 2) F dX4_send_159 rfl ?_
                refine V_aload_n (i := 0) F dX4_send_160 rfl rfl ?_
                refine V_getf F dX4_send_161 fc_X4_154_X4 (.inl ((hset_ne (ne_oa hm hg)).trans (kpH_m hmK))) (kpF_at (gself (lenk (lens (lens (lens (lens hlen)))) (by decide))) (by decide) (by decide)) ?_
                refine V_imulN F dX4_send_164 ?_
                refine V_iaddN F dX4_send_165 ?_
                refine V_iastG F dX4_send_166 hset_self (by omega) (by decide) ?_
                refine V_aload_n (i := 0) F dX4_send_167 rfl rfl ?_
                refine V_getf F dX4_send_168 fc_X4_7_X4 (.inl ((hset_ne (ne_oa hm hg)).trans ((hset_ne (ne_oa hm hg)).trans (kpH_m hmK)))) (kpF_at (gset (gset (gset (gset (gset h_g (by decide)) (by decide)) (by decide)) (by decide)) (by decide)) (by decide) (by decide)) ?_
                refine V_sipush (v := nI 232) F dX4_send_171 rfl ?_
                refine V_iconst (v := nI 4) F dX4_send_174 rfl ?_
                refine V_iload_n (i := 2) F dX4_send_175 rfl rfl ?_
                refine V_imulN F dX4_send_176 ?_
                refine V_iaddN F dX4_send_177 ?_
                refine V_iconst (v := nI 1) F dX4_send_178 rfl ?_
                refine V_iaddN F dX4_send_179 ?_
                refine V_iload_n (i := 3) F dX4_send_180 rfl rfl ?_
                refine V_iastG F dX4_send_181 hset_self (by omega) (by decide) ?_
                refine V_aload_n (i := 0) F dX4_send_182 rfl rfl ?_
                refine V_getf F dX4_send_183 fc_X4_7_X4 (.inl ((hset_ne (ne_oa hm hg)).trans ((hset_ne (ne_oa hm hg)).trans ((hset_ne (ne_oa hm hg)).trans (kpH_m hmK))))) (kpF_at (gset (gset (gset (gset (gset h_g (by decide)) (by decide)) (by decide)) (by decide)) (by decide)) (by decide) (by decide)) ?_
                refine V_sipush (v := nI 232) F dX4_send_186 rfl ?_
                refine V_iconst (v := nI 4) F dX4_send_189 rfl ?_
                refine V_iload_n (i := 2) F dX4_send_190 rfl rfl ?_
                refine V_imulN F dX4_send_191 ?_
                refine V_iaddN F dX4_send_192 ?_
                refine V_iconst (v := nI 3) F dX4_send_193 rfl ?_
                refine V_iaddN F dX4_send_194 ?_
                refine V_aload_n (i := 0) F dX4_send_195 rfl rfl ?_
                refine V_getf F dX4_send_196 fc_X4_36_X4 (.inl ((hset_ne (ne_oa hm hg)).trans ((hset_ne (ne_oa hm hg)).trans ((hset_ne (ne_oa hm hg)).trans (kpH_m hmK))))) (kpF_at (gset (gset (gset (gset (gset h_early (by decide)) (by decide)) (by decide)) (by decide)) (by decide)) (by decide) (by decide)) ?_
                refine V_iload_n (i := 3) F dX4_send_199 rfl rfl ?_
                refine V_ialdG F dX4_send_200 (.inl ((hset_ne (Ne.symm hGE)).trans ((hset_ne (Ne.symm hGE)).trans ((hset_ne (Ne.symm hGE)).trans ((kpH_o (ne_ao hea hm) (Ne.symm hKE)).trans ((tkH_o (ne_ao hea hm) (Ne.symm hXE) (Ne.symm hYE)).trans (sdH_e (ne_ao hea hm)))))))) (by omega) (by decide) rfl ?_
                refine V_iastG F dX4_send_201 hset_self (by omega) (by decide) ?_
                refine V_aload_n (i := 0) F dX4_send_202 rfl rfl ?_
                refine V_getf F dX4_send_203 fc_X4_154_X4 (.inl ((hset_ne (ne_oa hm hg)).trans ((hset_ne (ne_oa hm hg)).trans ((hset_ne (ne_oa hm hg)).trans ((hset_ne (ne_oa hm hg)).trans (kpH_m hmK)))))) (kpF_at (gself (lenk (lens (lens (lens (lens hlen)))) (by decide))) (by decide) (by decide)) ?_
                exact V_iret F dX4_send_206 rfl (Nat.le_of_ble_eq_true rfl) (Nat.le_of_ble_eq_true rfl) (PX.ok (if_neg c_48) (by rw [hfin]) (by rw [hfin]; unfold nxSD; simp only [hset_hset]))
              · have hxyj := hxy j (by omega)
                refine V_aload_n (i := 0) F dX4_send_112 rfl rfl ?_
                refine V_getf F dX4_send_113 fc_X4_7_X4 (.inl ((hset_ne (ne_oa hm hg)).trans (kpH_m hmK))) (kpF_at (gset (gset (gset (gset (gset h_g (by decide)) (by decide)) (by decide)) (by decide)) (by decide)) (by decide) (by decide)) ?_
                refine V_bipush (v := nI 16) F dX4_send_116 rfl ?_
                refine V_bipush (v := nI 36) F dX4_send_118 rfl ?_
                refine V_aload_n (i := 0) F dX4_send_120 rfl rfl ?_
                refine V_getf F dX4_send_121 fc_X4_42_X4 (.inl ((hset_ne (ne_oa hm hg)).trans (kpH_m hmK))) (kpF_at (gset (gset (gset (gset (gset h_takenTrains (by decide)) (by decide)) (by decide)) (by decide)) (by decide)) (by decide) (by decide)) ?_
                refine V_iload (i := 5) F dX4_send_124 rfl ?_
                refine V_ialdG F dX4_send_126 (.inl ((hset_ne (Ne.symm hGX)).trans ((kpH_o (ne_ao htt hm) (Ne.symm hKX)).trans (tkH_x (ne_ao htt hm) hXY)))) (by omega) (by decide) rfl ?_
                refine V_imulN F dX4_send_127 ?_
                refine V_iaddN F dX4_send_128 ?_
                refine V_bipush (v := nI 28) F dX4_send_129 rfl ?_
                refine V_iaddN F dX4_send_131 ?_
                refine V_aload_n (i := 0) F dX4_send_132 rfl rfl ?_
                refine V_getf F dX4_send_133 fc_X4_45_X4 (.inl ((hset_ne (ne_oa hm hg)).trans (kpH_m hmK))) (kpF_at (gset (gset (gset (gset (gset h_takenLegs (by decide)) (by decide)) (by decide)) (by decide)) (by decide)) (by decide) (by decide)) ?_
                refine V_iload (i := 5) F dX4_send_136 rfl ?_
                refine V_ialdG F dX4_send_138 (.inl ((hset_ne (Ne.symm hGY)).trans ((kpH_o (ne_ao htl hm) (Ne.symm hKY)).trans (tkH_y (ne_ao htl hm))))) (by omega) (by decide) rfl ?_
                refine V_iaddN F dX4_send_139 ?_
                refine V_dup2 F dX4_send_140 rfl rfl ?_
                refine V_ialdG F dX4_send_141 (.inl hset_self) (by omega) (by decide) rfl ?_
                refine V_iconst (v := nI 1) F dX4_send_142 rfl ?_
                refine V_iaddN F dX4_send_143 ?_
                refine V_iastG F dX4_send_144 hset_self (by omega) (by decide) ?_
                refine V_iinc (i := 5) (v := nI (j + 1)) F dX4_send_145 rfl (nI_add (j) 1) (Nat.le_of_ble_eq_true rfl) ?_
                refine V_goto (tgt := 103) F dX4_send_148 (by decide) ?_
                refine VV.weak (L' := [some (.ref (m)), some (.int (p)), some (.int (nI (k))), some (.int (nI (g (232 + 4 * k + 2)))), none, some (.int (nI (j + 1)))]) (LW.c1 (LW.c1 (LW.c1 (LW.c1 (LW.c0 (LW.c1 LW.nil)))))) ?_
                refine VV.heap hset_hset ?_
                exact ih_103 (j + 1) (by omega) (by omega)
          refine VV.weak (L' := [some (.ref (m)), some (.int (p)), some (.int (nI (k))), some (.int (nI (g (232 + 4 * k + 2)))), none, some (.int (nI (0)))]) (LW.c1 (LW.c1 (LW.c1 (LW.c1 (LW.c0 (LW.c1 LW.nil)))))) ?_
          refine VV.heap (h' := hset (kpH G (tkH G (sdH G h m fs aE g ge k 0) m (sdF g k fs 0) aX aY n x y) m ((sdF g k fs 0).set 20 (.int (nI n))) aK gk w ch g) aG (iA G 304 (fun i => nI (inG g x y 0 i)))) (hset_id ((kpH_o (ne_ao hg hm) hGK).trans ((tkH_o (ne_ao hg hm) hGX hGY).trans ((sdH_o (ne_ao hg hm) hGE).trans hg)))).symm ?_
          exact loop_103 (n + 1) 0 (by omega) (by omega)
        · rcases hgo : gkO g (sdE g ge k) (g (232 + 4 * k + 1)) (g (232 + 4 * k + 3)) s9 (g 1) with _ | ⟨t9, k9, f9⟩
          · refine V_aload_n (i := 0) F dX4_send_81 rfl rfl ?_
            refine V_iload (i := 4) F dX4_send_82 rfl ?_
            refine V_cV1r F dX4_send_84 lk_X4_157 (ct_goesBackN tkH_m (gset (gset (gset (gset (gset h_g (by decide)) (by decide)) (by decide)) (by decide)) (by decide)) ((tkH_o (ne_ao hg hm) hGX hGY).trans ((sdH_o (ne_ao hg hm) hGE).trans hg)) (gset (gset (gset (gset (gset h_early (by decide)) (by decide)) (by decide)) (by decide)) (by decide)) ((tkH_o (ne_ao hea hm) (Ne.symm hXE) (Ne.symm hYE)).trans (sdH_e (ne_ao hea hm))) (gset (gset (gset (gset (gset h_takenTrains (by decide)) (by decide)) (by decide)) (by decide)) (by decide)) (tkH_x (ne_ao htt hm) hXY) (gset (gset (gset (gset (gset h_takenLegs (by decide)) (by decide)) (by decide)) (by decide)) (by decide)) (tkH_y (ne_ao htl hm)) (gset (gset (gset (gself (lenk (lens hlen) (by decide))) (by decide)) (by decide)) (by decide)) (gset (gset (gself (lenk (lens (lens hlen)) (by decide))) (by decide)) (by decide)) (gself (lenk (lens (lens (lens (lens hlen)))) (by decide))) (lens (lens (lens (lens (lens hlen))))) hI9 (by omega) (by omega) (by omega) hsE (by omega) hGX hGY hXY hgo) ⟨0, _, _, _, rfl, (.inl tkH_m)⟩ (Nat.le_of_ble_eq_true rfl) (Nat.le_of_ble_eq_true rfl) (Nat.le_of_ble_eq_true rfl) (Nat.le_of_ble_eq_true rfl) (Nat.le_of_ble_eq_true rfl) ?_
            refine V_istore (i := 4) F dX4_send_87 (Nat.le_of_ble_eq_true rfl) (Nat.le_of_ble_eq_true rfl) ?_
            refine V_goto (tgt := 72) F dX4_send_89 (by decide) ?_
            refine VV.weak (L' := [some (.ref (m)), some (.int (p)), some (.int (nI (k))), some (.int (nI (g (232 + 4 * k + 2)))), some (.int (nI (g (232 + 4 * k + 1)))), none]) (LW.c1 (LW.c1 (LW.c1 (LW.c1 (LW.c1 (LW.c0 LW.nil)))))) ?_
            have hsp : 0 < snM (sdE g ge k) (g (232 + 4 * k + 1)) s9 := by unfold snM; rw [if_neg c_78]; omega
            exact ih_72 (g (232 + 4 * k + 1)) n 0 x y (by rw [snM_a]; omega) (by omega) (by rw [snM_a]; omega) (Or.inl rfl) hb2 hxy (by rw [snL_a rfl, ← hR, snL_n hgo])
          · have hdn := gkO_dn hI9 (Nat.le_refl _) hTr hgo
            refine V_aload_n (i := 0) F dX4_send_81 rfl rfl ?_
            refine V_iload (i := 4) F dX4_send_82 rfl ?_
            refine V_cV1r F dX4_send_84 lk_X4_157 (ct_goesBackS tkH_m (gset (gset (gset (gset (gset h_g (by decide)) (by decide)) (by decide)) (by decide)) (by decide)) ((tkH_o (ne_ao hg hm) hGX hGY).trans ((sdH_o (ne_ao hg hm) hGE).trans hg)) (gset (gset (gset (gset (gset h_early (by decide)) (by decide)) (by decide)) (by decide)) (by decide)) ((tkH_o (ne_ao hea hm) (Ne.symm hXE) (Ne.symm hYE)).trans (sdH_e (ne_ao hea hm))) (gset (gset (gset (gset (gset h_takenTrains (by decide)) (by decide)) (by decide)) (by decide)) (by decide)) (tkH_x (ne_ao htt hm) hXY) (gset (gset (gset (gset (gset h_takenLegs (by decide)) (by decide)) (by decide)) (by decide)) (by decide)) (tkH_y (ne_ao htl hm)) (gset (gset (gset (gself (lenk (lens hlen) (by decide))) (by decide)) (by decide)) (by decide)) (gset (gset (gself (lenk (lens (lens hlen)) (by decide))) (by decide)) (by decide)) (gself (lenk (lens (lens (lens (lens hlen)))) (by decide))) (lens (lens (lens (lens (lens hlen))))) hI9 (by omega) (by omega) (by omega) hsE (by omega) hGX hGY hXY hgo) ⟨0, _, _, _, rfl, (.inl tkH_m)⟩ (Nat.le_of_ble_eq_true rfl) (Nat.le_of_ble_eq_true rfl) (Nat.le_of_ble_eq_true rfl) (Nat.le_of_ble_eq_true rfl) (Nat.le_of_ble_eq_true rfl) ?_
            refine VV.heap (h' := (tkH G (sdH G h m fs aE g ge k 0) m (sdF g k fs 0) aX aY (n + (k9 + 1 - f9)) (flX x n (k9 + 1 - f9) t9) (flY y n (k9 + 1 - f9) f9))) (tkH_tk (ne_ao htt hm) hXY (ne_ao htl hm)) ?_
            refine V_istore (i := 4) F dX4_send_87 (Nat.le_of_ble_eq_true rfl) (Nat.le_of_ble_eq_true rfl) ?_
            refine V_goto (tgt := 72) F dX4_send_89 (by decide) ?_
            refine VV.weak (L' := [some (.ref (m)), some (.int (p)), some (.int (nI (k))), some (.int (nI (g (232 + 4 * k + 2)))), some (.int (nI (plG g t9 f9))), none]) (LW.c1 (LW.c1 (LW.c1 (LW.c1 (LW.c1 (LW.c0 LW.nil)))))) ?_
            have hdm := snM_dn (e := (sdE g ge k)) c_78 (show plG g t9 f9 < 8 by omega) hdn.2.2.2.2
            have hsM : snM (sdE g ge k) (g (232 + 4 * k + 1)) s9 ≤ 8 := snM_le (by omega)
            obtain ⟨K2, rfl⟩ : ∃ K2, K = K2 + 1 := ⟨K - 1, by omega⟩
            have hst9 := hst t9 hdn.1
            have hb9 : n + 7 * cLN (sdE g ge k) ((sdE g ge k) s9) 8 ≤ 49 := hb.resolve_left c_78
            exact ih_72 (plG g t9 f9) (n + (k9 + 1 - f9)) K2 (flX x n (k9 + 1 - f9) t9) (flY y n (k9 + 1 - f9) f9) (by omega) hdn.2.2.2.1 (by omega) (by rcases hdn.2.2.2.2 with z | z; exact Or.inl z; right; have := cLN_step (e := (sdE g ge k)) (Nat.le_refl ((sdE g ge k) (plG g t9 f9))) z 8 (by omega); omega) (by omega) (fun i hi => by unfold flX flY; split; omega; exact hxy i (by omega)) (by rw [← hR, snL_s c_78 hgo])
    refine VV.weak (L' := [some (.ref (m)), some (.int (p)), some (.int (nI (k))), some (.int (nI (g (232 + 4 * k + 2)))), some (.int (nI (g (232 + 4 * k + 2)))), none]) (LW.c1 (LW.c1 (LW.c1 (LW.c1 (LW.c1 (LW.c0 LW.nil)))))) ?_
    refine VV.heap (h' := tkH G (sdH G h m fs aE g ge k 0) m (sdF g k fs 0) aX aY 0 gx gy) (tkH_1 ((sdH_o (ne_ao htt hm) hXE).trans htt) ((sdH_o (ne_ao htl hm) hYE).trans htl)) ?_
    have hsM : snM (sdE g ge k) (g (232 + 4 * k + 1)) (g (232 + 4 * k + 2)) ≤ 8 := snM_le (by omega)
    have hcl := cLN_lt (e := (sdE g ge k)) (Nat.le_refl ((sdE g ge k) (g (232 + 4 * k + 2)))) 8 (by omega)
    exact loop_72 10 (g (232 + 4 * k + 2)) 0 8 gx gy (by omega) hct (by omega) (Or.inr (by omega)) (by omega) (fun i hi => absurd hi (Nat.not_lt_zero i)) rfl
  · refine V_iconst (v := nI 2) F dX4_send_51 rfl ?_
    refine V_goto (tgt := 56) F dX4_send_52 (by decide) ?_
    refine V_cV1r F dX4_send_56 lk_X4_92 (ct_failsP 2 (bgH_m hmE) (lens (lens (lens hlen))) (by decide)) ⟨0, _, _, _, rfl, (.inl (bgH_m hmE))⟩ (Nat.le_of_ble_eq_true rfl) (Nat.le_of_ble_eq_true rfl) (Nat.le_of_ble_eq_true rfl) (Nat.le_of_ble_eq_true rfl) (Nat.le_of_ble_eq_true rfl) ?_
    refine VV.heap (h' := sdH G h m fs aE g ge k 2) rfl ?_
    refine V_if_eqN (tgt := 64) F dX4_send_59 (by decide) (by omega) (fun c_59 => absurd c_59 (by decide)) (fun c_59 => ?_)
    refine V_iconst (v := nI 0) F dX4_send_62 rfl ?_
    exact V_iret F dX4_send_63 rfl (Nat.le_of_ble_eq_true rfl) (Nat.le_of_ble_eq_true rfl) (PX.fail 2 (if_pos c_48) (by decide) rfl)
