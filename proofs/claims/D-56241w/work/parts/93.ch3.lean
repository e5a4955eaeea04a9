/-- a train's own cells -/
def MX (x : Nat) (A : Nat → Nat) : Nat → Prop := fun a => a = x ∨ ∃ i, i < 5 ∧ a = A i
theorem MX.k {G : GG} {h : AH} {x t c : Nat} {A : Nat → Nat} {g : Nat → Nat} (hT : TRs G h x A g t) (hc : c ≠ 4) : offK (MX x A) h (kO c) := by
  obtain ⟨p, f, hA, -⟩ := hT
  intro y e hy hs q
  rcases q with rfl | ⟨i, hi, rfl⟩
  · cases p.symm.trans hy; exact hc (beq_iff_eq.mp hs).symm
  · cases (hA i hi).symm.trans hy; cases hs
theorem MX.q {G : GG} {h : AH} {x t c a : Nat} {A : Nat → Nat} {g : Nat → Nat} {f2 : Nat → Option Nat} (hT : TRs G h x A g t) (ha : h a = some (qA G c f2)) : ¬ MX x A a := by
  obtain ⟨p, f, hA, -⟩ := hT
  rintro (q | ⟨i, hi, q⟩)
  · exact ne_ao ha p q
  · exact ne_qi ha (hA i hi) q
theorem RWs.frk {G : GG} {h h2 : AH} {M : Nat → Prop} {d : DM} {g : Nat → Nat} (hR : RWs G h d g) (hx : Fr M h h2) (h23 : offK M h (kO 23)) (h24 : offK M h (kO 24)) (h27 : offK M h (kO 27)) (h8 : offK M h (kO 8)) : RWs G h2 d g :=
  ⟨hR.1.frk hx h23 h24, hR.2.1, fun i hi => ⟨(hR.2.2 i hi).1.fr hx h27, hx.get (hR.2.2 i hi).2 (h8.o (hR.2.2 i hi).2) rfl⟩⟩
theorem RWb.frk {G : GG} {h h2 : AH} {M : Nat → Prop} {d : DM} {g : Nat → Nat} (hR : RWb G h d g) (hx : Fr M h h2) (h23 : offK M h (kO 23)) (h24 : offK M h (kO 24)) (h27 : offK M h (kO 27)) (h11 : offK M h (kO 11)) : RWb G h2 d g :=
  ⟨hR.1.frk hx h23 h24, hR.2.1, fun i hi => ⟨(hR.2.2 i hi).1.fr hx h27, hx.get (hR.2.2 i hi).2 (h11.o (hR.2.2 i hi).2) rfl⟩⟩
/-- one train changes: all else of the railway stands -/
theorem RW.one {G : GG} {h h2 h0 : AH} {r ti tia : Nat} {tf : Nat → Nat} {tt tl ta : Nat} {x : Nat → Nat} {A : Nat → Nat → Nat} {ds db : DM} {g g2 : Nat → Nat} {k : Nat} (hW : RW G h r ((ti, tia, tf), (tt, tl, ta, x, A), ds, db) g) (hO : RO G h0 r ((ti, tia, tf), (tt, tl, ta, x, A), ds, db) g) (hI : GW g) (hk : k < g 1) (hx : Fr (MX (x k) (A k)) h h2) (hT : TRs G h2 (x k) (A k) g2 k)
    (hlo : ∀ i, i < 16 → g2 i = g i) (hot : ∀ t, t < g 1 → t ≠ k → ∀ j, j < 36 → g2 (16 + 36 * t + j) = g (16 + 36 * t + j)) (hhi : ∀ i, 232 ≤ i → g2 i = g i) : RW G h2 r ((ti, tia, tf), (tt, tl, ta, x, A), ds, db) g2 ∧ RO G h0 r ((ti, tia, tf), (tt, tl, ta, x, A), ds, db) g2 := by
  obtain ⟨hr, hWt, hWr, hWs, hWb⟩ := hW
  have hTk := hWr.2.2 k hk
  have hk4 := fun c (hc : c ≠ 4) => MX.k (c := c) hTk hc
  have h8 := hI.2.1; have h28 := hI.2.2.2.1; have h310 := hI.2.2.2.2.1
  have hr2 := hx.get hr ((hk4 2 (by decide)).o hr) rfl
  have hbk : ∀ t j, bkG g2 t j (g2 3) = bkG g t j (g 3) := fun t j => bkG_cg (hlo 3 (by omega)) (fun o ho i hi => hhi _ (by omega))
  have hT2 := (hWt.fr hx ((hk4 18 (by decide)).o hWt.1.1) (fun c f z => MX.q hTk z) (hk4 27 (by decide))).cg (g2 := g2) (hlo 0 (by omega)) (fun j hj => hlo _ (by omega))
  have hS2 := (hWs.frk hx (hk4 23 (by decide)) (hk4 24 (by decide)) (hk4 27 (by decide)) (hk4 8 (by decide))).cg (g2 := g2) (hlo 2 (by omega)) (hlo 4 (by omega)) (fun i hi j hj => hhi _ (by omega))
  have hB2 := (hWb.frk hx (hk4 23 (by decide)) (hk4 24 (by decide)) (hk4 27 (by decide)) (hk4 11 (by decide))).cg (g2 := g2) (hlo 3 (by omega)) (hlo 5 (by omega)) (fun i hi j hj => hhi _ (by omega))
  have hR2 : RWr G h2 (tt, tl, ta, x, A) g2 := by
    refine ⟨hx.get hWr.1 ((hk4 3 (by decide)).o hWr.1) rfl, ?_, fun u hu => ?_⟩
    · rw [hlo 1 (by omega)]; exact hWr.2.1.frQ hx ((hk4 18 (by decide)).o hWr.2.1.1) (fun c f z => MX.q hTk z)
    · rw [hlo 1 (by omega)] at hu
      by_cases e : u = k
      · subst e; exact hT
      · have hTu := hWr.2.2 u hu
        have hTu2 : TRs G h2 (x u) (A u) g u := by
          have hTu0 := hTu
          obtain ⟨pu, fu, hAu, -⟩ := hTu0
          obtain ⟨pk, fk, hAk, -⟩ := hTk
          refine hTu.fr hx ?_ (fun i hi => ?_)
          · rintro (q | ⟨i, hi, q⟩)
            · exact e (hO.xi u k hu hk q)
            · exact ne_oa pu (hAk i hi) q
          · rintro (q | ⟨j, hj, q⟩)
            · exact ne_ao (hAu i hi) pk q
            · exact e (hO.Ai u k i j hu hk hi hj q).1
        exact hTu2.cg (hI.st hu).2 (hot u hu e) (fun j hj => hbk u j)
  have d1 : g2 1 = g 1 := hlo 1 (by omega)
  have d2 : g2 2 = g 2 := hlo 2 (by omega)
  have d3 : g2 3 = g 3 := hlo 3 (by omega)
  exact ⟨⟨by rw [hlo 4 (by omega), hlo 5 (by omega), hlo 6 (by omega), hlo 7 (by omega)]; exact hr2, hT2, hR2, hS2, hB2⟩, hO.r, hO.ti, hO.tia, hO.tt, hO.tl, hO.ta, hO.sm, hO.bm, d1 ▸ hO.x, d1 ▸ hO.A, d2 ▸ hO.sA, d3 ▸ hO.bA, hO.til, hO.tia2, hO.sb, d2 ▸ d3 ▸ hO.sbA, d1 ▸ hO.xi, d1 ▸ hO.Ai⟩
theorem MX.fH {h0 : AH} {G : GG} {r k : Nat} {D : RD} {g : Nat → Nat} (hO : RO G h0 r D g) (hk : k < g 1) : ∀ a, MX (D.2.1.2.2.2.1 k) (D.2.1.2.2.2.2 k) a → fH h0 a := by
  rintro a (q | ⟨i, hi, q⟩)
  · rw [q]; exact hO.x k hk
  · rw [q]; exact hO.A k hk i hi
section ET
variable {g : Nat → Nat} {t s r w : Nat}
theorem nxET_o {i : Nat} (h1 : i ≠ 16 + 36 * t + 4 + 3 * g (16 + 36 * t + 3)) (h2 : i ≠ 16 + 36 * t + 4 + 3 * g (16 + 36 * t + 3) + 1) (h3 : i ≠ 16 + 36 * t + 4 + 3 * g (16 + 36 * t + 3) + 2) (h4 : i ≠ 16 + 36 * t + 3) : nxET g t s r w i = g i := by
  unfold nxET; rw [up_n h4, up_n h3, up_n h2, up_n h1]
theorem nxET_3 : nxET g t s r w (16 + 36 * t + 3) = g (16 + 36 * t + 3) + 1 := by unfold nxET; rw [up_s]
theorem nxET_s : nxET g t s r w (16 + 36 * t + (4 + 3 * g (16 + 36 * t + 3))) = s := by
  unfold nxET; rw [up_n (by omega), up_n (by omega), up_n (by omega), show 16 + 36 * t + (4 + 3 * g (16 + 36 * t + 3)) = 16 + 36 * t + 4 + 3 * g (16 + 36 * t + 3) by omega, up_s]
theorem nxET_r : nxET g t s r w (16 + 36 * t + (4 + 3 * g (16 + 36 * t + 3) + 1)) = r := by
  unfold nxET; rw [up_n (by omega), up_n (by omega), show 16 + 36 * t + (4 + 3 * g (16 + 36 * t + 3) + 1) = 16 + 36 * t + 4 + 3 * g (16 + 36 * t + 3) + 1 by omega, up_s]
theorem nxET_w : nxET g t s r w (16 + 36 * t + (4 + 3 * g (16 + 36 * t + 3) + 2)) = w := by
  unfold nxET; rw [up_n (by omega), show 16 + 36 * t + (4 + 3 * g (16 + 36 * t + 3) + 2) = 16 + 36 * t + 4 + 3 * g (16 + 36 * t + 3) + 2 by omega, up_s]
theorem dpG_et : ∀ j, j < g (16 + 36 * t + 3) → dpG (nxET g t s r w) t j = dpG g t j
  | 0, hj => nxET_o (by omega) (by omega) (by omega) (by omega)
  | j + 1, hj => by
    show dpG (nxET g t s r w) t j + (nxET g t s r w (16 + 36 * t + (4 + 3 * (j + 1) + 1)) + nxET g t s r w (16 + 36 * t + (4 + 3 * (j + 1) + 2))) = dpG g t j + _
    rw [dpG_et j (by omega), nxET_o (by omega) (by omega) (by omega) (by omega), nxET_o (by omega) (by omega) (by omega) (by omega)]
theorem dpG_etK (h1 : 1 ≤ g (16 + 36 * t + 3)) : dpG (nxET g t s r w) t (g (16 + 36 * t + 3)) = dpG g t (g (16 + 36 * t + 3) - 1) + (r + w) := by
  obtain ⟨m, hm⟩ : ∃ m, g (16 + 36 * t + 3) = m + 1 := ⟨g (16 + 36 * t + 3) - 1, by omega⟩
  have hr := nxET_r (g := g) (t := t) (s := s) (r := r) (w := w)
  have hw := nxET_w (g := g) (t := t) (s := s) (r := r) (w := w)
  have hd := dpG_et (g := g) (t := t) (s := s) (r := r) (w := w) m (by omega)
  rw [hm] at hr hw ⊢
  show dpG (nxET g t s r w) t m + (nxET g t s r w (16 + 36 * t + (4 + 3 * (m + 1) + 1)) + nxET g t s r w (16 + 36 * t + (4 + 3 * (m + 1) + 2))) = dpG g t m + (r + w)
  rw [hr, hw, hd]
end ET
/-- a train with one stop more -/
theorem TRs.et {G : GG} {h2 : AH} {x t s r w : Nat} {A : Nat → Nat} {g : Nat → Nat} {f : Nat → Nat → Nat} (h1 : 1 ≤ g (16 + 36 * t + 3)) (h8 : g (16 + 36 * t + 3) < 8) (ht6 : t < 6) (hc : h2 x = some (.inr (4, [.int (nI (g (16 + 36 * t + 0))), .ref (A 0), .ref (A 1), .ref (A 2), .ref (A 3), .ref (A 4), .int (nI (g (16 + 36 * t + 3) + 1)), .int (nI (g (16 + 36 * t + 2)))])))
    (p0 : h2 (A 0) = some (iA G 8 (fun i => nI (up (f 0) (g (16 + 36 * t + 3)) s i)))) (p1 : h2 (A 1) = some (iA G 8 (fun i => nI (up (f 1) (g (16 + 36 * t + 3)) (dpG g t (g (16 + 36 * t + 3) - 1) + r) i)))) (p2 : h2 (A 2) = some (iA G 8 (fun i => nI (up (f 2) (g (16 + 36 * t + 3)) (dpG g t (g (16 + 36 * t + 3) - 1) + r + w) i)))) (p3 : h2 (A 3) = some (iA G 8 (fun i => nI (f 3 i)))) (p4 : h2 (A 4) = some (iA G 8 (fun i => nI (f 4 i))))
    (e0 : ∀ k, k < g (16 + 36 * t + 3) → f 0 k = plG g t k) (e1 : ∀ k, 0 < k → k < g (16 + 36 * t + 3) → f 1 k = avG g t k) (e2 : ∀ k, k < g (16 + 36 * t + 3) → f 2 k = dpG g t k) (e3 : ∀ k, k < 8 → f 3 k = g (16 + 36 * t + (28 + k))) (e4 : ∀ k, k < 8 → f 4 k = bkG g t k (g 3)) : TRs G h2 x A (nxET g t s r w) t := by
  refine ⟨by rw [nxET_o (by omega) (by omega) (by omega) (by omega), nxET_3, nxET_o (by omega) (by omega) (by omega) (by omega)]; exact hc, fun i => if i = 0 then up (f 0) (g (16 + 36 * t + 3)) s else if i = 1 then up (f 1) (g (16 + 36 * t + 3)) (dpG g t (g (16 + 36 * t + 3) - 1) + r) else if i = 2 then up (f 2) (g (16 + 36 * t + 3)) (dpG g t (g (16 + 36 * t + 3) - 1) + r + w) else f i, ?_, ?_, ?_, ?_, ?_, ?_⟩
  · intro i hi
    match i, hi with
    | 0, _ => exact p0
    | 1, _ => exact p1
    | 2, _ => exact p2
    | 3, _ => exact p3
    | 4, _ => exact p4
  · intro k hk
    rw [nxET_3] at hk
    show up (f 0) (g (16 + 36 * t + 3)) s k = _
    by_cases e : k = g (16 + 36 * t + 3)
    · rw [e, up_s]; exact nxET_s.symm
    · rw [up_n e, e0 k (by omega)]; unfold plG; rw [nxET_o (by omega) (by omega) (by omega) (by omega)]
  · intro k hk0 hk
    rw [nxET_3] at hk
    show up (f 1) (g (16 + 36 * t + 3)) _ k = _
    by_cases e : k = g (16 + 36 * t + 3)
    · rw [e, up_s]; unfold avG; rw [nxET_r, dpG_et _ (by omega)]
    · rw [up_n e, e1 k hk0 (by omega)]; unfold avG; rw [dpG_et _ (by omega), nxET_o (by omega) (by omega) (by omega) (by omega)]
  · intro k hk
    rw [nxET_3] at hk
    show up (f 2) (g (16 + 36 * t + 3)) _ k = _
    by_cases e : k = g (16 + 36 * t + 3)
    · rw [e, up_s, dpG_etK h1]; omega
    · rw [up_n e, e2 k (by omega), dpG_et _ (by omega)]
  · intro k hk
    show f 3 k = _
    rw [e3 k hk, nxET_o (by omega) (by omega) (by omega) (by omega)]
  · intro k hk
    show f 4 k = _
    rw [e4 k hk, bkG_cg (nxET_o (by omega) (by omega) (by omega) (by omega)) (fun o ho j hj => nxET_o (by omega) (by omega) (by omega) (by omega))]
theorem ct_TR_extend {G : GG} {l : Launch} {h : AH} {x t s0 r0 w0 : Nat} {A : Nat → Nat} {g : Nat → Nat}  (hT : TRs G h x A g t) (hs1 : 1 ≤ g (16 + 36 * t + 3)) (hs8 : g (16 + 36 * t + 3) < 8) (ht6 : t < 6) (hAi : ∀ i j, i < 5 → j < 5 → A i = A j → i = j) : Ct G l yX5_extend cX5_extend 4 (some .int) 0 (0) (0) [.ref x, .int (nI s0), .int (nI r0), .int (nI w0)] h (fun r h2 => r = some (.int (nI (g (16 + 36 * t + 3)))) ∧ TRs G h2 x A (nxET g t s0 r0 w0) t ∧ Fr (MX x A) h h2) := by
  refine Ct.of (by decide) (Nat.le_of_ble_eq_true rfl) (cat1 rfl) (fun X hXl F HN => ?_)
  subst hXl
  obtain ⟨hx, f, hA, e0, e1, e2, e3, e4⟩ := id hT
  refine V_aload_n (i := 0) F dX5_extend_0 rfl rfl ?_
  refine V_getf F dX5_extend_1 fc_X5_11_X5 (.inl hx) rfl ?_
  refine V_aload_n (i := 0) F dX5_extend_4 rfl rfl ?_
  refine V_getf F dX5_extend_5 fc_X5_17_X5 (.inl hx) rfl ?_
  refine V_iload_n (i := 1) F dX5_extend_8 rfl rfl ?_
  have p1 : h ((A 0)) = some (.inl (G.2.1 0, 8, .inl (fun i => nI ((f 0) i)))) := (hA 0 (by decide))
  have p2 : h ((A 1)) = some (.inl (G.2.1 0, 8, .inl (fun i => nI ((f 1) i)))) := (hA 1 (by decide))
  have p3 : h ((A 2)) = some (.inl (G.2.1 0, 8, .inl (fun i => nI ((f 2) i)))) := (hA 2 (by decide))
  have p4 : h ((A 3)) = some (.inl (G.2.1 0, 8, .inl (fun i => nI ((f 3) i)))) := (hA 3 (by decide))
  have p5 : h ((A 4)) = some (.inl (G.2.1 0, 8, .inl (fun i => nI ((f 4) i)))) := (hA 4 (by decide))
  refine V_iastG F dX5_extend_9 p1 (by omega) (by decide) ?_
  refine V_aload_n (i := 0) F dX5_extend_10 rfl rfl ?_
  refine V_getf F dX5_extend_11 fc_X5_29_X5 (.inl ((hset_ne (ne_oa hx p1)).trans hx)) rfl ?_
  refine V_aload_n (i := 0) F dX5_extend_14 rfl rfl ?_
  refine V_getf F dX5_extend_15 fc_X5_17_X5 (.inl ((hset_ne (ne_oa hx p1)).trans hx)) rfl ?_
  refine V_aload_n (i := 0) F dX5_extend_18 rfl rfl ?_
  refine V_getf F dX5_extend_19 fc_X5_14_X5 (.inl ((hset_ne (ne_oa hx p1)).trans hx)) rfl ?_
  refine V_aload_n (i := 0) F dX5_extend_22 rfl rfl ?_
  refine V_getf F dX5_extend_23 fc_X5_17_X5 (.inl ((hset_ne (ne_oa hx p1)).trans hx)) rfl ?_
  refine V_iconst (v := nI 1) F dX5_extend_26 rfl ?_
  refine V_isubN F dX5_extend_27 (by omega) ?_
  refine V_ialdG F dX5_extend_28 (.inl ((hset_ne (Ne.symm (fun z => absurd (hAi 0 2 (by decide) (by decide) z) (by decide)))).trans p3)) (by omega) (by decide) (e2 _ (by omega)) ?_
  refine V_iload_n (i := 2) F dX5_extend_29 rfl rfl ?_
  refine V_iaddN F dX5_extend_30 ?_
  have p6 : (hset h ((A 0)) (.inl (G.2.1 0, 8, .inl (fun i => nI (((up (f 0) (g (16 + 36 * t + 3)) s0)) i))))) x = some (.inr (4, [.int (nI (g (16 + 36 * t + 0))), .ref ((A 0)), .ref ((A 1)), .ref ((A 2)), .ref ((A 3)), .ref ((A 4)), .int (nI (g (16 + 36 * t + 3))), .int (nI (g (16 + 36 * t + 2)))])) := ((hset_ne (ne_oa hx p1)).trans hx)
  have p7 : (hset h ((A 0)) (.inl (G.2.1 0, 8, .inl (fun i => nI (((up (f 0) (g (16 + 36 * t + 3)) s0)) i))))) ((A 1)) = some (.inl (G.2.1 0, 8, .inl (fun i => nI ((f 1) i)))) := ((hset_ne (Ne.symm (fun z => absurd (hAi 0 1 (by decide) (by decide) z) (by decide)))).trans p2)
  have p8 : (hset h ((A 0)) (.inl (G.2.1 0, 8, .inl (fun i => nI (((up (f 0) (g (16 + 36 * t + 3)) s0)) i))))) ((A 2)) = some (.inl (G.2.1 0, 8, .inl (fun i => nI ((f 2) i)))) := ((hset_ne (Ne.symm (fun z => absurd (hAi 0 2 (by decide) (by decide) z) (by decide)))).trans p3)
  have p9 : (hset h ((A 0)) (.inl (G.2.1 0, 8, .inl (fun i => nI (((up (f 0) (g (16 + 36 * t + 3)) s0)) i))))) ((A 3)) = some (.inl (G.2.1 0, 8, .inl (fun i => nI ((f 3) i)))) := ((hset_ne (Ne.symm (fun z => absurd (hAi 0 3 (by decide) (by decide) z) (by decide)))).trans p4)
  have p10 : (hset h ((A 0)) (.inl (G.2.1 0, 8, .inl (fun i => nI (((up (f 0) (g (16 + 36 * t + 3)) s0)) i))))) ((A 4)) = some (.inl (G.2.1 0, 8, .inl (fun i => nI ((f 4) i)))) := ((hset_ne (Ne.symm (fun z => absurd (hAi 0 4 (by decide) (by decide) z) (by decide)))).trans p5)
  have p11 : (hset h ((A 0)) (.inl (G.2.1 0, 8, .inl (fun i => nI (((up (f 0) (g (16 + 36 * t + 3)) s0)) i))))) ((A 0)) = some (.inl (G.2.1 0, 8, .inl (fun i => nI (((up (f 0) (g (16 + 36 * t + 3)) s0)) i)))) := (hset_self (e := .inl (G.2.1 0, 8, .inl (fun i => nI (((up (f 0) (g (16 + 36 * t + 3)) s0)) i)))))
  refine V_iastG F dX5_extend_31 p7 (by omega) (by decide) ?_
  refine V_aload_n (i := 0) F dX5_extend_32 rfl rfl ?_
  refine V_getf F dX5_extend_33 fc_X5_14_X5 (.inl ((hset_ne (ne_oa p6 p7)).trans p6)) rfl ?_
  refine V_aload_n (i := 0) F dX5_extend_36 rfl rfl ?_
  refine V_getf F dX5_extend_37 fc_X5_17_X5 (.inl ((hset_ne (ne_oa p6 p7)).trans p6)) rfl ?_
  refine V_aload_n (i := 0) F dX5_extend_40 rfl rfl ?_
  refine V_getf F dX5_extend_41 fc_X5_29_X5 (.inl ((hset_ne (ne_oa p6 p7)).trans p6)) rfl ?_
  refine V_aload_n (i := 0) F dX5_extend_44 rfl rfl ?_
  refine V_getf F dX5_extend_45 fc_X5_17_X5 (.inl ((hset_ne (ne_oa p6 p7)).trans p6)) rfl ?_
  refine V_ialdG F dX5_extend_48 (.inl (hset_self (e := .inl (G.2.1 0, 8, .inl (fun i => nI (((up (f 1) (g (16 + 36 * t + 3)) ((dpG g t (g (16 + 36 * t + 3) - 1)) + r0))) i)))))) (by omega) (by decide) up_s ?_
  refine V_iload_n (i := 3) F dX5_extend_49 rfl rfl ?_
  refine V_iaddN F dX5_extend_50 ?_
  have p12 : (hset (hset h ((A 0)) (.inl (G.2.1 0, 8, .inl (fun i => nI (((up (f 0) (g (16 + 36 * t + 3)) s0)) i))))) ((A 1)) (.inl (G.2.1 0, 8, .inl (fun i => nI (((up (f 1) (g (16 + 36 * t + 3)) ((dpG g t (g (16 + 36 * t + 3) - 1)) + r0))) i))))) x = some (.inr (4, [.int (nI (g (16 + 36 * t + 0))), .ref ((A 0)), .ref ((A 1)), .ref ((A 2)), .ref ((A 3)), .ref ((A 4)), .int (nI (g (16 + 36 * t + 3))), .int (nI (g (16 + 36 * t + 2)))])) := ((hset_ne (ne_oa p6 p7)).trans p6)
  have p13 : (hset (hset h ((A 0)) (.inl (G.2.1 0, 8, .inl (fun i => nI (((up (f 0) (g (16 + 36 * t + 3)) s0)) i))))) ((A 1)) (.inl (G.2.1 0, 8, .inl (fun i => nI (((up (f 1) (g (16 + 36 * t + 3)) ((dpG g t (g (16 + 36 * t + 3) - 1)) + r0))) i))))) ((A 2)) = some (.inl (G.2.1 0, 8, .inl (fun i => nI ((f 2) i)))) := ((hset_ne (Ne.symm (fun z => absurd (hAi 1 2 (by decide) (by decide) z) (by decide)))).trans p8)
  have p14 : (hset (hset h ((A 0)) (.inl (G.2.1 0, 8, .inl (fun i => nI (((up (f 0) (g (16 + 36 * t + 3)) s0)) i))))) ((A 1)) (.inl (G.2.1 0, 8, .inl (fun i => nI (((up (f 1) (g (16 + 36 * t + 3)) ((dpG g t (g (16 + 36 * t + 3) - 1)) + r0))) i))))) ((A 3)) = some (.inl (G.2.1 0, 8, .inl (fun i => nI ((f 3) i)))) := ((hset_ne (Ne.symm (fun z => absurd (hAi 1 3 (by decide) (by decide) z) (by decide)))).trans p9)
  have p15 : (hset (hset h ((A 0)) (.inl (G.2.1 0, 8, .inl (fun i => nI (((up (f 0) (g (16 + 36 * t + 3)) s0)) i))))) ((A 1)) (.inl (G.2.1 0, 8, .inl (fun i => nI (((up (f 1) (g (16 + 36 * t + 3)) ((dpG g t (g (16 + 36 * t + 3) - 1)) + r0))) i))))) ((A 4)) = some (.inl (G.2.1 0, 8, .inl (fun i => nI ((f 4) i)))) := ((hset_ne (Ne.symm (fun z => absurd (hAi 1 4 (by decide) (by decide) z) (by decide)))).trans p10)
  have p16 : (hset (hset h ((A 0)) (.inl (G.2.1 0, 8, .inl (fun i => nI (((up (f 0) (g (16 + 36 * t + 3)) s0)) i))))) ((A 1)) (.inl (G.2.1 0, 8, .inl (fun i => nI (((up (f 1) (g (16 + 36 * t + 3)) ((dpG g t (g (16 + 36 * t + 3) - 1)) + r0))) i))))) ((A 0)) = some (.inl (G.2.1 0, 8, .inl (fun i => nI (((up (f 0) (g (16 + 36 * t + 3)) s0)) i)))) := ((hset_ne (fun z => absurd (hAi 0 1 (by decide) (by decide) z) (by decide))).trans p11)
  have p17 : (hset (hset h ((A 0)) (.inl (G.2.1 0, 8, .inl (fun i => nI (((up (f 0) (g (16 + 36 * t + 3)) s0)) i))))) ((A 1)) (.inl (G.2.1 0, 8, .inl (fun i => nI (((up (f 1) (g (16 + 36 * t + 3)) ((dpG g t (g (16 + 36 * t + 3) - 1)) + r0))) i))))) ((A 1)) = some (.inl (G.2.1 0, 8, .inl (fun i => nI (((up (f 1) (g (16 + 36 * t + 3)) ((dpG g t (g (16 + 36 * t + 3) - 1)) + r0))) i)))) := (hset_self (e := .inl (G.2.1 0, 8, .inl (fun i => nI (((up (f 1) (g (16 + 36 * t + 3)) ((dpG g t (g (16 + 36 * t + 3) - 1)) + r0))) i)))))
  refine V_iastG F dX5_extend_51 p13 (by omega) (by decide) ?_
  refine V_aload_n (i := 0) F dX5_extend_52 rfl rfl ?_
  refine V_dup F dX5_extend_53 rfl ?_
  refine V_getf F dX5_extend_54 fc_X5_17_X5 (.inl ((hset_ne (ne_oa p12 p13)).trans p12)) rfl ?_
  refine V_iconst (v := nI 1) F dX5_extend_57 rfl ?_
  refine V_iaddN F dX5_extend_58 ?_
  have p18 : (hset (hset (hset h ((A 0)) (.inl (G.2.1 0, 8, .inl (fun i => nI (((up (f 0) (g (16 + 36 * t + 3)) s0)) i))))) ((A 1)) (.inl (G.2.1 0, 8, .inl (fun i => nI (((up (f 1) (g (16 + 36 * t + 3)) ((dpG g t (g (16 + 36 * t + 3) - 1)) + r0))) i))))) ((A 2)) (.inl (G.2.1 0, 8, .inl (fun i => nI (((up (f 2) (g (16 + 36 * t + 3)) ((dpG g t (g (16 + 36 * t + 3) - 1) + r0) + w0))) i))))) x = some (.inr (4, [.int (nI (g (16 + 36 * t + 0))), .ref ((A 0)), .ref ((A 1)), .ref ((A 2)), .ref ((A 3)), .ref ((A 4)), .int (nI (g (16 + 36 * t + 3))), .int (nI (g (16 + 36 * t + 2)))])) := ((hset_ne (ne_oa p12 p13)).trans p12)
  have p19 : (hset (hset (hset h ((A 0)) (.inl (G.2.1 0, 8, .inl (fun i => nI (((up (f 0) (g (16 + 36 * t + 3)) s0)) i))))) ((A 1)) (.inl (G.2.1 0, 8, .inl (fun i => nI (((up (f 1) (g (16 + 36 * t + 3)) ((dpG g t (g (16 + 36 * t + 3) - 1)) + r0))) i))))) ((A 2)) (.inl (G.2.1 0, 8, .inl (fun i => nI (((up (f 2) (g (16 + 36 * t + 3)) ((dpG g t (g (16 + 36 * t + 3) - 1) + r0) + w0))) i))))) ((A 3)) = some (.inl (G.2.1 0, 8, .inl (fun i => nI ((f 3) i)))) := ((hset_ne (Ne.symm (fun z => absurd (hAi 2 3 (by decide) (by decide) z) (by decide)))).trans p14)
  have p20 : (hset (hset (hset h ((A 0)) (.inl (G.2.1 0, 8, .inl (fun i => nI (((up (f 0) (g (16 + 36 * t + 3)) s0)) i))))) ((A 1)) (.inl (G.2.1 0, 8, .inl (fun i => nI (((up (f 1) (g (16 + 36 * t + 3)) ((dpG g t (g (16 + 36 * t + 3) - 1)) + r0))) i))))) ((A 2)) (.inl (G.2.1 0, 8, .inl (fun i => nI (((up (f 2) (g (16 + 36 * t + 3)) ((dpG g t (g (16 + 36 * t + 3) - 1) + r0) + w0))) i))))) ((A 4)) = some (.inl (G.2.1 0, 8, .inl (fun i => nI ((f 4) i)))) := ((hset_ne (Ne.symm (fun z => absurd (hAi 2 4 (by decide) (by decide) z) (by decide)))).trans p15)
  have p21 : (hset (hset (hset h ((A 0)) (.inl (G.2.1 0, 8, .inl (fun i => nI (((up (f 0) (g (16 + 36 * t + 3)) s0)) i))))) ((A 1)) (.inl (G.2.1 0, 8, .inl (fun i => nI (((up (f 1) (g (16 + 36 * t + 3)) ((dpG g t (g (16 + 36 * t + 3) - 1)) + r0))) i))))) ((A 2)) (.inl (G.2.1 0, 8, .inl (fun i => nI (((up (f 2) (g (16 + 36 * t + 3)) ((dpG g t (g (16 + 36 * t + 3) - 1) + r0) + w0))) i))))) ((A 0)) = some (.inl (G.2.1 0, 8, .inl (fun i => nI (((up (f 0) (g (16 + 36 * t + 3)) s0)) i)))) := ((hset_ne (fun z => absurd (hAi 0 2 (by decide) (by decide) z) (by decide))).trans p16)
  have p22 : (hset (hset (hset h ((A 0)) (.inl (G.2.1 0, 8, .inl (fun i => nI (((up (f 0) (g (16 + 36 * t + 3)) s0)) i))))) ((A 1)) (.inl (G.2.1 0, 8, .inl (fun i => nI (((up (f 1) (g (16 + 36 * t + 3)) ((dpG g t (g (16 + 36 * t + 3) - 1)) + r0))) i))))) ((A 2)) (.inl (G.2.1 0, 8, .inl (fun i => nI (((up (f 2) (g (16 + 36 * t + 3)) ((dpG g t (g (16 + 36 * t + 3) - 1) + r0) + w0))) i))))) ((A 1)) = some (.inl (G.2.1 0, 8, .inl (fun i => nI (((up (f 1) (g (16 + 36 * t + 3)) ((dpG g t (g (16 + 36 * t + 3) - 1)) + r0))) i)))) := ((hset_ne (fun z => absurd (hAi 1 2 (by decide) (by decide) z) (by decide))).trans p17)
  have p23 : (hset (hset (hset h ((A 0)) (.inl (G.2.1 0, 8, .inl (fun i => nI (((up (f 0) (g (16 + 36 * t + 3)) s0)) i))))) ((A 1)) (.inl (G.2.1 0, 8, .inl (fun i => nI (((up (f 1) (g (16 + 36 * t + 3)) ((dpG g t (g (16 + 36 * t + 3) - 1)) + r0))) i))))) ((A 2)) (.inl (G.2.1 0, 8, .inl (fun i => nI (((up (f 2) (g (16 + 36 * t + 3)) ((dpG g t (g (16 + 36 * t + 3) - 1) + r0) + w0))) i))))) ((A 2)) = some (.inl (G.2.1 0, 8, .inl (fun i => nI (((up (f 2) (g (16 + 36 * t + 3)) ((dpG g t (g (16 + 36 * t + 3) - 1) + r0) + w0))) i)))) := (hset_self (e := .inl (G.2.1 0, 8, .inl (fun i => nI (((up (f 2) (g (16 + 36 * t + 3)) ((dpG g t (g (16 + 36 * t + 3) - 1) + r0) + w0))) i)))))
  refine V_putf F dX5_extend_59 fp_X5_17_X5 p18 rfl rfl (Nat.le_of_ble_eq_true rfl) ?_
  refine VV.heap (h' := (hset (hset (hset (hset h ((A 0)) (.inl (G.2.1 0, 8, .inl (fun i => nI (((up (f 0) (g (16 + 36 * t + 3)) s0)) i))))) ((A 1)) (.inl (G.2.1 0, 8, .inl (fun i => nI (((up (f 1) (g (16 + 36 * t + 3)) ((dpG g t (g (16 + 36 * t + 3) - 1)) + r0))) i))))) ((A 2)) (.inl (G.2.1 0, 8, .inl (fun i => nI (((up (f 2) (g (16 + 36 * t + 3)) ((dpG g t (g (16 + 36 * t + 3) - 1) + r0) + w0))) i))))) (x) (.inr (4, [.int (nI (g (16 + 36 * t + 0))), .ref ((A 0)), .ref ((A 1)), .ref ((A 2)), .ref ((A 3)), .ref ((A 4)), .int (nI ((g (16 + 36 * t + 3)) + 1)), .int (nI (g (16 + 36 * t + 2)))])))) rfl ?_
  refine V_aload_n (i := 0) F dX5_extend_62 rfl rfl ?_
  refine V_getf F dX5_extend_63 fc_X5_17_X5 (.inl (hset_self (e := .inr (4, [.int (nI (g (16 + 36 * t + 0))), .ref ((A 0)), .ref ((A 1)), .ref ((A 2)), .ref ((A 3)), .ref ((A 4)), .int (nI ((g (16 + 36 * t + 3)) + 1)), .int (nI (g (16 + 36 * t + 2)))])))) rfl ?_
  refine V_iconst (v := nI 1) F dX5_extend_66 rfl ?_
  refine V_isubN F dX5_extend_67 (by omega) ?_
  have pc : (hset (hset (hset (hset h ((A 0)) (.inl (G.2.1 0, 8, .inl (fun i => nI (((up (f 0) (g (16 + 36 * t + 3)) s0)) i))))) ((A 1)) (.inl (G.2.1 0, 8, .inl (fun i => nI (((up (f 1) (g (16 + 36 * t + 3)) ((dpG g t (g (16 + 36 * t + 3) - 1)) + r0))) i))))) ((A 2)) (.inl (G.2.1 0, 8, .inl (fun i => nI (((up (f 2) (g (16 + 36 * t + 3)) ((dpG g t (g (16 + 36 * t + 3) - 1) + r0) + w0))) i))))) (x) (.inr (4, [.int (nI (g (16 + 36 * t + 0))), .ref ((A 0)), .ref ((A 1)), .ref ((A 2)), .ref ((A 3)), .ref ((A 4)), .int (nI ((g (16 + 36 * t + 3)) + 1)), .int (nI (g (16 + 36 * t + 2)))]))) x = some (.inr (4, [.int (nI (g (16 + 36 * t + 0))), .ref ((A 0)), .ref ((A 1)), .ref ((A 2)), .ref ((A 3)), .ref ((A 4)), .int (nI ((g (16 + 36 * t + 3)) + 1)), .int (nI (g (16 + 36 * t + 2)))])) := (hset_self (e := .inr (4, [.int (nI (g (16 + 36 * t + 0))), .ref ((A 0)), .ref ((A 1)), .ref ((A 2)), .ref ((A 3)), .ref ((A 4)), .int (nI ((g (16 + 36 * t + 3)) + 1)), .int (nI (g (16 + 36 * t + 2)))])))
  have pb0 : (hset (hset (hset (hset h ((A 0)) (.inl (G.2.1 0, 8, .inl (fun i => nI (((up (f 0) (g (16 + 36 * t + 3)) s0)) i))))) ((A 1)) (.inl (G.2.1 0, 8, .inl (fun i => nI (((up (f 1) (g (16 + 36 * t + 3)) ((dpG g t (g (16 + 36 * t + 3) - 1)) + r0))) i))))) ((A 2)) (.inl (G.2.1 0, 8, .inl (fun i => nI (((up (f 2) (g (16 + 36 * t + 3)) ((dpG g t (g (16 + 36 * t + 3) - 1) + r0) + w0))) i))))) (x) (.inr (4, [.int (nI (g (16 + 36 * t + 0))), .ref ((A 0)), .ref ((A 1)), .ref ((A 2)), .ref ((A 3)), .ref ((A 4)), .int (nI ((g (16 + 36 * t + 3)) + 1)), .int (nI (g (16 + 36 * t + 2)))]))) (A 0) = some (.inl (G.2.1 0, 8, .inl (fun i => nI (((up (f 0) (g (16 + 36 * t + 3)) s0)) i)))) := ((hset_ne (ne_ao p21 p18)).trans p21)
  have pb1 : (hset (hset (hset (hset h ((A 0)) (.inl (G.2.1 0, 8, .inl (fun i => nI (((up (f 0) (g (16 + 36 * t + 3)) s0)) i))))) ((A 1)) (.inl (G.2.1 0, 8, .inl (fun i => nI (((up (f 1) (g (16 + 36 * t + 3)) ((dpG g t (g (16 + 36 * t + 3) - 1)) + r0))) i))))) ((A 2)) (.inl (G.2.1 0, 8, .inl (fun i => nI (((up (f 2) (g (16 + 36 * t + 3)) ((dpG g t (g (16 + 36 * t + 3) - 1) + r0) + w0))) i))))) (x) (.inr (4, [.int (nI (g (16 + 36 * t + 0))), .ref ((A 0)), .ref ((A 1)), .ref ((A 2)), .ref ((A 3)), .ref ((A 4)), .int (nI ((g (16 + 36 * t + 3)) + 1)), .int (nI (g (16 + 36 * t + 2)))]))) (A 1) = some (.inl (G.2.1 0, 8, .inl (fun i => nI (((up (f 1) (g (16 + 36 * t + 3)) ((dpG g t (g (16 + 36 * t + 3) - 1)) + r0))) i)))) := ((hset_ne (ne_ao p22 p18)).trans p22)
  have pb2 : (hset (hset (hset (hset h ((A 0)) (.inl (G.2.1 0, 8, .inl (fun i => nI (((up (f 0) (g (16 + 36 * t + 3)) s0)) i))))) ((A 1)) (.inl (G.2.1 0, 8, .inl (fun i => nI (((up (f 1) (g (16 + 36 * t + 3)) ((dpG g t (g (16 + 36 * t + 3) - 1)) + r0))) i))))) ((A 2)) (.inl (G.2.1 0, 8, .inl (fun i => nI (((up (f 2) (g (16 + 36 * t + 3)) ((dpG g t (g (16 + 36 * t + 3) - 1) + r0) + w0))) i))))) (x) (.inr (4, [.int (nI (g (16 + 36 * t + 0))), .ref ((A 0)), .ref ((A 1)), .ref ((A 2)), .ref ((A 3)), .ref ((A 4)), .int (nI ((g (16 + 36 * t + 3)) + 1)), .int (nI (g (16 + 36 * t + 2)))]))) (A 2) = some (.inl (G.2.1 0, 8, .inl (fun i => nI (((up (f 2) (g (16 + 36 * t + 3)) ((dpG g t (g (16 + 36 * t + 3) - 1) + r0) + w0))) i)))) := ((hset_ne (ne_ao p23 p18)).trans p23)
  have pb3 : (hset (hset (hset (hset h ((A 0)) (.inl (G.2.1 0, 8, .inl (fun i => nI (((up (f 0) (g (16 + 36 * t + 3)) s0)) i))))) ((A 1)) (.inl (G.2.1 0, 8, .inl (fun i => nI (((up (f 1) (g (16 + 36 * t + 3)) ((dpG g t (g (16 + 36 * t + 3) - 1)) + r0))) i))))) ((A 2)) (.inl (G.2.1 0, 8, .inl (fun i => nI (((up (f 2) (g (16 + 36 * t + 3)) ((dpG g t (g (16 + 36 * t + 3) - 1) + r0) + w0))) i))))) (x) (.inr (4, [.int (nI (g (16 + 36 * t + 0))), .ref ((A 0)), .ref ((A 1)), .ref ((A 2)), .ref ((A 3)), .ref ((A 4)), .int (nI ((g (16 + 36 * t + 3)) + 1)), .int (nI (g (16 + 36 * t + 2)))]))) (A 3) = some (.inl (G.2.1 0, 8, .inl (fun i => nI ((f 3) i)))) := ((hset_ne (ne_ao p19 p18)).trans p19)
  have pb4 : (hset (hset (hset (hset h ((A 0)) (.inl (G.2.1 0, 8, .inl (fun i => nI (((up (f 0) (g (16 + 36 * t + 3)) s0)) i))))) ((A 1)) (.inl (G.2.1 0, 8, .inl (fun i => nI (((up (f 1) (g (16 + 36 * t + 3)) ((dpG g t (g (16 + 36 * t + 3) - 1)) + r0))) i))))) ((A 2)) (.inl (G.2.1 0, 8, .inl (fun i => nI (((up (f 2) (g (16 + 36 * t + 3)) ((dpG g t (g (16 + 36 * t + 3) - 1) + r0) + w0))) i))))) (x) (.inr (4, [.int (nI (g (16 + 36 * t + 0))), .ref ((A 0)), .ref ((A 1)), .ref ((A 2)), .ref ((A 3)), .ref ((A 4)), .int (nI ((g (16 + 36 * t + 3)) + 1)), .int (nI (g (16 + 36 * t + 2)))]))) (A 4) = some (.inl (G.2.1 0, 8, .inl (fun i => nI ((f 4) i)))) := ((hset_ne (ne_ao p20 p18)).trans p20)
  exact V_iret F dX5_extend_68 rfl (by omega) (by omega) ⟨by rw [Nat.add_sub_cancel], TRs.et hs1 hs8 ht6 pc pb0 pb1 pb2 pb3 pb4 e0 e1 e2 e3 e4, (((((Fr.rf (M := MX x A) (h := h)).put (x := .inl (G.2.1 0, 8, .inl (fun i => nI (((up (f 0) (g (16 + 36 * t + 3)) s0)) i)))) p1 ⟨rfl, rfl⟩ rfl (Or.inl (Or.inr ⟨0, by decide, rfl⟩))).put (x := .inl (G.2.1 0, 8, .inl (fun i => nI (((up (f 1) (g (16 + 36 * t + 3)) ((dpG g t (g (16 + 36 * t + 3) - 1)) + r0))) i)))) p7 ⟨rfl, rfl⟩ rfl (Or.inl (Or.inr ⟨1, by decide, rfl⟩))).put (x := .inl (G.2.1 0, 8, .inl (fun i => nI (((up (f 2) (g (16 + 36 * t + 3)) ((dpG g t (g (16 + 36 * t + 3) - 1) + r0) + w0))) i)))) p13 ⟨rfl, rfl⟩ rfl (Or.inl (Or.inr ⟨2, by decide, rfl⟩))).put (x := .inr (4, [.int (nI (g (16 + 36 * t + 0))), .ref ((A 0)), .ref ((A 1)), .ref ((A 2)), .ref ((A 3)), .ref ((A 4)), .int (nI ((g (16 + 36 * t + 3)) + 1)), .int (nI (g (16 + 36 * t + 2)))])) p18 rfl rfl (Or.inl (Or.inl rfl)))⟩
def kdET (c : Nat) : String := if c = 1 then "index" else if c = 2 then "argument" else "state"
theorem ct_RW_extendTrain {G : GG} {l : Launch} {h : AH} {h0 : AH} {r ti tia : Nat} {tf : Nat → Nat} {tt tl ta : Nat} {x : Nat → Nat} {A : Nat → Nat → Nat} {sm smc : Nat} {sA sK sV : Nat → Nat} {bm bmc : Nat} {bA bK bV : Nat → Nat} {g : Nat → Nat} {p s0 q v : Int32}  (hdem : DEM G l) (hW : RW G h r ((ti, tia, tf), (tt, tl, ta, x, A), (sm, smc, sA, sK, sV), (bm, bmc, bA, bK, bV)) g) (hO : RO G h0 r ((ti, tia, tf), (tt, tl, ta, x, A), (sm, smc, sA, sK, sV), (bm, bmc, bA, bK, bV)) g) (hI : GW g)  : CtX G l yX2_extendTrain cX2_extendTrain 6 (some .int) 13 (4) (32) [.ref r, .int p, .int s0, .int q, .int v] h (fun r0 h2 => r0 = some (.int (nI (g (16 + 36 * tn p + 3)))) ∧ cdET g p s0 q v = 0 ∧ (∃ D2, RW G h2 r D2 (nxET g (tn p) (tn s0) (tn q) (tn v)) ∧ RO G h0 r D2 (nxET g (tn p) (tn s0) (tn q) (tn v))) ∧ Fr (fH h0) h h2) (CFx G h (cdET g p s0 q v) kdET) := by
  refine CtX.of (by decide) (Nat.le_of_ble_eq_true rfl) (cat1 rfl) (fun X hXl F HT => ?_)
  subst hXl
  obtain ⟨hr, hWt, hWr, hWs, hWb⟩ : h r = some (.inr (2, [.ref ti, .ref tt, .ref sm, .ref bm, .int (nI (g 4)), .int (nI (g 5)), .int (nI (g 6)), .int (nI (g 7))])) ∧ RWt G h (ti, tia, tf) g ∧ RWr G h (tt, tl, ta, x, A) g ∧ RWs G h (sm, smc, sA, sK, sV) g ∧ RWb G h (bm, bmc, bA, bK, bV) g := id hW
  refine V_aload_n (i := 0) F dX2_extendTrain_0 rfl rfl ?_
  refine V_getf F dX2_extendTrain_1 fc_X2_21_X2 (.inl hr) rfl ?_
  refine V_iload_n (i := 1) F dX2_extendTrain_4 rfl rfl ?_
  refine V_callV (st := []) (nn := 1) F dX2_extendTrain_5 lk_X2_151 (ct_TT_has hWr hI) ⟨3, _, _, _, rfl, .inl hWr.1⟩ rfl rfl (Nat.le_of_ble_eq_true rfl) (Nat.le_of_ble_eq_true rfl) (Nat.le_of_ble_eq_true rfl) (by omega) (by omega) ?_
  refine PRk ?_
  refine V_if_eqB (tgt := 23) F dX2_extendTrain_8 (by decide) (fun c_8 => ?_) (fun c_8 => ?_)
  · refine V_iconst (v := nI 0) F dX2_extendTrain_23 rfl ?_
    refine V_ldcS F dX2_extendTrain_24 q2485 ?_
    intro w1 hGw1
    refine V_xcSN (st := []) (nn := 2) F dX2_extendTrain_26 lk_X2_128 q2448 (hdem ((nI (0))) w1 (h)) rfl rfl (Nat.le_of_ble_eq_true rfl) (Nat.le_of_ble_eq_true rfl) (Nat.le_of_ble_eq_true rfl) (by omega) (by omega) ?_ ?_
    · exact fun _ _ hp => absurd rfl hp.2.2
    · exact fun E q h2 hp => V_xout F (HT _) (by omega) (by omega) (CFx.of (k := 1) (by first | exact if_pos (Or.inl c_8) | exact if_pos (Or.inr c_16)) (by decide) hGw1 hp.2)
  · refine V_aload_n (i := 0) F dX2_extendTrain_11 rfl rfl ?_
    refine V_iload_n (i := 2) F dX2_extendTrain_12 rfl rfl ?_
    refine V_callV (st := []) (nn := 1) F dX2_extendTrain_13 lk_X2_134 (ct_RW_hasStation hW hI) ⟨2, _, _, _, rfl, (.inl hr)⟩ rfl rfl (Nat.le_of_ble_eq_true rfl) (Nat.le_of_ble_eq_true rfl) (Nat.le_of_ble_eq_true rfl) (by omega) (by omega) ?_
    refine PRk ?_
    refine V_if_eqB (tgt := 23) F dX2_extendTrain_16 (by decide) (fun c_16 => ?_) (fun c_16 => ?_)
    · refine V_iconst (v := nI 0) F dX2_extendTrain_23 rfl ?_
      refine V_ldcS F dX2_extendTrain_24 q2485 ?_
      intro w2 hGw2
      refine V_xcSN (st := []) (nn := 2) F dX2_extendTrain_26 lk_X2_128 q2448 (hdem ((nI (0))) w2 (h)) rfl rfl (Nat.le_of_ble_eq_true rfl) (Nat.le_of_ble_eq_true rfl) (Nat.le_of_ble_eq_true rfl) (by omega) (by omega) ?_ ?_
      · exact fun _ _ hp => absurd rfl hp.2.2
      · exact fun E q h2 hp => V_xout F (HT _) (by omega) (by omega) (CFx.of (k := 1) (by first | exact if_pos (Or.inl c_8) | exact if_pos (Or.inr c_16)) (by decide) hGw2 hp.2)
    · refine V_iconst (v := nI 1) F dX2_extendTrain_19 rfl ?_
      refine V_goto (tgt := 24) F dX2_extendTrain_20 (by decide) ?_
      refine V_ldcS F dX2_extendTrain_24 q2485 ?_
      intro w3 hGw3
      refine V_xcSN (st := []) (nn := 2) F dX2_extendTrain_26 lk_X2_128 q2448 (hdem ((nI (1))) w3 (h)) rfl rfl (Nat.le_of_ble_eq_true rfl) (Nat.le_of_ble_eq_true rfl) (Nat.le_of_ble_eq_true rfl) (by omega) (by omega) ?_ ?_
      · rintro _ _ ⟨rfl, rfl, hd_26⟩
        refine V_iload_n (i := 3) F dX2_extendTrain_29 rfl rfl ?_
        refine V_iconst (v := nI 1) F dX2_extendTrain_30 rfl ?_
        refine V_sipush (v := nI 300) F dX2_extendTrain_31 rfl ?_
        refine V_callSN (st := []) (nn := 3) F dX2_extendTrain_34 lk_X2_106 q1796 (ct_isBetween) rfl rfl (Nat.le_of_ble_eq_true rfl) (Nat.le_of_ble_eq_true rfl) (Nat.le_of_ble_eq_true rfl) (by omega) (by omega) ?_
        refine PRk ?_
        refine V_if_eqB (tgt := 55) F dX2_extendTrain_37 (by decide) (fun c_37 => ?_) (fun c_37 => ?_)
        · refine V_iconst (v := nI 0) F dX2_extendTrain_55 rfl ?_
          refine V_ldcS F dX2_extendTrain_56 q2446 ?_
          intro w4 hGw4
          refine V_xcSN (st := []) (nn := 2) F dX2_extendTrain_58 lk_X2_128 q2448 (hdem ((nI (0))) w4 (h)) rfl rfl (Nat.le_of_ble_eq_true rfl) (Nat.le_of_ble_eq_true rfl) (Nat.le_of_ble_eq_true rfl) (by omega) (by omega) ?_ ?_
          · exact fun _ _ hp => absurd rfl hp.2.2
          · exact fun E q h2 hp => V_xout F (HT _) (by omega) (by omega) (CFx.of (k := 2) (by first | exact (if_neg (fun z => z.elim (fun z => z c_8) (fun z => z c_16))).trans (if_pos (Or.inl c_37)) | exact (if_neg (fun z => z.elim (fun z => z c_8) (fun z => z c_16))).trans (if_pos (Or.inr c_48))) (by decide) hGw4 hp.2)
        · refine V_iload (i := 4) F dX2_extendTrain_40 rfl ?_
          refine V_iconst (v := nI 0) F dX2_extendTrain_42 rfl ?_
          refine V_bipush (v := nI 60) F dX2_extendTrain_43 rfl ?_
          refine V_callSN (st := []) (nn := 3) F dX2_extendTrain_45 lk_X2_106 q1796 (ct_isBetween) rfl rfl (Nat.le_of_ble_eq_true rfl) (Nat.le_of_ble_eq_true rfl) (Nat.le_of_ble_eq_true rfl) (by omega) (by omega) ?_
          refine PRk ?_
          refine V_if_eqB (tgt := 55) F dX2_extendTrain_48 (by decide) (fun c_48 => ?_) (fun c_48 => ?_)
          · refine V_iconst (v := nI 0) F dX2_extendTrain_55 rfl ?_
            refine V_ldcS F dX2_extendTrain_56 q2446 ?_
            intro w5 hGw5
            refine V_xcSN (st := []) (nn := 2) F dX2_extendTrain_58 lk_X2_128 q2448 (hdem ((nI (0))) w5 (h)) rfl rfl (Nat.le_of_ble_eq_true rfl) (Nat.le_of_ble_eq_true rfl) (Nat.le_of_ble_eq_true rfl) (by omega) (by omega) ?_ ?_
            · exact fun _ _ hp => absurd rfl hp.2.2
            · exact fun E q h2 hp => V_xout F (HT _) (by omega) (by omega) (CFx.of (k := 2) (by first | exact (if_neg (fun z => z.elim (fun z => z c_8) (fun z => z c_16))).trans (if_pos (Or.inl c_37)) | exact (if_neg (fun z => z.elim (fun z => z c_8) (fun z => z c_16))).trans (if_pos (Or.inr c_48))) (by decide) hGw5 hp.2)
          · refine V_iconst (v := nI 1) F dX2_extendTrain_51 rfl ?_
            refine V_goto (tgt := 56) F dX2_extendTrain_52 (by decide) ?_
            refine V_ldcS F dX2_extendTrain_56 q2446 ?_
            intro w6 hGw6
            refine V_xcSN (st := []) (nn := 2) F dX2_extendTrain_58 lk_X2_128 q2448 (hdem ((nI (1))) w6 (h)) rfl rfl (Nat.le_of_ble_eq_true rfl) (Nat.le_of_ble_eq_true rfl) (Nat.le_of_ble_eq_true rfl) (by omega) (by omega) ?_ ?_
            · rintro _ _ ⟨rfl, rfl, hd_58⟩
              obtain ⟨k, hk, rfl⟩ := iR_of c_8 hI.b.lt
              obtain ⟨s2, hs2, rfl⟩ := iR_of c_16 hI.b.lt
              obtain ⟨hxk, f, hA, e0, e1, e2, e3, e4⟩ := id (hWr.2.2 k hk)
              have ht6 := hI.t6 hk
              have hsl := hI.st hk
              have h8 := hI.2.1
              have ek : tn (nI k) = k := tn_nI (by omega)
              have es : tn (nI s2) = s2 := tn_nI (by omega)
              obtain ⟨hq1, hq2, hq3⟩ := tn_in (by decide) c_37 (by decide)
              obtain ⟨hv1, hv2, hv3⟩ := tn_in (by decide) c_48 (by decide)
              refine V_aload_n (i := 0) F dX2_extendTrain_61 rfl rfl ?_
              refine V_getf F dX2_extendTrain_62 fc_X2_21_X2 (.inl hr) rfl ?_
              refine V_iload_n (i := 1) F dX2_extendTrain_65 rfl rfl ?_
              refine V_callV (st := []) (nn := 1) F dX2_extendTrain_66 lk_X2_154 (ct_TT_get hWr hI hk) ⟨3, _, _, _, rfl, .inl hWr.1⟩ rfl rfl (Nat.le_of_ble_eq_true rfl) (Nat.le_of_ble_eq_true rfl) (Nat.le_of_ble_eq_true rfl) (by omega) (by omega) ?_
              refine PRk ?_
              refine V_astore (i := 5) F dX2_extendTrain_69 (Nat.le_of_ble_eq_true rfl) (Nat.le_of_ble_eq_true rfl) ?_
              refine V_aload (i := 5) F dX2_extendTrain_71 rfl ?_
              refine V_getn F dX2_extendTrain_73 fc_X2_157_X5 (.inl hxk) rfl ?_
              refine V_bipush (v := nI 8) F dX2_extendTrain_76 rfl ?_
              refine V_icmp_geN (tgt := 102) F dX2_extendTrain_78 (by decide) (by omega) (by decide) (fun c_78 => ?_) (fun c_78 => ?_)
              · refine V_iconst (v := nI 0) F dX2_extendTrain_102 rfl ?_
                refine V_ldcS F dX2_extendTrain_103 q2476 ?_
                intro w7 hGw7
                refine V_xcSN (st := []) (nn := 2) F dX2_extendTrain_105 lk_X2_128 q2448 (hdem ((nI (0))) w7 (h)) rfl rfl (Nat.le_of_ble_eq_true rfl) (Nat.le_of_ble_eq_true rfl) (Nat.le_of_ble_eq_true rfl) (by omega) (by omega) ?_ ?_
                · exact fun _ _ hp => absurd rfl hp.2.2
                · exact fun E q h2 hp => V_xout F (HT _) (by omega) (by omega) (CFx.of (k := 3) (by first | exact ((if_neg (fun z => z.elim (fun z => z c_8) (fun z => z c_16))).trans (if_neg (fun z => z.elim (fun z => z c_37) (fun z => z c_48)))).trans (if_pos (by rw [ek, es]; exact Or.inr c_95)) | exact ((if_neg (fun z => z.elim (fun z => z c_8) (fun z => z c_16))).trans (if_neg (fun z => z.elim (fun z => z c_37) (fun z => z c_48)))).trans (if_pos (by rw [ek, es]; exact Or.inl (by omega)))) (by decide) hGw7 hp.2)
              · refine V_aload (i := 5) F dX2_extendTrain_81 rfl ?_
                refine V_getn F dX2_extendTrain_83 fc_X2_160_X5 (.inl hxk) rfl ?_
                refine V_aload (i := 5) F dX2_extendTrain_86 rfl ?_
                refine V_getn F dX2_extendTrain_88 fc_X2_157_X5 (.inl hxk) rfl ?_
                refine V_iconst (v := nI 1) F dX2_extendTrain_91 rfl ?_
                refine V_isubN F dX2_extendTrain_92 (by omega) ?_
                refine V_ialdG F dX2_extendTrain_93 (.inl (hA 0 (by decide))) (by omega) (by decide) (e0 _ (by omega)) ?_
                refine V_iload_n (i := 2) F dX2_extendTrain_94 rfl rfl ?_
                refine V_icmp_eqN (tgt := 102) F dX2_extendTrain_95 (by decide) (by have := hI.pl hk (k := g (16 + 36 * k + 3) - 1) (by omega); omega) (by omega) (fun c_95 => ?_) (fun c_95 => ?_)
                · refine V_iconst (v := nI 0) F dX2_extendTrain_102 rfl ?_
                  refine V_ldcS F dX2_extendTrain_103 q2476 ?_
                  intro w8 hGw8
                  refine V_xcSN (st := []) (nn := 2) F dX2_extendTrain_105 lk_X2_128 q2448 (hdem ((nI (0))) w8 (h)) rfl rfl (Nat.le_of_ble_eq_true rfl) (Nat.le_of_ble_eq_true rfl) (Nat.le_of_ble_eq_true rfl) (by omega) (by omega) ?_ ?_
                  · exact fun _ _ hp => absurd rfl hp.2.2
                  · exact fun E q h2 hp => V_xout F (HT _) (by omega) (by omega) (CFx.of (k := 3) (by first | exact ((if_neg (fun z => z.elim (fun z => z c_8) (fun z => z c_16))).trans (if_neg (fun z => z.elim (fun z => z c_37) (fun z => z c_48)))).trans (if_pos (by rw [ek, es]; exact Or.inr c_95)) | exact ((if_neg (fun z => z.elim (fun z => z c_8) (fun z => z c_16))).trans (if_neg (fun z => z.elim (fun z => z c_37) (fun z => z c_48)))).trans (if_pos (by rw [ek, es]; exact Or.inl (by omega)))) (by decide) hGw8 hp.2)
                · refine V_iconst (v := nI 1) F dX2_extendTrain_98 rfl ?_
                  refine V_goto (tgt := 103) F dX2_extendTrain_99 (by decide) ?_
                  refine V_ldcS F dX2_extendTrain_103 q2476 ?_
                  intro w9 hGw9
                  refine V_xcSN (st := []) (nn := 2) F dX2_extendTrain_105 lk_X2_128 q2448 (hdem ((nI (1))) w9 (h)) rfl rfl (Nat.le_of_ble_eq_true rfl) (Nat.le_of_ble_eq_true rfl) (Nat.le_of_ble_eq_true rfl) (by omega) (by omega) ?_ ?_
                  · rintro _ _ ⟨rfl, rfl, hd_105⟩
                    refine VV.loc (L' := [some (.ref (r)), some (.int (nI (k))), some (.int (nI (s2))), some (.int (nI (tn q))), some (.int (nI (tn v))), some (.ref ((x k)))]) (by rw [hq1, hv1]; rfl) ?_
                    refine V_aload (i := 5) F dX2_extendTrain_108 rfl ?_
                    refine V_iload_n (i := 2) F dX2_extendTrain_110 rfl rfl ?_
                    refine V_iload_n (i := 3) F dX2_extendTrain_111 rfl rfl ?_
                    refine V_iload (i := 4) F dX2_extendTrain_112 rfl ?_
                    refine V_callV (st := []) (nn := 3) F dX2_extendTrain_114 lk_X2_164 (ct_TR_extend (hWr.2.2 k hk) hsl.1 c_78 ht6 (fun i j hi hj z => (hO.Ai k k i j hk hk hi hj z).2)) ⟨4, _, _, _, rfl, (.inl hxk)⟩ rfl rfl (Nat.le_of_ble_eq_true rfl) (Nat.le_of_ble_eq_true rfl) (Nat.le_of_ble_eq_true rfl) (by omega) (by omega) ?_
                    rintro _ h2 ⟨rfl, hT2, hx2⟩
                    obtain ⟨hW2, hO2⟩ := RW.one (g2 := nxET g k s2 (tn q) (tn v)) hW hO hI hk hx2 hT2 (fun i hi => nxET_o (by omega) (by omega) (by omega) (by omega)) (fun t ht he j hj => nxET_o (by omega) (by omega) (by omega) (by omega)) (fun i hi => nxET_o (by omega) (by omega) (by omega) (by omega))
                    exact VV.rx (V_iret F dX2_extendTrain_117 rfl (by omega) (by omega) (by rw [ek, es]; exact ⟨rfl, ((if_neg (fun z => z.elim (fun z => z c_8) (fun z => z c_16))).trans (if_neg (fun z => z.elim (fun z => z c_37) (fun z => z c_48)))).trans (if_neg (by rw [ek, es]; rintro (z | z); omega; exact c_95 z)), ⟨_, hW2, hO2⟩, hx2.mono (MX.fH hO hk)⟩))
                  · exact fun E q h2 hp => absurd hp.1 (by decide)
            · exact fun E q h2 hp => absurd hp.1 (by decide)
      · exact fun E q h2 hp => absurd hp.1 (by decide)
