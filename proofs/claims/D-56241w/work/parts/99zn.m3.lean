set_option maxRecDepth 100000
/-! ===== the reference over its whole world: journeys, texts, the ten changes ===== -/
theorem aeJ {n : Nat} {g ge : Nat → Nat} {p q u : Int32} (hV : INV n g) (hge : ∀ i, ge i < 2 ^ 27) (hc : cdJ g p q u = 0) : goE g (tn p) (tn u) ge (tn q) = aeG g (tn p) (tn u) (tn q) := by
  unfold cdJ at hc
  split at hc
  · cases hc
  · rename_i h1
    split at hc
    · cases hc
    · rename_i h2
      have hq : iR q (g 0) := Classical.byContradiction fun z => h1 (Or.inr z)
      have hu : nI 0 ≤ u ∧ u ≤ nI 9999 := Classical.byContradiction fun z => h2 z
      obtain ⟨a, -, ha, rfl⟩ := nI_btw hu (by decide) (by decide)
      have hv : tn (nI a) < 2 ^ 27 := by unfold tn; rw [toNat_nI (by omega)]; omega
      obtain ⟨d1, d2⟩ := goE_arr (a := tn p) hV.W hv hge
      obtain ⟨b1, b2⟩ := goE_arr (a := tn p) (e0 := fun _ => 0) hV.W hv (fun _ => by decide)
      exact arr_uniq d1 d2 b1 b2 _ (by obtain ⟨z1, z2⟩ := hq; unfold tn; omega)
theorem cdJ_u {g : Nat → Nat} {p q u : Int32} (hc : cdJ g p q u = 0) : tn u < 2 ^ 27 := by
  unfold cdJ at hc
  split at hc
  · cases hc
  · split at hc
    · cases hc
    · rename_i h2
      have hu : nI 0 ≤ u ∧ u ≤ nI 9999 := Classical.byContradiction fun z => h2 z
      obtain ⟨a, -, ha, rfl⟩ := nI_btw hu (by decide) (by decide)
      unfold tn; rw [toNat_nI (by omega)]; omega
theorem ARR.ex {g e : Nat → Nat} {a v : Nat} (hI : GW g) (hd : Clo g e a v ∧ Snd g e a v) : ∃ R, ARR g a v e R :=
  ⟨fun i => @ite _ (onP g e a v (i / 8) (i % 8)) (Classical.propDecidable _) 1 0, hd.1, hd.2, fun t k hl => by
    have hk := hl.k8 hI
    have e1 : (8 * t + k) / 8 = t := by omega
    have e2 : (8 * t + k) % 8 = k := by omega
    have ee : onP g e a v ((8 * t + k) / 8) ((8 * t + k) % 8) = onP g e a v t k := by rw [e1, e2]
    show (@ite _ (onP g e a v ((8 * t + k) / 8) ((8 * t + k) % 8)) (Classical.propDecidable _) 1 0) = 1 ↔ _
    split
    · rename_i q; exact ⟨fun _ => cast ee q, fun _ => rfl⟩
    · rename_i q; exact ⟨fun z => absurd z (by decide), fun z => absurd (cast ee.symm z) q⟩⟩
section BG
variable {G : GG} {h : AH} {m : Nat} {A : Nat → Nat} {W tm : Nat} {gb τ g : Nat → Nat} {sn : Option (Nat → Nat)} {hs : List (Nat → Nat)} {tx : List Nat} {ep fc : Nat} {ot : List Nat} {cd : Nat} {V : Nat → Value} {F : Nat → Nat → Nat}
/-- begins, goes -/
def bgV (V : Nat → Value) (a v : Nat) : Nat → Value := upV (upV V 16 (.int (nI a))) 17 (.int (nI v))
theorem MC.bg (hM : MC G h m A V F) (V2 : Nat → Value) {a v : Nat} {e : Nat → Nat} : MC G (bgH G h m (mF A V2) a v (A 6) e) m A (bgV V2 a v) (upF F 6 e) ∧ EqM m A h (bgH G h m (mF A V2) a v (A 6) e) := by
  unfold bgH bgF bgV
  rw [mF_set16, mF_set17]
  exact ⟨(hM.setm _).seta 6 (by decide) _, EqM.rf.setm.seta (by decide)⟩
theorem MV.bg (h : MV W tm gb τ g sn hs tx ep fc ot cd V F) {a v : Nat} {e : Nat → Nat} (he : ∀ i, e i < 2 ^ 27) : MV W tm gb τ g sn hs tx ep fc ot cd (bgV V a v) (upF F 6 e) := ((h.fld (by decide)).fld (by decide)).ea he
end BG
theorem cm_canReach {G : GG} {l : Launch} {h : AH} {m : Nat} {A : Nat → Nat} {W tm : Nat} {gb τ g : Nat → Nat} {sn : Option (Nat → Nat)} {hs : List (Nat → Nat)} {tx : List Nat} {ep fc : Nat} {ot : List Nat} {cd n : Nat} {p : Int32} {q : Int32} {u : Int32} (hM : MW G h m A W tm gb τ g sn hs tx ep fc ot cd) (hV : SVI n g sn hs tx ep fc ot) : Ct G l yX4_canReach cX4_canReach 4 (some .boolean) 6 0 0 [.ref m, .int p, .int q, .int u] h (QE G h m A W tm gb τ g sn hs tx ep fc ot (cdJ g p q u) (.int (nI 0)) (.int (b2 (aeG g (tn p) (tn u) (tn q) < 1000000)))) := by
  obtain ⟨V, F, hC, hE⟩ := hM
  obtain rfl := hE.gg
  refine (ct_canReach hC.mm rfl hC.a0 rfl hC.a6 rfl hV.1.1.W (hC.ne (by decide) (by decide) (by decide)) hE.e).mono (fun r h2 hp => ?_)
  by_cases hq : cdJ (F 0) p q u = 0
  · obtain ⟨rfl, rfl⟩ := hp.2 hq
    have e1 := aeJ hV.1.1 hE.e hq
    rw [hq]
    obtain ⟨k1, k2⟩ := hC.bg (upV V 7 (.int (nI 0))) (a := tn p) (v := tn u) (e := goE (F 0) (tn p) (tn u) (F 6))
    exact QE.mk hC (by rw [if_pos rfl, e1]) k1 ((hE.cod 0).bg (goE_27 hV.1.1.W (cdJ_u hq) hE.e)) k2
  · obtain ⟨rfl, rfl⟩ := hp.1 hq
    exact QE.mk hC (by rw [if_neg hq]) (hC.setm (upV V 7 (.int (nI (cdJ (F 0) p q u))))) (hE.cod _) EqM.rf.setm
theorem cm_arrival {G : GG} {l : Launch} {h : AH} {m : Nat} {A : Nat → Nat} {W tm : Nat} {gb τ g : Nat → Nat} {sn : Option (Nat → Nat)} {hs : List (Nat → Nat)} {tx : List Nat} {ep fc : Nat} {ot : List Nat} {cd n : Nat} {p : Int32} {q : Int32} {u : Int32} (hM : MW G h m A W tm gb τ g sn hs tx ep fc ot cd) (hV : SVI n g sn hs tx ep fc ot) : Ct G l yX4_arrival cX4_arrival 4 (some .int) 7 0 0 [.ref m, .int p, .int q, .int u] h (QE G h m A W tm gb τ g sn hs tx ep fc ot (if cdJ g p q u ≠ 0 then cdJ g p q u else if aeG g (tn p) (tn u) (tn q) = 1000000 then 3 else 0) (.int (nI 0)) (.int (nI (aeG g (tn p) (tn u) (tn q))))) := by
  obtain ⟨V, F, hC, hE⟩ := hM
  obtain rfl := hE.gg
  refine (ct_arrival hC.mm rfl hC.a0 rfl hC.a6 rfl hV.1.1.W (hC.ne (by decide) (by decide) (by decide)) hE.e).mono (fun r h2 hp => ?_)
  by_cases hq : cdJ (F 0) p q u = 0
  · have e1 := aeJ hV.1.1 hE.e hq
    have hu := cdJ_u hq
    have hc : cdAR (F 0) p q u (F 6) = if aeG (F 0) (tn p) (tn u) (tn q) = 1000000 then 3 else 0 := by unfold cdAR; rw [if_neg (fun z => z hq), e1]
    rw [if_neg (fun z => z hq)]
    rw [hc, e1] at hp
    obtain ⟨k1, k2⟩ := hC.bg (upV V 7 (.int (nI 0))) (a := tn p) (v := tn u) (e := goE (F 0) (tn p) (tn u) (F 6))
    have k3 := (hE.cod 0).bg (a := tn p) (v := tn u) (goE_27 (a := tn p) hV.1.1.W hu hE.e)
    by_cases z : aeG (F 0) (tn p) (tn u) (tn q) = 1000000
    · rw [if_pos z] at hp ⊢
      obtain ⟨rfl, rfl⟩ := hp.1 (by decide)
      exact QE.mk hC rfl (k1.setm (upV (bgV (upV V 7 (.int (nI 0))) (tn p) (tn u)) 7 (.int (nI 3)))) (k3.cod 3) k2.setm
    · rw [if_neg z] at hp ⊢
      obtain ⟨rfl, rfl⟩ := hp.2 rfl
      exact QE.mk hC rfl (k1.setm (upV (bgV (upV V 7 (.int (nI 0))) (tn p) (tn u)) 7 (.int (nI 0)))) (k3.cod 0) k2.setm
  · have hc : cdAR (F 0) p q u (F 6) = cdJ (F 0) p q u := by unfold cdAR; rw [if_pos hq]
    rw [if_pos hq]
    rw [hc] at hp
    obtain ⟨rfl, rfl⟩ := hp.1 hq
    have h3 : cdJ (F 0) p q u ≠ 3 := by unfold cdJ; (repeat' split) <;> decide
    dsimp only
    rw [if_neg h3]
    exact QE.mk hC (by rw [if_neg hq]) (hC.setm (upV V 7 (.int (nI (cdJ (F 0) p q u))))) (hE.cod _) EqM.rf.setm
theorem cm_arrivalByScanning {G : GG} {l : Launch} {h : AH} {m : Nat} {A : Nat → Nat} {W tm : Nat} {gb τ g : Nat → Nat} {sn : Option (Nat → Nat)} {hs : List (Nat → Nat)} {tx : List Nat} {ep fc : Nat} {ot : List Nat} {cd n : Nat} {p : Int32} {q : Int32} {u : Int32} (hM : MW G h m A W tm gb τ g sn hs tx ep fc ot cd) (hV : SVI n g sn hs tx ep fc ot) : Ct G l yX4_arrivalByScanning cX4_arrivalByScanning 4 (some .int) 7 0 0 [.ref m, .int p, .int q, .int u] h (QE G h m A W tm gb τ g sn hs tx ep fc ot (if cdJ g p q u ≠ 0 then cdJ g p q u else if aeG g (tn p) (tn u) (tn q) = 1000000 then 3 else 0) (.int (nI 0)) (.int (nI (aeG g (tn p) (tn u) (tn q))))) := by
  obtain ⟨V, F, hC, hE⟩ := hM
  obtain rfl := hE.gg
  refine (ct_arrivalByScanning hC.mm rfl hC.a0 rfl hC.a6 rfl hV.1.1.W (hC.ne (by decide) (by decide) (by decide)) hE.e).mono (fun r h2 hp => ?_)
  by_cases hq : cdJ (F 0) p q u = 0
  · have e1 := aeJ hV.1.1 hE.e hq
    have hu := cdJ_u hq
    have hc : cdAR (F 0) p q u (F 6) = if aeG (F 0) (tn p) (tn u) (tn q) = 1000000 then 3 else 0 := by unfold cdAR; rw [if_neg (fun z => z hq), e1]
    rw [if_neg (fun z => z hq)]
    rw [hc, e1] at hp
    obtain ⟨k1, k2⟩ := hC.bg (upV V 7 (.int (nI 0))) (a := tn p) (v := tn u) (e := goE (F 0) (tn p) (tn u) (F 6))
    have k3 := (hE.cod 0).bg (a := tn p) (v := tn u) (goE_27 (a := tn p) hV.1.1.W hu hE.e)
    by_cases z : aeG (F 0) (tn p) (tn u) (tn q) = 1000000
    · rw [if_pos z] at hp ⊢
      obtain ⟨rfl, rfl⟩ := hp.1 (by decide)
      exact QE.mk hC rfl (k1.setm (upV (bgV (upV V 7 (.int (nI 0))) (tn p) (tn u)) 7 (.int (nI 3)))) (k3.cod 3) k2.setm
    · rw [if_neg z] at hp ⊢
      obtain ⟨rfl, rfl⟩ := hp.2 rfl
      exact QE.mk hC rfl (k1.setm (upV (bgV (upV V 7 (.int (nI 0))) (tn p) (tn u)) 7 (.int (nI 0)))) (k3.cod 0) k2.setm
  · have hc : cdAR (F 0) p q u (F 6) = cdJ (F 0) p q u := by unfold cdAR; rw [if_pos hq]
    rw [if_pos hq]
    rw [hc] at hp
    obtain ⟨rfl, rfl⟩ := hp.1 hq
    have h3 : cdJ (F 0) p q u ≠ 3 := by unfold cdJ; (repeat' split) <;> decide
    dsimp only
    rw [if_neg h3]
    exact QE.mk hC (by rw [if_neg hq]) (hC.setm (upV V 7 (.int (nI (cdJ (F 0) p q u))))) (hE.cod _) EqM.rf.setm
/-- the end of a call that may change the state -/
def QN (G : GG) (h : AH) (m : Nat) (A : Nat → Nat) (W tm : Nat) (gb τ g : Nat → Nat) (sn : Option (Nat → Nat)) (hs : List (Nat → Nat)) (l : List Nat) (ep fc : Nat) (ot : List Nat) (c : Nat) (v0 v : Value) (Nx : AH → Prop) : Option Value → AH → Prop :=
  fun r h2 => r = some (if c = 0 then v else v0) ∧ (c ≠ 0 → MW G h2 m A W tm gb τ g sn hs l ep fc ot c) ∧ (c = 0 → Nx h2) ∧ Fr (MP m A) h h2
section QNs
variable {G : GG} {h : AH} {m : Nat} {A : Nat → Nat} {W tm : Nat} {gb τ g : Nat → Nat} {sn : Option (Nat → Nat)} {hs : List (Nat → Nat)} {tx : List Nat} {ep fc : Nat} {ot : List Nat} {cd : Nat} {V : Nat → Value} {F : Nat → Nat → Nat}
theorem QN.px {c : Nat} {v : Value} {r : Option Value} {h2 hS : AH} {Nx : AH → Prop} (hM : MC G h m A V F) (hV : MV W tm gb τ g sn hs tx ep fc ot cd V F) (hp : PX c (fun k => hset h m (.inr (0, (mF A V).set 7 (.int (nI k))))) v hS r h2) (hN : c = 0 → ∃ V2 F2, MC G hS m A V2 F2 ∧ EqM m A h hS ∧ Nx hS) : QN G h m A W tm gb τ g sn hs tx ep fc ot c (.int (nI 0)) v Nx r h2 := by
  by_cases q : c = 0
  · obtain ⟨rfl, rfl⟩ := hp.2 q
    obtain ⟨V2, F2, k1, k2, k3⟩ := hN q
    exact ⟨by rw [if_pos q], fun z => absurd q z, fun _ => k3, hM.fr k1 k2⟩
  · obtain ⟨rfl, rfl⟩ := hp.1 q
    exact ⟨by rw [if_neg q], fun _ => ⟨_, _, hM.setm (upV V 7 (.int (nI c))), hV.cod c⟩, fun z => absurd z q, hM.fr (hM.setm (upV V 7 (.int (nI c)))) EqM.rf.setm⟩
end QNs
theorem apL_at {x : Nat → Nat} {l : List Nat} {i : Nat} (hi : i < l.length) : apL x 0 l i = l.getD i 0 := by
  unfold apL; rw [if_pos ⟨Nat.zero_le _, by omega⟩, Nat.sub_zero]
theorem apL_lt {x : Nat → Nat} {l : List Nat} (hx : ∀ i, x i < 65536) (hl : ∀ c, c ∈ l → c < 256) (i : Nat) : apL x 0 l i < 65536 := by
  unfold apL; split
  · rename_i q
    rw [List.getD_eq_getElem?_getD, List.getElem?_eq_getElem (by omega)]
    exact Nat.lt_trans (hl _ (List.getElem_mem _)) (by decide)
  · exact hx i
theorem dgF_b : ∀ k v c, v < 10 ^ (k + 1) → c ∈ dgF k v → c < 256
  | 0, v, c, hv, h => by
    unfold dgF at h
    have h := List.mem_singleton.mp h
    omega
  | k + 1, v, c, hv, h => by
    unfold dgF at h
    split at h
    · have h := List.mem_singleton.mp h; omega
    · rcases List.mem_append.mp h with h | h
      · rw [Nat.pow_succ] at hv
        exact dgF_b k _ c (by omega) h
      · have h := List.mem_singleton.mp h; omega
theorem dgL_b {v c : Nat} (hv : v < 600000) (h : c ∈ dgL v) : c < 256 := dgF_b _ _ _ (Nat.lt_trans hv (by decide)) h
theorem rcT_b {g : Nat → Nat} (hb : ∀ i, g i < 2 ^ 19) {k c : Nat} (h : c ∈ rcT g k) : c < 256 := by
  unfold rcT at h
  have hb2 : ∀ i, g i < 600000 := fun i => Nat.lt_trans (hb i) (by decide)
  simp only [List.mem_append, List.mem_cons] at h
  rcases h with ((h | h | h) | h | h) | h | h <;> first | exact dgL_b (hb2 _) h | omega
theorem ldG_b {g : Nat → Nat} (hI : GW g) (hb : ∀ i, g i < 2 ^ 19) {t k : Nat} : ldG g t k < 600000 := by
  have h1 := bkG_le (g := g) (t := t) (k := k) (n := g 3)
  have h2 := hI.2.2.2.2.1
  have h3 := hb (16 + 36 * t + (28 + k))
  show bkG g t k (g 3) + g (16 + 36 * t + (28 + k)) < 600000
  omega
theorem rtL_b {g : Nat → Nat} (hI : GW g) (hb : ∀ i, g i < 2 ^ 19) {t c : Nat} (ht : t < 600000) : ∀ {j : Nat}, c ∈ rtL g t j → c < 256
  | 0, h => by
    unfold rtL at h
    simp only [List.mem_append, List.mem_cons] at h
    rcases h with h | h | h
    · exact dgL_b ht h
    · omega
    · exact dgL_b (Nat.lt_trans (hb _) (by decide)) h
  | j + 1, h => by
    unfold rtL at h
    simp only [List.mem_append, List.mem_cons] at h
    rcases h with (h | h | h) | h | h
    · exact rtL_b hI hb ht h
    · omega
    · exact dgL_b (ldG_b hI hb) h
    · omega
    · exact dgL_b (Nat.lt_trans (hb _) (by decide)) h
theorem rtT_b {g : Nat → Nat} (hI : GW g) (hb : ∀ i, g i < 2 ^ 19) {t c : Nat} (ht : t < 600000) (h : c ∈ rtT g t) : c < 256 := by
  unfold rtT at h
  split at h
  · simp only [List.mem_append, List.mem_cons] at h
    rcases h with h | h | h
    · exact rtL_b hI hb ht h
    · omega
    · exact dgL_b (Nat.lt_trans (hb _) (by decide)) h
  · exact rtL_b hI hb ht h
theorem co_flip {a b : Nat} : (if a ≠ b then 2 else 0 : Nat) = (if a = b then 0 else 2) := by
  by_cases q : a = b <;> simp [q]
theorem MV.out {W tm : Nat} {gb τ g : Nat → Nat} {sn : Option (Nat → Nat)} {hs : List (Nat → Nat)} {tx : List Nat} {ep fc : Nat} {ot : List Nat} {cd : Nat} {V : Nat → Value} {F : Nat → Nat → Nat} (h : MV W tm gb τ g sn hs tx ep fc ot cd V F) {l : List Nat} (hl : ∀ c, c ∈ l → c < 256) : MV W tm gb τ g sn hs tx ep fc l cd (upV V 13 (.int (nI l.length))) (upF F 5 (apL (F 5) 0 l)) :=
  ⟨h.1, h.2.1, h.2.2.1, ⟨h.v9, h.v10, h.v11, rfl⟩, h.k, h.i, ⟨fun i hi => apL_at hi, apL_lt h.o.2 hl⟩, h.2.2.2.2.2.2.2⟩
theorem MC.wr {G : GG} {h : AH} {m : Nat} {A : Nat → Nat} {V : Nat → Value} {F : Nat → Nat → Nat} (hM : MC G h m A V F) {x : Nat → Nat} {k : Nat} : MC G (wrH G h m (mF A V) (A 5) x k) m A (upV V 13 (.int (nI k))) (upF F 5 x) ∧ EqM m A h (wrH G h m (mF A V) (A 5) x k) := by
  unfold wrH
  rw [mF_set13]
  exact ⟨(hM.seta 5 (by decide) _).setm _, (EqM.rf.seta (by decide)).setm⟩
theorem wrH_7 {G : GG} {h : AH} {m : Nat} {A : Nat → Nat} {V : Nat → Value} {F : Nat → Nat → Nat} (hM : MC G h m A V F) {x : Nat → Nat} {k : Nat} {c : Value} : wrH G h m ((mF A V).set 7 c) (A 5) x k = wrH G (hset h m (.inr (0, mF A (upV V 7 c)))) m (mF A (upV V 7 c)) (A 5) x k := (wrH_h (hM.am (by decide))).symm
theorem cm_renderTrain {G : GG} {l : Launch} {h : AH} {m : Nat} {A : Nat → Nat} {W tm : Nat} {gb τ g : Nat → Nat} {sn : Option (Nat → Nat)} {hs : List (Nat → Nat)} {tx : List Nat} {ep fc : Nat} {ot : List Nat} {cd n : Nat} {p : Int32} (hM : MW G h m A W tm gb τ g sn hs tx ep fc ot cd) (hV : SVI n g sn hs tx ep fc ot) : Ct G l yX4_renderTrain cX4_renderTrain 3 (some .int) 9 0 0 [.ref m, .int p] h (QN G h m A W tm gb τ g sn hs tx ep fc ot (if ¬ iR p (g 1) then 1 else 0) (.int (nI 0)) (.int (nI (rtT g (tn p)).length)) (fun h2 => MW G h2 m A W tm gb τ g sn hs tx ep fc (rtT g (tn p)) 0)) := by
  obtain ⟨V, F, hC, hE⟩ := hM
  obtain rfl := hE.gg
  refine (ct_renderTrain hC.mm rfl hC.a0 rfl hC.a5 (hC.ne (by decide) (by decide) (by decide)) rfl hV.1.1.W (fun t ht k hk => ?_) (fun t ht => ?_)).mono (fun r h2 hp => QN.px hC hE hp (fun hq => ?_))
  · have q1 := hV.1.1.L t k ⟨ht, hk⟩
    have q2 := (hV.1.1.tm t ht).1.2
    omega
  · have q2 := (hV.1.1.tm t ht).2.2.1
    omega
  · have ht : tn p < 600000 := by
      have hi : iR p (F 0 1) := Classical.byContradiction fun z => by rw [if_pos z] at hq; cases hq
      have h6 := hV.1.1.W.2.2.1
      obtain ⟨z1, z2⟩ := hi
      unfold tn; omega
    rw [wrH_7 hC]
    obtain ⟨k1, k2⟩ := (hC.setm (upV V 7 (.int (nI 0)))).wr (x := apL (F 5) 0 (rtT (F 0) (tn p))) (k := (rtT (F 0) (tn p)).length)
    exact ⟨_, _, k1, EqM.rf.setm.trans k2, _, _, k1, (hE.cod 0).out (fun c => rtT_b hV.1.1.W hV.1.1.b ht)⟩
theorem cm_renderSuitcase {G : GG} {l : Launch} {h : AH} {m : Nat} {A : Nat → Nat} {W tm : Nat} {gb τ g : Nat → Nat} {sn : Option (Nat → Nat)} {hs : List (Nat → Nat)} {tx : List Nat} {ep fc : Nat} {ot : List Nat} {cd n : Nat} {p : Int32} (hM : MW G h m A W tm gb τ g sn hs tx ep fc ot cd) (hV : SVI n g sn hs tx ep fc ot) : Ct G l yX4_renderSuitcase cX4_renderSuitcase 3 (some .int) 9 0 0 [.ref m, .int p] h (QN G h m A W tm gb τ g sn hs tx ep fc ot ((fdO g 232 p (g 2)).elim 1 (fun _ => 0)) (.int (nI 0)) (.int (nI ((fdO g 232 p (g 2)).elim 0 (fun k => (rcT g k).length)))) (fun h2 => ∃ k, fdO g 232 p (g 2) = some k ∧ MW G h2 m A W tm gb τ g sn hs tx ep fc (rcT g k) 0)) := by
  obtain ⟨V, F, hC, hE⟩ := hM
  obtain rfl := hE.gg
  cases hf : fdO (F 0) 232 p (F 0 2) with
  | none =>
    refine ((ct_renderSuitcaseN hC.mm rfl hC.a0 rfl hV.1.1.W hf).up (by decide)).mono (fun r h2 hp => ?_)
    obtain ⟨rfl, rfl⟩ := hp
    exact ⟨rfl, fun _ => ⟨_, _, hC.setm (upV V 7 (.int (nI 1))), hE.cod 1⟩, fun z => absurd z Nat.one_ne_zero, hC.fr (hC.setm (upV V 7 (.int (nI 1)))) EqM.rf.setm⟩
  | some k =>
    have hk : k < F 0 2 := (fdO_lt hf).1
    obtain ⟨c1, c2, -⟩ := hV.1.1.cs k hk
    refine ((ct_renderSuitcaseS hC.mm rfl hC.a0 rfl hC.a5 (hC.ne (by decide) (by decide) (by decide)) rfl hV.1.1.W c1 c2 hf).up (by decide)).mono (fun r h2 hp => ?_)
    obtain ⟨rfl, rfl⟩ := hp
    rw [wrH_7 hC]
    obtain ⟨k1, k2⟩ := (hC.setm (upV V 7 (.int (nI 0)))).wr (x := apL (F 5) 0 (rcT (F 0) k)) (k := (rcT (F 0) k).length)
    exact ⟨rfl, fun z => absurd rfl z, fun _ => ⟨k, rfl, _, _, k1, (hE.cod 0).out (fun c => rcT_b hV.1.1.b)⟩, hC.fr k1 (EqM.rf.setm.trans k2)⟩
theorem cm_type {G : GG} {l : Launch} {h : AH} {m : Nat} {A : Nat → Nat} {W tm : Nat} {gb τ g : Nat → Nat} {sn : Option (Nat → Nat)} {hs : List (Nat → Nat)} {tx : List Nat} {ep fc : Nat} {ot : List Nat} {cd n : Nat}  {c : Nat} (hM : MW G h m A W tm gb τ g sn hs tx ep fc ot cd) (hV : SVI n g sn hs tx ep fc ot) (hc6 : c < 65536) : Ct G l yX4_type cX4_type 2 (some .int) 1 0 0 [.ref m, .int (nI c)] h (QN G h m A W tm gb τ g sn hs tx ep fc ot (if ¬ (nI 32 ≤ nI c ∧ nI c ≤ nI 126) then 1 else if tx.length = 60 then 2 else 0) (.int (nI 0)) (.int (nI (tx.length + 1))) (fun h2 => MW G h2 m A W tm gb τ g sn hs (tx ++ [c]) ep fc ot 0)) := by
  obtain ⟨V, F, hC, hE⟩ := hM
  obtain rfl := hE.gg
  have h60 := hV.2.2.2.2.1
  refine (ct_type (n := tx.length) hC.mm rfl hC.a4 (congrArg some hE.v9) rfl h60 hc6).mono (fun r h2 hp => QN.px hC hE hp (fun hq => ?_))
  have hl : tx.length < 60 := by
    split at hq
    · cases hq
    · split at hq
      · cases hq
      · omega
  have k1 := ((hC.setm (upV V 7 (.int (nI 0)))).seta 4 (by decide) (up (F 4) tx.length c)).setm (upV (upV V 7 (.int (nI 0))) 9 (.int (nI (tx.length + 1))))
  have hE0 := hE.cod 0
  refine ⟨_, _, k1, (EqM.rf.setm.seta (by decide)).setm, _, _, k1, hE0.1, hE0.2.1, hE0.2.2.1, ⟨?_, hE0.v10, hE0.v11, hE0.v13⟩, hE0.k, ⟨fun i hi => ?_, fun i => ?_⟩, hE0.2.2.2.2.2.2⟩
  · show Value.int (nI (tx.length + 1)) = _
    rw [List.length_append, List.length_singleton]
  · rw [List.length_append, List.length_singleton] at hi
    show up (F 4) tx.length c i = _
    by_cases e : i = tx.length
    · subst e; rw [up_s, List.getD_eq_getElem?_getD, List.getElem?_append_right (Nat.le_refl _), Nat.sub_self]; rfl
    · rw [up_n e, hE.i.1 i (by omega), List.getD_eq_getElem?_getD, List.getD_eq_getElem?_getD, List.getElem?_append_left (by omega)]
  · show up (F 4) tx.length c i < 65536
    unfold up; split
    · exact hc6
    · exact hE.i.2 i
theorem cp_row {gk r g2 : Nat → Nat} {p : Nat} (hk : ∀ i, i < 304 → gk (p + i) = g2 i) (h1 : Z3 r) (h2 : Z3 g2) : cpN gk p r 0 304 = g2 := by
  funext i
  unfold cpN
  by_cases q : i < 304
  · rw [if_pos ⟨Nat.zero_le _, by omega⟩, Nat.sub_zero]; exact hk i q
  · rw [if_neg (fun z => q (by omega)), h1 i (by omega), h2 i (by omega)]
theorem dropLast_getD {hs : List (Nat → Nat)} {j : Nat} (h : j < hs.length - 1) : hs.dropLast.getD j Z0 = hs.getD j Z0 := by
  rw [List.getD_eq_getElem?_getD, List.getD_eq_getElem?_getD, List.getElem?_dropLast, if_pos h]
theorem cm_undo {G : GG} {l : Launch} {h : AH} {m : Nat} {A : Nat → Nat} {W tm : Nat} {gb τ g : Nat → Nat} {sn : Option (Nat → Nat)} {hs : List (Nat → Nat)} {tx : List Nat} {ep fc : Nat} {ot : List Nat} {cd n : Nat}  (hM : MW G h m A W tm gb τ g sn hs tx ep fc ot cd) (hV : SVI n g sn hs tx ep fc ot) : Ct G l yX4_undo cX4_undo 1 (some .int) 1 0 0 [.ref m] h (QN G h m A W tm gb τ g sn hs tx ep fc ot (if hs.length = 0 then 1 else 0) (.int (nI 0)) (.int (nI (hs.length - 1))) (fun h2 => MW G h2 m A W tm gb τ (hs.getD (hs.length - 1) Z0) sn hs.dropLast tx ep fc ot 0)) := by
  obtain ⟨V, F, hC, hE⟩ := hM
  obtain rfl := hE.gg
  refine (ct_undo (ch := hs.length) hC.mm rfl hC.a0 rfl hC.a1 (congrArg some hE.v5) rfl hV.2.2.2.1 (hC.ne (by decide) (by decide) (by decide))).mono (fun r h2 hp => QN.px hC hE hp (fun hq => ?_))
  have hl : hs.length ≠ 0 := fun z => by rw [if_pos z] at hq; cases hq
  have e : cpN (F 1) (304 * (hs.length - 1)) (F 0) 0 304 = hs.getD (hs.length - 1) Z0 := cp_row (fun i hi => hE.k _ (by omega) i hi) hV.1.2 (hV.2.2.1 _ (by omega)).2
  rw [e]
  have k1 := (hC.setm (upV (upV V 7 (.int (nI 0))) 5 (.int (nI (hs.length - 1))))).seta 0 (by decide) (hs.getD (hs.length - 1) Z0)
  have hE0 := hE.cod 0
  refine ⟨_, _, k1, EqM.rf.setm.seta (by decide), _, _, k1, ⟨rfl, hE0.b, hE0.t⟩, hE0.2.1, ⟨?_, hE0.v6, rfl⟩, hE0.2.2.2.1, fun j hj i hi => ?_, hE0.2.2.2.2.2⟩
  · show Value.int (nI (hs.length - 1)) = _
    rw [List.length_dropLast]
  · rw [List.length_dropLast] at hj
    rw [dropLast_getD hj]
    exact hE.k j (by omega) i hi
theorem cm_save {G : GG} {l : Launch} {h : AH} {m : Nat} {A : Nat → Nat} {W tm : Nat} {gb τ g : Nat → Nat} {sn : Option (Nat → Nat)} {hs : List (Nat → Nat)} {tx : List Nat} {ep fc : Nat} {ot : List Nat} {cd n : Nat}  (hM : MW G h m A W tm gb τ g sn hs tx ep fc ot cd) (hV : SVI n g sn hs tx ep fc ot) : Ct G l yX4_save cX4_save 1 (some .int) 1 0 0 [.ref m] h (QN G h m A W tm gb τ g sn hs tx ep fc ot (0) (.int (nI 0)) (.int (nI (g 2))) (fun h2 => MW G h2 m A W tm gb τ g (some g) hs tx ep fc ot 0)) := by
  obtain ⟨V, F, hC, hE⟩ := hM
  obtain rfl := hE.gg
  refine (ct_save hC.mm rfl hC.a0 rfl hC.a2 rfl (hC.ne (by decide) (by decide) (by decide))).mono (fun r h2 hp => ?_)
  obtain ⟨rfl, rfl⟩ := hp
  have e : cpN (F 0) 0 (F 2) 0 304 = F 0 := cp_row (fun i _ => by rw [Nat.zero_add]) hE.z hV.1.2
  rw [e]
  have k1 := (hC.setm (upV (upV V 7 (.int (nI 0))) 4 (.int (nI 1)))).seta 2 (by decide) (F 0)
  have hE0 := hE.cod 0
  exact ⟨rfl, fun z => absurd rfl z, fun _ => ⟨_, _, k1, hE0.1, Or.inr ⟨rfl, rfl⟩, hE0.2.2.1, hE0.2.2.2.1, hE0.k, hE0.i, hE0.o, ⟨hE0.e, hE0.f⟩, hV.1.2, hE0.zb⟩, hC.fr k1 (EqM.rf.setm.seta (by decide))⟩
theorem cm_restore {G : GG} {l : Launch} {h : AH} {m : Nat} {A : Nat → Nat} {W tm : Nat} {gb τ g : Nat → Nat} {sn : Option (Nat → Nat)} {hs : List (Nat → Nat)} {tx : List Nat} {ep fc : Nat} {ot : List Nat} {cd n : Nat}  (hM : MW G h m A W tm gb τ g sn hs tx ep fc ot cd) (hV : SVI n g sn hs tx ep fc ot) : Ct G l yX4_restore cX4_restore 1 (some .int) 1 0 0 [.ref m] h (QN G h m A W tm gb τ g sn hs tx ep fc ot (sn.elim 1 (fun _ => 0)) (.int (nI 0)) (.int (nI (sn.elim 0 (fun gs => gs 2)))) (fun h2 => ∃ gs, sn = some gs ∧ MW G h2 m A W tm gb τ gs sn [] tx ep fc ot 0)) := by
  obtain ⟨V, F, hC, hE⟩ := hM
  obtain rfl := hE.gg
  rcases hE.s with ⟨h4, rfl⟩ | ⟨h4, rfl⟩
  · exact (ct_restore (sv := 0) hC.mm rfl hC.a0 rfl hC.a2 (congrArg some h4) rfl (hC.ne (by decide) (by decide) (by decide)) (by decide)).mono (fun r h2 hp => by
      obtain ⟨rfl, rfl⟩ := hp.1 (by decide)
      exact ⟨rfl, fun _ => ⟨_, _, hC.setm (upV V 7 (.int (nI 1))), hE.cod 1⟩, fun z => absurd z Nat.one_ne_zero, hC.fr (hC.setm (upV V 7 (.int (nI 1)))) EqM.rf.setm⟩)
  · refine (ct_restore (sv := 1) hC.mm rfl hC.a0 rfl hC.a2 (congrArg some h4) rfl (hC.ne (by decide) (by decide) (by decide)) (by decide)).mono (fun r h2 hp => ?_)
    have e : cpN (F 2) 0 (F 0) 0 304 = F 2 := cp_row (fun i _ => by rw [Nat.zero_add]) hV.1.2 hE.z
    rw [e] at hp
    obtain ⟨rfl, rfl⟩ := hp.2 (by decide)
    have k1 := ((hC.setm (upV V 7 (.int (nI 0)))).seta 0 (by decide) (F 2)).setm (upV (upV V 7 (.int (nI 0))) 5 (.int (nI 0)))
    have hE0 := hE.cod 0
    exact ⟨rfl, fun z => absurd rfl z, fun _ => ⟨F 2, rfl, _, _, k1, ⟨rfl, hE0.b, hE0.t⟩, Or.inr ⟨h4, rfl⟩, ⟨rfl, hE0.v6, rfl⟩, hE0.2.2.2.1, fun j hj => absurd hj (Nat.not_lt_zero j), hE0.2.2.2.2.2⟩, hC.fr k1 (EqM.rf.setm.seta (by decide)).setm⟩
/-- the end of a change -/
def QH (G : GG) (h : AH) (m : Nat) (A : Nat → Nat) (W tm : Nat) (gb τ g : Nat → Nat) (sn : Option (Nat → Nat)) (hs : List (Nat → Nat)) (l : List Nat) (ep fc : Nat) (ot : List Nat) (k : Nat) (f : Nat → Int32) : Option Value → AH → Prop :=
  fun r h2 => Fr (MP m A) h h2 ∧ ((cdK k g f ≠ 0 ∧ r = some (.int (nI 0)) ∧ MW G h2 m A W tm gb τ g sn hs l ep fc ot (cdK k g f)) ∨ (cdK k g f = 0 ∧ ∃ v g2, r = some (.int v) ∧ CHG k g f v g2 ∧ MW G h2 m A W tm gb τ g2 sn (hsW W hs g) l ep fc ot 0))
section QHs
variable {G : GG} {h : AH} {m : Nat} {A : Nat → Nat} {W tm : Nat} {gb τ g : Nat → Nat} {sn : Option (Nat → Nat)} {hs : List (Nat → Nat)} {tx : List Nat} {ep fc : Nat} {ot : List Nat} {cd : Nat} {V : Nat → Value} {F : Nat → Nat → Nat}
theorem QH.px {c k : Nat} {f : Nat → Int32} {v : Int32} {g2 : Nat → Nat} {r : Option Value} {h2 : AH} (hM : MC G h m A V F) (hV : MV W tm gb τ (F 0) sn hs tx ep fc ot cd V F) (h8 : hs.length ≤ 8) (hc : c = cdK k (F 0) f) (hg : c = 0 → CHG k (F 0) f v g2)
    (hp : PX c (fun k => hset h m (.inr (0, (mF A V).set 7 (.int (nI k))))) (.int v) (hset (kpH G h m (mF A V) (A 1) (F 1) W hs.length (F 0)) (A 0) (iA G 304 (fun i => nI (g2 i)))) r h2) : QH G h m A W tm gb τ (F 0) sn hs tx ep fc ot k f r h2 := by
  subst hc
  by_cases q : cdK k (F 0) f = 0
  · obtain ⟨rfl, rfl⟩ := hp.2 q
    obtain ⟨k1, k2⟩ := hM.kp (W := W) (ch := hs.length) (g := F 0)
    have k3 := k1.seta 0 (by decide) g2
    exact ⟨hM.fr k3 (k2.seta (by decide)), Or.inr ⟨q, v, g2, rfl, hg q, _, _, k3, ((hV.kp h8 (F 0)).row g2)⟩⟩
  · obtain ⟨rfl, rfl⟩ := hp.1 q
    exact ⟨hM.fr (hM.setm (upV V 7 (.int (nI _)))) EqM.rf.setm, Or.inl ⟨q, rfl, _, _, hM.setm (upV V 7 (.int (nI _))), hV.cod _⟩⟩
theorem QH.pn {k : Nat} {f : Nat → Int32} {r : Option Value} {h2 : AH} (hM : MC G h m A V F) (hV : MV W tm gb τ (F 0) sn hs tx ep fc ot cd V F) (hc : cdK k (F 0) f = 1) (hp : PR (.int (nI 0)) (hset h m (.inr (0, (mF A V).set 7 (.int (nI 1))))) r h2) : QH G h m A W tm gb τ (F 0) sn hs tx ep fc ot k f r h2 := by
  obtain ⟨rfl, rfl⟩ := hp
  exact ⟨hM.fr (hM.setm (upV V 7 (.int (nI 1)))) EqM.rf.setm, Or.inl ⟨by rw [hc]; decide, rfl, by rw [hc]; exact ⟨_, _, hM.setm (upV V 7 (.int (nI 1))), hV.cod 1⟩⟩⟩
end QHs
theorem cm_chg0 {G : GG} {l : Launch} {h : AH} {m : Nat} {A : Nat → Nat} {W tm : Nat} {gb τ g : Nat → Nat} {sn : Option (Nat → Nat)} {hs : List (Nat → Nat)} {tx : List Nat} {ep fc : Nat} {ot : List Nat} {cd n : Nat}  {f : Nat → Int32} (hM : MW G h m A W tm gb τ g sn hs tx ep fc ot cd) (hV : SVI n g sn hs tx ep fc ot) (hw : W < 2) : Ct G l yX4_addStation cX4_addStation 2 (some .int) 2 0 0 [.ref m, .int (f 0)] h (QH G h m A W tm gb τ g sn hs tx ep fc ot 0 f) := by
  obtain ⟨V, F, hC, hE⟩ := hM
  obtain rfl := hE.gg
  exact (ct_addStation (w := W) (ch := hs.length) hC.mm rfl hC.a0 rfl hC.a1 (congrArg some hE.v6) (congrArg some hE.v5) rfl hw hV.2.2.2.1 (hC.ne (by decide) (by decide) (by decide)) hV.1.1.W).mono (fun r h2 hp => QH.px hC hE hV.2.2.2.1 rfl (fun _ => ⟨rfl, rfl⟩) hp)
theorem cm_chg1 {G : GG} {l : Launch} {h : AH} {m : Nat} {A : Nat → Nat} {W tm : Nat} {gb τ g : Nat → Nat} {sn : Option (Nat → Nat)} {hs : List (Nat → Nat)} {tx : List Nat} {ep fc : Nat} {ot : List Nat} {cd n : Nat}  {f : Nat → Int32} (hM : MW G h m A W tm gb τ g sn hs tx ep fc ot cd) (hV : SVI n g sn hs tx ep fc ot) (hw : W < 2) : Ct G l yX4_addTrain cX4_addTrain 5 (some .int) 2 0 0 [.ref m, .int (f 0), .int (f 1), .int (f 2)] h (QH G h m A W tm gb τ g sn hs tx ep fc ot 1 f) := by
  obtain ⟨V, F, hC, hE⟩ := hM
  obtain rfl := hE.gg
  exact (ct_addTrain (w := W) (ch := hs.length) hC.mm rfl hC.a0 rfl hC.a1 (congrArg some hE.v6) (congrArg some hE.v5) rfl hw hV.2.2.2.1 (hC.ne (by decide) (by decide) (by decide)) hV.1.1.W).mono (fun r h2 hp => QH.px hC hE hV.2.2.2.1 rfl (fun _ => ⟨rfl, rfl⟩) hp)
theorem cm_chg2 {G : GG} {l : Launch} {h : AH} {m : Nat} {A : Nat → Nat} {W tm : Nat} {gb τ g : Nat → Nat} {sn : Option (Nat → Nat)} {hs : List (Nat → Nat)} {tx : List Nat} {ep fc : Nat} {ot : List Nat} {cd n : Nat}  {f : Nat → Int32} (hM : MW G h m A W tm gb τ g sn hs tx ep fc ot cd) (hV : SVI n g sn hs tx ep fc ot) (hw : W < 2) : Ct G l yX4_extendTrain cX4_extendTrain 7 (some .int) 2 0 0 [.ref m, .int (f 0), .int (f 1), .int (f 2), .int (f 3)] h (QH G h m A W tm gb τ g sn hs tx ep fc ot 2 f) := by
  obtain ⟨V, F, hC, hE⟩ := hM
  obtain rfl := hE.gg
  exact (ct_extendTrain (w := W) (ch := hs.length) hC.mm rfl hC.a0 rfl hC.a1 (congrArg some hE.v6) (congrArg some hE.v5) rfl hw hV.2.2.2.1 (hC.ne (by decide) (by decide) (by decide)) hV.1.1.W).mono (fun r h2 hp => QH.px hC hE hV.2.2.2.1 rfl (fun _ => ⟨rfl, rfl⟩) hp)
theorem cm_chg3 {G : GG} {l : Launch} {h : AH} {m : Nat} {A : Nat → Nat} {W tm : Nat} {gb τ g : Nat → Nat} {sn : Option (Nat → Nat)} {hs : List (Nat → Nat)} {tx : List Nat} {ep fc : Nat} {ot : List Nat} {cd n : Nat}  {f : Nat → Int32} (hM : MW G h m A W tm gb τ g sn hs tx ep fc ot cd) (hV : SVI n g sn hs tx ep fc ot) (hw : W < 2) : Ct G l yX4_delayTrain cX4_delayTrain 4 (some .int) 2 0 0 [.ref m, .int (f 0), .int (f 1)] h (QH G h m A W tm gb τ g sn hs tx ep fc ot 3 f) := by
  obtain ⟨V, F, hC, hE⟩ := hM
  obtain rfl := hE.gg
  exact (ct_delayTrain (w := W) (ch := hs.length) hC.mm rfl hC.a0 rfl hC.a1 (congrArg some hE.v6) (congrArg some hE.v5) rfl hw hV.2.2.2.1 (hC.ne (by decide) (by decide) (by decide)) hV.1.1.W).mono (fun r h2 hp => QH.px hC hE hV.2.2.2.1 rfl (fun _ => ⟨rfl, rfl⟩) hp)
theorem cm_chg4 {G : GG} {l : Launch} {h : AH} {m : Nat} {A : Nat → Nat} {W tm : Nat} {gb τ g : Nat → Nat} {sn : Option (Nat → Nat)} {hs : List (Nat → Nat)} {tx : List Nat} {ep fc : Nat} {ot : List Nat} {cd n : Nat}  {f : Nat → Int32} (hM : MW G h m A W tm gb τ g sn hs tx ep fc ot cd) (hV : SVI n g sn hs tx ep fc ot) (hw : W < 2) : Ct G l yX4_addSuitcase cX4_addSuitcase 5 (some .int) 2 0 0 [.ref m, .int (f 0), .int (f 1), .int (f 2)] h (QH G h m A W tm gb τ g sn hs tx ep fc ot 4 f) := by
  obtain ⟨V, F, hC, hE⟩ := hM
  obtain rfl := hE.gg
  exact (ct_addSuitcase (w := W) (ch := hs.length) hC.mm rfl hC.a0 rfl hC.a1 (congrArg some hE.v6) (congrArg some hE.v5) rfl hw hV.2.2.2.1 (hC.ne (by decide) (by decide) (by decide)) hV.1.1.W).mono (fun r h2 hp => QH.px hC hE hV.2.2.2.1 rfl (fun _ => ⟨rfl, rfl⟩) hp)
theorem cm_chg5 {G : GG} {l : Launch} {h : AH} {m : Nat} {A : Nat → Nat} {W tm : Nat} {gb τ g : Nat → Nat} {sn : Option (Nat → Nat)} {hs : List (Nat → Nat)} {tx : List Nat} {ep fc : Nat} {ot : List Nat} {cd n : Nat}  {f : Nat → Int32} (hM : MW G h m A W tm gb τ g sn hs tx ep fc ot cd) (hV : SVI n g sn hs tx ep fc ot) (hw : W < 2) : Ct G l yX4_relabel cX4_relabel 5 (some .int) 3 0 0 [.ref m, .int (f 0), .int (f 1)] h (QH G h m A W tm gb τ g sn hs tx ep fc ot 5 f) := by
  obtain ⟨V, F, hC, hE⟩ := hM
  obtain rfl := hE.gg
  cases hf : fdO (F 0) 232 (f 0) (F 0 2) with
  | none => exact ((ct_relabelN hC.mm rfl hC.a0 rfl (by have := hV.1.1.W; unfold GW at this; omega) hV.1.1.W.1 hf).up (by decide)).mono (fun r h2 hp => QH.pn hC hE (by show ccRL (F 0) (f 0) (f 1) = 1; unfold ccRL; rw [hf]; rfl) hp)
  | some k => exact ((ct_relabelS (w := W) (ch := hs.length) hC.mm rfl hC.a0 rfl hC.a1 (congrArg some hE.v6) (congrArg some hE.v5) rfl hw hV.2.2.2.1 (hC.ne (by decide) (by decide) (by decide)) hV.1.1.W hf).up (by decide)).mono (fun r h2 hp => QH.px hC hE hV.2.2.2.1 (by show _ = ccRL (F 0) (f 0) (f 1); unfold ccRL; rw [hf]; exact (if_neg (show ¬ (some k = none) from nofun)).symm) (fun _ => ⟨k, hf, rfl, rfl⟩) hp)
theorem cm_chg6 {G : GG} {l : Launch} {h : AH} {m : Nat} {A : Nat → Nat} {W tm : Nat} {gb τ g : Nat → Nat} {sn : Option (Nat → Nat)} {hs : List (Nat → Nat)} {tx : List Nat} {ep fc : Nat} {ot : List Nat} {cd n : Nat}  {f : Nat → Int32} (hM : MW G h m A W tm gb τ g sn hs tx ep fc ot cd) (hV : SVI n g sn hs tx ep fc ot) (hw : W < 2) : Ct G l yX4_send cX4_send 6 (some .int) 6 0 0 [.ref m, .int (f 0)] h (QH G h m A W tm gb τ g sn hs tx ep fc ot 6 f) := by
  obtain ⟨V, F, hC, hE⟩ := hM
  obtain rfl := hE.gg
  cases hf : fdO (F 0) 232 (f 0) (F 0 2) with
  | none => exact ((ct_sendN hC.mm rfl hC.a0 rfl hV.1.1.W hf).up (by decide)).mono (fun r h2 hp => QH.pn hC hE (by show ccSD (F 0) (f 0) = 1; unfold ccSD; rw [hf]; rfl) hp)
  | some k =>
    have hk : k < F 0 2 := (fdO_lt hf).1
    obtain ⟨c1, c2, c3⟩ := hV.1.1.cs k hk
    have hne : ∀ {i j : Nat}, i < 12 → j < 12 → i ≠ j → A i ≠ A j := fun a b c => hC.ne a b c
    have ecd : ccSD (F 0) (f 0) = if (sdE (F 0) (F 6) k) (F 0 (232 + 4 * k + 2)) = 1000000 then 2 else 0 := by
      unfold ccSD; rw [hf]; exact send_code hV.1.1 hk hE.e
    refine (ct_sendS (w := W) (ch := hs.length) hC.mm rfl hC.a0 rfl hC.a6 rfl hC.a8 rfl hC.a9 rfl hC.a1 (congrArg some hE.v6) (congrArg some hE.v5) rfl hV.1.1.W hw hV.2.2.2.1 hE.e (fun i hi => (hV.1.1.tr i hi).1) c1 c2 (hne (by decide) (by decide) (by decide)) (hne (by decide) (by decide) (by decide)) (hne (by decide) (by decide) (by decide)) (hne (by decide) (by decide) (by decide)) (hne (by decide) (by decide) (by decide)) (hne (by decide) (by decide) (by decide)) (hne (by decide) (by decide) (by decide)) (hne (by decide) (by decide) (by decide)) (hne (by decide) (by decide) (by decide)) (hne (by decide) (by decide) (by decide)) hf).mono (fun r h2 hp => ?_)
    rw [← ecd] at hp
    obtain ⟨b1, b2⟩ := hC.bg (upV V 7 (.int (nI 0))) (a := F 0 (232 + 4 * k + 1)) (v := F 0 (232 + 4 * k + 3)) (e := sdE (F 0) (F 6) k)
    have b3 := (hE.cod 0).bg (a := F 0 (232 + 4 * k + 1)) (v := F 0 (232 + 4 * k + 3)) (goE_27 (a := F 0 (232 + 4 * k + 1)) hV.1.1.W (show F 0 (232 + 4 * k + 3) < 2 ^ 27 by omega) hE.e)
    by_cases q : ccSD (F 0) (f 0) = 0
    · obtain ⟨rfl, rfl⟩ := hp.2 q
      have hd := goE_arr (a := F 0 (232 + 4 * k + 1)) hV.1.1.W (show F 0 (232 + 4 * k + 3) < 2 ^ 27 by omega) hE.e
      obtain ⟨R, hA⟩ := ARR.ex hV.1.1.W hd
      obtain ⟨j1, j2, j3⟩ := send_join (ge := F 6) (gx := F 8) (gy := F 9) hV.1.1 hk hE.e hA
      have d0 := b1.setm (upV (bgV (upV V 7 (.int (nI 0))) (F 0 (232 + 4 * k + 1)) (F 0 (232 + 4 * k + 3))) 7 (.int (nI 0)))
      have e0 := b3.cod 0
      have d1 := ((d0.seta 8 (by decide) (sdR (F 0) (F 6) k (F 8) (F 9)).2.1).seta 9 (by decide) (sdR (F 0) (F 6) k (F 8) (F 9)).2.2).setm (upV (upV (bgV (upV V 7 (.int (nI 0))) (F 0 (232 + 4 * k + 1)) (F 0 (232 + 4 * k + 3))) 7 (.int (nI 0))) 20 (.int (nI (sdR (F 0) (F 6) k (F 8) (F 9)).1)))
      have e1 := ((e0.arr (f := (sdR (F 0) (F 6) k (F 8) (F 9)).2.1) (k := 8) (by decide)).arr (f := (sdR (F 0) (F 6) k (F 8) (F 9)).2.2) (k := 9) (by decide)).fld (k := 20) (c := .int (nI (sdR (F 0) (F 6) k (F 8) (F 9)).1)) (by decide)
      obtain ⟨k1, k2⟩ := d1.kp (W := W) (ch := hs.length) (g := F 0)
      have k3 := k1.seta 0 (by decide) (nxSD (F 0) k (sdR (F 0) (F 6) k (F 8) (F 9)).1 (sdR (F 0) (F 6) k (F 8) (F 9)).2.1 (sdR (F 0) (F 6) k (F 8) (F 9)).2.2 (sdE (F 0) (F 6) k))
      have eq1 : EqM m A h (tkH G (sdH G h m (mF A V) (A 6) (F 0) (F 6) k 0) m (sdF (F 0) k (mF A V) 0) (A 8) (A 9) (sdR (F 0) (F 6) k (F 8) (F 9)).1 (sdR (F 0) (F 6) k (F 8) (F 9)).2.1 (sdR (F 0) (F 6) k (F 8) (F 9)).2.2) := by
        unfold tkH sdH
        exact (((b2.setm).seta (i := 8) (by decide)).seta (i := 9) (by decide)).setm
      refine ⟨hC.fr k3 ((eq1.trans k2).seta (by decide)), Or.inr ⟨q, _, _, rfl, ?_, _, _, k3, ((e1.kp hV.2.2.2.1 (F 0)).row _)⟩⟩
      refine ⟨k, _, _, hf, hA, ?_, by rw [j2], j1⟩
      have q2 := q
      rw [ecd] at q2
      have q3 : ¬ sdE (F 0) (F 6) k (F 0 (232 + 4 * k + 2)) = 1000000 := fun z => by rw [if_pos z] at q2; cases q2
      have e2 := hd.1.1 _ c2
      have e3 : iniE (F 0 (232 + 4 * k + 1)) (F 0 (232 + 4 * k + 3)) (F 0 (232 + 4 * k + 2)) ≤ 1000000 := by unfold iniE; split <;> omega
      have e4 : sdE (F 0) (F 6) k (F 0 (232 + 4 * k + 2)) ≤ 1000000 := Nat.le_trans e2 e3
      exact Nat.lt_of_le_of_ne e4 q3
    · obtain ⟨rfl, rfl⟩ := hp.1 q
      have d0 := b1.setm (upV (bgV (upV V 7 (.int (nI 0))) (F 0 (232 + 4 * k + 1)) (F 0 (232 + 4 * k + 3))) 7 (.int (nI (ccSD (F 0) (f 0)))))
      exact ⟨hC.fr d0 b2.setm, Or.inl ⟨q, rfl, _, _, d0, b3.cod _⟩⟩
theorem cm_chg7 {G : GG} {l : Launch} {h : AH} {m : Nat} {A : Nat → Nat} {W tm : Nat} {gb τ g : Nat → Nat} {sn : Option (Nat → Nat)} {hs : List (Nat → Nat)} {tx : List Nat} {ep fc : Nat} {ot : List Nat} {cd n : Nat}  {f : Nat → Int32} (hM : MW G h m A W tm gb τ g sn hs tx ep fc ot cd) (hV : SVI n g sn hs tx ep fc ot) (hw : W < 2) : Ct G l yX4_collect cX4_collect 3 (some .int) 3 0 0 [.ref m, .int (f 0)] h (QH G h m A W tm gb τ g sn hs tx ep fc ot 7 f) := by
  obtain ⟨V, F, hC, hE⟩ := hM
  obtain rfl := hE.gg
  cases hf : fdO (F 0) 232 (f 0) (F 0 2) with
  | none => exact ((ct_collectN hC.mm rfl hC.a0 rfl (by have := hV.1.1.W; unfold GW at this; omega) hV.1.1.W.1 hf).up (by decide)).mono (fun r h2 hp => QH.pn hC hE (by show ccCO (F 0) (f 0) = 1; unfold ccCO; rw [hf]; rfl) hp)
  | some k => exact ((ct_collectS (w := W) (ch := hs.length) hC.mm rfl hC.a0 rfl hC.a1 (congrArg some hE.v6) (congrArg some hE.v5) rfl hw hV.2.2.2.1 (hC.ne (by decide) (by decide) (by decide)) hV.1.1.W hf).up (by decide)).mono (fun r h2 hp => QH.px hC hE hV.2.2.2.1 (by show _ = ccCO (F 0) (f 0); unfold ccCO; rw [hf]; exact co_flip) (fun _ => ⟨k, hf, rfl, rfl⟩) hp)
theorem cm_chg8 {G : GG} {l : Launch} {h : AH} {m : Nat} {A : Nat → Nat} {W tm : Nat} {gb τ g : Nat → Nat} {sn : Option (Nat → Nat)} {hs : List (Nat → Nat)} {tx : List Nat} {ep fc : Nat} {ot : List Nat} {cd n : Nat}  {f : Nat → Int32} (hM : MW G h m A W tm gb τ g sn hs tx ep fc ot cd) (hV : SVI n g sn hs tx ep fc ot) (hw : W < 2) : Ct G l yX4_book cX4_book 6 (some .int) 4 0 0 [.ref m, .int (f 0), .int (f 1), .int (f 2)] h (QH G h m A W tm gb τ g sn hs tx ep fc ot 8 f) := by
  obtain ⟨V, F, hC, hE⟩ := hM
  obtain rfl := hE.gg
  exact (ct_book (w := W) (ch := hs.length) hC.mm rfl hC.a0 rfl hC.a1 (congrArg some hE.v6) (congrArg some hE.v5) rfl hw hV.2.2.2.1 (hC.ne (by decide) (by decide) (by decide)) hV.1.1.W).mono (fun r h2 hp => QH.px hC hE hV.2.2.2.1 rfl (fun _ => ⟨rfl, rfl⟩) hp)
theorem cm_chg9 {G : GG} {l : Launch} {h : AH} {m : Nat} {A : Nat → Nat} {W tm : Nat} {gb τ g : Nat → Nat} {sn : Option (Nat → Nat)} {hs : List (Nat → Nat)} {tx : List Nat} {ep fc : Nat} {ot : List Nat} {cd n : Nat}  {f : Nat → Int32} (hM : MW G h m A W tm gb τ g sn hs tx ep fc ot cd) (hV : SVI n g sn hs tx ep fc ot) (hw : W < 2) : Ct G l yX4_cancelBooking cX4_cancelBooking 3 (some .int) 2 0 0 [.ref m, .int (f 0)] h (QH G h m A W tm gb τ g sn hs tx ep fc ot 9 f) := by
  obtain ⟨V, F, hC, hE⟩ := hM
  obtain rfl := hE.gg
  cases hf : fdO (F 0) 264 (f 0) (F 0 3) with
  | none => exact ((ct_cancelBookingN hC.mm rfl hC.a0 rfl (by have := hV.1.1.W; unfold GW at this; omega) hV.1.1.W.1 hf).up (by decide)).mono (fun r h2 hp => QH.pn hC hE (by show ccCB (F 0) (f 0) = 1; unfold ccCB; rw [hf]; rfl) hp)
  | some k => exact ((ct_cancelBookingS (w := W) (ch := hs.length) hC.mm rfl hC.a0 rfl hC.a1 (congrArg some hE.v6) (congrArg some hE.v5) rfl hw hV.2.2.2.1 (hC.ne (by decide) (by decide) (by decide)) hV.1.1.W hf).up (by decide)).mono (fun r h2 hp => QH.px hC hE hV.2.2.2.1 (by show _ = ccCB (F 0) (f 0); unfold ccCB; rw [hf]; rfl) (fun _ => ⟨k, hf, rfl, rfl⟩) hp)
