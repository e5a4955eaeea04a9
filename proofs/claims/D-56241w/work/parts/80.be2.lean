/-- a contract's maker for a class that is no plain name: the method has no native row -/
theorem Met.ofWF {l : Launch} {y : MethodName} {ws ws' : List Cond} {rm : Room} {Pc : Array Value → State → Prop} {Qc : Array Value → State → Outcome → State → Prop} {mc ms : Nat} {free : Addr → Prop} {cc : ByteArray} {maxL : Nat} {ret : Option FieldType}
    (hy : plainFor y = true) (hw : ws = Cond.code y cc maxL ret :: ws')
    (body : ∀ p e s m args below meth c s₁, BodyLoose p l y (headSpec ws rm) cc maxL ret e s m args below meth c s₁ → c.maxLocals = maxL → Pc args s →
      W p l e (headSpec ws rm).room s m args below meth c s.heap [] 0 0 (MQ below Qc args s mc ms free) (entryFrame m args maxL)) : Met l y ws rm Pc Qc mc ms free := by
  refine MetFree.of_bodySF (code := cc) (maxLocals := maxL) (ret := ret) hy ?_ ?_
  · intro args s m h hn
    obtain ⟨meth, c, h1, h2, h3, h4, h5, h6, -, -⟩ := Cond.code_spec hn (atoms_spec (ws := ws) h _ (by rw [hw]; exact List.mem_cons_self))
    exact ⟨meth, c, h1, h2, h3, h4, h5, h6⟩
  · intro p e s m args below meth c s₁ B hml hP _
    have hh0 : s₁.heap = s.heap := by rw [B.state]; rfl
    obtain ⟨t, a1, o, b1, b2, b3⟩ := body p e s m args below meth c s₁ B hml hP s₁ hh0 (Stand.of_body B)
    exact ⟨t, o, a1, b1, b2, ⟨b3.1, b3.2⟩⟩
theorem Ct.ofF {G : GG} {l : Launch} {y : MethodName} {cc : ByteArray} {mL : Nat} {ret : Option FieldType} {d mc ms : Nat} {av : List Value} {h : AH} {Post : Option Value → AH → Prop} (hy : plainFor y = true) (hlen : (lg_sl av).length ≤ mL) (hcat : ∀ v ∈ av, v.category = 1)
    (body : ∀ X : CX, xl X = l → Fx G X cc mL y.cls ret d mc ms → (xt X).name = y.name → VV G X mL (EQ G X mc ms Post) h 0 0 (lvA av mL) [] 0) : Ct G l y cc mL ret d mc ms av h Post := by
  refine Met.ofWF (cc := cc) (maxL := mL) (ret := ret) hy rfl ?_
  intro p e s m args below meth c s₁ B hml hv
  obtain ⟨rfl, hKn, hSim⟩ := hv
  have hts := atoms_spec (ws := ws_ y cc mL ret) B.pre
  have hts : ∀ w ∈ lw_all, w.before _ s = true := fun w h => hts w (List.mem_cons_of_mem _ h)
  have hown : s.vm.findClass y.cls = some m.cls := findClass_of_methodNamed B.named
  have hin : meth.name = y.name := (name_of_methodNamed B.named B.method).1
  have F : Fx G (p, l, e, (headSpec (ws_ y cc mL ret) (rmD d mc ms)).room, s, m, av.toArray, below, meth, c) cc mL y.cls ret d mc ms :=
    ⟨B.exec, B.bytes, hml, hown, hts, B.returns, B.notSynchronized, hKn, Nat.le_refl _, Nat.le_refl _, Nat.le_refl _, Nat.le_refl _⟩
  rw [lg_entry_eq]
  exact body (p, l, e, (headSpec (ws_ y cc mL ret) (rmD d mc ms)).room, s, m, av.toArray, below, meth, c) rfl F hin s.heap [] _ hSim (fun q h => by cases h) (lvH.entry hlen hcat)
theorem offK.mT {h : AH} {t mc n k : Nat} {A K V : Nat → Nat} (hM : TMp h t mc n A K V) (h1 : k ≠ 23) (h2 : k ≠ 24) : offK (mT t n A) h (kO k) := by
  obtain ⟨-, rt, L, R, P, C, lo, hi, ⟨x0, x1, x6, x7, x8, ht, -⟩, hT, -⟩ := hM
  intro y e hy hs q
  rcases q with rfl | ⟨i, hi, rfl⟩
  · cases ht.symm.trans hy; exact h1 (beq_iff_eq.mp hs).symm
  · cases (hT i hi).symm.trans hy; exact h2 (beq_iff_eq.mp hs).symm
theorem ALs.sep {G : GG} {h1 hh : AH} {lg lar ar c mc n : Nat} {f : Nat → Nat} {u : Nat → Option Nat} (hL : ALs G h1 lg lar mc n f) (hb : HB G hh) (ha : h1 ar = none) (hq : hh lar = some (qA G c u)) : lar ≠ ar := by
  intro z
  subst z
  obtain ⟨-, -, cap, g2, q, -⟩ := hL
  rcases q with q | q
  · rw [ha] at q; cases q
  · rw [hb.no q] at hq; cases hq
theorem mT.al {G : GG} {h : AH} {t mc n a ar m nn : Nat} {A K V f : Nat → Nat} (hM : TMp h t mc n A K V) (hA : ALs G h a ar m nn f) : ¬ mT t n A a := by
  obtain ⟨-, rt, L, R, P, C, lo, hi, ⟨x0, x1, x6, x7, x8, ht, -⟩, hT, -⟩ := hM
  rintro (q | ⟨i, hi, q⟩)
  · exact ne_oo hA.1 ht (by decide) q
  · exact ne_oo hA.1 (hT i hi) (by decide) q
theorem mT.ar {G : GG} {h : AH} {t mc n ar c : Nat} {A K V : Nat → Nat} {f : Nat → Option Nat} (hM : TMp h t mc n A K V) (hA : h ar = some (qA G c f)) : ¬ mT t n A ar := by
  obtain ⟨-, rt, L, R, P, C, lo, hi, ⟨x0, x1, x6, x7, x8, ht, -⟩, hT, -⟩ := hM
  rintro (q | ⟨i, hi, q⟩)
  · exact ne_ao hA ht q
  · exact ne_ao hA (hT i hi) q

theorem ct_O_equals {G : GG} {l : Launch} {h : AH} {a b : Nat}   : Ct G l yJ50_equals cJ50_equals 2 (some .boolean) 0 (0) (0) [.ref a, .ref b] h (PR (.int (b2 (a = b))) h) := by
  refine Ct.ofF (by decide +kernel) (Nat.le_of_ble_eq_true rfl) (cat1 rfl) (fun X hXl F HN => ?_)
  subst hXl
  refine V_aload_n (i := 0) F dJ50_equals_0 rfl rfl ?_
  refine V_aload_n (i := 1) F dJ50_equals_1 rfl rfl ?_
  refine V_acmp_ne (rx := some (a)) (ry := some (b)) (tgt := 9) F dJ50_equals_2 (by decide) (fun c_2 => ?_) (fun c_2 => ?_)
  · refine V_iconst (v := nI 0) F dJ50_equals_9 rfl ?_
    exact V_iret F dJ50_equals_10 rfl (by first | exact Nat.le_of_ble_eq_true rfl | omega) (by first | exact Nat.le_of_ble_eq_true rfl | omega) ⟨by rw [b2_f (by simpa using c_2)]; rfl, rfl⟩
  · refine V_iconst (v := nI 1) F dJ50_equals_5 rfl ?_
    refine V_goto (tgt := 10) F dJ50_equals_6 (by decide) ?_
    exact V_iret F dJ50_equals_10 rfl (by first | exact Nat.le_of_ble_eq_true rfl | omega) (by first | exact Nat.le_of_ble_eq_true rfl | omega) ⟨by rw [b2_t (by simpa using c_2)]; rfl, rfl⟩
theorem oeq {G : GG} {l : Launch} {h : AH} {a : Nat} : OEQ G l h a := fun b => ct_O_equals
theorem ct_BE_free {G : GG} {l : Launch} {h : AH} {b so nu ar nar p : Nat} {nd : Int32} {g N fN : Nat → Nat} {S : List Nat} {f : Nat → Nat}  (hb : h b = some (.inr (13, [.ref so, .ref nu, .int nd]))) (hB : BKS G h so ar g S f) (hNu : ALs G h nu nar p p fN) (hIN : ∀ i, i < p → IV G h (fN i) (nI (N i))) (hN9 : ∀ i, i < p → N i ≤ 20) (hp : p < S.length) (hS : S.length ≤ 10) (hGB : GB g) : Ct G l yX16_free cX16_free 4 (some (.object "java/util/TreeSet")) 10 (30) (120) [.ref b, .int (nI p)] h (fun r h2 => ∃ st t mc n A K b0, r = some (.ref st) ∧ TSp G h2 st t mc n A K ∧ 0 < n ∧ IV G h2 (K 0) (nI b0) ∧ mexB g S N p b0 ∧ Fr nM h h2) := by
  refine Ct.of (by decide) (Nat.le_of_ble_eq_true rfl) (cat1 rfl) (fun X hXl F HN => ?_)
  subst hXl
  refine V_new F dX16_free_0 nw_X16_44 (by first | exact Nat.le_of_ble_eq_true rfl | omega) (by first | exact Nat.le_of_ble_eq_true rfl | omega) ?_
  intro st hfst hbst
  refine V_dup F dX16_free_3 rfl ?_
  refine V_callI (st := [.ref (st)]) (nn := 0) F dX16_free_4 lk_X16_71 (ct_TS_init (fun _ => 0) (hset_self (e := .inr (32, [.null])))) rfl rfl (Nat.le_of_ble_eq_true rfl) (Nat.le_of_ble_eq_true rfl) (Nat.le_of_ble_eq_true rfl) (by first | exact Nat.le_of_ble_eq_true rfl | omega) (by first | exact Nat.le_of_ble_eq_true rfl | omega) ?_
  rintro _ h1 ⟨rfl, t, ht0, A0, hS0, hx1⟩
  have htz := ((Fr.rf (M := nM) (h := h)).nw (x := .inr (32, [.null])) hfst).none ht0
  have p1 := hx1.get ((hset_ne (ne_nw hb hfst)).trans hb) (ne_nw hb hfst) rfl
  have f2 : Fr nM h h1 := ((Fr.rf (M := nM) (h := h)).nw (x := .inr (32, [.null])) hfst).cal hx1 (Yo.m1 ((Fr.rf (M := nM) (h := h)).yo hfst))
  have hst0 := hfst
  refine V_astore_n (i := 2) F dX16_free_7 rfl (Nat.le_of_ble_eq_true rfl) (Nat.le_of_ble_eq_true rfl) ?_
  refine V_iconst (v := nI 0) F dX16_free_8 rfl ?_
  refine V_istore_n (i := 3) F dX16_free_9 rfl (Nat.le_of_ble_eq_true rfl) (Nat.le_of_ble_eq_true rfl) ?_
  have loop_10 : ∀ (nn : Nat) (m mc : Nat) (A K : Nat → Nat) (hh : AH), p + 1 - m < nn → m ≤ p + 1 → TSp G hh st t mc m A K → (∀ i, i < m → IV G hh (K i) (nI i)) → (∀ i, i < m → h (A i) = none) → Fr nM h hh → VV G X 4 ((EQ G X (30) (120) (fun r h2 => ∃ st t mc n A K b0, r = some (.ref st) ∧ TSp G h2 st t mc n A K ∧ 0 < n ∧ IV G h2 (K 0) (nI b0) ∧ mexB g S N p b0 ∧ Fr nM h h2))) hh (2 + 2 * m) (10 + 7 * m) [some (.ref (b)), some (.int (nI (p))), some (.ref (st)), some (.int (nI (m)))] [] 10 := by
    intro nn
    induction nn with
    | zero => intro m mc A K hh hm hmp hT hK hA0 hF; exact absurd hm (by omega)
    | succ nn ih_10 =>
      intro m mc A K hh hm hmp hT hK hA0 hF
      refine V_iload_n (i := 3) F dX16_free_10 rfl rfl ?_
      refine V_iload_n (i := 1) F dX16_free_11 rfl rfl ?_
      refine V_icmp_gtN (tgt := 30) F dX16_free_12 (by decide) (by omega) (by omega) (fun c_12 => ?_) (fun c_12 => ?_)
      · refine V_iconst (v := nI 0) F dX16_free_30 rfl ?_
        refine V_istore_n (i := 3) F dX16_free_31 rfl (Nat.le_of_ble_eq_true rfl) (Nat.le_of_ble_eq_true rfl) ?_
        have loop_32 : ∀ (nn : Nat) (k mc n : Nat) (A K w : Nat → Nat) (h5 : AH), p - k < nn → k ≤ p → TSp G h5 st t mc n A K → (∀ i, i < n → IV G h5 (K i) (nI (w i))) → (∀ i, i < n → h (A i) = none) → Fr nM h h5 → (∀ i j, i < j → j < n → w i < w j) → (∀ i, i < n → w i ≤ p) → (∀ b, (∃ i, i < n ∧ w i = b) ↔ b ≤ p ∧ ∀ k2, k2 < k → boU g S k2 p → N k2 ≠ b) → p + 1 ≤ n + k → VV G X 4 ((EQ G X (30) (120) (fun r h2 => ∃ st t mc n A K b0, r = some (.ref st) ∧ TSp G h2 st t mc n A K ∧ 0 < n ∧ IV G h2 (K 0) (nI b0) ∧ mexB g S N p b0 ∧ Fr nM h h2))) h5 (30) (120) [some (.ref (b)), some (.int (nI (p))), some (.ref (st)), some (.int (nI (k)))] [] 32 := by
          intro nn
          induction nn with
          | zero => intro k mc n A K w h5 hm2 hkp hT5 hK5 hA5 hF5 hasc hw9 hmem hnk; exact absurd hm2 (by omega)
          | succ nn ih_32 =>
            intro k mc n A K w h5 hm2 hkp hT5 hK5 hA5 hF5 hasc hw9 hmem hnk
            refine V_iload_n (i := 3) F dX16_free_32 rfl rfl ?_
            refine V_iload_n (i := 1) F dX16_free_33 rfl rfl ?_
            refine V_icmp_geN (tgt := 93) F dX16_free_34 (by decide) (by omega) (by omega) (fun c_34 => ?_) (fun c_34 => ?_)
            · refine V_aload_n (i := 2) F dX16_free_93 rfl rfl ?_
              have hkp2 : k = p := by omega
              subst hkp2
              refine V_aret F dX16_free_94 (Or.inl ⟨_, rfl⟩) (Or.inr ⟨_, rfl⟩) (by first | exact Nat.le_of_ble_eq_true rfl | omega) (by first | exact Nat.le_of_ble_eq_true rfl | omega) ⟨st, t, mc, n, A, K, w 0, rfl, hT5, by omega, hK5 0 (by omega), ⟨hw9 0 (by omega), ((hmem (w 0)).mp ⟨0, by omega, rfl⟩).2, fun c hc => ?_⟩, hF5⟩
              have hc1 : ¬ ∃ i, i < n ∧ w i = c := by
                rintro ⟨i, hi, hwi⟩
                rcases Nat.eq_zero_or_pos i with z | z
                · rw [z] at hwi; omega
                · have := hasc 0 i z hi; omega
              have hc2 := fun z => hc1 ((hmem c).mpr z)
              apply Decidable.byContradiction
              intro hno
              refine hc2 ⟨by have := hw9 0 (by omega); omega, fun k2 hk2 hu e => hno ⟨k2, hk2, hu, e⟩⟩
            · refine V_aload_n (i := 0) F dX16_free_37 rfl rfl ?_
              refine V_getf F dX16_free_38 fc_X16_10_X16 (.inl (hF5.get hb id rfl)) rfl ?_
              refine V_iload_n (i := 3) F dX16_free_41 rfl rfl ?_
              refine V_callF (st := []) (nn := 1) F dX16_free_42 ⟨lw_F q2039 q473 q475 q111 q477, ⟨q472, List.mem_append_left _ q471, q476, q474, q387⟩, (by decide +kernel), (by decide +kernel)⟩ (ct_AL_get (hB.fr0 hF5).1 (k := k) (by omega) (by omega)) (hB.fr0 hF5).1.isC rfl rfl (Nat.le_of_ble_eq_true rfl) (Nat.le_of_ble_eq_true rfl) (Nat.le_of_ble_eq_true rfl) (by first | exact Nat.le_of_ble_eq_true rfl | omega) (by first | exact Nat.le_of_ble_eq_true rfl | omega) ?_
              refine PRk ?_
              refine V_ckS F dX16_free_47 q2040 ⟨11, _, _, _, rfl, (.inl ((hB.fr0 hF5).2 k (by omega)))⟩ ?_
              refine V_getn F dX16_free_50 fc_X16_73_X14 (.inl ((hB.fr0 hF5).2 k (by omega))) rfl ?_
              refine V_aload_n (i := 0) F dX16_free_53 rfl rfl ?_
              refine V_getf F dX16_free_54 fc_X16_10_X16 (.inl (hF5.get hb id rfl)) rfl ?_
              refine V_iload_n (i := 1) F dX16_free_57 rfl rfl ?_
              refine V_callF (st := [.int (nI (g (264 + 4 * ((S.getD k 0)) + 3)))]) (nn := 1) F dX16_free_58 ⟨lw_F q2039 q473 q475 q111 q477, ⟨q472, List.mem_append_left _ q471, q476, q474, q387⟩, (by decide +kernel), (by decide +kernel)⟩ (ct_AL_get (hB.fr0 hF5).1 (k := p) (by omega) (by omega)) (hB.fr0 hF5).1.isC rfl rfl (Nat.le_of_ble_eq_true rfl) (Nat.le_of_ble_eq_true rfl) (Nat.le_of_ble_eq_true rfl) (by first | exact Nat.le_of_ble_eq_true rfl | omega) (by first | exact Nat.le_of_ble_eq_true rfl | omega) ?_
              refine PRk ?_
              refine V_ckS F dX16_free_63 q2040 ⟨11, _, _, _, rfl, (.inl ((hB.fr0 hF5).2 p (by omega)))⟩ ?_
              refine V_getn F dX16_free_66 fc_X16_76_X14 (.inl ((hB.fr0 hF5).2 p (by omega))) rfl ?_
              refine V_icmp_leN (tgt := 87) F dX16_free_69 (by decide) (Nat.lt_trans (hGB _) (by decide)) (Nat.lt_trans (hGB _) (by decide)) (fun c_69 => ?_) (fun c_69 => ?_)
              · refine V_iinc (i := 3) (v := nI (k + 1)) F dX16_free_87 rfl (nI_add (k) 1) (Nat.le_of_ble_eq_true rfl) ?_
                refine V_goto (tgt := 32) F dX16_free_90 (by decide) ?_
                refine VV.weak (L' := [some (.ref (b)), some (.int (nI (p))), some (.ref (st)), some (.int (nI (k + 1)))]) (LW.c1 (LW.c1 (LW.c1 (LW.c1 LW.nil)))) ?_
                refine VV.wide (by omega) (by omega) (ih_32 (k + 1) mc n A K w h5 (by omega) (by omega) hT5 hK5 hA5 hF5 hasc hw9 ?_ (by omega))
                intro b
                rw [hmem b]
                refine and_congr Iff.rfl ⟨fun z k2 hk2 hu => ?_, fun z k2 hk2 hu => z k2 (by omega) hu⟩
                by_cases e : k2 = k
                · subst e; exact absurd hu (by show ¬ (g (264 + 4 * S.getD p 0 + 2) < g (264 + 4 * S.getD k2 0 + 3)); omega)
                · exact z k2 (by omega) hu
              · refine V_aload_n (i := 2) F dX16_free_72 rfl rfl ?_
                refine V_aload_n (i := 0) F dX16_free_73 rfl rfl ?_
                refine V_getf F dX16_free_74 fc_X16_16_X16 (.inl (hF5.get hb id rfl)) rfl ?_
                refine V_iload_n (i := 3) F dX16_free_77 rfl rfl ?_
                have hNk := (hIN k c_34).fr hF5 offK.nM
                obtain ⟨pos, fd, hcm, hp1, hp2, hp3, hp4, hp5⟩ := cmp_asc (l := xl X) hNk hK5 (fun i j hij hj => (nI_ltI (by have := hw9 i (by omega); omega) (by have := hw9 j hj; omega)).mpr (hasc i j hij hj))
                refine V_callF (st := [.ref (st)]) (nn := 1) F dX16_free_78 ⟨lw_F q2039 q473 q475 q111 q477, ⟨q472, List.mem_append_left _ q471, q476, q474, q387⟩, (by decide +kernel), (by decide +kernel)⟩ (ct_AL_get (hNu.fr0 hF5) (k := k) (by omega) (by omega)) (hNu.fr0 hF5).isC rfl rfl (Nat.le_of_ble_eq_true rfl) (Nat.le_of_ble_eq_true rfl) (Nat.le_of_ble_eq_true rfl) (by first | exact Nat.le_of_ble_eq_true rfl | omega) (by first | exact Nat.le_of_ble_eq_true rfl | omega) ?_
                refine PRk ?_
                cases hfd : fd with
                | false =>
                  subst hfd
                  refine V_callV (st := []) (nn := 1) F dX16_free_83 lk_X16_78 (ct_TS_removeN hT5 hcm rfl) hT5.isC rfl rfl (Nat.le_of_ble_eq_true rfl) (Nat.le_of_ble_eq_true rfl) (Nat.le_of_ble_eq_true rfl) (by first | exact Nat.le_of_ble_eq_true rfl | omega) (by first | exact Nat.le_of_ble_eq_true rfl | omega) ?_
                  refine PRk ?_
                  refine V_pop F dX16_free_86 rfl ?_
                  refine V_iinc (i := 3) (v := nI (k + 1)) F dX16_free_87 rfl (nI_add (k) 1) (Nat.le_of_ble_eq_true rfl) ?_
                  refine V_goto (tgt := 32) F dX16_free_90 (by decide) ?_
                  refine VV.weak (L' := [some (.ref (b)), some (.int (nI (p))), some (.ref (st)), some (.int (nI (k + 1)))]) (LW.c1 (LW.c1 (LW.c1 (LW.c1 LW.nil)))) ?_
                  have hnot : ∀ i, i < n → w i ≠ N k := fun i hi e => hp3 rfl i hi (by rw [e])
                  refine VV.wide (by omega) (by omega) (ih_32 (k + 1) mc n A K w h5 (by omega) (by omega) hT5 hK5 hA5 hF5 hasc hw9 ?_ (by omega))
                  intro b
                  rw [hmem b]
                  refine ⟨fun z => ⟨z.1, fun k2 hk2 hu => ?_⟩, fun z => ⟨z.1, fun k2 hk2 hu => z.2 k2 (by omega) hu⟩⟩
                  by_cases e : k2 = k
                  · subst e; intro e2; obtain ⟨i, hi, hw⟩ := (hmem b).mpr z; exact hnot i hi (by rw [hw, e2])
                  · exact z.2 k2 (by omega) hu
                | true =>
                  subst hfd
                  refine V_callV (st := []) (nn := 1) F dX16_free_83 lk_X16_78 (ct_TS_remove hT5 hcm rfl) hT5.isC rfl rfl (Nat.le_of_ble_eq_true rfl) (Nat.le_of_ble_eq_true rfl) (Nat.le_of_ble_eq_true rfl) (by first | exact Nat.le_of_ble_eq_true rfl | omega) (by first | exact Nat.le_of_ble_eq_true rfl | omega) ?_
                  rintro _ h6 ⟨rfl, A6, hT6, hNS, hx6⟩
                  have hF6 : Fr nM h h6 := hF5.cal hx6 (fun b z => z.elim (fun z => Or.inr (z ▸ htz)) (fun z => by obtain ⟨i, hi, z⟩ := z; exact Or.inr (z ▸ hA5 i hi)))
                  refine V_pop F dX16_free_86 rfl ?_
                  refine V_iinc (i := 3) (v := nI (k + 1)) F dX16_free_87 rfl (nI_add (k) 1) (Nat.le_of_ble_eq_true rfl) ?_
                  refine V_goto (tgt := 32) F dX16_free_90 (by decide) ?_
                  refine VV.weak (L' := [some (.ref (b)), some (.int (nI (p))), some (.ref (st)), some (.int (nI (k + 1)))]) (LW.c1 (LW.c1 (LW.c1 (LW.c1 LW.nil)))) ?_
                  obtain ⟨hpn, hpv⟩ := hp2 rfl
                  have hpw : w pos = N k := by
                    have z1 := hw9 pos hpn
                    have z2 := hN9 k (by omega)
                    have z3 : (nI (w pos)).toInt = (nI (N k)).toInt := by rw [hpv]
                    rw [nI_toInt (by omega), nI_toInt (by omega)] at z3
                    omega
                  have ho6 := offK.mT (k := 27) hT5.2 (by decide) (by decide)
                  refine VV.wide (by omega) (by omega) (ih_32 (k + 1) (mc + 1) (n - 1) A6 _ (fun j => w (sk pos j)) h6 (by omega) (by omega) hT6 (fun i hi => (hK5 _ (sk_lt hi)).fr hx6 ho6) (fun i hi => by obtain ⟨i2, hi2, z⟩ := hNS i hi; rw [z]; exact hA5 i2 hi2) hF6 (fun i j hij hj => hasc _ _ (sk_mono hij) (sk_lt hj)) (fun i hi => hw9 _ (sk_lt hi)) ?_ (by omega))
                  intro b
                  constructor
                  · rintro ⟨i, hi, hwi⟩
                    have z := (hmem b).mp ⟨_, sk_lt hi, hwi⟩
                    refine ⟨z.1, fun k2 hk2 hu => ?_⟩
                    by_cases e : k2 = k
                    · subst e; intro e2
                      have z3 : sk pos i = pos := by
                        rcases Nat.lt_trichotomy (sk pos i) pos with y | y | y
                        · have := hasc _ _ y hpn; omega
                        · exact y
                        · have := hasc _ _ y (sk_lt hi); omega
                      exact sk_ne z3
                    · exact z.2 k2 (by omega) hu
                  · rintro ⟨z1, z2⟩
                    obtain ⟨i, hi, hwi⟩ := (hmem b).mpr ⟨z1, fun k2 hk2 hu => z2 k2 (by omega) hu⟩
                    have hne : i ≠ pos := fun e => z2 k (by omega) (by show g (264 + 4 * S.getD p 0 + 2) < g (264 + 4 * S.getD k 0 + 3); omega) (by rw [← hpw, ← e]; exact hwi)
                    obtain ⟨j, hj, hsk⟩ := sk_cov hi hne hpn
                    exact ⟨j, hj, by simp only [hsk]; exact hwi⟩
        refine VV.weak (L' := [some (.ref (b)), some (.int (nI (p))), some (.ref (st)), some (.int (nI (0)))]) (LW.c1 (LW.c1 (LW.c1 (LW.c1 LW.nil)))) ?_
        have hmp1 : m = p + 1 := by omega
        subst hmp1
        refine VV.wide (by omega) (by omega) (loop_32 (p + 1) 0 mc (p + 1) A K (fun i => i) hh (by omega) (Nat.zero_le _) hT hK hA0 hF (fun i j hij _ => hij) (fun i hi => by omega) (fun b => ⟨fun z => ?_, fun z => ⟨b, by omega, rfl⟩⟩) (by omega))
        obtain ⟨i, hi, rfl⟩ := z
        exact ⟨by omega, fun k2 hk2 => absurd hk2 (Nat.not_lt_zero _)⟩
      · refine V_aload_n (i := 2) F dX16_free_15 rfl rfl ?_
        refine V_iload_n (i := 3) F dX16_free_16 rfl rfl ?_
        refine V_callS (st := [.ref (st)]) (nn := 1) F dX16_free_17 lk_X16_54 (ct_I_valueOf (x := nI m)) rfl rfl (Nat.le_of_ble_eq_true rfl) (Nat.le_of_ble_eq_true rfl) (Nat.le_of_ble_eq_true rfl) (by first | exact Nat.le_of_ble_eq_true rfl | omega) (by first | exact Nat.le_of_ble_eq_true rfl | omega) ?_
        rintro _ h3 ⟨q, rfl, hq, hx3⟩
        have hF3 := hF.cal0 hx3
        have hT3 : TSp G h3 st t mc m A K := ⟨hx3.get hT.1 id rfl, hT.2.fr0 hx3⟩
        have hK3 : ∀ i, i < m → IV G h3 (K i) (nI i) := fun i hi => (hK i hi).fr hx3 offK.nM
        refine V_callV (st := []) (nn := 1) F dX16_free_20 lk_X16_72 (ct_TS_add hT3 (fd := false) (pos := m) (cmp_int hq hK3 (Nat.le_refl m) (fun z => by cases z) (fun i hi _ => (nI_ltI (by omega) (by omega)).mpr hi) (fun i hi hp _ => absurd hi (by omega))) rfl (ckk_int hq)) hT3.isC rfl rfl (Nat.le_of_ble_eq_true rfl) (Nat.le_of_ble_eq_true rfl) (Nat.le_of_ble_eq_true rfl) (by first | exact Nat.le_of_ble_eq_true rfl | omega) (by first | exact Nat.le_of_ble_eq_true rfl | omega) ?_
        rintro _ h4 ⟨rfl, A2, hT4, hNF, hx4⟩
        have hF4 : Fr nM h h4 := hF3.cal hx4 (fun b z => z.elim (fun z => Or.inr (z ▸ htz)) (fun z => by obtain ⟨i, hi, z⟩ := z; exact Or.inr (z ▸ hA0 i hi)))
        have hA4 : ∀ i, i < m + 1 → h (A2 i) = none := fun i hi => (hNF i hi).elim (fun z => by obtain ⟨i2, hi2, z⟩ := z; rw [z]; exact hA0 i2 hi2) (fun z => hF3.none z)
        have ho4 := offK.mT (k := 27) hT3.2 (by decide) (by decide)
        have hK4 : ∀ i, i < m + 1 → IV G h4 (insF K m q i) (nI i) := fun i hi => by
          by_cases e : i = m
          · subst e; rw [insF_e]; exact hq.fr hx4 ho4
          · rw [insF_l (by omega)]; exact (hK3 i (by omega)).fr hx4 ho4
        refine V_pop F dX16_free_23 rfl ?_
        refine V_iinc (i := 3) (v := nI (m + 1)) F dX16_free_24 rfl (nI_add (m) 1) (Nat.le_of_ble_eq_true rfl) ?_
        refine V_goto (tgt := 10) F dX16_free_27 (by decide) ?_
        refine VV.weak (L' := [some (.ref (b)), some (.int (nI (p))), some (.ref (st)), some (.int (nI (m + 1)))]) (LW.c1 (LW.c1 (LW.c1 (LW.c1 LW.nil)))) ?_
        refine VV.wide (by omega) (by omega) (ih_10 (m + 1) (mc + 1) A2 _ _ (by omega) (by omega) hT4 hK4 hA4 hF4)
  refine VV.weak (L' := [some (.ref (b)), some (.int (nI (p))), some (.ref (st)), some (.int (nI (0)))]) (LW.c1 (LW.c1 (LW.c1 (LW.c1 LW.nil)))) ?_
  refine VV.wide (by omega) (by omega) (loop_10 (p + 2) 0 0 A0 _ _ (by omega) (by omega) hS0 (fun i hi => absurd hi (Nat.not_lt_zero i)) (fun i hi => absurd hi (Nat.not_lt_zero i)) f2)
