theorem insF_l {f : Nat → Nat} {k x i : Nat} (h : i < k) : insF f k x i = f i := by unfold insF cl; rw [if_neg (by omega), if_pos (by omega)]
theorem insF_e {f : Nat → Nat} {k x : Nat} : insF f k x k = x := by unfold insF; rw [if_pos rfl]
theorem insF_g {f : Nat → Nat} {k x i : Nat} (h : k < i) : insF f k x i = f (i - 1) := by unfold insF cl; rw [if_neg (by omega), if_neg (by omega)]
theorem ins_l {α : Type} {S : List α} {k i : Nat} {x d : α} (hk : k ≤ S.length) (h : i < k) : (S.take k ++ x :: S.drop k).getD i d = S.getD i d := by
  have e : (S.take k).length = k := by rw [List.length_take]; omega
  rw [List.getD_eq_getElem?_getD, List.getElem?_append_left (by omega), List.getElem?_take_of_lt h, ← List.getD_eq_getElem?_getD]
theorem ins_e {α : Type} {S : List α} {k : Nat} {x d : α} (hk : k ≤ S.length) : (S.take k ++ x :: S.drop k).getD k d = x := by
  have e : (S.take k).length = k := by rw [List.length_take]; omega
  rw [List.getD_eq_getElem?_getD, List.getElem?_append_right (by omega), e, Nat.sub_self]
  rfl
theorem ins_g {α : Type} {S : List α} {k i : Nat} {x d : α} (hk : k ≤ S.length) (h : k < i) : (S.take k ++ x :: S.drop k).getD i d = S.getD (i - 1) d := by
  have e : (S.take k).length = k := by rw [List.length_take]; omega
  obtain ⟨j, rfl⟩ : ∃ j, i = k + (j + 1) := ⟨i - k - 1, by omega⟩
  rw [List.getD_eq_getElem?_getD, List.getElem?_append_right (by omega), e, Nat.add_sub_cancel_left, List.getElem?_cons_succ, List.getElem?_drop, List.getD_eq_getElem?_getD]
  congr 2
theorem ins_len {α : Type} {S : List α} {k : Nat} {x : α} (hk : k ≤ S.length) : (S.take k ++ x :: S.drop k).length = S.length + 1 := by
  rw [List.length_append, List.length_cons, List.length_take, List.length_drop]; omega
theorem ins_perm {α : Type} {S : List α} {k : Nat} {x : α} : (S.take k ++ x :: S.drop k).Perm (x :: S) := by
  refine List.perm_middle.trans ?_
  rw [List.take_append_drop]
theorem LGS.ins {G : GG} {h h2 : AH} {a ar ar2 x t k at0 : Nat} {g : Nat → Nat} {S : List (Nat × Nat)} {f : Nat → Nat} (hL : LGS G h a ar g S f) (hb : HB G h) (hk0 : at0 ≤ S.length) (hx : h x = some (LgE g t k)) (hA : ALs G h2 a ar2 (S.length + 1) (S.length + 1) (insF f at0 x)) (hF : Fr (m2 a ar) h h2) : LGS G h2 a ar2 g (S.take at0 ++ (t, k) :: S.drop at0) (insF f at0 x) := by
  have hk : offK (m2 a ar) h (kO 5) := offK.al hL.1 hb (fun _ => rfl) (fun _ _ _ => rfl)
  refine ⟨by rw [ins_len hk0]; exact hA, fun i hi => ?_⟩
  rw [ins_len hk0] at hi
  rcases Nat.lt_trichotomy i at0 with q | q | q
  · rw [ins_l hk0 q, insF_l q]
    have hi2 : i < S.length := by omega
    exact hF.get (hL.2 i hi2) (hk.o (hL.2 i hi2)) rfl
  · subst q
    rw [ins_e hk0, insF_e]
    exact hF.get hx (hk.o hx) rfl
  · rw [ins_g hk0 q, insF_g q]
    have hi2 : i - 1 < S.length := by omega
    exact hF.get (hL.2 _ hi2) (hk.o (hL.2 _ hi2)) rfl
theorem nI_subT {a b : Nat} (ha : a < 2 ^ 30) (hb : b < 2 ^ 30) : (nI a - nI b).toInt = (a : Int) - b := by
  rw [Int32.toInt_sub, nI_toInt (by omega), nI_toInt (by omega), Int.bmod_eq_of_le (by omega) (by omega)]
/-- a leg is free -/
def frB (g : Nat → Nat) (p : Nat × Nat) : Bool := !decide (ldG g p.1 p.2 = g (16 + 36 * p.1 + 0))
abbrev dpL (g : Nat → Nat) (p q : Nat × Nat) : Prop := LvG g p.1 p.2 ≤ LvG g q.1 q.2
theorem getD_mem {α : Type} {S : List α} {i : Nat} {d : α} (hi : i < S.length) : S.getD i d ∈ S := by
  rw [List.getD_eq_getElem?_getD, List.getElem?_eq_getElem hi]; exact List.getElem_mem hi
/-- a new element at its place keeps the order -/
theorem ins_sorted {α : Type} {r : α → α → Prop} {S : List α} {k : Nat} {x d : α} (hk : k ≤ S.length) (hS : S.Pairwise r) (hle : ∀ a b c, r a b → r b c → r a c) (h1 : 0 < k → r (S.getD (k - 1) d) x) (h2 : k < S.length → r x (S.getD k d)) : (S.take k ++ x :: S.drop k).Pairwise r := by
  have hp := hS
  rw [← List.take_append_drop k S, List.pairwise_append] at hp
  obtain ⟨p1, p2, p3⟩ := hp
  have h3 : ∀ a, a ∈ S.take k → r a x := by
    intro a ha
    have hk0 : 0 < k := by
      rcases Nat.eq_zero_or_pos k with z | z
      · rw [z, List.take_zero] at ha; cases ha
      · exact z
    obtain ⟨i, hi, rfl⟩ := List.mem_iff_getElem.mp ha
    rw [List.length_take] at hi
    by_cases e : i = k - 1
    · subst e
      have h4 := h1 hk0
      rw [List.getD_eq_getElem?_getD, List.getElem?_eq_getElem (by omega), Option.getD_some] at h4
      rw [List.getElem_take]; exact h4
    · have h4 := h1 hk0
      rw [List.getD_eq_getElem?_getD, List.getElem?_eq_getElem (by omega), Option.getD_some] at h4
      rw [List.getElem_take]
      exact hle _ _ _ (List.pairwise_iff_getElem.mp hS i (k - 1) (by omega) (by omega) (by omega)) h4
  have h5 : ∀ b, b ∈ S.drop k → r x b := by
    intro b hb
    obtain ⟨i, hi, rfl⟩ := List.mem_iff_getElem.mp hb
    rw [List.length_drop] at hi
    have h4 := h2 (by omega)
    rw [List.getD_eq_getElem?_getD, List.getElem?_eq_getElem (by omega), Option.getD_some] at h4
    rw [List.getElem_drop]
    by_cases e : i = 0
    · subst e; exact h4
    · exact hle _ _ _ h4 (List.pairwise_iff_getElem.mp hS k (k + i) (by omega) (by omega) (by omega))
  refine List.pairwise_append.mpr ⟨p1, List.pairwise_cons.mpr ⟨h5, p2⟩, fun a ha b hb => ?_⟩
  rcases List.mem_cons.mp hb with rfl | hb
  · exact h3 a ha
  · exact p3 a ha b hb
theorem take_succ_filter {α : Type} {L : List α} {p : α → Bool} {i : Nat} {d : α} (hi : i < L.length) : (L.take (i + 1)).filter p = (L.take i).filter p ++ (if p (L.getD i d) = true then [L.getD i d] else []) := by
  rw [List.take_succ, List.filter_append, List.getElem?_eq_getElem hi, List.getD_eq_getElem?_getD, List.getElem?_eq_getElem hi, Option.getD_some]
  by_cases q : p L[i] = true
  · rw [if_pos q]; simp [List.filter, q]
  · rw [if_neg q]; simp [List.filter, q]

theorem ct_TT_free {G : GG} {l : Launch} {h : AH} {tt tl ta : Nat} {x : Nat → Nat} {A : Nat → Nat → Nat} {g : Nat → Nat} {lg lar : Nat} {fl : Nat → Nat}  (hR : RWr G h (tt, tl, ta, x, A) g) (hI : GW g) (hLg : LGS G h lg lar g (lgL g) fl)  : Ct G l yX3_free cX3_free 7 (some (.object "java/util/List")) 7 (100) (6000) [.ref tt, .ref lg] h (fun r h2 => ∃ a ar f S, r = some (.ref a) ∧ h a = none ∧ h ar = none ∧ LGS G h2 a ar g S f ∧ Fr nM h h2 ∧ S.Perm ((lgL g).filter (frB g)) ∧ S.Pairwise (dpL g)) := by
  refine Ct.of (by decide) (Nat.le_of_ble_eq_true rfl) (cat1 rfl) (fun X hXl F HN => ?_)
  subst hXl
  refine VV.bs (fun hB0 => ?_)
  have h42 := lgL_len hI
  refine V_new F dX3_free_0 nw_X3_9 (by first | exact Nat.le_of_ble_eq_true rfl | omega) (by first | exact Nat.le_of_ble_eq_true rfl | omega) ?_
  intro o hfo hbo
  refine V_dup F dX3_free_3 rfl ?_
  refine V_callI (st := [.ref (o)]) (nn := 0) F dX3_free_4 lk_X3_11 (ct_AL_init (fun _ => 0) (hset_self (e := .inr (18, [.int 0, .null, .int 0])))) rfl rfl (Nat.le_of_ble_eq_true rfl) (Nat.le_of_ble_eq_true rfl) (Nat.le_of_ble_eq_true rfl) (by first | exact Nat.le_of_ble_eq_true rfl | omega) (by first | exact Nat.le_of_ble_eq_true rfl | omega) ?_
  rintro _ hY1 ⟨rfl, hAo, hx2⟩
  have f3 : Fr nM h hY1 := ((Fr.rf (M := nM) (h := h)).nw (x := .inr (18, [.int 0, .null, .int 0])) hfo).cal hx2 (Yo.m1 ((Fr.rf (M := nM) (h := h)).yo hfo))
  have ho0 := hfo
  refine V_astore_n (i := 2) F dX3_free_7 rfl (Nat.le_of_ble_eq_true rfl) (Nat.le_of_ble_eq_true rfl) ?_
  refine V_new F dX3_free_8 nw_X3_78 (by first | exact Nat.le_of_ble_eq_true rfl | omega) (by first | exact Nat.le_of_ble_eq_true rfl | omega) ?_
  intro bd hfbd hbbd
  have hfbd9 := (f3).none hfbd
  refine V_dup F dX3_free_11 rfl ?_
  refine V_callIN (st := [.ref (bd)]) (nn := 0) F dX3_free_12 lk_X3_80 q1815 rfl (ct_BD_init) rfl rfl (Nat.le_of_ble_eq_true rfl) (Nat.le_of_ble_eq_true rfl) (Nat.le_of_ble_eq_true rfl) (by first | exact Nat.le_of_ble_eq_true rfl | omega) (by first | exact Nat.le_of_ble_eq_true rfl | omega) ?_
  refine PVk ?_
  have hbd0 : h bd = none := hfbd9
  refine V_astore_n (i := 3) F dX3_free_15 rfl (Nat.le_of_ble_eq_true rfl) (Nat.le_of_ble_eq_true rfl) ?_
  refine V_aload_n (i := 1) F dX3_free_16 rfl rfl ?_
  refine V_callF (st := []) (nn := 0) F dX3_free_17 ⟨lw_F q1820 q1326 q1328 q111 q1330, ⟨q1325, List.mem_append_left _ q1324, q1329, q1327, q387⟩, (by decide +kernel), (by decide +kernel)⟩ (ct_AL_iterator (hLg.1.fr0 (f3.nw (x := .inr (17, [])) hfbd))) ((hLg.1.fr0 (f3.nw (x := .inr (17, [])) hfbd))).isC rfl rfl (Nat.le_of_ble_eq_true rfl) (Nat.le_of_ble_eq_true rfl) (Nat.le_of_ble_eq_true rfl) (by first | exact Nat.le_of_ble_eq_true rfl | omega) (by first | exact Nat.le_of_ble_eq_true rfl | omega) ?_
  rintro _ hY4 ⟨it, rfl, hit1, hbit, hIt, hx5⟩
  have hchain := (Fr.rf.nw (M := nM) (x := .inr (17, [])) hfbd).cal0 hx5
  have hit0 := (f3.nw (x := .inr (17, [])) hfbd).none hit1
  have p6 := hx5.get (hset_self (e := .inr (17, []))) id rfl
  have f7 : Fr nM h hY4 := (f3.nw (x := .inr (17, [])) hfbd).cal0 hx5
  refine V_astore (i := 4) F dX3_free_22 (Nat.le_of_ble_eq_true rfl) (Nat.le_of_ble_eq_true rfl) ?_
  have loop_24 : ∀ (nn : Nat) (i ar : Nat) (S : List (Nat × Nat)) (fS : Nat → Nat) (hh : AH), (lgL g).length - i < nn → i ≤ (lgL g).length → ITR hh it lg i (lgL g).length → Fr nM h hh → LGS G hh o ar g S fS → h ar = none → hh bd = some (.inr (17, [])) → S.Perm (((lgL g).take i).filter (frB g)) → S.Pairwise (dpL g) → VV G X 7 ((EQ G X (100) (6000) (fun r h2 => ∃ a ar f S, r = some (.ref a) ∧ h a = none ∧ h ar = none ∧ LGS G h2 a ar g S f ∧ Fr nM h h2 ∧ S.Perm ((lgL g).filter (frB g)) ∧ S.Pairwise (dpL g)))) hh (3 + 1 * i) (10 + 110 * i) [some (.ref (tt)), none, some (.ref (o)), some (.ref (bd)), some (.ref (it)), none, none] [] 24 := by
    intro nn
    induction nn with
    | zero => intro i ar S fS hh hm hi9 hI3 hF hL har0 hbd hPm hSo; exact absurd hm (by omega)
    | succ nn ih_24 =>
      intro i ar S fS hh hm hi9 hI3 hF hL har0 hbd hPm hSo
      refine VV.bs (fun hB8 => ?_)
      have hito : it ≠ o := fun z => by obtain ⟨lr, hci⟩ := hI3; exact ne_oo hci hL.1.1 (by decide) z
      have hitar : it ≠ ar := fun z => by obtain ⟨lr, hci⟩ := hI3; exact (offK.al hL.1 hB8 (S := kO 26) (fun _ => rfl) (fun _ _ _ => rfl)).o hci (Or.inr z)
      have hbdit : bd ≠ it := fun z => by obtain ⟨lr, hci⟩ := hI3; exact ne_oo hbd hci (by decide) z
      have hSl : S.length ≤ i := by have z1 := hPm.length_eq; have z2 := List.length_filter_le (frB g) ((lgL g).take i); rw [List.length_take] at z2; omega
      refine V_aload (i := 4) F dX3_free_24 rfl ?_
      refine V_callF (st := []) (nn := 0) F dX3_free_26 ⟨lw_F q458 q832 q834 q133 q836, ⟨q460, List.mem_append_left _ q459, q835, q833, q831⟩, (by decide +kernel), (by decide +kernel)⟩ (ct_Itr_hasNext (hLg.1.fr0 hF) hI3 (by omega) (by omega)) hI3.isC rfl rfl (Nat.le_of_ble_eq_true rfl) (Nat.le_of_ble_eq_true rfl) (Nat.le_of_ble_eq_true rfl) (by first | exact Nat.le_of_ble_eq_true rfl | omega) (by first | exact Nat.le_of_ble_eq_true rfl | omega) ?_
      refine PRk ?_
      refine V_if_eqB (tgt := 128) F dX3_free_31 (by decide) (fun c_31 => ?_) (fun c_31 => ?_)
      · refine V_aload_n (i := 2) F dX3_free_128 rfl rfl ?_
        have hie : i = (lgL g).length := by omega
        rw [hie, List.take_length] at hPm
        have hfr := hF
        exact V_aret F dX3_free_129 (Or.inl ⟨_, rfl⟩) (Or.inr ⟨_, rfl⟩) (by first | exact Nat.le_of_ble_eq_true rfl | omega) (by first | exact Nat.le_of_ble_eq_true rfl | omega) ⟨o, ar, fS, S, rfl, ho0, har0, hL, hfr, hPm, hSo⟩
      · have hi : i < (lgL g).length := c_31
        refine V_aload (i := 4) F dX3_free_34 rfl ?_
        refine V_callF (st := []) (nn := 0) F dX3_free_36 ⟨lw_F q866 q1072 q1074 q133 q1076, ⟨q868, List.mem_append_left _ q867, q1075, q1073, q831⟩, (by decide +kernel), (by decide +kernel)⟩ (ct_Itr_next (hLg.1.fr0 hF) hI3 (by omega) (by omega) hi) hI3.isC rfl rfl (Nat.le_of_ble_eq_true rfl) (Nat.le_of_ble_eq_true rfl) (Nat.le_of_ble_eq_true rfl) (by first | exact Nat.le_of_ble_eq_true rfl | omega) (by first | exact Nat.le_of_ble_eq_true rfl | omega) ?_
        rintro _ hY1 ⟨rfl, hI4, hx2⟩
        have p3 := hx2.get hbd (fun z => hbdit z) rfl
        have f4 : Fr nM h hY1 := hF.cal hx2 (Yo.m1 (Or.inr hit0))
        have hLa := hL.fr hx2 (fun z => hito z.symm) (fun _ _ _ z => hitar z.symm) (by obtain ⟨lr, hci⟩ := hI3; exact offK.m1 hci (kO_ne (by decide)))
        have hLn := hLg.fr0 f4
        have hRn := hR.fr0 f4
        have hq := hLn.2 i hi
        obtain ⟨hu, hv⟩ := lgL_at hi
        have hs8 := (hI.st hu).2
        generalize hfq : fl i = q at hq
        have hpe := rfl (a := (lgL g).getD i (0, 0))
        generalize hu0 : ((lgL g).getD i (0, 0)).1 = u at hq hu hv hs8
        generalize hv0 : ((lgL g).getD i (0, 0)).2 = v at hq hv
        refine VV.stk (st' := [.ref (q)]) rfl ?_
        refine V_ckS F dX3_free_41 q907 ⟨5, _, _, _, rfl, (.inl hq)⟩ ?_
        refine V_astore (i := 5) F dX3_free_44 (Nat.le_of_ble_eq_true rfl) (Nat.le_of_ble_eq_true rfl) ?_
        refine V_aload_n (i := 0) F dX3_free_46 rfl rfl ?_
        refine V_getf F dX3_free_47 fc_X3_12_X3 (.inl hRn.1) rfl ?_
        refine V_aload (i := 5) F dX3_free_50 rfl ?_
        refine V_callV (st := [.ref (tl)]) (nn := 0) F dX3_free_52 lk_X3_82 (ct_Leg_train hq) ⟨5, _, _, _, rfl, (.inl hq)⟩ rfl rfl (Nat.le_of_ble_eq_true rfl) (Nat.le_of_ble_eq_true rfl) (Nat.le_of_ble_eq_true rfl) (by first | exact Nat.le_of_ble_eq_true rfl | omega) (by first | exact Nat.le_of_ble_eq_true rfl | omega) ?_
        refine PRk ?_
        refine V_callF (st := []) (nn := 1) F dX3_free_55 ⟨lw_F q905 q473 q475 q111 q477, ⟨q472, List.mem_append_left _ q471, q476, q474, q387⟩, (by decide +kernel), (by decide +kernel)⟩ (ct_AL_get hRn.2.1 hu (by have := hI.2.2.1; omega)) ⟨18, _, _, _, rfl, (.inl hRn.2.1.1)⟩ rfl rfl (Nat.le_of_ble_eq_true rfl) (Nat.le_of_ble_eq_true rfl) (Nat.le_of_ble_eq_true rfl) (by first | exact Nat.le_of_ble_eq_true rfl | omega) (by first | exact Nat.le_of_ble_eq_true rfl | omega) ?_
        refine PRk ?_
        refine V_ckS F dX3_free_60 q906 ⟨4, _, _, _, rfl, (.inl (hRn.2.2 u hu).1)⟩ ?_
        refine V_aload (i := 5) F dX3_free_63 rfl ?_
        refine V_callV (st := [.ref ((x u))]) (nn := 0) F dX3_free_65 lk_X3_85 (ct_Leg_number hq) ⟨5, _, _, _, rfl, (.inl hq)⟩ rfl rfl (Nat.le_of_ble_eq_true rfl) (Nat.le_of_ble_eq_true rfl) (Nat.le_of_ble_eq_true rfl) (by first | exact Nat.le_of_ble_eq_true rfl | omega) (by first | exact Nat.le_of_ble_eq_true rfl | omega) ?_
        refine PRk ?_
        refine V_callV (st := []) (nn := 1) F dX3_free_68 lk_X3_88 (ct_TR_isFull (hRn.2.2 u hu) (by omega) hI.2.2.2.2.1 hI.b) ⟨4, _, _, _, rfl, (.inl (hRn.2.2 u hu).1)⟩ rfl rfl (Nat.le_of_ble_eq_true rfl) (Nat.le_of_ble_eq_true rfl) (Nat.le_of_ble_eq_true rfl) (by first | exact Nat.le_of_ble_eq_true rfl | omega) (by first | exact Nat.le_of_ble_eq_true rfl | omega) ?_
        refine PRk ?_
        refine V_if_neB (tgt := 125) F dX3_free_71 (by decide) (fun c_71 => ?_) (fun c_71 => ?_)
        · refine V_goto (tgt := 24) F dX3_free_125 (by decide) ?_
          refine VV.weak (L' := [some (.ref (tt)), none, some (.ref (o)), some (.ref (bd)), some (.ref (it)), none, none]) (LW.c1 (LW.c0 (LW.c1 (LW.c1 (LW.c1 (LW.c0 (LW.c0 LW.nil))))))) ?_
          have hpz : ¬ frB g ((lgL g).getD i (0, 0)) = true := by unfold frB; rw [hu0, hv0]; simpa using c_71
          have hfr := f4
          exact VV.wide (by omega) (by omega) (ih_24 (i + 1) _ S _ _ (by omega) (by omega) hI4 hfr hLa har0 p3 (by rw [take_succ_filter hi, if_neg hpz, List.append_nil]; exact hPm) hSo)
        · refine V_aload_n (i := 2) F dX3_free_74 rfl rfl ?_
          have hnf : ¬ (ldG g u v = g (16 + 36 * u + 0)) := c_71
          have hS8 : ∀ j, j < S.length → (S.getD j (0, 0)).2 < 8 := fun j hj => by
            have hz := hPm.subset (getD_mem (d := (0, 0)) hj)
            have hz2 := List.mem_of_mem_take (List.mem_filter.mp hz).1
            have hz3 := mem_lgL (g := g) (t := (S.getD j (0, 0)).1) (k := (S.getD j (0, 0)).2)
            have hz4 := hz3.mp hz2
            have hz5 := (hI.st hz4.1).2
            omega
          refine V_callF (st := []) (nn := 0) F dX3_free_75 ⟨lw_F q408 q388 q390 q111 q392, ⟨q386, List.mem_append_left _ q385, q391, q389, q387⟩, (by decide +kernel), (by decide +kernel)⟩ (ct_AL_size hLa.1) hLa.1.isC rfl rfl (Nat.le_of_ble_eq_true rfl) (Nat.le_of_ble_eq_true rfl) (Nat.le_of_ble_eq_true rfl) (by first | exact Nat.le_of_ble_eq_true rfl | omega) (by first | exact Nat.le_of_ble_eq_true rfl | omega) ?_
          refine PRk ?_
          refine V_istore (i := 6) F dX3_free_80 (Nat.le_of_ble_eq_true rfl) (Nat.le_of_ble_eq_true rfl) ?_
          have loop_82 : ∀ (nn : Nat) (m : Nat), m < nn → m ≤ S.length → (m < S.length → LvG g u v ≤ LvG g (S.getD m (0, 0)).1 (S.getD m (0, 0)).2) → VV G X 7 ((EQ G X (100) (6000) (fun r h2 => ∃ a ar f S, r = some (.ref a) ∧ h a = none ∧ h ar = none ∧ LGS G h2 a ar g S f ∧ Fr nM h h2 ∧ S.Perm ((lgL g).filter (frB g)) ∧ S.Pairwise (dpL g)))) hY1 (3 + 1 * i) (10 + 110 * i) [some (.ref (tt)), none, some (.ref (o)), some (.ref (bd)), some (.ref (it)), some (.ref (q)), some (.int (nI (m)))] [] 82 := by
            intro nn
            induction nn with
            | zero => intro m hm2 hmS hri; exact absurd hm2 (by omega)
            | succ nn ih_82 =>
              intro m hm2 hmS hri
              refine V_iload (i := 6) F dX3_free_82 rfl ?_
              refine V_if_leN (tgt := 115) F dX3_free_84 (by decide) (by omega) (fun c_84 => ?_) (fun c_84 => ?_)
              · have hle : 0 < m → LvG g (S.getD (m - 1) (0, 0)).1 (S.getD (m - 1) (0, 0)).2 ≤ LvG g u v := fun z => by omega
                refine V_aload_n (i := 2) F dX3_free_115 rfl rfl ?_
                refine V_iload (i := 6) F dX3_free_116 rfl ?_
                refine V_aload (i := 5) F dX3_free_118 rfl ?_
                refine VV.bs (fun hB9 => ?_)
                have hle9 : 0 < m → LvG g (S.getD (m - 1) (0, 0)).1 (S.getD (m - 1) (0, 0)).2 ≤ LvG g u v := fun z => by first | exact hle z | exact hle
                refine V_callF (st := []) (nn := 2) F dX3_free_120 ⟨lw_F q1824 q1827 q1829 q111 q1831, ⟨q1826, List.mem_append_left _ q1825, q1830, q1828, q387⟩, (by decide +kernel), (by decide +kernel)⟩ (ct_AL_addAt hLa.1 hmS (isO_leg hq) (by omega)) hLa.1.isC rfl rfl (Nat.le_of_ble_eq_true rfl) (Nat.le_of_ble_eq_true rfl) (Nat.le_of_ble_eq_true rfl) (by first | exact Nat.le_of_ble_eq_true rfl | omega) (by first | exact Nat.le_of_ble_eq_true rfl | omega) ?_
                rintro _ hY5 ⟨rfl, ar2, hA2, hx6, hq2⟩
                have hfr9 := f4
                have hLs := hLa.ins hB9 hmS hq hA2 hx6
                have har2 := hfr9.ar2 har0 hq2
                have hI5 := hI4.fr hx6 (fun z => z.elim (fun e => hito e) (fun e => hitar e))
                have hbd8 := hx6.get p3 ((offK.al hLa.1 hB9 (S := kO 17) (fun _ => rfl) (fun _ _ _ => rfl)).o p3) rfl
                have hfr8 : Fr nM h hY5 := hfr9.cal hx6 (Yo.m2 (Or.inr ho0) (Or.inr har0))
                have hsor := ins_sorted (r := dpL g) (x := (u, v)) (d := (0, 0)) hmS hSo (fun _ _ _ z1 z2 => Nat.le_trans z1 z2) (fun hz => hle9 hz) hri
                refine V_goto (tgt := 24) F dX3_free_125 (by decide) ?_
                refine VV.weak (L' := [some (.ref (tt)), none, some (.ref (o)), some (.ref (bd)), some (.ref (it)), none, none]) (LW.c1 (LW.c0 (LW.c1 (LW.c1 (LW.c1 (LW.c0 (LW.c0 LW.nil))))))) ?_
                have hpz : frB g ((lgL g).getD i (0, 0)) = true := by unfold frB; rw [hu0, hv0]; simpa using hnf
                refine VV.wide (by omega) (by omega) (ih_24 (i + 1) _ (S.take m ++ (u, v) :: S.drop m) _ _ (by omega) (by omega) hI5 hfr8 hLs har2 hbd8 ?_ ?_)
                · rw [take_succ_filter hi, if_pos hpz, show (lgL g).getD i (0, 0) = (u, v) by rw [← hu0, ← hv0]]
                  exact ins_perm.trans ((List.Perm.cons _ hPm).trans (List.perm_append_comm (l₁ := [(u, v)])))
                · exact hsor
              · refine V_aload_n (i := 3) F dX3_free_87 rfl rfl ?_
                refine V_aload_n (i := 2) F dX3_free_88 rfl rfl ?_
                refine V_iload (i := 6) F dX3_free_89 rfl ?_
                refine V_iconst (v := nI 1) F dX3_free_91 rfl ?_
                refine V_isubN F dX3_free_92 (by omega) ?_
                refine V_callF (st := [.ref (bd)]) (nn := 1) F dX3_free_93 ⟨lw_F q905 q473 q475 q111 q477, ⟨q472, List.mem_append_left _ q471, q476, q474, q387⟩, (by decide +kernel), (by decide +kernel)⟩ (ct_AL_get hLa.1 (k := m - 1) (by omega) (by omega)) hLa.1.isC rfl rfl (Nat.le_of_ble_eq_true rfl) (Nat.le_of_ble_eq_true rfl) (Nat.le_of_ble_eq_true rfl) (by first | exact Nat.le_of_ble_eq_true rfl | omega) (by first | exact Nat.le_of_ble_eq_true rfl | omega) ?_
                refine PRk ?_
                refine V_ckS F dX3_free_98 q907 ⟨5, _, _, _, rfl, (.inl (hLa.2 (m - 1) (by omega)))⟩ ?_
                refine V_aload (i := 5) F dX3_free_101 rfl ?_
                refine V_callV (st := []) (nn := 2) F dX3_free_103 lk_X3_92 (ct_BD_compare (hLa.2 (m - 1) (by omega)) hq (Nat.lt_trans (LvG_31 hI.b (hS8 _ (by omega))) (by decide)) (Nat.lt_trans (LvG_31 hI.b (by omega)) (by decide))) ⟨17, _, _, _, rfl, .inl p3⟩ rfl rfl (Nat.le_of_ble_eq_true rfl) (Nat.le_of_ble_eq_true rfl) (Nat.le_of_ble_eq_true rfl) (by first | exact Nat.le_of_ble_eq_true rfl | omega) (by first | exact Nat.le_of_ble_eq_true rfl | omega) ?_
                rintro _ _ ⟨cc, rfl, rfl, hc1, hc2⟩
                refine V_if_le (tgt := 115) F dX3_free_106 (by decide) (fun c_106 => ?_) (fun c_106 => ?_)
                · have hb1 := LvG_31 hI.b (t := (S.getD (m - 1) (0, 0)).1) (hS8 (m - 1) (by omega))
                  have hb2 := LvG_31 hI.b (t := u) (k := v) (by omega)
                  have hle : LvG g (S.getD (m - 1) (0, 0)).1 (S.getD (m - 1) (0, 0)).2 ≤ LvG g u v := by
                    by_cases e : LvG g (S.getD (m - 1) (0, 0)).1 (S.getD (m - 1) (0, 0)).2 = LvG g u v
                    · omega
                    · have hz := hc2 e; rw [hz, le_toInt, nI_subT (by omega) (by omega)] at c_106; have : (0 : Int32).toInt = 0 := rfl; omega
                  refine V_aload_n (i := 2) F dX3_free_115 rfl rfl ?_
                  refine V_iload (i := 6) F dX3_free_116 rfl ?_
                  refine V_aload (i := 5) F dX3_free_118 rfl ?_
                  refine VV.bs (fun hB9 => ?_)
                  have hle9 : 0 < m → LvG g (S.getD (m - 1) (0, 0)).1 (S.getD (m - 1) (0, 0)).2 ≤ LvG g u v := fun z => by first | exact hle z | exact hle
                  refine V_callF (st := []) (nn := 2) F dX3_free_120 ⟨lw_F q1824 q1827 q1829 q111 q1831, ⟨q1826, List.mem_append_left _ q1825, q1830, q1828, q387⟩, (by decide +kernel), (by decide +kernel)⟩ (ct_AL_addAt hLa.1 hmS (isO_leg hq) (by omega)) hLa.1.isC rfl rfl (Nat.le_of_ble_eq_true rfl) (Nat.le_of_ble_eq_true rfl) (Nat.le_of_ble_eq_true rfl) (by first | exact Nat.le_of_ble_eq_true rfl | omega) (by first | exact Nat.le_of_ble_eq_true rfl | omega) ?_
                  rintro _ hY7 ⟨rfl, ar2, hA2, hx8, hq2⟩
                  have hfr9 := f4
                  have hLs := hLa.ins hB9 hmS hq hA2 hx8
                  have har2 := hfr9.ar2 har0 hq2
                  have hI5 := hI4.fr hx8 (fun z => z.elim (fun e => hito e) (fun e => hitar e))
                  have hbd8 := hx8.get p3 ((offK.al hLa.1 hB9 (S := kO 17) (fun _ => rfl) (fun _ _ _ => rfl)).o p3) rfl
                  have hfr8 : Fr nM h hY7 := hfr9.cal hx8 (Yo.m2 (Or.inr ho0) (Or.inr har0))
                  have hsor := ins_sorted (r := dpL g) (x := (u, v)) (d := (0, 0)) hmS hSo (fun _ _ _ z1 z2 => Nat.le_trans z1 z2) (fun hz => hle9 hz) hri
                  refine V_goto (tgt := 24) F dX3_free_125 (by decide) ?_
                  refine VV.weak (L' := [some (.ref (tt)), none, some (.ref (o)), some (.ref (bd)), some (.ref (it)), none, none]) (LW.c1 (LW.c0 (LW.c1 (LW.c1 (LW.c1 (LW.c0 (LW.c0 LW.nil))))))) ?_
                  have hpz : frB g ((lgL g).getD i (0, 0)) = true := by unfold frB; rw [hu0, hv0]; simpa using hnf
                  refine VV.wide (by omega) (by omega) (ih_24 (i + 1) _ (S.take m ++ (u, v) :: S.drop m) _ _ (by omega) (by omega) hI5 hfr8 hLs har2 hbd8 ?_ ?_)
                  · rw [take_succ_filter hi, if_pos hpz, show (lgL g).getD i (0, 0) = (u, v) by rw [← hu0, ← hv0]]
                    exact ins_perm.trans ((List.Perm.cons _ hPm).trans (List.perm_append_comm (l₁ := [(u, v)])))
                  · exact hsor
                · have hb1 := LvG_31 hI.b (t := (S.getD (m - 1) (0, 0)).1) (hS8 (m - 1) (by omega))
                  have hb2 := LvG_31 hI.b (t := u) (k := v) (by omega)
                  have hgt : m - 1 < S.length → LvG g u v ≤ LvG g (S.getD (m - 1) (0, 0)).1 (S.getD (m - 1) (0, 0)).2 := fun _ => by
                    by_cases e : LvG g (S.getD (m - 1) (0, 0)).1 (S.getD (m - 1) (0, 0)).2 = LvG g u v
                    · omega
                    · have hz := hc2 e; rw [hz, le_toInt, nI_subT (by omega) (by omega)] at c_106; have : (0 : Int32).toInt = 0 := rfl; omega
                  refine V_iinc (i := 6) (v := nI (m - 1)) F dX3_free_109 rfl (nI_sub1 (by omega)) (Nat.le_of_ble_eq_true rfl) ?_
                  refine V_goto (tgt := 82) F dX3_free_112 (by decide) ?_
                  refine VV.weak (L' := [some (.ref (tt)), none, some (.ref (o)), some (.ref (bd)), some (.ref (it)), some (.ref (q)), some (.int (nI (m - 1)))]) (LW.c1 (LW.c0 (LW.c1 (LW.c1 (LW.c1 (LW.c1 (LW.c1 LW.nil))))))) ?_
                  exact ih_82 (m - 1) (by omega) (by omega) hgt
          refine VV.weak (L' := [some (.ref (tt)), none, some (.ref (o)), some (.ref (bd)), some (.ref (it)), some (.ref (q)), some (.int (nI (S.length)))]) (LW.c1 (LW.c0 (LW.c1 (LW.c1 (LW.c1 (LW.c1 (LW.c1 LW.nil))))))) ?_
          exact VV.wide (by omega) (by omega) (loop_82 (S.length + 1) S.length (Nat.lt_succ_self _) (Nat.le_refl _) (fun z => absurd z (Nat.lt_irrefl _)))
  refine VV.weak (L' := [some (.ref (tt)), none, some (.ref (o)), some (.ref (bd)), some (.ref (it)), none, none]) (LW.c1 (LW.c0 (LW.c1 (LW.c1 (LW.c1 (LW.c0 (LW.c0 LW.nil))))))) ?_
  have hfr := f7
  exact VV.wide (by omega) (by omega) (loop_24 ((lgL g).length + 1) 0 (ad G 1) [] (fun _ => 0) _ (by omega) (Nat.zero_le _) hIt hfr (LGS.nil (hAo.fr0 hchain)) (F.hb1 hB0) p6 (List.Perm.refl _) List.Pairwise.nil)
