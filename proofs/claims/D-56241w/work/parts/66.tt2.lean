theorem ct_TT_suitcaseLegs {G : GG} {l : Launch} {h : AH} {tt tl ta : Nat} {x : Nat → Nat} {A : Nat → Nat → Nat} {g : Nat → Nat}  (hR : RWr G h (tt, tl, ta, x, A) g) (hI : GW g)  : Ct G l yX3_suitcaseLegs cX3_suitcaseLegs 4 (some .int) 6 (50) (300) [.ref tt] h (fun r h2 => r = some (.int (nI ((lgL g).foldl (fun (a : Nat) (x : Nat × Nat) => a + (g (16 + 36 * x.1 + (28 + x.2)))) 0))) ∧ Fr nM h h2) := by
  refine Ct.of (by decide) (Nat.le_of_ble_eq_true rfl) (cat1 rfl) (fun X hXl F HN => ?_)
  subst hXl
  refine V_iconst (v := nI 0) F dX3_suitcaseLegs_0 rfl ?_
  refine V_istore_n (i := 1) F dX3_suitcaseLegs_1 rfl (Nat.le_of_ble_eq_true rfl) (Nat.le_of_ble_eq_true rfl) ?_
  refine V_aload_n (i := 0) F dX3_suitcaseLegs_2 rfl rfl ?_
  refine V_callV (st := []) (nn := 0) F dX3_suitcaseLegs_3 lk_X3_64 (ct_TT_iterator g) ⟨3, _, _, _, rfl, .inl (hR.fr0 (Fr.rf (M := nM) (h := h))).1⟩ rfl rfl (Nat.le_of_ble_eq_true rfl) (Nat.le_of_ble_eq_true rfl) (Nat.le_of_ble_eq_true rfl) (by first | exact Nat.le_of_ble_eq_true rfl | omega) (by first | exact Nat.le_of_ble_eq_true rfl | omega) ?_
  rintro _ hY1 ⟨it, rfl, hit1, hIt, hx2⟩
  have hit0 := (Fr.rf (M := nM) (h := h)).none hit1
  have f3 : Fr nM h hY1 := (Fr.rf (M := nM) (h := h)).cal0 hx2
  refine V_astore_n (i := 2) F dX3_suitcaseLegs_6 rfl (Nat.le_of_ble_eq_true rfl) (Nat.le_of_ble_eq_true rfl) ?_
  have loop_7 : ∀ (nn : Nat) (rest : List (Nat × Nat)) (c : Nat) (hh : AH), rest.length < nn → rest.length ≤ 42 → ITL hh it tt g rest → Fr nM h hh → rest.foldl (fun (a : Nat) (x : Nat × Nat) => a + (g (16 + 36 * x.1 + (28 + x.2)))) c = (lgL g).foldl (fun (a : Nat) (x : Nat × Nat) => a + (g (16 + 36 * x.1 + (28 + x.2)))) 0 → VV G X 4 ((EQ G X (50) (300) (fun r h2 => r = some (.int (nI ((lgL g).foldl (fun (a : Nat) (x : Nat × Nat) => a + (g (16 + 36 * x.1 + (28 + x.2)))) 0))) ∧ Fr nM h h2))) hh (0 + 1 + 1 * (42 - rest.length)) (0 + 3 + 6 * (42 - rest.length)) [some (.ref (tt)), some (.int (nI (c))), some (.ref (it)), none] [] 7 := by
    intro nn
    induction nn with
    | zero => intro rest c hh hm h42 hI3 hF hfo; exact absurd hm (by omega)
    | succ nn ih_7 =>
      intro rest c hh hm h42 hI3 hF hfo
      refine V_aload_n (i := 2) F dX3_suitcaseLegs_7 rfl rfl ?_
      refine V_callF (st := []) (nn := 0) F dX3_suitcaseLegs_8 ⟨lw_F q458 q462 q464 q157 q466, ⟨q460, List.mem_append_left _ q459, q465, q463, q461⟩, (by decide +kernel), (by decide +kernel)⟩ (ct_TI_hasNext (hR.fr0 hF) hI hI3) hI3.isC rfl rfl (Nat.le_of_ble_eq_true rfl) (Nat.le_of_ble_eq_true rfl) (Nat.le_of_ble_eq_true rfl) (by first | exact Nat.le_of_ble_eq_true rfl | omega) (by first | exact Nat.le_of_ble_eq_true rfl | omega) ?_
      rintro _ hY1 ⟨rfl, hN, hx2⟩
      have f3 : Fr nM h hY1 := hF.cal hx2 (Yo.m1 (Or.inr hit0))
      refine V_if_eqB (tgt := 56) F dX3_suitcaseLegs_13 (by decide) (fun c_13 => ?_) (fun c_13 => ?_)
      · obtain _ | ⟨p, xs⟩ := rest
        rotate_left
        · exact absurd (Nat.succ_pos _) c_13
        refine V_iload_n (i := 1) F dX3_suitcaseLegs_56 rfl rfl ?_
        rw [List.foldl_nil] at hfo
        have hfr := f3
        exact V_iret F dX3_suitcaseLegs_57 rfl (by first | exact Nat.le_of_ble_eq_true rfl | omega) (by first | exact Nat.le_of_ble_eq_true rfl | omega) ⟨by rw [← hfo], hfr⟩
      · obtain _ | ⟨⟨u, v⟩, xs⟩ := rest
        · exact absurd c_13 (Nat.lt_irrefl 0)
        obtain ⟨-, hu, hv, -⟩ := hN.hd
        have hs8 := (hI.st hu).2
        refine V_aload_n (i := 2) F dX3_suitcaseLegs_16 rfl rfl ?_
        refine V_callF (st := []) (nn := 0) F dX3_suitcaseLegs_17 ⟨lw_F q866 q869 q871 q157 q873, ⟨q868, List.mem_append_left _ q867, q872, q870, q461⟩, (by decide +kernel), (by decide +kernel)⟩ (ct_TI_next (hR.fr0 f3) hI hN.l) hN.l.isC rfl rfl (Nat.le_of_ble_eq_true rfl) (Nat.le_of_ble_eq_true rfl) (Nat.le_of_ble_eq_true rfl) (by first | exact Nat.le_of_ble_eq_true rfl | omega) (by first | exact Nat.le_of_ble_eq_true rfl | omega) ?_
        rintro _ hY4 ⟨q, rfl, hq0, hq, hI4, hx5⟩
        have f6 : Fr nM h hY4 := f3.cal hx5 (Yo.m1 (Or.inr hit0))
        have hRn := hR.fr0 f6
        obtain ⟨hxu, fu, hAu, e0, e1, e2, e3, e4⟩ := id (hRn.2.2 u hu)
        refine V_ckS F dX3_suitcaseLegs_22 q907 ⟨5, _, _, _, rfl, (.inl hq)⟩ ?_
        refine V_astore_n (i := 3) F dX3_suitcaseLegs_25 rfl (Nat.le_of_ble_eq_true rfl) (Nat.le_of_ble_eq_true rfl) ?_
        refine V_iload_n (i := 1) F dX3_suitcaseLegs_26 rfl rfl ?_
        refine V_aload_n (i := 0) F dX3_suitcaseLegs_27 rfl rfl ?_
        refine V_getf F dX3_suitcaseLegs_28 fc_X3_12_X3 (.inl hRn.1) rfl ?_
        refine V_aload_n (i := 3) F dX3_suitcaseLegs_31 rfl rfl ?_
        refine V_callV (st := [.ref (tl), .int (nI (c))]) (nn := 0) F dX3_suitcaseLegs_32 lk_X3_82 (ct_Leg_train hq) ⟨5, _, _, _, rfl, (.inl hq)⟩ rfl rfl (Nat.le_of_ble_eq_true rfl) (Nat.le_of_ble_eq_true rfl) (Nat.le_of_ble_eq_true rfl) (by first | exact Nat.le_of_ble_eq_true rfl | omega) (by first | exact Nat.le_of_ble_eq_true rfl | omega) ?_
        refine PRk ?_
        refine V_callF (st := [.int (nI (c))]) (nn := 1) F dX3_suitcaseLegs_35 ⟨lw_F q905 q473 q475 q111 q477, ⟨q472, List.mem_append_left _ q471, q476, q474, q387⟩, (by decide +kernel), (by decide +kernel)⟩ (ct_AL_get hRn.2.1 hu (by have := hI.2.2.1; omega)) ⟨18, _, _, _, rfl, (.inl hRn.2.1.1)⟩ rfl rfl (Nat.le_of_ble_eq_true rfl) (Nat.le_of_ble_eq_true rfl) (Nat.le_of_ble_eq_true rfl) (by first | exact Nat.le_of_ble_eq_true rfl | omega) (by first | exact Nat.le_of_ble_eq_true rfl | omega) ?_
        refine PRk ?_
        refine V_ckS F dX3_suitcaseLegs_40 q906 ⟨4, _, _, _, rfl, (.inl hxu)⟩ ?_
        refine V_getn F dX3_suitcaseLegs_43 fc_X3_105_X5 (.inl hxu) rfl ?_
        refine V_aload_n (i := 3) F dX3_suitcaseLegs_46 rfl rfl ?_
        refine V_callV (st := [.ref ((A u 3)), .int (nI (c))]) (nn := 0) F dX3_suitcaseLegs_47 lk_X3_85 (ct_Leg_number hq) ⟨5, _, _, _, rfl, (.inl hq)⟩ rfl rfl (Nat.le_of_ble_eq_true rfl) (Nat.le_of_ble_eq_true rfl) (Nat.le_of_ble_eq_true rfl) (by first | exact Nat.le_of_ble_eq_true rfl | omega) (by first | exact Nat.le_of_ble_eq_true rfl | omega) ?_
        refine PRk ?_
        refine V_ialdG F dX3_suitcaseLegs_50 (.inl (hAu 3 (by decide))) (by omega) (by decide) (e3 v (by omega)) ?_
        refine V_iaddN F dX3_suitcaseLegs_51 ?_
        refine V_istore_n (i := 1) F dX3_suitcaseLegs_52 rfl (Nat.le_of_ble_eq_true rfl) (Nat.le_of_ble_eq_true rfl) ?_
        refine V_goto (tgt := 7) F dX3_suitcaseLegs_53 (by decide) ?_
        refine VV.weak (L' := [some (.ref (tt)), some (.int (nI (c + (g (16 + 36 * u + (28 + v)))))), some (.ref (it)), none]) (LW.c1 (LW.c1 (LW.c1 (LW.c0 LW.nil)))) ?_
        have hfr := f6
        refine VV.wide ?_ ?_ (ih_7 xs (c + (g (16 + 36 * u + (28 + v)))) _ (by simp only [List.length_cons] at hm; omega) (by simp only [List.length_cons] at h42; omega) hI4 hfr ?_ )
        · simp only [List.length_cons] at h42 ⊢; omega
        · simp only [List.length_cons] at h42 ⊢; omega
        · simpa only [List.foldl_cons] using hfo
  refine VV.weak (L' := [some (.ref (tt)), some (.int (nI (0))), some (.ref (it)), none]) (LW.c1 (LW.c1 (LW.c1 (LW.c0 LW.nil)))) ?_
  have hfr := f3
  exact VV.wide (by omega) (by omega) (loop_7 ((lgL g).length + 1) (lgL g) 0 _ (Nat.lt_succ_self _) (lgL_len hI) hIt hfr rfl)
theorem ct_TT_loadTotal {G : GG} {l : Launch} {h : AH} {tt tl ta : Nat} {x : Nat → Nat} {A : Nat → Nat → Nat} {g : Nat → Nat}  (hR : RWr G h (tt, tl, ta, x, A) g) (hI : GW g)  : Ct G l yX3_loadTotal cX3_loadTotal 4 (some .int) 6 (50) (300) [.ref tt] h (fun r h2 => r = some (.int (nI ((lgL g).foldl (fun (a : Nat) (x : Nat × Nat) => a + (ldG g x.1 x.2)) 0))) ∧ Fr nM h h2) := by
  refine Ct.of (by decide) (Nat.le_of_ble_eq_true rfl) (cat1 rfl) (fun X hXl F HN => ?_)
  subst hXl
  refine V_iconst (v := nI 0) F dX3_loadTotal_0 rfl ?_
  refine V_istore_n (i := 1) F dX3_loadTotal_1 rfl (Nat.le_of_ble_eq_true rfl) (Nat.le_of_ble_eq_true rfl) ?_
  refine V_aload_n (i := 0) F dX3_loadTotal_2 rfl rfl ?_
  refine V_callV (st := []) (nn := 0) F dX3_loadTotal_3 lk_X3_64 (ct_TT_iterator g) ⟨3, _, _, _, rfl, .inl (hR.fr0 (Fr.rf (M := nM) (h := h))).1⟩ rfl rfl (Nat.le_of_ble_eq_true rfl) (Nat.le_of_ble_eq_true rfl) (Nat.le_of_ble_eq_true rfl) (by first | exact Nat.le_of_ble_eq_true rfl | omega) (by first | exact Nat.le_of_ble_eq_true rfl | omega) ?_
  rintro _ hY1 ⟨it, rfl, hit1, hIt, hx2⟩
  have hit0 := (Fr.rf (M := nM) (h := h)).none hit1
  have f3 : Fr nM h hY1 := (Fr.rf (M := nM) (h := h)).cal0 hx2
  refine V_astore_n (i := 2) F dX3_loadTotal_6 rfl (Nat.le_of_ble_eq_true rfl) (Nat.le_of_ble_eq_true rfl) ?_
  have loop_7 : ∀ (nn : Nat) (rest : List (Nat × Nat)) (c : Nat) (hh : AH), rest.length < nn → rest.length ≤ 42 → ITL hh it tt g rest → Fr nM h hh → rest.foldl (fun (a : Nat) (x : Nat × Nat) => a + (ldG g x.1 x.2)) c = (lgL g).foldl (fun (a : Nat) (x : Nat × Nat) => a + (ldG g x.1 x.2)) 0 → VV G X 4 ((EQ G X (50) (300) (fun r h2 => r = some (.int (nI ((lgL g).foldl (fun (a : Nat) (x : Nat × Nat) => a + (ldG g x.1 x.2)) 0))) ∧ Fr nM h h2))) hh (0 + 1 + 1 * (42 - rest.length)) (0 + 3 + 6 * (42 - rest.length)) [some (.ref (tt)), some (.int (nI (c))), some (.ref (it)), none] [] 7 := by
    intro nn
    induction nn with
    | zero => intro rest c hh hm h42 hI3 hF hfo; exact absurd hm (by omega)
    | succ nn ih_7 =>
      intro rest c hh hm h42 hI3 hF hfo
      refine V_aload_n (i := 2) F dX3_loadTotal_7 rfl rfl ?_
      refine V_callF (st := []) (nn := 0) F dX3_loadTotal_8 ⟨lw_F q458 q462 q464 q157 q466, ⟨q460, List.mem_append_left _ q459, q465, q463, q461⟩, (by decide +kernel), (by decide +kernel)⟩ (ct_TI_hasNext (hR.fr0 hF) hI hI3) hI3.isC rfl rfl (Nat.le_of_ble_eq_true rfl) (Nat.le_of_ble_eq_true rfl) (Nat.le_of_ble_eq_true rfl) (by first | exact Nat.le_of_ble_eq_true rfl | omega) (by first | exact Nat.le_of_ble_eq_true rfl | omega) ?_
      rintro _ hY1 ⟨rfl, hN, hx2⟩
      have f3 : Fr nM h hY1 := hF.cal hx2 (Yo.m1 (Or.inr hit0))
      refine V_if_eqB (tgt := 55) F dX3_loadTotal_13 (by decide) (fun c_13 => ?_) (fun c_13 => ?_)
      · obtain _ | ⟨p, xs⟩ := rest
        rotate_left
        · exact absurd (Nat.succ_pos _) c_13
        refine V_iload_n (i := 1) F dX3_loadTotal_55 rfl rfl ?_
        rw [List.foldl_nil] at hfo
        have hfr := f3
        exact V_iret F dX3_loadTotal_56 rfl (by first | exact Nat.le_of_ble_eq_true rfl | omega) (by first | exact Nat.le_of_ble_eq_true rfl | omega) ⟨by rw [← hfo], hfr⟩
      · obtain _ | ⟨⟨u, v⟩, xs⟩ := rest
        · exact absurd c_13 (Nat.lt_irrefl 0)
        obtain ⟨-, hu, hv, -⟩ := hN.hd
        have hs8 := (hI.st hu).2
        refine V_aload_n (i := 2) F dX3_loadTotal_16 rfl rfl ?_
        refine V_callF (st := []) (nn := 0) F dX3_loadTotal_17 ⟨lw_F q866 q869 q871 q157 q873, ⟨q868, List.mem_append_left _ q867, q872, q870, q461⟩, (by decide +kernel), (by decide +kernel)⟩ (ct_TI_next (hR.fr0 f3) hI hN.l) hN.l.isC rfl rfl (Nat.le_of_ble_eq_true rfl) (Nat.le_of_ble_eq_true rfl) (Nat.le_of_ble_eq_true rfl) (by first | exact Nat.le_of_ble_eq_true rfl | omega) (by first | exact Nat.le_of_ble_eq_true rfl | omega) ?_
        rintro _ hY4 ⟨q, rfl, hq0, hq, hI4, hx5⟩
        have f6 : Fr nM h hY4 := f3.cal hx5 (Yo.m1 (Or.inr hit0))
        have hRn := hR.fr0 f6
        obtain ⟨hxu, fu, hAu, e0, e1, e2, e3, e4⟩ := id (hRn.2.2 u hu)
        refine V_ckS F dX3_loadTotal_22 q907 ⟨5, _, _, _, rfl, (.inl hq)⟩ ?_
        refine V_astore_n (i := 3) F dX3_loadTotal_25 rfl (Nat.le_of_ble_eq_true rfl) (Nat.le_of_ble_eq_true rfl) ?_
        refine V_iload_n (i := 1) F dX3_loadTotal_26 rfl rfl ?_
        refine V_aload_n (i := 0) F dX3_loadTotal_27 rfl rfl ?_
        refine V_getf F dX3_loadTotal_28 fc_X3_12_X3 (.inl hRn.1) rfl ?_
        refine V_aload_n (i := 3) F dX3_loadTotal_31 rfl rfl ?_
        refine V_callV (st := [.ref (tl), .int (nI (c))]) (nn := 0) F dX3_loadTotal_32 lk_X3_82 (ct_Leg_train hq) ⟨5, _, _, _, rfl, (.inl hq)⟩ rfl rfl (Nat.le_of_ble_eq_true rfl) (Nat.le_of_ble_eq_true rfl) (Nat.le_of_ble_eq_true rfl) (by first | exact Nat.le_of_ble_eq_true rfl | omega) (by first | exact Nat.le_of_ble_eq_true rfl | omega) ?_
        refine PRk ?_
        refine V_callF (st := [.int (nI (c))]) (nn := 1) F dX3_loadTotal_35 ⟨lw_F q905 q473 q475 q111 q477, ⟨q472, List.mem_append_left _ q471, q476, q474, q387⟩, (by decide +kernel), (by decide +kernel)⟩ (ct_AL_get hRn.2.1 hu (by have := hI.2.2.1; omega)) ⟨18, _, _, _, rfl, (.inl hRn.2.1.1)⟩ rfl rfl (Nat.le_of_ble_eq_true rfl) (Nat.le_of_ble_eq_true rfl) (Nat.le_of_ble_eq_true rfl) (by first | exact Nat.le_of_ble_eq_true rfl | omega) (by first | exact Nat.le_of_ble_eq_true rfl | omega) ?_
        refine PRk ?_
        refine V_ckS F dX3_loadTotal_40 q906 ⟨4, _, _, _, rfl, (.inl hxu)⟩ ?_
        refine V_aload_n (i := 3) F dX3_loadTotal_43 rfl rfl ?_
        refine V_callV (st := [.ref ((x u)), .int (nI (c))]) (nn := 0) F dX3_loadTotal_44 lk_X3_85 (ct_Leg_number hq) ⟨5, _, _, _, rfl, (.inl hq)⟩ rfl rfl (Nat.le_of_ble_eq_true rfl) (Nat.le_of_ble_eq_true rfl) (Nat.le_of_ble_eq_true rfl) (by first | exact Nat.le_of_ble_eq_true rfl | omega) (by first | exact Nat.le_of_ble_eq_true rfl | omega) ?_
        refine PRk ?_
        refine V_callV (st := [.int (nI (c))]) (nn := 1) F dX3_loadTotal_47 lk_X3_102 (ct_TR_load (hRn.2.2 u hu) (by omega)) ⟨4, _, _, _, rfl, (.inl hxu)⟩ rfl rfl (Nat.le_of_ble_eq_true rfl) (Nat.le_of_ble_eq_true rfl) (Nat.le_of_ble_eq_true rfl) (by first | exact Nat.le_of_ble_eq_true rfl | omega) (by first | exact Nat.le_of_ble_eq_true rfl | omega) ?_
        refine PRk ?_
        refine V_iaddN F dX3_loadTotal_50 ?_
        refine V_istore_n (i := 1) F dX3_loadTotal_51 rfl (Nat.le_of_ble_eq_true rfl) (Nat.le_of_ble_eq_true rfl) ?_
        refine V_goto (tgt := 7) F dX3_loadTotal_52 (by decide) ?_
        refine VV.weak (L' := [some (.ref (tt)), some (.int (nI (c + (ldG g u v)))), some (.ref (it)), none]) (LW.c1 (LW.c1 (LW.c1 (LW.c0 LW.nil)))) ?_
        have hfr := f6
        refine VV.wide ?_ ?_ (ih_7 xs (c + (ldG g u v)) _ (by simp only [List.length_cons] at hm; omega) (by simp only [List.length_cons] at h42; omega) hI4 hfr ?_ )
        · simp only [List.length_cons] at h42 ⊢; omega
        · simp only [List.length_cons] at h42 ⊢; omega
        · simpa only [List.foldl_cons] using hfo
  refine VV.weak (L' := [some (.ref (tt)), some (.int (nI (0))), some (.ref (it)), none]) (LW.c1 (LW.c1 (LW.c1 (LW.c0 LW.nil)))) ?_
  have hfr := f3
  exact VV.wide (by omega) (by omega) (loop_7 ((lgL g).length + 1) (lgL g) 0 _ (Nat.lt_succ_self _) (lgL_len hI) hIt hfr rfl)
theorem ct_TT_fullCount {G : GG} {l : Launch} {h : AH} {tt tl ta : Nat} {x : Nat → Nat} {A : Nat → Nat → Nat} {g : Nat → Nat}  (hR : RWr G h (tt, tl, ta, x, A) g) (hI : GW g)  : Ct G l yX3_fullCount cX3_fullCount 4 (some .int) 6 (50) (300) [.ref tt] h (fun r h2 => r = some (.int (nI ((lgL g).foldl (fun (a : Nat) (x : Nat × Nat) => a + (if ldG g x.1 x.2 = g (16 + 36 * x.1 + 0) then 1 else 0)) 0))) ∧ Fr nM h h2) := by
  refine Ct.of (by decide) (Nat.le_of_ble_eq_true rfl) (cat1 rfl) (fun X hXl F HN => ?_)
  subst hXl
  refine V_iconst (v := nI 0) F dX3_fullCount_0 rfl ?_
  refine V_istore_n (i := 1) F dX3_fullCount_1 rfl (Nat.le_of_ble_eq_true rfl) (Nat.le_of_ble_eq_true rfl) ?_
  refine V_aload_n (i := 0) F dX3_fullCount_2 rfl rfl ?_
  refine V_callV (st := []) (nn := 0) F dX3_fullCount_3 lk_X3_64 (ct_TT_iterator g) ⟨3, _, _, _, rfl, .inl (hR.fr0 (Fr.rf (M := nM) (h := h))).1⟩ rfl rfl (Nat.le_of_ble_eq_true rfl) (Nat.le_of_ble_eq_true rfl) (Nat.le_of_ble_eq_true rfl) (by first | exact Nat.le_of_ble_eq_true rfl | omega) (by first | exact Nat.le_of_ble_eq_true rfl | omega) ?_
  rintro _ hY1 ⟨it, rfl, hit1, hIt, hx2⟩
  have hit0 := (Fr.rf (M := nM) (h := h)).none hit1
  have f3 : Fr nM h hY1 := (Fr.rf (M := nM) (h := h)).cal0 hx2
  refine V_astore_n (i := 2) F dX3_fullCount_6 rfl (Nat.le_of_ble_eq_true rfl) (Nat.le_of_ble_eq_true rfl) ?_
  have loop_7 : ∀ (nn : Nat) (rest : List (Nat × Nat)) (c : Nat) (hh : AH), rest.length < nn → rest.length ≤ 42 → ITL hh it tt g rest → Fr nM h hh → rest.foldl (fun (a : Nat) (x : Nat × Nat) => a + (if ldG g x.1 x.2 = g (16 + 36 * x.1 + 0) then 1 else 0)) c = (lgL g).foldl (fun (a : Nat) (x : Nat × Nat) => a + (if ldG g x.1 x.2 = g (16 + 36 * x.1 + 0) then 1 else 0)) 0 → VV G X 4 ((EQ G X (50) (300) (fun r h2 => r = some (.int (nI ((lgL g).foldl (fun (a : Nat) (x : Nat × Nat) => a + (if ldG g x.1 x.2 = g (16 + 36 * x.1 + 0) then 1 else 0)) 0))) ∧ Fr nM h h2))) hh (0 + 1 + 1 * (42 - rest.length)) (0 + 3 + 6 * (42 - rest.length)) [some (.ref (tt)), some (.int (nI (c))), some (.ref (it)), none] [] 7 := by
    intro nn
    induction nn with
    | zero => intro rest c hh hm h42 hI3 hF hfo; exact absurd hm (by omega)
    | succ nn ih_7 =>
      intro rest c hh hm h42 hI3 hF hfo
      refine V_aload_n (i := 2) F dX3_fullCount_7 rfl rfl ?_
      refine V_callF (st := []) (nn := 0) F dX3_fullCount_8 ⟨lw_F q458 q462 q464 q157 q466, ⟨q460, List.mem_append_left _ q459, q465, q463, q461⟩, (by decide +kernel), (by decide +kernel)⟩ (ct_TI_hasNext (hR.fr0 hF) hI hI3) hI3.isC rfl rfl (Nat.le_of_ble_eq_true rfl) (Nat.le_of_ble_eq_true rfl) (Nat.le_of_ble_eq_true rfl) (by first | exact Nat.le_of_ble_eq_true rfl | omega) (by first | exact Nat.le_of_ble_eq_true rfl | omega) ?_
      rintro _ hY1 ⟨rfl, hN, hx2⟩
      have f3 : Fr nM h hY1 := hF.cal hx2 (Yo.m1 (Or.inr hit0))
      refine V_if_eqB (tgt := 63) F dX3_fullCount_13 (by decide) (fun c_13 => ?_) (fun c_13 => ?_)
      · obtain _ | ⟨p, xs⟩ := rest
        rotate_left
        · exact absurd (Nat.succ_pos _) c_13
        refine V_iload_n (i := 1) F dX3_fullCount_63 rfl rfl ?_
        rw [List.foldl_nil] at hfo
        have hfr := f3
        exact V_iret F dX3_fullCount_64 rfl (by first | exact Nat.le_of_ble_eq_true rfl | omega) (by first | exact Nat.le_of_ble_eq_true rfl | omega) ⟨by rw [← hfo], hfr⟩
      · obtain _ | ⟨⟨u, v⟩, xs⟩ := rest
        · exact absurd c_13 (Nat.lt_irrefl 0)
        obtain ⟨-, hu, hv, -⟩ := hN.hd
        have hs8 := (hI.st hu).2
        refine V_aload_n (i := 2) F dX3_fullCount_16 rfl rfl ?_
        refine V_callF (st := []) (nn := 0) F dX3_fullCount_17 ⟨lw_F q866 q869 q871 q157 q873, ⟨q868, List.mem_append_left _ q867, q872, q870, q461⟩, (by decide +kernel), (by decide +kernel)⟩ (ct_TI_next (hR.fr0 f3) hI hN.l) hN.l.isC rfl rfl (Nat.le_of_ble_eq_true rfl) (Nat.le_of_ble_eq_true rfl) (Nat.le_of_ble_eq_true rfl) (by first | exact Nat.le_of_ble_eq_true rfl | omega) (by first | exact Nat.le_of_ble_eq_true rfl | omega) ?_
        rintro _ hY4 ⟨q, rfl, hq0, hq, hI4, hx5⟩
        have f6 : Fr nM h hY4 := f3.cal hx5 (Yo.m1 (Or.inr hit0))
        have hRn := hR.fr0 f6
        obtain ⟨hxu, fu, hAu, e0, e1, e2, e3, e4⟩ := id (hRn.2.2 u hu)
        refine V_ckS F dX3_fullCount_22 q907 ⟨5, _, _, _, rfl, (.inl hq)⟩ ?_
        refine V_astore_n (i := 3) F dX3_fullCount_25 rfl (Nat.le_of_ble_eq_true rfl) (Nat.le_of_ble_eq_true rfl) ?_
        refine V_iload_n (i := 1) F dX3_fullCount_26 rfl rfl ?_
        refine V_aload_n (i := 0) F dX3_fullCount_27 rfl rfl ?_
        refine V_getf F dX3_fullCount_28 fc_X3_12_X3 (.inl hRn.1) rfl ?_
        refine V_aload_n (i := 3) F dX3_fullCount_31 rfl rfl ?_
        refine V_callV (st := [.ref (tl), .int (nI (c))]) (nn := 0) F dX3_fullCount_32 lk_X3_82 (ct_Leg_train hq) ⟨5, _, _, _, rfl, (.inl hq)⟩ rfl rfl (Nat.le_of_ble_eq_true rfl) (Nat.le_of_ble_eq_true rfl) (Nat.le_of_ble_eq_true rfl) (by first | exact Nat.le_of_ble_eq_true rfl | omega) (by first | exact Nat.le_of_ble_eq_true rfl | omega) ?_
        refine PRk ?_
        refine V_callF (st := [.int (nI (c))]) (nn := 1) F dX3_fullCount_35 ⟨lw_F q905 q473 q475 q111 q477, ⟨q472, List.mem_append_left _ q471, q476, q474, q387⟩, (by decide +kernel), (by decide +kernel)⟩ (ct_AL_get hRn.2.1 hu (by have := hI.2.2.1; omega)) ⟨18, _, _, _, rfl, (.inl hRn.2.1.1)⟩ rfl rfl (Nat.le_of_ble_eq_true rfl) (Nat.le_of_ble_eq_true rfl) (Nat.le_of_ble_eq_true rfl) (by first | exact Nat.le_of_ble_eq_true rfl | omega) (by first | exact Nat.le_of_ble_eq_true rfl | omega) ?_
        refine PRk ?_
        refine V_ckS F dX3_fullCount_40 q906 ⟨4, _, _, _, rfl, (.inl hxu)⟩ ?_
        refine V_aload_n (i := 3) F dX3_fullCount_43 rfl rfl ?_
        refine V_callV (st := [.ref ((x u)), .int (nI (c))]) (nn := 0) F dX3_fullCount_44 lk_X3_85 (ct_Leg_number hq) ⟨5, _, _, _, rfl, (.inl hq)⟩ rfl rfl (Nat.le_of_ble_eq_true rfl) (Nat.le_of_ble_eq_true rfl) (Nat.le_of_ble_eq_true rfl) (by first | exact Nat.le_of_ble_eq_true rfl | omega) (by first | exact Nat.le_of_ble_eq_true rfl | omega) ?_
        refine PRk ?_
        refine V_callV (st := [.int (nI (c))]) (nn := 1) F dX3_fullCount_47 lk_X3_88 (ct_TR_isFull (hRn.2.2 u hu) (by omega) hI.2.2.2.2.1 hI.b) ⟨4, _, _, _, rfl, (.inl hxu)⟩ rfl rfl (Nat.le_of_ble_eq_true rfl) (Nat.le_of_ble_eq_true rfl) (Nat.le_of_ble_eq_true rfl) (by first | exact Nat.le_of_ble_eq_true rfl | omega) (by first | exact Nat.le_of_ble_eq_true rfl | omega) ?_
        refine PRk ?_
        refine V_if_eqB (tgt := 57) F dX3_fullCount_50 (by decide) (fun c_50 => ?_) (fun c_50 => ?_)
        · refine V_iconst (v := nI 0) F dX3_fullCount_57 rfl ?_
          refine V_iaddN F dX3_fullCount_58 ?_
          refine V_istore_n (i := 1) F dX3_fullCount_59 rfl (Nat.le_of_ble_eq_true rfl) (Nat.le_of_ble_eq_true rfl) ?_
          refine V_goto (tgt := 7) F dX3_fullCount_60 (by decide) ?_
          refine VV.weak (L' := [some (.ref (tt)), some (.int (nI (c + 0))), some (.ref (it)), none]) (LW.c1 (LW.c1 (LW.c1 (LW.c0 LW.nil)))) ?_
          have hfr := f6
          refine VV.wide ?_ ?_ (ih_7 xs (c + 0) _ (by simp only [List.length_cons] at hm; omega) (by simp only [List.length_cons] at h42; omega) hI4 hfr ?_ )
          · simp only [List.length_cons] at h42 ⊢; omega
          · simp only [List.length_cons] at h42 ⊢; omega
          · rw [List.foldl_cons, if_neg c_50] at hfo; exact hfo
        · refine V_iconst (v := nI 1) F dX3_fullCount_53 rfl ?_
          refine V_goto (tgt := 58) F dX3_fullCount_54 (by decide) ?_
          refine V_iaddN F dX3_fullCount_58 ?_
          refine V_istore_n (i := 1) F dX3_fullCount_59 rfl (Nat.le_of_ble_eq_true rfl) (Nat.le_of_ble_eq_true rfl) ?_
          refine V_goto (tgt := 7) F dX3_fullCount_60 (by decide) ?_
          refine VV.weak (L' := [some (.ref (tt)), some (.int (nI (c + 1))), some (.ref (it)), none]) (LW.c1 (LW.c1 (LW.c1 (LW.c0 LW.nil)))) ?_
          have hfr := f6
          refine VV.wide ?_ ?_ (ih_7 xs (c + 1) _ (by simp only [List.length_cons] at hm; omega) (by simp only [List.length_cons] at h42; omega) hI4 hfr ?_ )
          · simp only [List.length_cons] at h42 ⊢; omega
          · simp only [List.length_cons] at h42 ⊢; omega
          · rw [List.foldl_cons, if_pos c_50] at hfo; exact hfo
  refine VV.weak (L' := [some (.ref (tt)), some (.int (nI (0))), some (.ref (it)), none]) (LW.c1 (LW.c1 (LW.c1 (LW.c0 LW.nil)))) ?_
  have hfr := f3
  exact VV.wide (by omega) (by omega) (loop_7 ((lgL g).length + 1) (lgL g) 0 _ (Nat.lt_succ_self _) (lgL_len hI) hIt hfr rfl)
theorem ct_TT_nextTrain {G : GG} {l : Launch} {h : AH} {tt tl ta : Nat} {x : Nat → Nat} {A : Nat → Nat → Nat} {g : Nat → Nat} {s0 m0 : Nat}  (hR : RWr G h (tt, tl, ta, x, A) g) (hI : GW g) (hs31 : s0 < 2 ^ 31) (hm31 : m0 < 2 ^ 31) : Ct G l yX3_nextTrain cX3_nextTrain 7 (some .int) 6 (50) (300) [.ref tt, .int (nI s0), .int (nI m0)] h (fun r h2 => r = some (.int (rP ((lgL g).foldl (fun (a : Nat × Nat) (x : Nat × Nat) => if plG g x.1 x.2 = s0 ∧ m0 ≤ LvG g x.1 x.2 ∧ LvG g x.1 x.2 < a.2 then (x.1 + 1, LvG g x.1 x.2) else a) (0, 1000000)).1)) ∧ Fr nM h h2) := by
  refine Ct.of (by decide) (Nat.le_of_ble_eq_true rfl) (cat1 rfl) (fun X hXl F HN => ?_)
  subst hXl
  refine V_iconst (v := -1) F dX3_nextTrain_0 rfl ?_
  refine V_istore_n (i := 3) F dX3_nextTrain_1 rfl (Nat.le_of_ble_eq_true rfl) (Nat.le_of_ble_eq_true rfl) ?_
  refine V_ldc (v := nI 1000000) F dX3_nextTrain_2 q2842 ?_
  refine V_istore (i := 4) F dX3_nextTrain_4 (Nat.le_of_ble_eq_true rfl) (Nat.le_of_ble_eq_true rfl) ?_
  refine V_aload_n (i := 0) F dX3_nextTrain_6 rfl rfl ?_
  refine V_callV (st := []) (nn := 0) F dX3_nextTrain_7 lk_X3_64 (ct_TT_iterator g) ⟨3, _, _, _, rfl, .inl (hR.fr0 (Fr.rf (M := nM) (h := h))).1⟩ rfl rfl (Nat.le_of_ble_eq_true rfl) (Nat.le_of_ble_eq_true rfl) (Nat.le_of_ble_eq_true rfl) (by first | exact Nat.le_of_ble_eq_true rfl | omega) (by first | exact Nat.le_of_ble_eq_true rfl | omega) ?_
  rintro _ hY1 ⟨it, rfl, hit1, hIt, hx2⟩
  have hit0 := (Fr.rf (M := nM) (h := h)).none hit1
  have f3 : Fr nM h hY1 := (Fr.rf (M := nM) (h := h)).cal0 hx2
  refine V_astore (i := 5) F dX3_nextTrain_10 (Nat.le_of_ble_eq_true rfl) (Nat.le_of_ble_eq_true rfl) ?_
  have loop_12 : ∀ (nn : Nat) (rest : List (Nat × Nat)) (c : Nat) (b : Nat) (hh : AH), rest.length < nn → rest.length ≤ 42 → ITL hh it tt g rest → Fr nM h hh → rest.foldl (fun (a : Nat × Nat) (x : Nat × Nat) => if plG g x.1 x.2 = s0 ∧ m0 ≤ LvG g x.1 x.2 ∧ LvG g x.1 x.2 < a.2 then (x.1 + 1, LvG g x.1 x.2) else a) (c, b) = (lgL g).foldl (fun (a : Nat × Nat) (x : Nat × Nat) => if plG g x.1 x.2 = s0 ∧ m0 ≤ LvG g x.1 x.2 ∧ LvG g x.1 x.2 < a.2 then (x.1 + 1, LvG g x.1 x.2) else a) (0, 1000000) → b < 2 ^ 31 → VV G X 7 ((EQ G X (50) (300) (fun r h2 => r = some (.int (rP ((lgL g).foldl (fun (a : Nat × Nat) (x : Nat × Nat) => if plG g x.1 x.2 = s0 ∧ m0 ≤ LvG g x.1 x.2 ∧ LvG g x.1 x.2 < a.2 then (x.1 + 1, LvG g x.1 x.2) else a) (0, 1000000)).1)) ∧ Fr nM h h2))) hh (0 + 1 + 1 * (42 - rest.length)) (0 + 3 + 6 * (42 - rest.length)) [some (.ref (tt)), some (.int (nI (s0))), some (.int (nI (m0))), some (.int (rP c)), some (.int (nI (b))), some (.ref (it)), none] [] 12 := by
    intro nn
    induction nn with
    | zero => intro rest c b hh hm h42 hI3 hF hfo hb9; exact absurd hm (by omega)
    | succ nn ih_12 =>
      intro rest c b hh hm h42 hI3 hF hfo hb9
      refine V_aload (i := 5) F dX3_nextTrain_12 rfl ?_
      refine V_callF (st := []) (nn := 0) F dX3_nextTrain_14 ⟨lw_F q458 q462 q464 q157 q466, ⟨q460, List.mem_append_left _ q459, q465, q463, q461⟩, (by decide +kernel), (by decide +kernel)⟩ (ct_TI_hasNext (hR.fr0 hF) hI hI3) hI3.isC rfl rfl (Nat.le_of_ble_eq_true rfl) (Nat.le_of_ble_eq_true rfl) (Nat.le_of_ble_eq_true rfl) (by first | exact Nat.le_of_ble_eq_true rfl | omega) (by first | exact Nat.le_of_ble_eq_true rfl | omega) ?_
      rintro _ hY1 ⟨rfl, hN, hx2⟩
      have f3 : Fr nM h hY1 := hF.cal hx2 (Yo.m1 (Or.inr hit0))
      refine V_if_eqB (tgt := 78) F dX3_nextTrain_19 (by decide) (fun c_19 => ?_) (fun c_19 => ?_)
      · obtain _ | ⟨p, xs⟩ := rest
        rotate_left
        · exact absurd (Nat.succ_pos _) c_19
        refine V_iload_n (i := 3) F dX3_nextTrain_78 rfl rfl ?_
        rw [List.foldl_nil] at hfo
        have hfr := f3
        exact V_iret F dX3_nextTrain_79 rfl (by first | exact Nat.le_of_ble_eq_true rfl | omega) (by first | exact Nat.le_of_ble_eq_true rfl | omega) ⟨by rw [← hfo], hfr⟩
      · obtain _ | ⟨⟨u, v⟩, xs⟩ := rest
        · exact absurd c_19 (Nat.lt_irrefl 0)
        obtain ⟨-, hu, hv, -⟩ := hN.hd
        have hs8 := (hI.st hu).2
        refine V_aload (i := 5) F dX3_nextTrain_22 rfl ?_
        refine V_callF (st := []) (nn := 0) F dX3_nextTrain_24 ⟨lw_F q866 q869 q871 q157 q873, ⟨q868, List.mem_append_left _ q867, q872, q870, q461⟩, (by decide +kernel), (by decide +kernel)⟩ (ct_TI_next (hR.fr0 f3) hI hN.l) hN.l.isC rfl rfl (Nat.le_of_ble_eq_true rfl) (Nat.le_of_ble_eq_true rfl) (Nat.le_of_ble_eq_true rfl) (by first | exact Nat.le_of_ble_eq_true rfl | omega) (by first | exact Nat.le_of_ble_eq_true rfl | omega) ?_
        rintro _ hY4 ⟨q, rfl, hq0, hq, hI4, hx5⟩
        have f6 : Fr nM h hY4 := f3.cal hx5 (Yo.m1 (Or.inr hit0))
        have hRn := hR.fr0 f6
        obtain ⟨hxu, fu, hAu, e0, e1, e2, e3, e4⟩ := id (hRn.2.2 u hu)
        refine V_ckS F dX3_nextTrain_29 q907 ⟨5, _, _, _, rfl, (.inl hq)⟩ ?_
        refine V_astore (i := 6) F dX3_nextTrain_32 (Nat.le_of_ble_eq_true rfl) (Nat.le_of_ble_eq_true rfl) ?_
        refine V_aload (i := 6) F dX3_nextTrain_34 rfl ?_
        refine V_callV (st := []) (nn := 0) F dX3_nextTrain_36 lk_X3_109 (ct_Leg_from hq) ⟨5, _, _, _, rfl, (.inl hq)⟩ rfl rfl (Nat.le_of_ble_eq_true rfl) (Nat.le_of_ble_eq_true rfl) (Nat.le_of_ble_eq_true rfl) (by first | exact Nat.le_of_ble_eq_true rfl | omega) (by first | exact Nat.le_of_ble_eq_true rfl | omega) ?_
        refine PRk ?_
        refine V_iload_n (i := 1) F dX3_nextTrain_39 rfl rfl ?_
        refine V_icmp_neN (tgt := 75) F dX3_nextTrain_40 (by decide) (Nat.lt_trans (hI.b _) (by decide)) hs31 (fun c_40 => ?_) (fun c_40 => ?_)
        · refine V_goto (tgt := 12) F dX3_nextTrain_75 (by decide) ?_
          refine VV.weak (L' := [some (.ref (tt)), some (.int (nI (s0))), some (.int (nI (m0))), some (.int (rP c)), some (.int (nI (b))), some (.ref (it)), none]) (LW.c1 (LW.c1 (LW.c1 (LW.c1 (LW.c1 (LW.c1 (LW.c0 LW.nil))))))) ?_
          have hfr := f6
          have hl31 : LvG g u v < 2 ^ 25 := LvG_31 hI.b (by omega)
          refine VV.wide ?_ ?_ (ih_12 xs c b _ (by simp only [List.length_cons] at hm; omega) (by simp only [List.length_cons] at h42; omega) hI4 hfr ?_ (by omega))
          · simp only [List.length_cons] at h42 ⊢; omega
          · simp only [List.length_cons] at h42 ⊢; omega
          · rw [List.foldl_cons] at hfo
            rw [if_neg (by rintro ⟨z1, z2, z3⟩; simp only at z1 z2 z3; omega)] at hfo
            exact hfo
        · refine V_aload (i := 6) F dX3_nextTrain_43 rfl ?_
          refine V_callV (st := []) (nn := 0) F dX3_nextTrain_45 lk_X3_112 (ct_Leg_departure hq) ⟨5, _, _, _, rfl, (.inl hq)⟩ rfl rfl (Nat.le_of_ble_eq_true rfl) (Nat.le_of_ble_eq_true rfl) (Nat.le_of_ble_eq_true rfl) (by first | exact Nat.le_of_ble_eq_true rfl | omega) (by first | exact Nat.le_of_ble_eq_true rfl | omega) ?_
          refine PRk ?_
          refine V_iload_n (i := 2) F dX3_nextTrain_48 rfl rfl ?_
          refine V_icmp_ltN (tgt := 75) F dX3_nextTrain_49 (by decide) (Nat.lt_trans (LvG_31 hI.b (by omega)) (by decide)) hm31 (fun c_49 => ?_) (fun c_49 => ?_)
          · refine V_goto (tgt := 12) F dX3_nextTrain_75 (by decide) ?_
            refine VV.weak (L' := [some (.ref (tt)), some (.int (nI (s0))), some (.int (nI (m0))), some (.int (rP c)), some (.int (nI (b))), some (.ref (it)), none]) (LW.c1 (LW.c1 (LW.c1 (LW.c1 (LW.c1 (LW.c1 (LW.c0 LW.nil))))))) ?_
            have hfr := f6
            have hl31 : LvG g u v < 2 ^ 25 := LvG_31 hI.b (by omega)
            refine VV.wide ?_ ?_ (ih_12 xs c b _ (by simp only [List.length_cons] at hm; omega) (by simp only [List.length_cons] at h42; omega) hI4 hfr ?_ (by omega))
            · simp only [List.length_cons] at h42 ⊢; omega
            · simp only [List.length_cons] at h42 ⊢; omega
            · rw [List.foldl_cons] at hfo
              rw [if_neg (by rintro ⟨z1, z2, z3⟩; simp only at z1 z2 z3; omega)] at hfo
              exact hfo
          · refine V_aload (i := 6) F dX3_nextTrain_52 rfl ?_
            refine V_callV (st := []) (nn := 0) F dX3_nextTrain_54 lk_X3_112 (ct_Leg_departure hq) ⟨5, _, _, _, rfl, (.inl hq)⟩ rfl rfl (Nat.le_of_ble_eq_true rfl) (Nat.le_of_ble_eq_true rfl) (Nat.le_of_ble_eq_true rfl) (by first | exact Nat.le_of_ble_eq_true rfl | omega) (by first | exact Nat.le_of_ble_eq_true rfl | omega) ?_
            refine PRk ?_
            refine V_iload (i := 4) F dX3_nextTrain_57 rfl ?_
            refine V_icmp_geN (tgt := 75) F dX3_nextTrain_59 (by decide) (Nat.lt_trans (LvG_31 hI.b (by omega)) (by decide)) hb9 (fun c_59 => ?_) (fun c_59 => ?_)
            · refine V_goto (tgt := 12) F dX3_nextTrain_75 (by decide) ?_
              refine VV.weak (L' := [some (.ref (tt)), some (.int (nI (s0))), some (.int (nI (m0))), some (.int (rP c)), some (.int (nI (b))), some (.ref (it)), none]) (LW.c1 (LW.c1 (LW.c1 (LW.c1 (LW.c1 (LW.c1 (LW.c0 LW.nil))))))) ?_
              have hfr := f6
              have hl31 : LvG g u v < 2 ^ 25 := LvG_31 hI.b (by omega)
              refine VV.wide ?_ ?_ (ih_12 xs c b _ (by simp only [List.length_cons] at hm; omega) (by simp only [List.length_cons] at h42; omega) hI4 hfr ?_ (by omega))
              · simp only [List.length_cons] at h42 ⊢; omega
              · simp only [List.length_cons] at h42 ⊢; omega
              · rw [List.foldl_cons] at hfo
                rw [if_neg (by rintro ⟨z1, z2, z3⟩; simp only at z1 z2 z3; omega)] at hfo
                exact hfo
            · refine V_aload (i := 6) F dX3_nextTrain_62 rfl ?_
              refine V_callV (st := []) (nn := 0) F dX3_nextTrain_64 lk_X3_82 (ct_Leg_train hq) ⟨5, _, _, _, rfl, (.inl hq)⟩ rfl rfl (Nat.le_of_ble_eq_true rfl) (Nat.le_of_ble_eq_true rfl) (Nat.le_of_ble_eq_true rfl) (by first | exact Nat.le_of_ble_eq_true rfl | omega) (by first | exact Nat.le_of_ble_eq_true rfl | omega) ?_
              refine PRk ?_
              refine V_istore_n (i := 3) F dX3_nextTrain_67 rfl (Nat.le_of_ble_eq_true rfl) (Nat.le_of_ble_eq_true rfl) ?_
              refine V_aload (i := 6) F dX3_nextTrain_68 rfl ?_
              refine V_callV (st := []) (nn := 0) F dX3_nextTrain_70 lk_X3_112 (ct_Leg_departure hq) ⟨5, _, _, _, rfl, (.inl hq)⟩ rfl rfl (Nat.le_of_ble_eq_true rfl) (Nat.le_of_ble_eq_true rfl) (Nat.le_of_ble_eq_true rfl) (by first | exact Nat.le_of_ble_eq_true rfl | omega) (by first | exact Nat.le_of_ble_eq_true rfl | omega) ?_
              refine PRk ?_
              refine V_istore (i := 4) F dX3_nextTrain_73 (Nat.le_of_ble_eq_true rfl) (Nat.le_of_ble_eq_true rfl) ?_
              refine V_goto (tgt := 12) F dX3_nextTrain_75 (by decide) ?_
              refine VV.weak (L' := [some (.ref (tt)), some (.int (nI (s0))), some (.int (nI (m0))), some (.int (nI (u))), some (.int (nI (LvG g u v))), some (.ref (it)), none]) (LW.c1 (LW.c1 (LW.c1 (LW.c1 (LW.c1 (LW.c1 (LW.c0 LW.nil))))))) ?_
              have hfr := f6
              have hl31 : LvG g u v < 2 ^ 25 := LvG_31 hI.b (by omega)
              refine VV.wide ?_ ?_ (ih_12 xs (u + 1) (LvG g u v) _ (by simp only [List.length_cons] at hm; omega) (by simp only [List.length_cons] at h42; omega) hI4 hfr ?_ (by omega))
              · simp only [List.length_cons] at h42 ⊢; omega
              · simp only [List.length_cons] at h42 ⊢; omega
              · rw [List.foldl_cons] at hfo
                rw [if_pos (by exact ⟨by omega, by omega, by omega⟩)] at hfo
                exact hfo
  refine VV.weak (L' := [some (.ref (tt)), some (.int (nI (s0))), some (.int (nI (m0))), some (.int (-1)), some (.int (nI (1000000))), some (.ref (it)), none]) (LW.c1 (LW.c1 (LW.c1 (LW.c1 (LW.c1 (LW.c1 (LW.c0 LW.nil))))))) ?_
  have hfr := f3
  exact VV.wide (by omega) (by omega) (loop_12 ((lgL g).length + 1) (lgL g) 0 1000000 _ (Nat.lt_succ_self _) (lgL_len hI) hIt hfr rfl (by decide))
