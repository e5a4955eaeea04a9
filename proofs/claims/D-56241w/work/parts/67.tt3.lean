theorem LGS.nil {G : GG} {h : AH} {a : Nat} {g : Nat → Nat} {f : Nat → Nat} (hA : ALs G h a (ad G 1) 0 0 f) : LGS G h a (ad G 1) g [] f := ⟨hA, fun i hi => absurd hi (Nat.not_lt_zero i)⟩
theorem Fx.hb1 {G : GG} {X : CX} {cc : ByteArray} {nL : Nat} {own : String} {ret : Option FieldType} {d MC MS : Nat} {h : AH} (F : Fx G X cc nL own ret d MC MS) (hb : HB G h) : h (ad G 1) = none := hb.no F.gb.2.1
theorem ct_TT_legs {G : GG} {l : Launch} {h : AH} {tt tl ta : Nat} {x : Nat → Nat} {A : Nat → Nat → Nat} {g : Nat → Nat}  (hR : RWr G h (tt, tl, ta, x, A) g) (hI : GW g)  : Ct G l yX3_legs cX3_legs 4 (some (.object "java/util/List")) 8 (150) (6000) [.ref tt] h (fun r h2 => ∃ a ar f, r = some (.ref a) ∧ h a = none ∧ h ar = none ∧ LGS G h2 a ar g (lgL g) f ∧ Fr nM h h2) := by
  refine Ct.of (by decide) (Nat.le_of_ble_eq_true rfl) (cat1 rfl) (fun X hXl F HN => ?_)
  subst hXl
  refine VV.bs (fun hB0 => ?_)
  refine V_new F dX3_legs_0 nw_X3_9 (by first | exact Nat.le_of_ble_eq_true rfl | omega) (by first | exact Nat.le_of_ble_eq_true rfl | omega) ?_
  intro o hfo hbo
  refine V_dup F dX3_legs_3 rfl ?_
  refine V_callI (st := [.ref (o)]) (nn := 0) F dX3_legs_4 lk_X3_11 (ct_AL_init (fun _ => 0) (hset_self (e := .inr (18, [.int 0, .null, .int 0])))) rfl rfl (Nat.le_of_ble_eq_true rfl) (Nat.le_of_ble_eq_true rfl) (Nat.le_of_ble_eq_true rfl) (by first | exact Nat.le_of_ble_eq_true rfl | omega) (by first | exact Nat.le_of_ble_eq_true rfl | omega) ?_
  rintro _ hY1 ⟨rfl, hAo, hx2⟩
  have f3 : Fr nM h hY1 := ((Fr.rf (M := nM) (h := h)).nw (x := .inr (18, [.int 0, .null, .int 0])) hfo).cal hx2 (Yo.m1 ((Fr.rf (M := nM) (h := h)).yo hfo))
  have ho0 := hfo
  refine V_astore_n (i := 1) F dX3_legs_7 rfl (Nat.le_of_ble_eq_true rfl) (Nat.le_of_ble_eq_true rfl) ?_
  refine V_aload_n (i := 0) F dX3_legs_8 rfl rfl ?_
  refine V_callV (st := []) (nn := 0) F dX3_legs_9 lk_X3_64 (ct_TT_iterator g) ⟨3, _, _, _, rfl, .inl (hR.fr0 f3).1⟩ rfl rfl (Nat.le_of_ble_eq_true rfl) (Nat.le_of_ble_eq_true rfl) (Nat.le_of_ble_eq_true rfl) (by first | exact Nat.le_of_ble_eq_true rfl | omega) (by first | exact Nat.le_of_ble_eq_true rfl | omega) ?_
  rintro _ hY4 ⟨it, rfl, hit1, hIt, hx5⟩
  have hit0 := f3.none hit1
  have f6 : Fr nM h hY4 := f3.cal0 hx5
  have hx9 := hx5
  refine V_astore_n (i := 2) F dX3_legs_12 rfl (Nat.le_of_ble_eq_true rfl) (Nat.le_of_ble_eq_true rfl) ?_
  have loop_13 : ∀ (nn : Nat) (rest L : List (Nat × Nat)) (ar : Nat) (f : Nat → Nat) (hh : AH), rest.length < nn → L.length + rest.length ≤ 42 → ITL hh it tt g rest → Fr nM h hh → L ++ rest = lgL g → LGS G hh o ar g L f → h ar = none → VV G X 4 ((EQ G X (150) (6000) (fun r h2 => ∃ a ar f, r = some (.ref a) ∧ h a = none ∧ h ar = none ∧ LGS G h2 a ar g (lgL g) f ∧ Fr nM h h2))) hh (2 + 2 * L.length) (7 + 120 * L.length) [some (.ref (tt)), some (.ref (o)), some (.ref (it)), none] [] 13 := by
    intro nn
    induction nn with
    | zero => intro rest L ar f hh hm h42 hI3 hF hfo hL har0; exact absurd hm (by omega)
    | succ nn ih_13 =>
      intro rest L ar f hh hm h42 hI3 hF hfo hL har0
      refine VV.bs (fun hB8 => ?_)
      have hito : it ≠ o := fun z => by obtain ⟨ti, ki, hci, -⟩ := hI3; exact ne_oo hci hL.1.1 (by decide) z
      have hitar : it ≠ ar := fun z => by obtain ⟨ti, ki, hci, -⟩ := hI3; exact (offK.al hL.1 hB8 (S := kO 9) (fun _ => rfl) (fun _ _ _ => rfl)).o hci (Or.inr z)
      refine V_aload_n (i := 2) F dX3_legs_13 rfl rfl ?_
      refine V_callF (st := []) (nn := 0) F dX3_legs_14 ⟨lw_F q458 q462 q464 q157 q466, ⟨q460, List.mem_append_left _ q459, q465, q463, q461⟩, (by decide +kernel), (by decide +kernel)⟩ (ct_TI_hasNext (hR.fr0 hF) hI hI3) hI3.isC rfl rfl (Nat.le_of_ble_eq_true rfl) (Nat.le_of_ble_eq_true rfl) (Nat.le_of_ble_eq_true rfl) (by first | exact Nat.le_of_ble_eq_true rfl | omega) (by first | exact Nat.le_of_ble_eq_true rfl | omega) ?_
      rintro _ hY1 ⟨rfl, hN, hx2⟩
      have f3 : Fr nM h hY1 := hF.cal hx2 (Yo.m1 (Or.inr hit0))
      have hLa := hL.fr hx2 (fun z => hito z.symm) (fun _ _ _ z => hitar z.symm) (by obtain ⟨ti, ki, hci, -⟩ := hI3; exact offK.m1 hci (kO_ne (by decide)))
      refine V_if_eqB (tgt := 43) F dX3_legs_19 (by decide) (fun c_19 => ?_) (fun c_19 => ?_)
      · obtain _ | ⟨p, xs⟩ := rest
        rotate_left
        · exact absurd (Nat.succ_pos _) c_19
        refine V_aload_n (i := 1) F dX3_legs_43 rfl rfl ?_
        rw [List.append_nil] at hfo
        have hfr := f3
        exact V_aret F dX3_legs_44 (Or.inl ⟨_, rfl⟩) (Or.inr ⟨_, rfl⟩) (by first | exact Nat.le_of_ble_eq_true rfl | omega) (by first | exact Nat.le_of_ble_eq_true rfl | omega) ⟨o, ar, f, rfl, ho0, har0, by rw [← hfo]; exact hLa, hfr⟩
      · obtain _ | ⟨⟨u, v⟩, xs⟩ := rest
        · exact absurd c_19 (Nat.lt_irrefl 0)
        obtain ⟨-, hu, hv, -⟩ := hN.hd
        have hs8 := (hI.st hu).2
        refine V_aload_n (i := 2) F dX3_legs_22 rfl rfl ?_
        refine V_callF (st := []) (nn := 0) F dX3_legs_23 ⟨lw_F q866 q869 q871 q157 q873, ⟨q868, List.mem_append_left _ q867, q872, q870, q461⟩, (by decide +kernel), (by decide +kernel)⟩ (ct_TI_next (hR.fr0 f3) hI hN.l) hN.l.isC rfl rfl (Nat.le_of_ble_eq_true rfl) (Nat.le_of_ble_eq_true rfl) (Nat.le_of_ble_eq_true rfl) (by first | exact Nat.le_of_ble_eq_true rfl | omega) (by first | exact Nat.le_of_ble_eq_true rfl | omega) ?_
        rintro _ hY4 ⟨q, rfl, hq0, hq, hI4, hx5⟩
        have f6 : Fr nM h hY4 := f3.cal hx5 (Yo.m1 (Or.inr hit0))
        have hRn := hR.fr0 f6
        obtain ⟨hxu, fu, hAu, e0, e1, e2, e3, e4⟩ := id (hRn.2.2 u hu)
        have hLb := hLa.fr hx5 (fun z => hito z.symm) (fun _ _ _ z => hitar z.symm) (by obtain ⟨ti, ki, hci, -⟩ := hN; exact offK.m1 hci (kO_ne (by decide)))
        refine V_ckS F dX3_legs_28 q907 ⟨5, _, _, _, rfl, (.inl hq)⟩ ?_
        refine V_astore_n (i := 3) F dX3_legs_31 rfl (Nat.le_of_ble_eq_true rfl) (Nat.le_of_ble_eq_true rfl) ?_
        refine V_aload_n (i := 1) F dX3_legs_32 rfl rfl ?_
        refine V_aload_n (i := 3) F dX3_legs_33 rfl rfl ?_
        refine VV.bs (fun hB9 => ?_)
        refine V_callF (st := []) (nn := 1) F dX3_legs_34 ⟨lw_F q1173 q1176 q1178 q111 q1180, ⟨q1175, List.mem_append_left _ q1174, q1179, q1177, q387⟩, (by decide +kernel), (by decide +kernel)⟩ (ct_AL_add hLb.1 (isO_leg hq) (by omega)) hLb.1.isC rfl rfl (Nat.le_of_ble_eq_true rfl) (Nat.le_of_ble_eq_true rfl) (Nat.le_of_ble_eq_true rfl) (by first | exact Nat.le_of_ble_eq_true rfl | omega) (by first | exact Nat.le_of_ble_eq_true rfl | omega) ?_
        rintro _ hY7 ⟨rfl, ar2, hA2, hx8, hq2⟩
        have hfr9 := f6
        have hLs := hLb.snoc hB9 hq hA2 hx8
        have har2 := hfr9.ar2 har0 hq2
        have hI5 := hI4.fr hx8 (fun z => z.elim (fun e => hito e) (fun e => hitar e))
        have hfr8 : Fr nM h hY7 := hfr9.cal hx8 (Yo.m2 (Or.inr ho0) (Or.inr har0))
        refine V_pop F dX3_legs_39 rfl ?_
        refine V_goto (tgt := 13) F dX3_legs_40 (by decide) ?_
        refine VV.weak (L' := [some (.ref (tt)), some (.ref (o)), some (.ref (it)), none]) (LW.c1 (LW.c1 (LW.c1 (LW.c0 LW.nil)))) ?_
        refine VV.wide ?_ ?_ (ih_13 xs (L ++ [(u, v)]) ar2 _ _ (by simp only [List.length_cons] at hm; omega) (by simp only [List.length_cons, List.length_append, List.length_nil] at h42 ⊢; omega) hI5 hfr8 (by rw [List.append_assoc]; exact hfo) hLs har2)
        · simp only [List.length_cons, List.length_append, List.length_nil] at h42 ⊢; omega
        · simp only [List.length_cons, List.length_append, List.length_nil] at h42 ⊢; omega
  refine VV.weak (L' := [some (.ref (tt)), some (.ref (o)), some (.ref (it)), none]) (LW.c1 (LW.c1 (LW.c1 (LW.c0 LW.nil)))) ?_
  have hfr := f6
  exact VV.wide (by show _ ≤ 2 + 2 * 0; omega) (by show _ ≤ 7 + 120 * 0; omega) (loop_13 ((lgL g).length + 1) (lgL g) [] (ad G 1) (fun _ => 0) _ (Nat.lt_succ_self _) (by have := lgL_len hI; simp only [List.length_nil]; omega) hIt hfr rfl (LGS.nil (hAo.fr0 hx9)) (F.hb1 hB0))
