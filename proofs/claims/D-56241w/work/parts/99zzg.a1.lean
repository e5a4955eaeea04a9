set_option maxRecDepth 100000
/-! ===== lists made out of a map's values ===== -/
section VGC
variable {p : Program} {l : Launch} {e : Env} {R : Room} {s : State} {m : MethodId} {args : Array Value} {below : List Frame} {meth : Method} {c : Code} {H : Heap} {locs : List Loc} {cells slots : Nat} {Q : State → Prop} {cc : ByteArray} {pc : Nat} {ls : Array Slot} {rest : List Value} {a : Nat}
theorem sel_face {C ci name desc : String} {y : MethodName} (hf : (Cond.interfaceMethod ci "java/lang/Object" name desc).before args s = true) (hs : (Cond.selects C ⟨"java/lang/Object", name, desc⟩ y).before args s = true) : (Cond.selects C ⟨ci, name, desc⟩ y).before args s = true := by
  obtain ⟨c1, k1, m1, -, -, -, h1, h2⟩ := Cond.interfaceMethod_spec (args := args) (first := s) (o := none) (s := s) (idx := []) hf
  have h3 : s.methodFound? "java/lang/Object" name desc = some m1 := State.methodFound?_of_named h2 ⟨(show "java/lang/Object" ≠ "java/lang/invoke/MethodHandle" by decide), (show "java/lang/Object" ≠ "java/lang/invoke/VarHandle" by decide)⟩
  simp only [Cond.before, Cond.holds, Cond.value] at hs ⊢
  rw [h3] at hs
  rw [h1]
  exact hs
theorem va_getCI (hexec : p.tables.exec = Jvm.exec) (hb : c.code = cc) (hml : c.maxLocals = ls.size) {own C : String} {index count mi : Nat} {xi : MethodName} (hown : s.vm.findClass own = some m.cls) (hlink : (Cond.methodLink own index xi).before args s = true) (hdecl : (Cond.declares Stand.gcN).before args s = true) (hface : (Cond.interfaceMethod xi.cls "java/lang/Object" xi.name xi.desc).before args s = true) (hsel : (Cond.selects C xi Stand.gcN).before args s = true) (hinst : (Cond.instanceMethod Stand.gcN).before args s = true) (hpub : (Cond.publicMethod Stand.gcN).before args s = true) (hunh : (Cond.unhidden C xi.name xi.desc).before args s = true) (hcast : (Cond.castable C xi.cls).before args s = true) (hnat : (Cond.native Stand.gcN).before args s = true) (hx : xi.cls ≠ "java/lang/invoke/MethodHandle" ∧ xi.cls ≠ "java/lang/invoke/VarHandle") (hxo : xi.cls ≠ "java/lang/Object") (hname : xi.name = "getClass") (hdesc : xi.desc = "()Ljava/lang/Class;") (hM : va_Mi C mi s)
    (hr : ∃ cell : Cell, H[a]? = some cell ∧ cell.vm.isStatics = false ∧ s.vm.findClass C = some cell.cls) (hframes : 1 ≤ R.frames) (hlocals : (rest.map fun v => v.category).sum + 14 ≤ R.locals) (hdg : decode cc pc = .ok (.invokeinterface index count, 5))
    (k : W p l e R s m args below meth c H locs cells slots Q (F0 m (pc + 5) ls (.ref mi :: rest))) : W p l e R s m args below meth c H locs cells slots Q (F0 m pc ls (.ref a :: rest)) := by
  obtain ⟨c0, k0, h1, h2, h3⟩ := hM
  obtain ⟨cell, g1, g2, g3⟩ := hr
  cases h1.symm.trans g3
  intro T hT X
  obtain ⟨vm', X', st⟩ := X.getClassOfI hexec hown hlink hdecl hface hsel hinst hpub hunh hcast hnat hx hxo hname hdesc h1 h2 ⟨cell, by rw [hT]; exact g1, rfl, g2⟩ h3 (g := F0 m pc ls (.ref a :: rest)) rfl (by rw [hml]) rfl (by rw [hb]; exact hdg) hframes (by show 2 * 0 + _ + _ ≤ _; have hw : nativeFrameWords "java/lang/Object" "getClass" 1 = 3 := (by decide); omega)
  obtain ⟨t, a1, b1⟩ := k (T.setVm vm') hT X'
  exact ⟨t, st t a1, b1⟩
end VGC
section VGD
variable {G : GG} {X : CX} {cc : ByteArray} {nL : Nat} {own : String} {ret : Option FieldType} {d MC MS : Nat} {Q : State → Prop} {h : AH} {kc n : Nat} {L : LV} {st : List Value} {pc : Nat}
theorem V_getCV (F : Fx G X cc nL own ret d MC MS) {idx cnt a t : Nat} (hd : decode cc pc = .ok (.invokeinterface idx cnt, 5)) (hlink : Cond.methodLink own idx ⟨"java/util/Collection", "getClass", "()Ljava/lang/Class;"⟩ ∈ lw_all) (hv : h a = some (.inr (25, [.ref t]))) (hd1 : 1 ≤ d) (hsum : (st.map fun v => v.category).sum ≤ 20) (k : VV G X nL Q h kc n L (.ref (ad G 12) :: st) (pc + 5)) : VV G X nL Q h kc n L (.ref a :: st) pc := by
  intro H locs ls hS hL hl
  have hR := F.room
  have hf : (Cond.interfaceMethod "java/util/Collection" "java/lang/Object" "getClass" "()Ljava/lang/Class;").before (xa X) (xs X) = true := va_Nw.use rfl (F.kn.2.2.1 _ _ _ _ (List.mem_append_left _ q3037))
  exact va_getCI (C := "java/util/TreeMap$Values") F.exec F.code (by rw [F.maxL]; exact hl.1.symm) F.hown (F.wd _ hlink) (va_Nw.use rfl (F.kn.2.1 _ q3038 rfl)) hf (sel_face hf (F.wd _ q1033)) (F.wd _ q987) (va_Nw.use rfl (F.kn.2.1 _ q3040 rfl)) (va_Nw.use rfl (F.kn.2.1 _ q3044 rfl)) (va_Nw.use rfl (F.kn.2.1 _ q1973 rfl)) (F.wd _ q1036) ⟨by decide, by decide⟩ (by decide) rfl rfl (F.kn.2.2.2.2.2.2.2.1 ("java/util/TreeMap$Values", ad G 12) (List.mem_of_getElem? (i := 2) rfl)) (isC.cell F hS ⟨25, _, _, _, rfl, .inl hv⟩) (Nat.le_trans hd1 hR.1) (by omega) hd (k H locs ls hS hL hl)
end VGD
theorem ct_J0_toArray {G : GG} {l : Launch} {h : AH} {v t mc n : Nat} {A K V : Nat → Nat} (hM : TMp h t mc n A K V) (hv : h v = some (.inr (25, [.ref t]))) (hn : n < 1000) (hmc : mc < 2 ^ 31) (hO : ∀ i, i < n → isO G h (V i)) : Ct G l yJ0_toArray cJ0_toArray 4 (some (.array (.object "java/lang/Object"))) 4 (2) (n + 4) [.ref v] h (fun r h2 => ∃ q gq, r = some (.ref q) ∧ h q = none ∧ bz G ≤ q ∧ h2 q = some (qA G n gq) ∧ (∀ i, i < n → gq i = some (V i)) ∧ Fr nM h h2) := by
  refine Ct.of (by decide) (Nat.le_of_ble_eq_true rfl) (cat1 rfl) (fun X hXl F HN => ?_)
  subst hXl
  refine V_aload_n (i := 0) F dJ0_toArray_0 rfl rfl ?_
  refine V_callU (st := []) (nn := 0) F dJ0_toArray_1 ⟨lw_U q1763 q4215 q4220 q1775 q132 q1776, q828, (by decide +kernel)⟩ (ct_Values_size hM hv) ⟨25, _, _, _, rfl, .inl hv⟩ rfl rfl (Nat.le_of_ble_eq_true rfl) (Nat.le_of_ble_eq_true rfl) (Nat.le_of_ble_eq_true rfl) (by omega) (by omega) ?_
  refine PRk ?_
  refine V_newaQ F dJ0_toArray_4 q3012 (by omega) (by omega) (by omega) ?_
  intro q hfq hbq
  refine V_astore_n (i := 1) F dJ0_toArray_7 rfl (Nat.le_of_ble_eq_true rfl) (Nat.le_of_ble_eq_true rfl) ?_
  have x1 := (Fr.rf (M := nM) (h := h)).nw (x := qA G n (fun _ => none)) hfq
  have hM1 := hM.fr0 x1
  have hv1 := x1.get hv id rfl
  refine V_aload_n (i := 0) F dJ0_toArray_8 rfl rfl ?_
  refine V_callU (st := []) (nn := 0) F dJ0_toArray_9 ⟨lw_U q3013 q3015 q3020 q1976 q132 q1978, q3014, (by decide +kernel)⟩ (ct_Values_iterator hM1 hv1) ⟨25, _, _, _, rfl, .inl hv1⟩ rfl rfl (Nat.le_of_ble_eq_true rfl) (Nat.le_of_ble_eq_true rfl) (Nat.le_of_ble_eq_true rfl) (by omega) (by omega) ?_
  rintro _ h2 ⟨it, rfl, hi1, hbi, hI0, x2⟩
  refine V_astore_n (i := 2) F dJ0_toArray_12 rfl (Nat.le_of_ble_eq_true rfl) (Nat.le_of_ble_eq_true rfl) ?_
  refine V_iconst (v := nI 0) F dJ0_toArray_13 rfl ?_
  refine V_istore_n (i := 3) F dJ0_toArray_14 rfl (Nat.le_of_ble_eq_true rfl) (Nat.le_of_ble_eq_true rfl) ?_
  have hi0 : h it = none := x1.none hi1
  have hqi : q ≠ it := fun e => by rw [e] at hfq; rw [← e, hset_self] at hi1; cases hi1
  have loop : ∀ (k i : Nat) (hh : AH) (gq : Nat → Option Nat), i + k = n → VIT 28 hh it t mc n i A → hh q = some (qA G n gq) → (∀ j, j < i → gq j = some (V j)) → Fr nM h hh → VV G X 4 (EQ G X 2 (n + 4) (fun r h2 => ∃ q gq, r = some (.ref q) ∧ h q = none ∧ bz G ≤ q ∧ h2 q = some (qA G n gq) ∧ (∀ i, i < n → gq i = some (V i)) ∧ Fr nM h h2)) hh 2 (n + 4) [some (.ref v), some (.ref q), some (.ref it), some (.int (nI i))] [] 15 := by
    intro k
    induction k with
    | zero =>
      intro i hh gq hik hI hq hg hF
      have hin : i = n := by omega
      subst hin
      refine V_iload_n (i := 3) F dJ0_toArray_15 rfl rfl ?_
      refine V_aload_n (i := 1) F dJ0_toArray_16 rfl rfl ?_
      refine V_alen (v := nI i) F 6 dJ0_toArray_17 rfl (.inl hq) rfl ?_
      refine V_icmp_geN (tgt := 51) F dJ0_toArray_18 (by decide) (by omega) (by omega) (fun _ => ?_) (fun z => absurd z (Nat.lt_irrefl _))
      refine V_aload_n (i := 2) F dJ0_toArray_51 rfl rfl ?_
      refine V_callF (st := []) (nn := 0) F dJ0_toArray_52 ⟨lw_F q3023 q863 q859 q139 q861, ⟨q460, List.mem_append_left _ q459, q860, q864, q862⟩, (by decide +kernel), (by decide +kernel)⟩ (ct_VI_hasNext (K := K) (V := V) hI) hI.isC28 rfl rfl (Nat.le_of_ble_eq_true rfl) (Nat.le_of_ble_eq_true rfl) (Nat.le_of_ble_eq_true rfl) (by omega) (by omega) ?_
      refine PRk ?_
      refine V_if_eqB (tgt := 68) F dJ0_toArray_57 (by decide) (fun _ => ?_) (fun z => absurd z (Nat.lt_irrefl _))
      refine V_aload_n (i := 1) F dJ0_toArray_68 rfl rfl ?_
      exact V_aret F dJ0_toArray_69 (Or.inr ⟨_, rfl⟩) (Or.inr ⟨_, rfl⟩) (by omega) (by omega) ⟨q, gq, rfl, hfq, hbq, hq, hg, hF⟩
    | succ k ih =>
      intro i hh gq hik hI hq hg hF
      have hi : i < n := by omega
      refine V_iload_n (i := 3) F dJ0_toArray_15 rfl rfl ?_
      refine V_aload_n (i := 1) F dJ0_toArray_16 rfl rfl ?_
      refine V_alen (v := nI n) F 6 dJ0_toArray_17 rfl (.inl hq) rfl ?_
      refine V_icmp_geN (tgt := 51) F dJ0_toArray_18 (by decide) (by omega) (by omega) (fun z => absurd hi (Nat.not_lt.mpr z)) (fun _ => ?_)
      refine V_aload_n (i := 2) F dJ0_toArray_21 rfl rfl ?_
      refine V_callF (st := []) (nn := 0) F dJ0_toArray_22 ⟨lw_F q3023 q863 q859 q139 q861, ⟨q460, List.mem_append_left _ q459, q860, q864, q862⟩, (by decide +kernel), (by decide +kernel)⟩ (ct_VI_hasNext (K := K) (V := V) hI) hI.isC28 rfl rfl (Nat.le_of_ble_eq_true rfl) (Nat.le_of_ble_eq_true rfl) (Nat.le_of_ble_eq_true rfl) (by omega) (by omega) ?_
      refine PRk ?_
      refine V_if_neB (tgt := 36) F dJ0_toArray_27 (by decide) (fun _ => ?_) (fun z => absurd hi z)
      refine V_aload_n (i := 1) F dJ0_toArray_36 rfl rfl ?_
      refine V_iload_n (i := 3) F dJ0_toArray_37 rfl rfl ?_
      refine V_aload_n (i := 2) F dJ0_toArray_38 rfl rfl ?_
      refine V_callF (st := [.int (nI i), .ref q]) (nn := 0) F dJ0_toArray_39 ⟨lw_F q3026 q1136 q1138 q141 q1140, ⟨q868, List.mem_append_left _ q867, q1139, q1137, q862⟩, (by decide +kernel), (by decide +kernel)⟩ (ct_VI_next (hM.fr0 hF) hI hmc hi) hI.isC28 rfl rfl (Nat.le_of_ble_eq_true rfl) (Nat.le_of_ble_eq_true rfl) (Nat.le_of_ble_eq_true rfl) (by omega) (by omega) ?_
      rintro _ h3 ⟨rfl, hI3, x3⟩
      have hF3 : Fr nM h h3 := hF.cal x3 (Yo.m1 (Or.inr hi0))
      have hq3 := x3.get hq hqi rfl
      refine V_aastON F dJ0_toArray_44 hq3 (hF3.isO (hO i hi)) hi (by omega) ?_
      have hF4 : Fr nM h (hset h3 q (qA G n (upq gq i (some (V i))))) := hF3.put hq3 ⟨rfl, rfl⟩ rfl (Or.inr hfq)
      obtain ⟨lr, hci⟩ := id hI3
      refine V_iinc (i := 3) (v := nI (i + 1)) F dJ0_toArray_45 rfl (nI_1 i) (by decide) ?_
      refine V_goto (tgt := 15) F dJ0_toArray_48 (by decide) ?_
      exact ih (i + 1) _ _ (by omega) ⟨lr, (hset_ne (Ne.symm hqi)).trans hci⟩ hset_self (fun j hj => by
        by_cases e : j = i
        · subst e; exact upq_s
        · rw [upq_n e]; exact hg j (by omega)) hF4
  exact VV.wide (by omega) (by omega) (loop n 0 h2 (fun _ => none) (by omega) hI0 (x2.get hset_self id rfl) (fun j hj => absurd hj (Nat.not_lt_zero j)) (x1.cal0 x2))
theorem ct_J8_init_2 {G : GG} {l : Launch} {h : AH} {a v t mc n : Nat} {A K V : Nat → Nat} (ha : h a = some (.inr (18, [.int 0, .null, .int 0]))) (hM : TMp h t mc n A K V) (hv : h v = some (.inr (25, [.ref t]))) (hn : n < 1000) (h0 : 0 < n) (hmc : mc < 2 ^ 31) (hO : ∀ i, i < n → isO G h (V i)) : Ct G l yJ8_init_2 cJ8_init_2 3 none 5 (3) (2 * n + 4) [.ref a, .ref v] h (fun r h2 => r = none ∧ (∃ ar mc2, ALs G h2 a ar mc2 n V) ∧ Fr (m1 a) h h2) := by
  refine Ct.of (by decide) (Nat.le_of_ble_eq_true rfl) (cat1 rfl) (fun X hXl F HN => ?_)
  subst hXl
  refine V_aload_n (i := 0) F dJ8_init_2_0 rfl rfl ?_
  refine V_callI (st := []) (nn := 0) F dJ8_init_2_1 lk_J8_1 (ct_J1_init_J8 ha) rfl rfl (Nat.le_of_ble_eq_true rfl) (Nat.le_of_ble_eq_true rfl) (Nat.le_of_ble_eq_true rfl) (by omega) (by omega) ?_
  rintro _ _ ⟨rfl, rfl⟩
  have x1 : Fr (m1 a) h (hset h a (.inr (18, [.int (nI 0), .null, .int 0]))) := Fr.rf.put (x := .inr (18, [.int (nI 0), .null, .int 0])) ha rfl rfl (Or.inl rfl)
  have hav : ¬ m1 a v := fun e => ne_oo hv ha (by decide) e
  have hv1 := x1.get hv hav rfl
  have hM1 := hM.fr x1 (fun z => by obtain ⟨f, hf⟩ := hM.cell; exact ne_oo hf ha (by decide) z) (fun i hi z => hM.notI ha i hi z)
  refine V_aload_n (i := 1) F dJ8_init_2_4 rfl rfl ?_
  refine V_callF (st := []) (nn := 0) F dJ8_init_2_5 ⟨lw_F q2988 q3031 q3009 q102 q3011, ⟨q2990, List.mem_append_left _ q2989, q3010, q3032, q1973⟩, (by decide +kernel), (by decide +kernel)⟩ (ct_J0_toArray hM1 hv1 hn hmc (fun i hi => x1.isO (hO i hi))) ⟨25, _, _, _, rfl, .inl hv1⟩ rfl rfl (Nat.le_of_ble_eq_true rfl) (Nat.le_of_ble_eq_true rfl) (Nat.le_of_ble_eq_true rfl) (by omega) (by omega) ?_
  rintro _ h2 ⟨q, gq, rfl, hq0, hbq, hq2, hgq, x2⟩
  have x12 : Fr (m1 a) h h2 := x1.cal0 x2
  have ha2 := x2.get hset_self id rfl
  refine V_astore_n (i := 2) F dJ8_init_2_10 rfl (Nat.le_of_ble_eq_true rfl) (Nat.le_of_ble_eq_true rfl) ?_
  refine V_aload_n (i := 0) F dJ8_init_2_11 rfl rfl ?_
  refine V_aload_n (i := 2) F dJ8_init_2_12 rfl rfl ?_
  refine V_alen (v := nI n) F 6 dJ8_init_2_13 rfl (.inl hq2) rfl ?_
  refine V_dup_x1 F dJ8_init_2_14 rfl rfl ?_
  refine V_putf F dJ8_init_2_15 fp_J8_48_J8 ha2 rfl rfl (Nat.le_of_ble_eq_true rfl) ?_
  refine V_if_eqN (tgt := 57) F dJ8_init_2_18 (by decide) (by omega) (fun z => absurd z (Nat.ne_of_gt h0)) (fun _ => ?_)
  have x3 : Fr (m1 a) h (hset h2 a (.inr (18, [.int (nI 0), .null, .int (nI n)]))) := x12.put (x := .inr (18, [.int (nI 0), .null, .int (nI n)])) ha2 rfl rfl (Or.inl rfl)
  have hv3 := x3.get hv hav rfl
  have hqa : q ≠ a := fun e => ne_ao hq2 ha2 e
  have hq3 : (hset h2 a (.inr (18, [.int (nI 0), .null, .int (nI n)]))) q = some (qA G n gq) := (hset_ne hqa).trans hq2
  refine V_aload_n (i := 1) F dJ8_init_2_21 rfl rfl ?_
  refine V_getCV F dJ8_init_2_22 q3036 hv3 (Nat.le_of_ble_eq_true rfl) (Nat.le_of_ble_eq_true rfl) ?_
  refine V_ldcM F dJ8_init_2_27 q3046 (List.mem_of_getElem? (i := 1) rfl) ?_
  refine V_acmp_ne (rx := some (ad G 12)) (ry := some (ad G 11)) (tgt := 40) F dJ8_init_2_29 (by decide) (fun _ => ?_) (fun z => absurd (Option.some.inj z).symm F.gb.2.2.2.2.2.2.2.2)
  refine V_aload_n (i := 0) F dJ8_init_2_40 rfl rfl ?_
  refine V_aload_n (i := 2) F dJ8_init_2_41 rfl rfl ?_
  refine V_aload_n (i := 0) F dJ8_init_2_42 rfl rfl ?_
  refine V_getf F dJ8_init_2_43 fc_J8_48_J8 (.inl hset_self) rfl ?_
  refine V_ldcM F dJ8_init_2_46 q3047 (List.mem_of_getElem? (i := 0) rfl) ?_
  refine V_callS (st := [.ref a]) (nn := 3) F dJ8_init_2_48 lk_J8_57 (ct_copyOf3 (.inl hq3) (fun i hi y hy => by
    rw [hgq i (by omega)] at hy
    cases hy
    exact x3.isO (hO i (by omega))) (by omega) (by omega)) rfl rfl (Nat.le_of_ble_eq_true rfl) (Nat.le_of_ble_eq_true rfl) (Nat.le_of_ble_eq_true rfl) (by omega) (by omega) ?_
  rintro _ h4 ⟨q2, rfl, hq20, hbq2, rfl⟩
  have hN : min n n = n := Nat.min_self n
  rw [hN] at *
  have x4 := x3.nw (x := qA G n (va_cpy gq (fun _ => none) 0 0 n)) hq20
  have ha4 := ((hset_ne (ne_nw hset_self hq20)).trans hset_self : (hset (hset h2 a (.inr (18, [.int (nI 0), .null, .int (nI n)]))) q2 (qA G n (va_cpy gq (fun _ => none) 0 0 n))) a = some (.inr (18, [.int (nI 0), .null, .int (nI n)])))
  refine V_putf F dJ8_init_2_51 fp_J8_9_J8 ha4 rfl rfl (Nat.le_of_ble_eq_true rfl) ?_
  have x5 : Fr (m1 a) h (hset (hset (hset h2 a (.inr (18, [.int (nI 0), .null, .int (nI n)]))) q2 (qA G n (va_cpy gq (fun _ => none) 0 0 n))) a (.inr (18, [.int (nI 0), .ref q2, .int (nI n)]))) := x4.put (x := .inr (18, [.int (nI 0), .ref q2, .int (nI n)])) ha4 rfl rfl (Or.inl rfl)
  have hq2a : q2 ≠ a := fun e => by rw [e, hset_self] at hq20; cases hq20
  have hq5 := ((hset_ne hq2a).trans hset_self : (hset (hset (hset h2 a (.inr (18, [.int (nI 0), .null, .int (nI n)]))) q2 (qA G n (va_cpy gq (fun _ => none) 0 0 n))) a (.inr (18, [.int (nI 0), .ref q2, .int (nI n)]))) q2 = some (qA G n (va_cpy gq (fun _ => none) 0 0 n)))
  refine V_goto (tgt := 64) F dJ8_init_2_54 (by decide) ?_
  exact V_vret F dJ8_init_2_64 (by omega) (by omega) ⟨rfl, ⟨q2, 0, hset_self, fun i hi => x5.isO (hO i hi), n, _, .inl hq5, fun _ => hq5, Nat.le_refl _, by omega, Or.inl h0, fun i hi => by unfold va_cpy; rw [if_pos ⟨Nat.zero_le _, by omega⟩, Nat.zero_add, Nat.sub_zero]; exact hgq i hi⟩, x5⟩
theorem ct_X1_suitcaseAt {G : GG} {l : Launch} {h : AH} {r ti tia : Nat} {tf : Nat → Nat} {tt tl ta : Nat} {x : Nat → Nat} {A : Nat → Nat → Nat} {sm smc : Nat} {sA sK sV : Nat → Nat} {bm bmc : Nat} {bA bK bV : Nat → Nat} {g : Nat → Nat} {xo hl sb o n : Nat} {so : Option Nat} {ep fc : Int32} {p : Int32} (hl0 : l.stackTraces = false) (hx : h xo = some (.inr (1, [.ref r, va_rf so, .ref hl, .ref sb, .int ep, .int fc, .ref o]))) (hW : RW G h r ((ti, tia, tf), (tt, tl, ta, x, A), (sm, smc, sA, sK, sV), (bm, bmc, bA, bK, bV)) g) (hV : INV n g) : CtX G l yX1_suitcaseAt cX1_suitcaseAt 2 (some .int) 8 (10) (120) [.ref xo, .int p] h (fun r0 h2 => iR p (g 2) ∧ r0 = some (.int (nI (g (232 + 4 * tn p + 0)))) ∧ Fr nM h h2) (XF h (fun E => ¬ iR p (g 2) ∧ E = eEL)) := by
  refine CtX.of (by decide) (Nat.le_of_ble_eq_true rfl) (cat1 rfl) (fun X hXl F HT => ?_)
  subst hXl
  obtain ⟨hr, hWt, hWr, hWs, hWb⟩ : h r = some (.inr (2, [.ref ti, .ref tt, .ref sm, .ref bm, .int (nI (g 4)), .int (nI (g 5)), .int (nI (g 6)), .int (nI (g 7))])) ∧ RWt G h (ti, tia, tf) g ∧ RWr G h (tt, tl, ta, x, A) g ∧ RWs G h (sm, smc, sA, sK, sV) g ∧ RWb G h (bm, bmc, bA, bK, bV) g := id hW
  have hb := hV.b
  have hg8 : g 2 ≤ 10 := by have h1 := hV.W.2.2.2.1; have h2 := hV.W.2.2.2.2.1; omega
  have hb4 := hb 4
  have hmc : smc + g 2 ≤ 2 * g 4 := hWs.2.1
  refine V_iload_n (i := 1) F dX1_suitcaseAt_0 rfl rfl ?_
  refine V_iconst (v := nI 0) F dX1_suitcaseAt_1 rfl ?_
  refine V_aload_n (i := 0) F dX1_suitcaseAt_2 rfl rfl ?_
  refine V_callV (st := [.int (nI 0), .int p]) (nn := 0) F dX1_suitcaseAt_3 lk_X1_268 (ct_X1_suitcaseCount hx hW hV) ⟨1, _, _, _, rfl, .inl hx⟩ rfl rfl (Nat.le_of_ble_eq_true rfl) (Nat.le_of_ble_eq_true rfl) (Nat.le_of_ble_eq_true rfl) (by omega) (by omega) ?_
  rintro _ _ ⟨rfl, rfl⟩
  refine V_iconst (v := nI 1) F dX1_suitcaseAt_6 rfl ?_
  refine V_isub F dX1_suitcaseAt_7 ?_
  refine V_callS (st := []) (nn := 3) F dX1_suitcaseAt_8 lk_X1_130 (ct_isBetween) rfl rfl (Nat.le_of_ble_eq_true rfl) (Nat.le_of_ble_eq_true rfl) (Nat.le_of_ble_eq_true rfl) (by omega) (by omega) ?_
  refine PRk ?_
  refine V_xcS (st := []) (nn := 1) F dX1_suitcaseAt_11 lk_X1_119 (ct_X1_checkElement hl0) rfl rfl (Nat.le_of_ble_eq_true rfl) (Nat.le_of_ble_eq_true rfl) (Nat.le_of_ble_eq_true rfl) (by omega) (by omega) ?_ ?_
  · rintro _ _ ⟨rfl, rfl, hd⟩
    have hR : iR p (g 2) := (iR_in (by omega)).mp (b2_nz hd)
    obtain ⟨k, hk, rfl⟩ := iR_of hR (by omega)
    have htk : tn (nI k) = k := tn_nI (by omega)
    refine V_new F dX1_suitcaseAt_14 nw_X1_271 (by omega) (by omega) ?_
    intro al hfa hba
    have x1 := (Fr.rf (M := nM) (h := h)).nw (x := .inr (18, [.int 0, .null, .int 0])) hfa
    refine V_dup F dX1_suitcaseAt_17 rfl ?_
    refine V_aload_n (i := 0) F dX1_suitcaseAt_18 rfl rfl ?_
    refine V_getf F dX1_suitcaseAt_19 fc_X1_44_X1 (.inl (x1.get hx id rfl)) rfl ?_
    refine V_getn F dX1_suitcaseAt_22 fc_X1_248_X2 (.inl (x1.get hr id rfl)) rfl ?_
    refine V_callV (st := [.ref al, .ref al]) (nn := 0) F dX1_suitcaseAt_25 lk_X1_273 (ct_TM_values (hWs.1.fr0 x1)) (hWs.1.fr0 x1).isC rfl rfl (Nat.le_of_ble_eq_true rfl) (Nat.le_of_ble_eq_true rfl) (Nat.le_of_ble_eq_true rfl) (by omega) (by omega) ?_
    rintro _ h2 ⟨v, rfl, hv2, hM2, x2⟩
    have ha2 := x2.get (hset_self (h := h) (a := al) (e := .inr (18, [.int 0, .null, .int 0]))) id rfl
    have x12 := x1.cal0 x2
    refine V_callI (st := [.ref al]) (nn := 1) F dX1_suitcaseAt_28 lk_X1_277 (ct_J8_init_2 (mc := smc) (n := g 2) ha2 hM2 hv2 (by omega) (by omega) (by omega) (fun i hi => ⟨_, ⟨8, _, _, _, rfl, .inl (x12.get (hWs.2.2 i hi).2 id rfl)⟩, q4264⟩)) rfl rfl (Nat.le_of_ble_eq_true rfl) (Nat.le_of_ble_eq_true rfl) (Nat.le_of_ble_eq_true rfl) (by omega) (by omega) ?_
    rintro _ h3 ⟨rfl, ⟨ar, mc2, hA3⟩, x3⟩
    have hF3 : Fr nM h h3 := x12.cal x3 (Yo.m1 (Or.inr hfa))
    refine V_iload_n (i := 1) F dX1_suitcaseAt_31 rfl rfl ?_
    refine V_callV (st := []) (nn := 1) F dX1_suitcaseAt_32 lk_X1_280 (ct_AL_get hA3 hk (by omega)) hA3.isC rfl rfl (Nat.le_of_ble_eq_true rfl) (Nat.le_of_ble_eq_true rfl) (Nat.le_of_ble_eq_true rfl) (by omega) (by omega) ?_
    refine PRk ?_
    have hsk := hF3.get (hWs.2.2 k hk).2 id rfl
    refine V_ckS F dX1_suitcaseAt_35 q3052 ⟨8, _, _, _, rfl, .inl hsk⟩ ?_
    refine V_callV (st := []) (nn := 0) F dX1_suitcaseAt_38 lk_X1_281 (ct_Su_id hsk) ⟨8, _, _, _, rfl, .inl hsk⟩ rfl rfl (Nat.le_of_ble_eq_true rfl) (Nat.le_of_ble_eq_true rfl) (Nat.le_of_ble_eq_true rfl) (by omega) (by omega) ?_
    refine PRk ?_
    exact VV.rx (V_iret F dX1_suitcaseAt_41 rfl (by omega) (by omega) ⟨hR, by rw [htk], hF3⟩)
  · exact fun E q h2 hp => V_xout F (HT _) (by omega) (by omega) (XF.of Fr.rf hp (fun hc => ⟨fun z => b2_z hc.1 ((iR_in (by omega)).mpr z), hc.2⟩))
theorem ct_X1_bookingAt {G : GG} {l : Launch} {h : AH} {r ti tia : Nat} {tf : Nat → Nat} {tt tl ta : Nat} {x : Nat → Nat} {A : Nat → Nat → Nat} {sm smc : Nat} {sA sK sV : Nat → Nat} {bm bmc : Nat} {bA bK bV : Nat → Nat} {g : Nat → Nat} {xo hl sb o n : Nat} {so : Option Nat} {ep fc : Int32} {p : Int32} (hl0 : l.stackTraces = false) (hx : h xo = some (.inr (1, [.ref r, va_rf so, .ref hl, .ref sb, .int ep, .int fc, .ref o]))) (hW : RW G h r ((ti, tia, tf), (tt, tl, ta, x, A), (sm, smc, sA, sK, sV), (bm, bmc, bA, bK, bV)) g) (hV : INV n g) : CtX G l yX1_bookingAt cX1_bookingAt 2 (some .int) 8 (10) (120) [.ref xo, .int p] h (fun r0 h2 => iR p (g 3) ∧ r0 = some (.int (nI (g (264 + 4 * tn p + 0)))) ∧ Fr nM h h2) (XF h (fun E => ¬ iR p (g 3) ∧ E = eEL)) := by
  refine CtX.of (by decide) (Nat.le_of_ble_eq_true rfl) (cat1 rfl) (fun X hXl F HT => ?_)
  subst hXl
  obtain ⟨hr, hWt, hWr, hWs, hWb⟩ : h r = some (.inr (2, [.ref ti, .ref tt, .ref sm, .ref bm, .int (nI (g 4)), .int (nI (g 5)), .int (nI (g 6)), .int (nI (g 7))])) ∧ RWt G h (ti, tia, tf) g ∧ RWr G h (tt, tl, ta, x, A) g ∧ RWs G h (sm, smc, sA, sK, sV) g ∧ RWb G h (bm, bmc, bA, bK, bV) g := id hW
  have hb := hV.b
  have hg8 : g 3 ≤ 10 := by have h1 := hV.W.2.2.2.1; have h2 := hV.W.2.2.2.2.1; omega
  have hb4 := hb 5
  have hmc : bmc + g 3 ≤ 2 * g 5 := hWb.2.1
  refine V_iload_n (i := 1) F dX1_bookingAt_0 rfl rfl ?_
  refine V_iconst (v := nI 0) F dX1_bookingAt_1 rfl ?_
  refine V_aload_n (i := 0) F dX1_bookingAt_2 rfl rfl ?_
  refine V_callV (st := [.int (nI 0), .int p]) (nn := 0) F dX1_bookingAt_3 lk_X1_308 (ct_X1_bookingCount hx hW hV) ⟨1, _, _, _, rfl, .inl hx⟩ rfl rfl (Nat.le_of_ble_eq_true rfl) (Nat.le_of_ble_eq_true rfl) (Nat.le_of_ble_eq_true rfl) (by omega) (by omega) ?_
  rintro _ _ ⟨rfl, rfl⟩
  refine V_iconst (v := nI 1) F dX1_bookingAt_6 rfl ?_
  refine V_isub F dX1_bookingAt_7 ?_
  refine V_callS (st := []) (nn := 3) F dX1_bookingAt_8 lk_X1_130 (ct_isBetween) rfl rfl (Nat.le_of_ble_eq_true rfl) (Nat.le_of_ble_eq_true rfl) (Nat.le_of_ble_eq_true rfl) (by omega) (by omega) ?_
  refine PRk ?_
  refine V_xcS (st := []) (nn := 1) F dX1_bookingAt_11 lk_X1_119 (ct_X1_checkElement hl0) rfl rfl (Nat.le_of_ble_eq_true rfl) (Nat.le_of_ble_eq_true rfl) (Nat.le_of_ble_eq_true rfl) (by omega) (by omega) ?_ ?_
  · rintro _ _ ⟨rfl, rfl, hd⟩
    have hR : iR p (g 3) := (iR_in (by omega)).mp (b2_nz hd)
    obtain ⟨k, hk, rfl⟩ := iR_of hR (by omega)
    have htk : tn (nI k) = k := tn_nI (by omega)
    refine V_new F dX1_bookingAt_14 nw_X1_271 (by omega) (by omega) ?_
    intro al hfa hba
    have x1 := (Fr.rf (M := nM) (h := h)).nw (x := .inr (18, [.int 0, .null, .int 0])) hfa
    refine V_dup F dX1_bookingAt_17 rfl ?_
    refine V_aload_n (i := 0) F dX1_bookingAt_18 rfl rfl ?_
    refine V_getf F dX1_bookingAt_19 fc_X1_44_X1 (.inl (x1.get hx id rfl)) rfl ?_
    refine V_getn F dX1_bookingAt_22 fc_X1_303_X2 (.inl (x1.get hr id rfl)) rfl ?_
    refine V_callV (st := [.ref al, .ref al]) (nn := 0) F dX1_bookingAt_25 lk_X1_273 (ct_TM_values (hWb.1.fr0 x1)) (hWb.1.fr0 x1).isC rfl rfl (Nat.le_of_ble_eq_true rfl) (Nat.le_of_ble_eq_true rfl) (Nat.le_of_ble_eq_true rfl) (by omega) (by omega) ?_
    rintro _ h2 ⟨v, rfl, hv2, hM2, x2⟩
    have ha2 := x2.get (hset_self (h := h) (a := al) (e := .inr (18, [.int 0, .null, .int 0]))) id rfl
    have x12 := x1.cal0 x2
    refine V_callI (st := [.ref al]) (nn := 1) F dX1_bookingAt_28 lk_X1_277 (ct_J8_init_2 (mc := bmc) (n := g 3) ha2 hM2 hv2 (by omega) (by omega) (by omega) (fun i hi => ⟨_, ⟨11, _, _, _, rfl, .inl (x12.get (hWb.2.2 i hi).2 id rfl)⟩, q4269⟩)) rfl rfl (Nat.le_of_ble_eq_true rfl) (Nat.le_of_ble_eq_true rfl) (Nat.le_of_ble_eq_true rfl) (by omega) (by omega) ?_
    rintro _ h3 ⟨rfl, ⟨ar, mc2, hA3⟩, x3⟩
    have hF3 : Fr nM h h3 := x12.cal x3 (Yo.m1 (Or.inr hfa))
    refine V_iload_n (i := 1) F dX1_bookingAt_31 rfl rfl ?_
    refine V_callV (st := []) (nn := 1) F dX1_bookingAt_32 lk_X1_280 (ct_AL_get hA3 hk (by omega)) hA3.isC rfl rfl (Nat.le_of_ble_eq_true rfl) (Nat.le_of_ble_eq_true rfl) (Nat.le_of_ble_eq_true rfl) (by omega) (by omega) ?_
    refine PRk ?_
    have hsk := hF3.get (hWb.2.2 k hk).2 id rfl
    refine V_ckS F dX1_bookingAt_35 q3116 ⟨11, _, _, _, rfl, .inl hsk⟩ ?_
    refine V_getn F dX1_bookingAt_38 fc_X1_311_X14 (.inl hsk) rfl ?_
    exact VV.rx (V_iret F dX1_bookingAt_41 rfl (by omega) (by omega) ⟨hR, by rw [htk], hF3⟩)
  · exact fun E q h2 hp => V_xout F (HT _) (by omega) (by omega) (XF.of Fr.rf hp (fun hc => ⟨fun z => b2_z hc.1 ((iR_in (by omega)).mpr z), hc.2⟩))

