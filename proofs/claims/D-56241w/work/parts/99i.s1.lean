set_option maxRecDepth 100000
/-! ===== texts of ASCII signs; StringBuilder ===== -/
abbrev byA (G : GG) (n : Nat) (c : Nat → Nat) : va_E := .inl (G.2.1 5, n, .inl (fun j => sb_b (c j)))
theorem sb_lt : ∀ c, c < 128 → sb_b c = nI c := by decide +kernel
theorem i2b_lt : ∀ c, c < 128 → (nI c).toInt8.toInt32 = nI c := by decide +kernel
theorem upd_sb {c : Nat → Nat} {k y : Nat} : upd (fun j => sb_b (c j)) k (vp_nar .byte (nI y)) = fun j => sb_b (up c k y j) := by
  funext j
  unfold upd up
  by_cases e : j = k
  · rw [if_pos e, if_pos e]; rfl
  · rw [if_neg e, if_neg e]
theorem cpy_sb {c e : Nat → Nat} {sp dp z : Nat} : va_cpy (fun j => sb_b (c j)) (fun j => sb_b (e j)) sp dp z = fun j => sb_b (va_cpy c e sp dp z j) := by
  funext j
  unfold va_cpy
  split <;> rfl
theorem zero_sb : (fun _ => nI 0 : Nat → Int32) = fun j => sb_b ((fun _ => 0 : Nat → Nat) j) := by
  funext j; exact (sb_lt 0 (by decide)).symm
section VSB
variable {G : GG} {X : CX} {cc : ByteArray} {nL : Nat} {own : String} {ret : Option FieldType} {d MC MS : Nat} {Q : State → Prop} {h : AH} {kc n : Nat} {L : LV} {st : List Value} {pc : Nat}
theorem V_ishl0 (F : Fx G X cc nL own ret d MC MS) {x : Int32} (hd : decode cc pc = .ok (.ishl, 1)) (k : VV G X nL Q h kc n L (.int x :: st) (pc + 1)) : VV G X nL Q h kc n L (.int (nI 0) :: .int x :: st) pc := V_ishl F hd (by rw [show (nI 0 : Int32) = 0 from rfl, sb_shl0]; exact k)
theorem V_ishr0 (F : Fx G X cc nL own ret d MC MS) {x : Int32} (hd : decode cc pc = .ok (.ishr, 1)) (k : VV G X nL Q h kc n L (.int x :: st) (pc + 1)) : VV G X nL Q h kc n L (.int (nI 0) :: .int x :: st) pc := V_ishr F hd (by rw [show (nI 0 : Int32) = 0 from rfl, sb_shr0]; exact k)
theorem V_iandN255 (F : Fx G X cc nL own ret d MC MS) {c : Nat} (hd : decode cc pc = .ok (.iand, 1)) (hc : c < 128) (k : VV G X nL Q h kc n L (.int (nI c) :: st) (pc + 1)) : VV G X nL Q h kc n L (.int (nI 255) :: .int (nI c) :: st) pc := by
  rw [← sb_lt c hc]
  exact V_iand255 F hd (by omega) k
theorem V_i2bN (F : Fx G X cc nL own ret d MC MS) {c : Nat} (hd : decode cc pc = .ok (.i2b, 1)) (hc : c < 128) (k : VV G X nL Q h kc n L (.int (nI c) :: st) (pc + 1)) : VV G X nL Q h kc n L (.int (nI c) :: st) pc := V_i2b F hd (by rw [i2b_lt c hc]; exact k)
theorem V_newaS {N : Nat} (F : Fx G X cc nL own ret d MC MS) (hd : decode cc pc = .ok (.newarray .byte, 2)) (hN : N < 100000) (hr1 : kc + 1 ≤ MC) (hr2 : n + N ≤ MS) (kk : ∀ a : Nat, h a = none → bz G ≤ a → VV G X nL Q (hset h a (byA G N (fun _ => 0))) (kc + 1) (n + N) L (.ref a :: st) (pc + 2)) : VV G X nL Q h kc n L (.int (nI N) :: st) pc :=
  V_newaB F hd hN hr1 hr2 (fun a h1 h2 => by rw [zero_sb]; exact kk a h1 h2)
theorem V_bastS (F : Fx G X cc nL own ret d MC MS) {a N j y : Nat} {c : Nat → Nat} (hd : decode cc pc = .ok (.bastore, 1)) (he : h a = some (byA G N c)) (hj : j < N) (hN : N < 2 ^ 31) (_ : y < 256) (kk : VV G X nL Q (hset h a (byA G N (up c j y))) kc n L st (pc + 1)) : VV G X nL Q h kc n L (.int (nI y) :: .int (nI j) :: .ref a :: st) pc :=
  V_bastN F 5 hd rfl he hj hN (by rw [upd_sb]; exact kk)
theorem V_baldS (F : Fx G X cc nL own ret d MC MS) {a N j v : Nat} {c : Nat → Nat} (hd : decode cc pc = .ok (.baload, 1)) (he : rd G h a (byA G N c)) (hj : j < N) (hN : N < 2 ^ 31) (hv : c j = v) (hl : v < 128) (kk : VV G X nL Q h kc n L (.int (nI v) :: st) (pc + 1)) : VV G X nL Q h kc n L (.int (nI j) :: .ref a :: st) pc :=
  V_baldN F 5 hd rfl he hj hN (by rw [hv, sb_lt v hl]; exact kk)
theorem V_copyS (F : Fx G X cc nL own ret d MC MS) {idx a0 a n0 n1 sp dp z : Nat} {f g : Nat → Nat} (hd : decode cc pc = .ok (.invokestatic idx, 3)) (hlink : Cond.methodLink own idx arraycopyName ∈ lw_all) (he0 : rd G h a0 (byA G n0 f)) (he1 : h a = some (byA G n1 g)) (h4 : sp + z ≤ n0) (h5 : dp + z ≤ n1) (hn0 : n0 < 2 ^ 31) (hn1 : n1 < 2 ^ 31) (hd1 : 1 ≤ d) (hsum : (st.map fun v => v.category).sum ≤ 20)
    (kk : VV G X nL Q (hset h a (byA G n1 (va_cpy f g sp dp z))) kc n L st (pc + 3)) : VV G X nL Q h kc n L (.int (nI z) :: .int (nI dp) :: .ref a :: .int (nI sp) :: .ref a0 :: st) pc :=
  V_copyi F 5 hd hlink rfl rfl he0 he1 h4 h5 hn0 hn1 (fun i _ => sb_fitB _) hd1 hsum (by rw [cpy_sb]; exact kk)
end VSB
/-- bytes all through -/
abbrev by8 (c : Nat → Nat) : Prop := ∀ j, c j < 256
/-- ASCII signs -/
abbrev asc (l : List Nat) : Prop := ∀ c, c ∈ l → c < 128
/-- the bytes c begin with the signs l -/
abbrev begW (c : Nat → Nat) (l : List Nat) : Prop := ∀ i, i < l.length → c i = l.getD i 0
/-- a text -/
def STR (G : GG) (h : AH) (a : Nat) (l : List Nat) : Prop := ∃ (v : Nat) (hs hz : Int32) (c : Nat → Nat), rd G h a (.inr (22, [.ref v, .int (nI 0), .int hs, .int hz])) ∧ rd G h v (byA G l.length c) ∧ by8 c ∧ begW c l ∧ asc l ∧ l.length ≤ 200 ∧
  (hs ≠ 0 ∧ hs = strH l ∨ hs = 0 ∧ hz = 0 ∧ h a = some (.inr (22, [.ref v, .int (nI 0), .int hs, .int hz])) ∨ strH l = 0)
/-- a StringBuilder -/
def SBs (G : GG) (h : AH) (s b N : Nat) (l : List Nat) : Prop := ∃ (ml : Int32) (c : Nat → Nat), h s = some (.inr (21, [.ref b, .int (nI 0), .int ml, .int (nI l.length)])) ∧ h b = some (byA G N c) ∧ l.length ≤ N ∧ (16 ≤ N ∧ N ≤ 202) ∧ by8 c ∧ begW c l ∧ asc l
theorem Gstr.str {G : GG} {tx : String} {a : Nat} {h : AH} (hG : Gstr G tx a) (ha : asc (txl tx)) (hl : (txl tx).length ≤ 200) : STR G h a (txl tx) := by
  obtain ⟨v, hz, h1, h2, h3⟩ := hG
  refine ⟨v, strH (txl tx), hz, fun j => (txl tx).getD j 0, Or.inr h1, Or.inr h2, fun j => ?_, fun i _ => rfl, ha, hl, ?_⟩
  · by_cases hj : j < (txl tx).length
    · exact Nat.lt_trans (ha _ (getD_mem hj)) (by decide)
    · show (txl tx).getD j 0 < 256; rw [List.getD_eq_getElem?_getD, List.getElem?_eq_none (Nat.not_lt.mp hj)]; decide
  · by_cases e : strH (txl tx) = 0
    · exact Or.inr (Or.inr e)
    · exact Or.inl ⟨e, rfl⟩
theorem STR.isC {G : GG} {h : AH} {a : Nat} {l : List Nat} (hS : STR G h a l) : isC G h a "java/lang/String" := by
  obtain ⟨v, hs, hz, c, h1, -⟩ := hS
  exact ⟨22, _, _, _, rfl, h1⟩
theorem SBs.isC {G : GG} {h : AH} {s b N : Nat} {l : List Nat} (hS : SBs G h s b N l) : isC G h s "java/lang/StringBuilder" := by
  obtain ⟨ml, c, h1, -⟩ := hS
  exact ⟨21, _, _, _, rfl, .inl h1⟩
theorem STR.fr {G : GG} {M : Nat → Prop} {h h2 : AH} {a : Nat} {l : List Nat} (hS : STR G h a l) (hx : Fr M h h2) (h1 : offK M h (kO 22)) (h3 : ∀ v n c, h v = some (byA G n c) → n = l.length → ¬ M v) : STR G h2 a l := by
  obtain ⟨v, hs, hz, c, q1, q2, q3, q4, q5, q6, q7⟩ := hS
  refine ⟨v, hs, hz, c, hx.rd q1 (fun q => h1.o q) rfl, hx.rd q2 (fun q => h3 v _ c q rfl) rfl, q3, q4, q5, q6, ?_⟩
  rcases q7 with q | ⟨q, r, z⟩ | q
  · exact Or.inl q
  · exact Or.inr (Or.inl ⟨q, r, hx.get z (h1.o z) rfl⟩)
  · exact Or.inr (Or.inr q)
theorem STR.fr0 {G : GG} {h h2 : AH} {a : Nat} {l : List Nat} (hS : STR G h a l) (hx : Fr nM h h2) : STR G h2 a l := hS.fr hx offK.nM (fun _ _ _ _ _ => id)
theorem SBs.fr {G : GG} {M : Nat → Prop} {h h2 : AH} {s b N : Nat} {l : List Nat} (hS : SBs G h s b N l) (hx : Fr M h h2) (h1 : ¬ M s) (h3 : ¬ M b) : SBs G h2 s b N l := by
  obtain ⟨ml, c, q1, q2, q⟩ := hS
  exact ⟨ml, c, hx.get q1 h1 rfl, hx.get q2 h3 rfl, q⟩
theorem SBs.fr0 {G : GG} {h h2 : AH} {s b N : Nat} {l : List Nat} (hS : SBs G h s b N l) (hx : Fr nM h h2) : SBs G h2 s b N l := hS.fr hx id id
theorem begW.snoc {c : Nat → Nat} {l : List Nat} {y : Nat} (h : begW c l) : begW (up c l.length y) (l ++ [y]) := by
  intro i hi
  rw [List.length_append, List.length_singleton] at hi
  by_cases e : i = l.length
  · subst e
    rw [up_s, List.getD_eq_getElem?_getD, List.getElem?_append_right (Nat.le_refl _), Nat.sub_self]; rfl
  · rw [up_n e, h i (by omega), List.getD_eq_getElem?_getD, List.getD_eq_getElem?_getD, List.getElem?_append_left (by omega)]
theorem begW.app {c e : Nat → Nat} {l m : List Nat} (h : begW c l) (h2 : begW e m) : begW (va_cpy e c 0 l.length m.length) (l ++ m) := by
  intro i hi
  rw [List.length_append] at hi
  unfold va_cpy
  by_cases q : l.length ≤ i
  · rw [if_pos ⟨q, hi⟩, Nat.zero_add, h2 _ (by omega), List.getD_eq_getElem?_getD, List.getD_eq_getElem?_getD, List.getElem?_append_right q]
  · rw [if_neg (fun z => q z.1), h i (by omega), List.getD_eq_getElem?_getD, List.getD_eq_getElem?_getD, List.getElem?_append_left (by omega)]
theorem begW.cpy {c e : Nat → Nat} {l : List Nat} {z : Nat} (h : begW c l) (hz : l.length ≤ z) : begW (va_cpy c e 0 0 z) l := by
  intro i hi
  unfold va_cpy
  rw [if_pos ⟨Nat.zero_le _, by omega⟩, Nat.zero_add, Nat.sub_zero]
  exact h i hi
theorem by8.cpy {c e : Nat → Nat} {sp dp z : Nat} (h : by8 c) (h2 : by8 e) : by8 (va_cpy c e sp dp z) := by
  intro j
  unfold va_cpy
  split
  · exact h _
  · exact h2 _
theorem by8.st8 {c : Nat → Nat} {k y : Nat} (h : by8 c) (hy : y < 256) : by8 (up c k y) := by
  intro j
  unfold up
  split
  · exact hy
  · exact h _
theorem asc.app {l m : List Nat} (h : asc l) (h2 : asc m) : asc (l ++ m) := fun c hc => (List.mem_append.mp hc).elim (h c) (h2 c)
theorem asc.getD {l : List Nat} (h : asc l) {i : Nat} (hi : i < l.length) : l.getD i 0 < 128 := h _ (getD_mem hi)

theorem ct_J4_init {G : GG} {l : Launch} {h : AH} {s : Nat}  (hs : h s = some (.inr (21, [.null, .int (nI 0), .int (nI 0), .int (nI 0)]))) : Ct G l yJ4_init cJ4_init 2 none 1 (1) (16) [.ref s, .int (nI 16)] h (fun r h2 => r = none ∧ ∃ b, h b = none ∧ SBs G h2 s b 16 [] ∧ Fr (m1 s) h h2) := by
  refine Ct.of (by decide) (Nat.le_of_ble_eq_true rfl) (cat1 rfl) (fun X hXl F HN => ?_)
  subst hXl
  refine V_aload_n (i := 0) F dJ4_init_0 rfl rfl ?_
  refine V_objInit F dJ4_init_1 q226 q180 q181 (Nat.le_of_ble_eq_true rfl) (Nat.le_of_ble_eq_true rfl) ?_
  refine V_gets F dJ4_init_4 (List.mem_of_getElem? (i := 2) rfl) q227 ?_
  refine VV.stk (st' := [.int (nI (1))]) rfl ?_
  refine V_if_eqN (tgt := 25) F dJ4_init_7 (by decide) (by omega) (fun c_7 => absurd c_7 (by decide)) (fun c_7 => ?_)
  refine V_aload_n (i := 0) F dJ4_init_10 rfl rfl ?_
  refine V_iload_n (i := 1) F dJ4_init_11 rfl rfl ?_
  refine V_newaS F dJ4_init_12 (by omega) (by omega) (by omega) ?_
  intro b hfb hbb
  refine V_putf F dJ4_init_14 fp_J4_15_J5 ((hset_ne (ne_nw hs hfb)).trans hs) rfl rfl (Nat.le_of_ble_eq_true rfl) ?_
  refine VV.heap (h' := (hset (hset h b (byA G 16 (fun _ => 0))) (s) (.inr (21, [.ref (b), .int (nI (0)), .int (nI (0)), .int (nI (0))])))) rfl ?_
  refine V_aload_n (i := 0) F dJ4_init_17 rfl rfl ?_
  refine V_iconst (v := nI 0) F dJ4_init_18 rfl ?_
  refine V_putf F dJ4_init_19 fp_J4_22_J5 (hset_self (e := .inr (21, [.ref (b), .int (nI (0)), .int (nI (0)), .int (nI (0))]))) rfl rfl (Nat.le_of_ble_eq_true rfl) ?_
  refine VV.heap (h' := (hset (hset (hset h b (byA G 16 (fun _ => 0))) (s) (.inr (21, [.ref (b), .int (nI (0)), .int (nI (0)), .int (nI (0))]))) (s) (.inr (21, [.ref (b), .int (nI (0)), .int (nI (0)), .int (nI (0))])))) rfl ?_
  refine V_goto (tgt := 38) F dJ4_init_22 (by decide) ?_
  have qs : (hset (hset (hset h b (byA G 16 (fun _ => 0))) (s) (.inr (21, [.ref (b), .int (nI (0)), .int (nI (0)), .int (nI (0))]))) (s) (.inr (21, [.ref (b), .int (nI (0)), .int (nI (0)), .int (nI (0))]))) s = some (.inr (21, [.ref (b), .int (nI (0)), .int (nI (0)), .int (nI (0))])) := (hset_self (e := .inr (21, [.ref (b), .int (nI (0)), .int (nI (0)), .int (nI (0))])))
  have qb : (hset (hset (hset h b (byA G 16 (fun _ => 0))) (s) (.inr (21, [.ref (b), .int (nI (0)), .int (nI (0)), .int (nI (0))]))) (s) (.inr (21, [.ref (b), .int (nI (0)), .int (nI (0)), .int (nI (0))]))) b = some (byA G 16 (fun _ => 0)) := ((hset_ne (Ne.symm (ne_nw hs hfb))).trans ((hset_ne (Ne.symm (ne_nw hs hfb))).trans (hset_self (e := byA G 16 (fun _ => 0)))))
  have qf := ((((Fr.rf (M := m1 s) (h := h)).nw (x := byA G 16 (fun _ => 0)) hfb).put (x := .inr (21, [.ref (b), .int (nI (0)), .int (nI (0)), .int (nI (0))])) ((hset_ne (ne_nw hs hfb)).trans hs) rfl rfl (Or.inl rfl)).put (x := .inr (21, [.ref (b), .int (nI (0)), .int (nI (0)), .int (nI (0))])) (hset_self (e := .inr (21, [.ref (b), .int (nI (0)), .int (nI (0)), .int (nI (0))]))) rfl rfl (Or.inl rfl))
  exact V_vret F dJ4_init_38 (by first | exact Nat.le_of_ble_eq_true rfl | omega) (by first | exact Nat.le_of_ble_eq_true rfl | omega) ⟨rfl, b, hfb, ⟨_, _, qs, qb, Nat.zero_le _, by decide, (fun _ => (by decide : 0 < 256)), fun i hi => absurd hi (Nat.not_lt_zero i), fun c hc => (by cases hc)⟩, qf⟩
theorem ct_J5_init {G : GG} {l : Launch} {h : AH} {s : Nat}  (hs : h s = some (.inr (21, [.null, .int (nI 0), .int (nI 0), .int (nI 0)]))) : Ct G l yJ5_init cJ5_init 1 none 2 (1) (16) [.ref s] h (fun r h2 => r = none ∧ ∃ b, h b = none ∧ SBs G h2 s b 16 [] ∧ Fr (m1 s) h h2) := by
  refine Ct.of (by decide) (Nat.le_of_ble_eq_true rfl) (cat1 rfl) (fun X hXl F HN => ?_)
  subst hXl
  refine V_aload_n (i := 0) F dJ5_init_0 rfl rfl ?_
  refine V_bipush (v := nI 16) F dJ5_init_1 rfl ?_
  refine V_callI (st := []) (nn := 1) F dJ5_init_3 lk_J5_1 (ct_J4_init hs) rfl rfl (Nat.le_of_ble_eq_true rfl) (Nat.le_of_ble_eq_true rfl) (Nat.le_of_ble_eq_true rfl) (by omega) (by omega) ?_
  rintro _ h2 ⟨rfl, b, hb0, hS2, hx2⟩
  exact V_vret F dJ5_init_6 (by first | exact Nat.le_of_ble_eq_true rfl | omega) (by first | exact Nat.le_of_ble_eq_true rfl | omega) ⟨rfl, b, hb0, hS2, hx2⟩
theorem ct_J4_isLatin1 {G : GG} {l : Launch} {h : AH} {s b N : Nat} {l0 : List Nat}  (hS : SBs G h s b N l0) : Ct G l yJ4_isLatin1 cJ4_isLatin1 1 (some .boolean) 0 (0) (0) [.ref s] h (PR (.int (nI 1)) h) := by
  refine Ct.of (by decide) (Nat.le_of_ble_eq_true rfl) (cat1 rfl) (fun X hXl F HN => ?_)
  subst hXl
  obtain ⟨ml, c, hs, hb, hlN, hN2, hc8, hcl, hal⟩ := id hS
  refine V_gets F dJ4_isLatin1_0 (List.mem_of_getElem? (i := 2) rfl) q227 ?_
  refine VV.stk (st' := [.int (nI (1))]) rfl ?_
  refine V_if_eqN (tgt := 17) F dJ4_isLatin1_3 (by decide) (by omega) (fun c_3 => absurd c_3 (by decide)) (fun c_3 => ?_)
  refine V_aload_n (i := 0) F dJ4_isLatin1_6 rfl rfl ?_
  refine V_getf F dJ4_isLatin1_7 fc_J4_22_J5 (.inl hs) rfl ?_
  refine V_if_neN (tgt := 17) F dJ4_isLatin1_10 (by decide) (by omega) (fun c_10 => absurd c_10 (by decide)) (fun c_10 => ?_)
  refine V_iconst (v := nI 1) F dJ4_isLatin1_13 rfl ?_
  refine V_goto (tgt := 18) F dJ4_isLatin1_14 (by decide) ?_
  exact V_iret F dJ4_isLatin1_18 rfl (by first | exact Nat.le_of_ble_eq_true rfl | omega) (by first | exact Nat.le_of_ble_eq_true rfl | omega) ⟨rfl, rfl⟩
theorem ct_J4_length {G : GG} {l : Launch} {h : AH} {s b N : Nat} {l0 : List Nat}  (hS : SBs G h s b N l0) : Ct G l yJ4_length cJ4_length 1 (some .int) 0 (0) (0) [.ref s] h (PR (.int (nI l0.length)) h) := by
  refine Ct.of (by decide) (Nat.le_of_ble_eq_true rfl) (cat1 rfl) (fun X hXl F HN => ?_)
  subst hXl
  obtain ⟨ml, c, hs, hb, hlN, hN2, hc8, hcl, hal⟩ := id hS
  refine V_aload_n (i := 0) F dJ4_length_0 rfl rfl ?_
  refine V_getf F dJ4_length_1 fc_J4_79_J5 (.inl hs) rfl ?_
  exact V_iret F dJ4_length_4 (by rfl) (by first | exact Nat.le_of_ble_eq_true rfl | omega) (by first | exact Nat.le_of_ble_eq_true rfl | omega) ⟨rfl, rfl⟩
theorem ct_J4_getValue {G : GG} {l : Launch} {h : AH} {s b : Nat} {ml : Int32} {N : Nat} {c : Nat → Nat} {l0 : List Nat}  (hs : h s = some (.inr (21, [.ref b, .int (nI 0), .int ml, .int (nI l0.length)]))) (hb : h b = some (byA G N c)) : Ct G l yJ4_getValue cJ4_getValue 1 (some (.array .byte)) 0 (0) (0) [.ref s] h (PR (.ref b) h) := by
  refine Ct.of (by decide) (Nat.le_of_ble_eq_true rfl) (cat1 rfl) (fun X hXl F HN => ?_)
  subst hXl
  refine V_aload_n (i := 0) F dJ4_getValue_0 rfl rfl ?_
  refine V_getf F dJ4_getValue_1 fc_J4_15_J5 (.inl hs) rfl ?_
  exact V_aret F dJ4_getValue_4 (Or.inr ⟨_, rfl⟩) (Or.inr ⟨_, rfl⟩) (by first | exact Nat.le_of_ble_eq_true rfl | omega) (by first | exact Nat.le_of_ble_eq_true rfl | omega) ⟨rfl, rfl⟩
theorem ct_J5_length {G : GG} {l : Launch} {h : AH} {s b N : Nat} {l0 : List Nat}  (hS : SBs G h s b N l0) : Ct G l yJ5_length cJ5_length 1 (some .int) 1 (0) (0) [.ref s] h (PR (.int (nI l0.length)) h) := by
  refine Ct.of (by decide) (Nat.le_of_ble_eq_true rfl) (cat1 rfl) (fun X hXl F HN => ?_)
  subst hXl
  refine V_aload_n (i := 0) F dJ5_length_0 rfl rfl ?_
  refine V_callSU (st := []) (nn := 0) F dJ5_length_1 ⟨lw_SU q727 q723 q249 q722 q106 q728, by decide, by decide +kernel⟩ (ct_J4_length hS) hS.isC rfl rfl (Nat.le_of_ble_eq_true rfl) (Nat.le_of_ble_eq_true rfl) (Nat.le_of_ble_eq_true rfl) (by omega) (by omega) ?_
  refine PRk ?_
  exact V_iret F dJ5_length_4 rfl (by first | exact Nat.le_of_ble_eq_true rfl | omega) (by first | exact Nat.le_of_ble_eq_true rfl | omega) ⟨rfl, rfl⟩
theorem ct_J17_newLength {G : GG} {l : Launch} {h : AH} {a b c : Nat}  (ha : a < 2 ^ 20) (hb : b < 2 ^ 20) (hc : c < 2 ^ 20) (hp : 0 < a + max b c) : Ct G l yJ17_newLength cJ17_newLength 4 (some .int) 1 (0) (0) [.int (nI a), .int (nI b), .int (nI c)] h (PR (.int (nI (a + max b c))) h) := by
  refine Ct.of (by decide) (Nat.le_of_ble_eq_true rfl) (cat1 rfl) (fun X hXl F HN => ?_)
  subst hXl
  refine V_iload_n (i := 0) F dJ17_newLength_0 rfl rfl ?_
  refine V_iload_n (i := 1) F dJ17_newLength_1 rfl rfl ?_
  refine V_iload_n (i := 2) F dJ17_newLength_2 rfl rfl ?_
  refine V_mmaxN (a := b) (b := c) F dJ17_newLength_3 q579 (by omega) (by omega) (Nat.le_of_ble_eq_true rfl) (Nat.le_of_ble_eq_true rfl) (by omega) (by omega) ?_
  refine V_iaddN F dJ17_newLength_6 ?_
  refine V_istore_n (i := 3) F dJ17_newLength_7 rfl (Nat.le_of_ble_eq_true rfl) (Nat.le_of_ble_eq_true rfl) ?_
  refine V_iconst (v := nI 0) F dJ17_newLength_8 rfl ?_
  refine V_iload_n (i := 3) F dJ17_newLength_9 rfl rfl ?_
  refine V_icmp_geN (tgt := 21) F dJ17_newLength_10 (by decide) (by omega) (by omega) (fun c_10 => absurd c_10 (by omega)) (fun c_10 => ?_)
  refine V_iload_n (i := 3) F dJ17_newLength_13 rfl rfl ?_
  refine V_ldc (v := nI 2147483639) F dJ17_newLength_14 q582 ?_
  refine V_icmp_gtN (tgt := 21) F dJ17_newLength_16 (by decide) (by omega) (by omega) (fun c_16 => absurd c_16 (by omega)) (fun c_16 => ?_)
  refine V_iload_n (i := 3) F dJ17_newLength_19 rfl rfl ?_
  exact V_iret F dJ17_newLength_20 rfl (by first | exact Nat.le_of_ble_eq_true rfl | omega) (by first | exact Nat.le_of_ble_eq_true rfl | omega) ⟨rfl, rfl⟩
theorem ct_J4_newCapacity {G : GG} {l : Launch} {h : AH} {s b N : Nat} {l0 : List Nat} {m : Nat}  (hS : SBs G h s b N l0) (hm : N < m) (hm1 : m ≤ 100) : Ct G l yJ4_newCapacity cJ4_newCapacity 6 (some .int) 2 (0) (0) [.ref s, .int (nI m)] h (PR (.int (nI (N + max (m - N) (N + 2)))) h) := by
  refine Ct.of (by decide) (Nat.le_of_ble_eq_true rfl) (cat1 rfl) (fun X hXl F HN => ?_)
  subst hXl
  obtain ⟨ml, c, hs, hb, hlN, hN2, hc8, hcl, hal⟩ := id hS
  refine V_aload_n (i := 0) F dJ4_newCapacity_0 rfl rfl ?_
  refine V_getf F dJ4_newCapacity_1 fc_J4_15_J5 (.inl hs) rfl ?_
  refine V_alen (v := nI N) F 5 dJ4_newCapacity_4 rfl (.inl hb) rfl ?_
  refine V_istore_n (i := 2) F dJ4_newCapacity_5 rfl (Nat.le_of_ble_eq_true rfl) (Nat.le_of_ble_eq_true rfl) ?_
  refine V_iload_n (i := 1) F dJ4_newCapacity_6 rfl rfl ?_
  refine V_aload_n (i := 0) F dJ4_newCapacity_7 rfl rfl ?_
  refine V_getf F dJ4_newCapacity_8 fc_J4_22_J5 (.inl hs) rfl ?_
  refine V_ishl0 F dJ4_newCapacity_11 ?_
  refine V_istore_n (i := 3) F dJ4_newCapacity_12 rfl (Nat.le_of_ble_eq_true rfl) (Nat.le_of_ble_eq_true rfl) ?_
  refine V_iload_n (i := 3) F dJ4_newCapacity_13 rfl rfl ?_
  refine V_iload_n (i := 2) F dJ4_newCapacity_14 rfl rfl ?_
  refine V_isubN F dJ4_newCapacity_15 (by omega) ?_
  refine V_istore (i := 4) F dJ4_newCapacity_16 (Nat.le_of_ble_eq_true rfl) (Nat.le_of_ble_eq_true rfl) ?_
  refine V_iload_n (i := 2) F dJ4_newCapacity_18 rfl rfl ?_
  refine V_iload (i := 4) F dJ4_newCapacity_19 rfl ?_
  refine V_iload_n (i := 2) F dJ4_newCapacity_21 rfl rfl ?_
  refine V_iconst (v := nI 2) F dJ4_newCapacity_22 rfl ?_
  refine V_aload_n (i := 0) F dJ4_newCapacity_23 rfl rfl ?_
  refine V_getf F dJ4_newCapacity_24 fc_J4_22_J5 (.inl hs) rfl ?_
  refine V_ishl0 F dJ4_newCapacity_27 ?_
  refine V_iaddN F dJ4_newCapacity_28 ?_
  refine V_callS (st := []) (nn := 3) F dJ4_newCapacity_29 lk_J4_114 (ct_J17_newLength (a := N) (b := m - N) (c := N + 2) (by omega) (by omega) (by omega) (by omega)) rfl rfl (Nat.le_of_ble_eq_true rfl) (Nat.le_of_ble_eq_true rfl) (Nat.le_of_ble_eq_true rfl) (by omega) (by omega) ?_
  refine PRk ?_
  refine V_istore (i := 5) F dJ4_newCapacity_32 (Nat.le_of_ble_eq_true rfl) (Nat.le_of_ble_eq_true rfl) ?_
  refine V_iload (i := 5) F dJ4_newCapacity_34 rfl ?_
  refine V_ldc (v := nI 2147483647) F dJ4_newCapacity_36 q586 ?_
  refine V_icmp_neN (tgt := 51) F dJ4_newCapacity_38 (by decide) (by omega) (by omega) (fun c_38 => ?_) (fun c_38 => absurd c_38 (by omega))
  refine V_iload (i := 5) F dJ4_newCapacity_51 rfl ?_
  refine V_aload_n (i := 0) F dJ4_newCapacity_53 rfl rfl ?_
  refine V_getf F dJ4_newCapacity_54 fc_J4_22_J5 (.inl hs) rfl ?_
  refine V_ishr0 F dJ4_newCapacity_57 ?_
  exact V_iret F dJ4_newCapacity_58 rfl (by first | exact Nat.le_of_ble_eq_true rfl | omega) (by first | exact Nat.le_of_ble_eq_true rfl | omega) ⟨rfl, rfl⟩
theorem ct_J19_copyOfB {G : GG} {l : Launch} {h : AH} {a n0 n1 : Nat} {c : Nat → Nat}  (ha : rd G h a (byA G n0 c)) (hc8 : by8 c) (hn : n0 < n1) (hn1 : n1 ≤ 1000) : Ct G l yJ19_copyOf cJ19_copyOf 3 (some (.array .byte)) 1 (1) (n1) [.ref a, .int (nI n1)] h (fun r h2 => ∃ o c2, r = some (.ref o) ∧ h o = none ∧ h2 o = some (byA G n1 c2) ∧ by8 c2 ∧ (∀ i, i < n0 → c2 i = c i) ∧ Fr nM h h2) := by
  refine Ct.of (by decide) (Nat.le_of_ble_eq_true rfl) (cat1 rfl) (fun X hXl F HN => ?_)
  subst hXl
  refine V_iload_n (i := 1) F dJ19_copyOf_0 rfl rfl ?_
  refine V_aload_n (i := 0) F dJ19_copyOf_1 rfl rfl ?_
  refine V_alen (v := nI n0) F 5 dJ19_copyOf_2 rfl ha rfl ?_
  refine V_icmp_neN (tgt := 14) F dJ19_copyOf_3 (by decide) (by omega) (by omega) (fun c_3 => ?_) (fun c_3 => absurd c_3 (by omega))
  refine V_iload_n (i := 1) F dJ19_copyOf_14 rfl rfl ?_
  refine V_newaS F dJ19_copyOf_15 (by omega) (by omega) (by omega) ?_
  intro o hfo hbo
  refine V_astore_n (i := 2) F dJ19_copyOf_17 rfl (Nat.le_of_ble_eq_true rfl) (Nat.le_of_ble_eq_true rfl) ?_
  refine V_aload_n (i := 0) F dJ19_copyOf_18 rfl rfl ?_
  refine V_iconst (v := nI 0) F dJ19_copyOf_19 rfl ?_
  refine V_aload_n (i := 2) F dJ19_copyOf_20 rfl rfl ?_
  refine V_iconst (v := nI 0) F dJ19_copyOf_21 rfl ?_
  refine V_aload_n (i := 0) F dJ19_copyOf_22 rfl rfl ?_
  refine V_alen (v := nI n0) F 5 dJ19_copyOf_23 rfl (ha.nw hfo) rfl ?_
  refine V_iload_n (i := 1) F dJ19_copyOf_24 rfl rfl ?_
  refine V_mminN (a := n0) (b := n1) F dJ19_copyOf_25 q597 (by omega) (by omega) (Nat.le_of_ble_eq_true rfl) (Nat.le_of_ble_eq_true rfl) (by omega) (by omega) ?_
  refine V_copyS F dJ19_copyOf_28 q600 (ha.nw hfo) (hset_self (e := byA G n1 (fun _ => 0))) (by omega) (by omega) (by omega) (by omega) (Nat.le_of_ble_eq_true rfl) (Nat.le_of_ble_eq_true rfl) ?_
  refine V_aload_n (i := 2) F dJ19_copyOf_31 rfl rfl ?_
  have qo : (hset (hset h o (byA G n1 (fun _ => 0))) (o) (byA G n1 ((va_cpy c (fun _ => 0) 0 0 (min n0 n1))))) o = some (byA G n1 ((va_cpy c (fun _ => 0) 0 0 (min n0 n1)))) := (hset_self (e := byA G n1 ((va_cpy c (fun _ => 0) 0 0 (min n0 n1)))))
  have qf := (((Fr.rf (M := nM) (h := h)).nw (x := byA G n1 (fun _ => 0)) hfo).put (x := byA G n1 ((va_cpy c (fun _ => 0) 0 0 (min n0 n1)))) (hset_self (e := byA G n1 (fun _ => 0))) ⟨rfl, rfl⟩ rfl ((Fr.rf (M := nM) (h := h)).yo hfo))
  exact V_aret F dJ19_copyOf_32 (Or.inr ⟨_, rfl⟩) (Or.inr ⟨_, rfl⟩) (by first | exact Nat.le_of_ble_eq_true rfl | omega) (by first | exact Nat.le_of_ble_eq_true rfl | omega) ⟨o, _, rfl, hfo, qo, by8.cpy hc8 (fun _ => by decide), fun i hi => by unfold va_cpy; rw [if_pos ⟨Nat.zero_le _, by omega⟩, Nat.zero_add, Nat.sub_zero], qf⟩
theorem sub_le0 {m N : Nat} (h : m ≤ N) (hN : N < 2 ^ 30) : nI m - nI N ≤ 0 := by
  rw [Int32.le_iff_toInt_le, nI_subT (by omega) hN]
  show _ ≤ (0 : Int32).toInt
  have e : (0 : Int32).toInt = 0 := rfl
  omega
theorem ct_J4_ens {G : GG} {l : Launch} {h : AH} {s b N : Nat} {l0 : List Nat} {m : Nat}  (hS : SBs G h s b N l0) (hm : m ≤ 100) : Ct G l yJ4_ensureCapacityInternal cJ4_ensureCapacityInternal 3 none 3 (1) (202) [.ref s, .int (nI m)] h (fun r h2 => r = none ∧ ∃ b2 N2, SBs G h2 s b2 N2 l0 ∧ m ≤ N2 ∧ (b2 = b ∧ N2 = N ∨ h b2 = none) ∧ Fr (m1 s) h h2) := by
  refine Ct.of (by decide) (Nat.le_of_ble_eq_true rfl) (cat1 rfl) (fun X hXl F HN => ?_)
  subst hXl
  obtain ⟨ml, c, hs, hb, hlN, hN2, hc8, hcl, hal⟩ := id hS
  refine V_aload_n (i := 0) F dJ4_ensureCapacityInternal_0 rfl rfl ?_
  refine V_getf F dJ4_ensureCapacityInternal_1 fc_J4_15_J5 (.inl hs) rfl ?_
  refine V_alen (v := nI N) F 5 dJ4_ensureCapacityInternal_4 rfl (.inl hb) rfl ?_
  refine V_aload_n (i := 0) F dJ4_ensureCapacityInternal_5 rfl rfl ?_
  refine V_getf F dJ4_ensureCapacityInternal_6 fc_J4_22_J5 (.inl hs) rfl ?_
  refine V_ishr0 F dJ4_ensureCapacityInternal_9 ?_
  refine V_istore_n (i := 2) F dJ4_ensureCapacityInternal_10 rfl (Nat.le_of_ble_eq_true rfl) (Nat.le_of_ble_eq_true rfl) ?_
  refine V_iload_n (i := 1) F dJ4_ensureCapacityInternal_11 rfl rfl ?_
  refine V_iload_n (i := 2) F dJ4_ensureCapacityInternal_12 rfl rfl ?_
  refine V_isub F dJ4_ensureCapacityInternal_13 ?_
  refine V_if_le (tgt := 38) F dJ4_ensureCapacityInternal_14 (by decide) (fun c_14 => ?_) (fun c_14 => ?_)
  · have hle : m ≤ N := Nat.not_lt.mp (fun z => by rw [Int32.le_iff_toInt_le, nI_subT (by omega) (by omega)] at c_14; have e : (0 : Int32).toInt = 0 := rfl; omega)
    exact V_vret F dJ4_ensureCapacityInternal_38 (by first | exact Nat.le_of_ble_eq_true rfl | omega) (by first | exact Nat.le_of_ble_eq_true rfl | omega) ⟨rfl, b, N, hS, by omega, Or.inl ⟨rfl, rfl⟩, Fr.rf⟩
  · have hlt : N < m := Nat.not_le.mp (fun z => c_14 ((sub_le0 z (by omega))))
    refine V_aload_n (i := 0) F dJ4_ensureCapacityInternal_17 rfl rfl ?_
    refine V_aload_n (i := 0) F dJ4_ensureCapacityInternal_18 rfl rfl ?_
    refine V_getf F dJ4_ensureCapacityInternal_19 fc_J4_15_J5 (.inl hs) rfl ?_
    refine V_aload_n (i := 0) F dJ4_ensureCapacityInternal_22 rfl rfl ?_
    refine V_iload_n (i := 1) F dJ4_ensureCapacityInternal_23 rfl rfl ?_
    refine V_callP (st := [.ref (b), .ref (s)]) (nn := 1) F dJ4_ensureCapacityInternal_24 ⟨lw_P q572 q574 q106 q575, q573, ⟨_, _, _, q606, rfl⟩, by decide +kernel, by decide +kernel⟩ (ct_J4_newCapacity hS hlt hm) hS.isC rfl rfl (Nat.le_of_ble_eq_true rfl) (Nat.le_of_ble_eq_true rfl) (Nat.le_of_ble_eq_true rfl) (by omega) (by omega) ?_
    refine PRk ?_
    refine V_aload_n (i := 0) F dJ4_ensureCapacityInternal_27 rfl rfl ?_
    refine V_getf F dJ4_ensureCapacityInternal_28 fc_J4_22_J5 (.inl hs) rfl ?_
    refine V_ishl0 F dJ4_ensureCapacityInternal_31 ?_
    refine V_callS (st := [.ref (s)]) (nn := 2) F dJ4_ensureCapacityInternal_32 lk_J4_108 (ct_J19_copyOfB (n1 := N + max (m - N) (N + 2)) (.inl hb) hc8 (by omega) (by omega)) rfl rfl (Nat.le_of_ble_eq_true rfl) (Nat.le_of_ble_eq_true rfl) (Nat.le_of_ble_eq_true rfl) (by omega) (by omega) ?_
    rintro _ h3 ⟨o, c2, rfl, ho0, ho, hc2, hcc, hx3⟩
    have p1 := hx3.get hs id rfl
    have p2 := hx3.get hb id rfl
    have f3 : Fr (m1 s) h h3 := (Fr.rf (M := m1 s) (h := h)).cal0 hx3
    refine V_putf F dJ4_ensureCapacityInternal_35 fp_J4_15_J5 p1 rfl rfl (Nat.le_of_ble_eq_true rfl) ?_
    refine VV.heap (h' := (hset h3 (s) (.inr (21, [.ref (o), .int (nI (0)), .int (ml), .int (nI (l0.length))])))) rfl ?_
    have qs : (hset h3 (s) (.inr (21, [.ref (o), .int (nI (0)), .int (ml), .int (nI (l0.length))]))) s = some (.inr (21, [.ref (o), .int (nI (0)), .int (ml), .int (nI (l0.length))])) := (hset_self (e := .inr (21, [.ref (o), .int (nI (0)), .int (ml), .int (nI (l0.length))])))
    have qo : (hset h3 (s) (.inr (21, [.ref (o), .int (nI (0)), .int (ml), .int (nI (l0.length))]))) o = some (byA G (N + max (m - N) (N + 2)) c2) := ((hset_ne (Ne.symm (ne_fr hs ho0))).trans ho)
    have qf := (f3.put (x := .inr (21, [.ref (o), .int (nI (0)), .int (ml), .int (nI (l0.length))])) p1 rfl rfl (Or.inl rfl))
    exact V_vret F dJ4_ensureCapacityInternal_38 (by first | exact Nat.le_of_ble_eq_true rfl | omega) (by first | exact Nat.le_of_ble_eq_true rfl | omega) ⟨rfl, o, N + max (m - N) (N + 2), ⟨_, _, qs, qo, by omega, by omega, hc2, fun i hi => (hcc i (by omega)).trans (hcl i hi), hal⟩, by omega, Or.inr ho0, qf⟩
theorem ct_J6_getBytes {G : GG} {l : Launch} {h : AH} {a b N k : Nat} {l2 : List Nat} {c : Nat → Nat}  (hS2 : STR G h a l2) (hb : h b = some (byA G N c)) (hk : k + l2.length ≤ N) (hN : N < 1000) : Ct G l yJ6_getBytes cJ6_getBytes 4 none 1 (0) (0) [.ref a, .ref b, .int (nI k), .int (nI 0)] h (fun r h2 => r = none ∧ ∃ e, h2 b = some (byA G N (va_cpy e c 0 k l2.length)) ∧ by8 e ∧ begW e l2 ∧ Fr (m1 b) h h2) := by
  refine Ct.of (by decide) (Nat.le_of_ble_eq_true rfl) (cat1 rfl) (fun X hXl F HN => ?_)
  subst hXl
  obtain ⟨v, ha, hz, e, q1, q2, q3, q4, q5, q6, q7⟩ := id hS2
  refine V_aload_n (i := 0) F dJ6_getBytes_0 rfl rfl ?_
  refine V_callV (st := []) (nn := 0) F dJ6_getBytes_1 lk_J6_335 (ct_J6_coder q1 q2 q3 (by omega)) ⟨22, _, _, _, rfl, q1⟩ rfl rfl (Nat.le_of_ble_eq_true rfl) (Nat.le_of_ble_eq_true rfl) (Nat.le_of_ble_eq_true rfl) (by omega) (by omega) ?_
  refine PRk ?_
  refine V_iload_n (i := 3) F dJ6_getBytes_4 rfl rfl ?_
  refine V_icmp_neN (tgt := 28) F dJ6_getBytes_5 (by decide) (by decide) (by decide) (fun c_5 => absurd c_5 (fun z => z rfl)) (fun c_5 => ?_)
  refine V_aload_n (i := 0) F dJ6_getBytes_8 rfl rfl ?_
  refine V_getf F dJ6_getBytes_9 fc_J6_9_J6 q1 rfl ?_
  refine V_iconst (v := nI 0) F dJ6_getBytes_12 rfl ?_
  refine V_aload_n (i := 1) F dJ6_getBytes_13 rfl rfl ?_
  refine V_iload_n (i := 2) F dJ6_getBytes_14 rfl rfl ?_
  refine V_iload_n (i := 3) F dJ6_getBytes_15 rfl rfl ?_
  refine V_ishl0 F dJ6_getBytes_16 ?_
  refine V_aload_n (i := 0) F dJ6_getBytes_17 rfl rfl ?_
  refine V_getf F dJ6_getBytes_18 fc_J6_9_J6 q1 rfl ?_
  refine V_alen (v := nI l2.length) F 5 dJ6_getBytes_21 rfl q2 rfl ?_
  refine V_copyS F dJ6_getBytes_22 q675 q2 hb (by omega) (by omega) (by omega) (by omega) (Nat.le_of_ble_eq_true rfl) (Nat.le_of_ble_eq_true rfl) ?_
  refine V_goto (tgt := 43) F dJ6_getBytes_25 (by decide) ?_
  have qb : (hset h (b) (byA G N ((va_cpy e c 0 k l2.length)))) b = some (byA G N ((va_cpy e c 0 k l2.length))) := (hset_self (e := byA G N ((va_cpy e c 0 k l2.length))))
  have qf := ((Fr.rf (M := m1 b) (h := h)).put (x := byA G N ((va_cpy e c 0 k l2.length))) hb ⟨rfl, rfl⟩ rfl (Or.inl rfl))
  exact V_vret F dJ6_getBytes_43 (by first | exact Nat.le_of_ble_eq_true rfl | omega) (by first | exact Nat.le_of_ble_eq_true rfl | omega) ⟨rfl, e, qb, q3, q4, qf⟩
theorem ct_J4_infl {G : GG} {l : Launch} {h : AH} {s b N : Nat} {l0 : List Nat} {a : Nat} {l2 : List Nat}  (hS : SBs G h s b N l0) (hS2 : STR G h a l2) : Ct G l yJ4_inflateIfNeededFor cJ4_inflateIfNeededFor 2 none 1 (0) (0) [.ref s, .ref a] h (PV h) := by
  refine Ct.of (by decide) (Nat.le_of_ble_eq_true rfl) (cat1 rfl) (fun X hXl F HN => ?_)
  subst hXl
  obtain ⟨ml, c, hs, hb, hlN, hN2, hc8, hcl, hal⟩ := id hS
  obtain ⟨v, ha, hz, e, q1, q2, q3, q4, q5, q6, q7⟩ := id hS2
  refine V_gets F dJ4_inflateIfNeededFor_0 (List.mem_of_getElem? (i := 2) rfl) q227 ?_
  refine VV.stk (st' := [.int (nI (1))]) rfl ?_
  refine V_if_eqN (tgt := 21) F dJ4_inflateIfNeededFor_3 (by decide) (by omega) (fun c_3 => absurd c_3 (by decide)) (fun c_3 => ?_)
  refine V_aload_n (i := 0) F dJ4_inflateIfNeededFor_6 rfl rfl ?_
  refine V_getf F dJ4_inflateIfNeededFor_7 fc_J4_22_J5 (.inl hs) rfl ?_
  refine V_aload_n (i := 1) F dJ4_inflateIfNeededFor_10 rfl rfl ?_
  refine V_callV (st := [.int (nI (0))]) (nn := 0) F dJ4_inflateIfNeededFor_11 lk_J4_40 (ct_J6_coder q1 q2 q3 (by omega)) ⟨22, _, _, _, rfl, q1⟩ rfl rfl (Nat.le_of_ble_eq_true rfl) (Nat.le_of_ble_eq_true rfl) (Nat.le_of_ble_eq_true rfl) (by omega) (by omega) ?_
  refine PRk ?_
  refine V_icmp_eqN (tgt := 21) F dJ4_inflateIfNeededFor_14 (by decide) (by decide) (by decide) (fun c_14 => ?_) (fun c_14 => absurd c_14 (fun z => z rfl))
  exact V_vret F dJ4_inflateIfNeededFor_21 (by first | exact Nat.le_of_ble_eq_true rfl | omega) (by first | exact Nat.le_of_ble_eq_true rfl | omega) ⟨rfl, rfl⟩
theorem ct_J4_putStringAt {G : GG} {l : Launch} {h : AH} {s b N : Nat} {l0 : List Nat} {a : Nat} {l2 : List Nat}  (hS : SBs G h s b N l0) (hS2 : STR G h a l2) (hk : l0.length + l2.length ≤ N) : Ct G l yJ4_putStringAt cJ4_putStringAt 3 none 2 (0) (0) [.ref s, .int (nI l0.length), .ref a] h (fun r h2 => r = none ∧ ∃ ml c e, h2 b = some (byA G N (va_cpy e c 0 l0.length l2.length)) ∧ h s = some (.inr (21, [.ref b, .int (nI 0), .int ml, .int (nI l0.length)])) ∧ begW c l0 ∧ by8 c ∧ by8 e ∧ begW e l2 ∧ Fr (m1 b) h h2) := by
  refine Ct.of (by decide) (Nat.le_of_ble_eq_true rfl) (cat1 rfl) (fun X hXl F HN => ?_)
  subst hXl
  obtain ⟨ml, c, hs, hb, hlN, hN2, hc8, hcl, hal⟩ := id hS
  refine V_aload_n (i := 0) F dJ4_putStringAt_0 rfl rfl ?_
  refine V_aload_n (i := 2) F dJ4_putStringAt_1 rfl rfl ?_
  refine V_callP (st := []) (nn := 1) F dJ4_putStringAt_2 ⟨lw_P q647 q649 q106 q650, q648, ⟨_, _, _, q606, rfl⟩, by decide +kernel, by decide +kernel⟩ (ct_J4_infl hS hS2) hS.isC rfl rfl (Nat.le_of_ble_eq_true rfl) (Nat.le_of_ble_eq_true rfl) (Nat.le_of_ble_eq_true rfl) (by omega) (by omega) ?_
  refine PVk ?_
  refine V_aload_n (i := 2) F dJ4_putStringAt_5 rfl rfl ?_
  refine V_aload_n (i := 0) F dJ4_putStringAt_6 rfl rfl ?_
  refine V_getf F dJ4_putStringAt_7 fc_J4_15_J5 (.inl hs) rfl ?_
  refine V_iload_n (i := 1) F dJ4_putStringAt_10 rfl rfl ?_
  refine V_aload_n (i := 0) F dJ4_putStringAt_11 rfl rfl ?_
  refine V_getf F dJ4_putStringAt_12 fc_J4_22_J5 (.inl hs) rfl ?_
  refine V_callV (st := []) (nn := 3) F dJ4_putStringAt_15 lk_J4_399 (ct_J6_getBytes hS2 hb (by omega) (by omega)) hS2.isC rfl rfl (Nat.le_of_ble_eq_true rfl) (Nat.le_of_ble_eq_true rfl) (Nat.le_of_ble_eq_true rfl) (by omega) (by omega) ?_
  rintro _ h2 ⟨rfl, e, hb2, he8, hel, hx2⟩
  exact V_vret F dJ4_putStringAt_18 (by first | exact Nat.le_of_ble_eq_true rfl | omega) (by first | exact Nat.le_of_ble_eq_true rfl | omega) ⟨rfl, ml, c, e, hb2, hs, hcl, hc8, he8, hel, hx2⟩
theorem ct_J4_append {G : GG} {l : Launch} {h : AH} {s b N : Nat} {l0 : List Nat} {a : Nat} {l2 : List Nat}  (hS : SBs G h s b N l0) (hS2 : STR G h a l2) (hm : l0.length + l2.length ≤ 100) : Ct G l yJ4_append cJ4_append 3 (some (.object "java/lang/AbstractStringBuilder")) 4 (1) (202) [.ref s, .ref a] h (fun r h2 => r = some (.ref s) ∧ ∃ b2 N2, SBs G h2 s b2 N2 (l0 ++ l2) ∧ (b2 = b ∧ N2 = N ∨ h b2 = none) ∧ Fr (m2 s b) h h2) := by
  refine Ct.of (by decide) (Nat.le_of_ble_eq_true rfl) (cat1 rfl) (fun X hXl F HN => ?_)
  subst hXl
  obtain ⟨ml, c, hs, hb, hlN, hN2, hc8, hcl, hal⟩ := id hS
  obtain ⟨v, ha, hz, e1, q1, q2, q3, q4, q5, q6, q7⟩ := id hS2
  refine V_aload_n (i := 1) F dJ4_append_0 rfl rfl ?_
  refine V_ifnonnull (tgt := 9) F dJ4_append_1 (by decide) ?_
  refine V_aload_n (i := 1) F dJ4_append_9 rfl rfl ?_
  refine V_callV (st := []) (nn := 0) F dJ4_append_10 lk_J4_32 (ct_J6_length q1 q2 q3 (by omega)) hS2.isC rfl rfl (Nat.le_of_ble_eq_true rfl) (Nat.le_of_ble_eq_true rfl) (Nat.le_of_ble_eq_true rfl) (by omega) (by omega) ?_
  refine PRk ?_
  refine V_istore_n (i := 2) F dJ4_append_13 rfl (Nat.le_of_ble_eq_true rfl) (Nat.le_of_ble_eq_true rfl) ?_
  refine V_aload_n (i := 0) F dJ4_append_14 rfl rfl ?_
  refine V_aload_n (i := 0) F dJ4_append_15 rfl rfl ?_
  refine V_getf F dJ4_append_16 fc_J4_79_J5 (.inl hs) rfl ?_
  refine V_iload_n (i := 2) F dJ4_append_19 rfl rfl ?_
  refine V_iaddN F dJ4_append_20 ?_
  refine V_callP (st := []) (nn := 1) F dJ4_append_21 ⟨lw_P q568 q570 q106 q571, q569, ⟨_, _, _, q606, rfl⟩, by decide +kernel, by decide +kernel⟩ (ct_J4_ens (m := l0.length + l2.length) hS (by omega)) hS.isC rfl rfl (Nat.le_of_ble_eq_true rfl) (Nat.le_of_ble_eq_true rfl) (Nat.le_of_ble_eq_true rfl) (by omega) (by omega) ?_
  rintro _ h2 ⟨rfl, b2, N2, hSn, hmN, hbb, hx2⟩
  obtain ⟨ml2, c2, hs2, hb2, hlN2, hN22, hc82, hcl2, hal2⟩ := id hSn
  refine V_aload_n (i := 0) F dJ4_append_24 rfl rfl ?_
  refine V_aload_n (i := 0) F dJ4_append_25 rfl rfl ?_
  refine V_getf F dJ4_append_26 fc_J4_79_J5 (.inl hs2) rfl ?_
  refine V_aload_n (i := 1) F dJ4_append_29 rfl rfl ?_
  refine V_callP (st := []) (nn := 2) F dJ4_append_30 ⟨lw_P q643 q645 q106 q646, q644, ⟨_, _, _, q606, rfl⟩, by decide +kernel, by decide +kernel⟩ (ct_J4_putStringAt hSn (hS2.fr hx2 (offK.m1 hs (kO_ne (by decide))) (fun v n c q _ => fun z => ne_ao q hs z)) (by omega)) hSn.isC rfl rfl (Nat.le_of_ble_eq_true rfl) (Nat.le_of_ble_eq_true rfl) (Nat.le_of_ble_eq_true rfl) (by omega) (by omega) ?_
  rintro _ h3 ⟨rfl, ml3, c3, e, hb3, hs3, hcl3, hc83, he8, hel, hx3⟩
  have hs4 := hx3.get hs3 (ne_oa hs3 hb2) rfl
  have hbY : Yo (m2 s b) h b2 := hbb.elim (fun z => Or.inl (Or.inr z.1)) Or.inr
  have hF3 : Fr (m2 s b) h h3 := (hx2.mono (fun _ z => Or.inl z)).cal hx3 (Yo.m1 hbY)
  refine V_aload_n (i := 0) F dJ4_append_33 rfl rfl ?_
  refine V_dup F dJ4_append_34 rfl ?_
  refine V_getf F dJ4_append_35 fc_J4_79_J5 (.inl hs4) rfl ?_
  refine V_iload_n (i := 2) F dJ4_append_38 rfl rfl ?_
  refine V_iaddN F dJ4_append_39 ?_
  refine V_putf F dJ4_append_40 fp_J4_79_J5 hs4 rfl rfl (Nat.le_of_ble_eq_true rfl) ?_
  refine VV.heap (h' := (hset h3 (s) (.inr (21, [.ref (b2), .int (nI (0)), .int (ml3), .int (nI (l0.length + l2.length))])))) rfl ?_
  refine V_aload_n (i := 0) F dJ4_append_43 rfl rfl ?_
  have qs : (hset h3 (s) (.inr (21, [.ref (b2), .int (nI (0)), .int (ml3), .int (nI (l0.length + l2.length))]))) s = some (.inr (21, [.ref (b2), .int (nI (0)), .int (ml3), .int (nI (l0.length + l2.length))])) := (hset_self (e := .inr (21, [.ref (b2), .int (nI (0)), .int (ml3), .int (nI (l0.length + l2.length))])))
  have qb : (hset h3 (s) (.inr (21, [.ref (b2), .int (nI (0)), .int (ml3), .int (nI (l0.length + l2.length))]))) b2 = some (byA G N2 ((va_cpy e c3 0 l0.length l2.length))) := ((hset_ne (ne_ao hb3 hs4)).trans hb3)
  have qf := (hF3.put (x := .inr (21, [.ref (b2), .int (nI (0)), .int (ml3), .int (nI (l0.length + l2.length))])) hs4 rfl rfl (Or.inl (Or.inl rfl)))
  exact V_aret F dJ4_append_44 (Or.inl ⟨_, rfl⟩) (Or.inr ⟨_, rfl⟩) (by first | exact Nat.le_of_ble_eq_true rfl | omega) (by first | exact Nat.le_of_ble_eq_true rfl | omega) ⟨rfl, b2, N2, ⟨_, _, by rw [List.length_append]; exact qs, qb, by rw [List.length_append]; exact hmN, hN22, he8.cpy hc83, hcl3.app hel, hal.app q5⟩, hbb, qf⟩
theorem ct_J5_append {G : GG} {l : Launch} {h : AH} {s b N : Nat} {l0 : List Nat} {a : Nat} {l2 : List Nat}  (hS : SBs G h s b N l0) (hS2 : STR G h a l2) (hm : l0.length + l2.length ≤ 100) : Ct G l yJ5_append cJ5_append 2 (some (.object "java/lang/StringBuilder")) 5 (1) (202) [.ref s, .ref a] h (fun r h2 => r = some (.ref s) ∧ ∃ b2 N2, SBs G h2 s b2 N2 (l0 ++ l2) ∧ (b2 = b ∧ N2 = N ∨ h b2 = none) ∧ Fr (m2 s b) h h2) := by
  refine Ct.of (by decide) (Nat.le_of_ble_eq_true rfl) (cat1 rfl) (fun X hXl F HN => ?_)
  subst hXl
  refine V_aload_n (i := 0) F dJ5_append_0 rfl rfl ?_
  refine V_aload_n (i := 1) F dJ5_append_1 rfl rfl ?_
  refine V_callSU (st := []) (nn := 1) F dJ5_append_2 ⟨lw_SU q561 q4204 q249 q562 q106 q563, by decide, by decide +kernel⟩ (ct_J4_append hS hS2 hm) hS.isC rfl rfl (Nat.le_of_ble_eq_true rfl) (Nat.le_of_ble_eq_true rfl) (Nat.le_of_ble_eq_true rfl) (by omega) (by omega) ?_
  rintro _ h2 ⟨rfl, b2, N2, hS3, hbb, hx2⟩
  refine V_pop F dJ5_append_5 rfl ?_
  refine V_aload_n (i := 0) F dJ5_append_6 rfl rfl ?_
  exact V_aret F dJ5_append_7 (Or.inl ⟨_, rfl⟩) (Or.inr ⟨_, rfl⟩) (by first | exact Nat.le_of_ble_eq_true rfl | omega) (by first | exact Nat.le_of_ble_eq_true rfl | omega) ⟨rfl, b2, N2, hS3, hbb, hx2⟩
theorem ct_J20_canEncode {G : GG} {l : Launch} {h : AH} {y : Nat}  (hy : y < 128) : Ct G l yJ20_canEncode cJ20_canEncode 1 (some .boolean) 0 (0) (0) [.int (nI y)] h (PR (.int (nI 1)) h) := by
  refine Ct.of (by decide) (Nat.le_of_ble_eq_true rfl) (cat1 rfl) (fun X hXl F HN => ?_)
  subst hXl
  refine V_iload_n (i := 0) F dJ20_canEncode_0 rfl rfl ?_
  refine V_sipush (v := nI 255) F dJ20_canEncode_1 rfl ?_
  refine V_icmp_gtN (tgt := 11) F dJ20_canEncode_4 (by decide) (by omega) (by decide) (fun c_4 => absurd c_4 (by omega)) (fun c_4 => ?_)
  refine V_iconst (v := nI 1) F dJ20_canEncode_7 rfl ?_
  refine V_goto (tgt := 12) F dJ20_canEncode_8 (by decide) ?_
  exact V_iret F dJ20_canEncode_12 rfl (by first | exact Nat.le_of_ble_eq_true rfl | omega) (by first | exact Nat.le_of_ble_eq_true rfl | omega) ⟨rfl, rfl⟩
theorem ct_J4_appendC {G : GG} {l : Launch} {h : AH} {s b N : Nat} {l0 : List Nat} {y : Nat}  (hS : SBs G h s b N l0) (hy : y < 128) (hm : l0.length + 1 ≤ 100) : Ct G l yJ4_append_3 cJ4_append_3 2 (some (.object "java/lang/AbstractStringBuilder")) 4 (1) (202) [.ref s, .int (nI y)] h (fun r h2 => r = some (.ref s) ∧ ∃ b2 N2, SBs G h2 s b2 N2 (l0 ++ [y]) ∧ (b2 = b ∧ N2 = N ∨ h b2 = none) ∧ Fr (m2 s b) h h2) := by
  refine Ct.of (by decide) (Nat.le_of_ble_eq_true rfl) (cat1 rfl) (fun X hXl F HN => ?_)
  subst hXl
  obtain ⟨ml, c, hs, hb, hlN, hN2, hc8, hcl, hal⟩ := id hS
  refine V_aload_n (i := 0) F dJ4_append_3_0 rfl rfl ?_
  refine V_aload_n (i := 0) F dJ4_append_3_1 rfl rfl ?_
  refine V_getf F dJ4_append_3_2 fc_J4_79_J5 (.inl hs) rfl ?_
  refine V_iconst (v := nI 1) F dJ4_append_3_5 rfl ?_
  refine V_iaddN F dJ4_append_3_6 ?_
  refine V_callP (st := []) (nn := 1) F dJ4_append_3_7 ⟨lw_P q568 q570 q106 q571, q569, ⟨_, _, _, q606, rfl⟩, by decide +kernel, by decide +kernel⟩ (ct_J4_ens (m := l0.length + 1) hS (by omega)) hS.isC rfl rfl (Nat.le_of_ble_eq_true rfl) (Nat.le_of_ble_eq_true rfl) (Nat.le_of_ble_eq_true rfl) (by omega) (by omega) ?_
  rintro _ h2 ⟨rfl, b2, N2, hSn, hmN, hbb, hx2⟩
  obtain ⟨ml2, c2, hs2, hb2, hlN2, hN22, hc82, hcl2, hal2⟩ := id hSn
  have hbY : Yo (m2 s b) h b2 := hbb.elim (fun z => Or.inl (Or.inr z.1)) Or.inr
  have hF2 : Fr (m2 s b) h h2 := hx2.mono (fun _ z => Or.inl z)
  refine V_aload_n (i := 0) F dJ4_append_3_10 rfl rfl ?_
  refine V_callO (st := []) (nn := 0) F dJ4_append_3_11 ⟨lw_O q603 q605 q604 q606 q604 q106 q607, ⟨_, _, _, q607⟩, by decide +kernel⟩ (ct_J4_isLatin1 hSn) hSn.isC rfl rfl (Nat.le_of_ble_eq_true rfl) (Nat.le_of_ble_eq_true rfl) (Nat.le_of_ble_eq_true rfl) (by omega) (by omega) ?_
  refine PRk ?_
  refine V_if_eqN (tgt := 45) F dJ4_append_3_14 (by decide) (by omega) (fun c_14 => absurd c_14 (by decide)) (fun c_14 => ?_)
  refine V_iload_n (i := 1) F dJ4_append_3_17 rfl rfl ?_
  refine V_callS (st := []) (nn := 1) F dJ4_append_3_18 lk_J4_191 (ct_J20_canEncode hy) rfl rfl (Nat.le_of_ble_eq_true rfl) (Nat.le_of_ble_eq_true rfl) (Nat.le_of_ble_eq_true rfl) (by omega) (by omega) ?_
  refine PRk ?_
  refine V_if_eqN (tgt := 45) F dJ4_append_3_21 (by decide) (by omega) (fun c_21 => absurd c_21 (by decide)) (fun c_21 => ?_)
  refine V_aload_n (i := 0) F dJ4_append_3_24 rfl rfl ?_
  refine V_getf F dJ4_append_3_25 fc_J4_15_J5 (.inl hs2) rfl ?_
  refine V_aload_n (i := 0) F dJ4_append_3_28 rfl rfl ?_
  refine V_dup F dJ4_append_3_29 rfl ?_
  refine V_getf F dJ4_append_3_30 fc_J4_79_J5 (.inl hs2) rfl ?_
  refine V_dup_x1 F dJ4_append_3_33 rfl rfl ?_
  refine V_iconst (v := nI 1) F dJ4_append_3_34 rfl ?_
  refine V_iaddN F dJ4_append_3_35 ?_
  refine V_putf F dJ4_append_3_36 fp_J4_79_J5 hs2 rfl rfl (Nat.le_of_ble_eq_true rfl) ?_
  refine VV.heap (h' := (hset h2 (s) (.inr (21, [.ref (b2), .int (nI (0)), .int (ml2), .int (nI (l0.length + 1))])))) rfl ?_
  refine V_iload_n (i := 1) F dJ4_append_3_39 rfl rfl ?_
  refine V_i2bN F dJ4_append_3_40 hy ?_
  refine V_bastS F dJ4_append_3_41 ((hset_ne (ne_ao hb2 hs2)).trans hb2) (by omega) (by omega) (by omega) ?_
  refine V_goto (tgt := 75) F dJ4_append_3_42 (by decide) ?_
  refine V_aload_n (i := 0) F dJ4_append_3_75 rfl rfl ?_
  have qs : (hset (hset h2 (s) (.inr (21, [.ref (b2), .int (nI (0)), .int (ml2), .int (nI (l0.length + 1))]))) (b2) (byA G N2 ((up c2 l0.length y)))) s = some (.inr (21, [.ref (b2), .int (nI (0)), .int (ml2), .int (nI (l0.length + 1))])) := ((hset_ne (Ne.symm (ne_ao hb2 hs2))).trans (hset_self (e := .inr (21, [.ref (b2), .int (nI (0)), .int (ml2), .int (nI (l0.length + 1))]))))
  have qb : (hset (hset h2 (s) (.inr (21, [.ref (b2), .int (nI (0)), .int (ml2), .int (nI (l0.length + 1))]))) (b2) (byA G N2 ((up c2 l0.length y)))) b2 = some (byA G N2 ((up c2 l0.length y))) := (hset_self (e := byA G N2 ((up c2 l0.length y))))
  have qf := ((hF2.put (x := .inr (21, [.ref (b2), .int (nI (0)), .int (ml2), .int (nI (l0.length + 1))])) hs2 rfl rfl (Or.inl (Or.inl rfl))).put (x := byA G N2 ((up c2 l0.length y))) ((hset_ne (ne_ao hb2 hs2)).trans hb2) ⟨rfl, rfl⟩ rfl hbY)
  exact V_aret F dJ4_append_3_76 (Or.inl ⟨_, rfl⟩) (Or.inr ⟨_, rfl⟩) (by first | exact Nat.le_of_ble_eq_true rfl | omega) (by first | exact Nat.le_of_ble_eq_true rfl | omega) ⟨rfl, b2, N2, ⟨_, _, by rw [List.length_append]; exact qs, qb, by rw [List.length_append]; exact hmN, hN22, hc82.st8 (by omega), hcl2.snoc, hal.app (fun c hc => by rw [List.mem_singleton.mp hc]; exact hy)⟩, hbb, qf⟩
theorem ct_J5_appendC {G : GG} {l : Launch} {h : AH} {s b N : Nat} {l0 : List Nat} {y : Nat}  (hS : SBs G h s b N l0) (hy : y < 128) (hm : l0.length + 1 ≤ 100) : Ct G l yJ5_append_3 cJ5_append_3 2 (some (.object "java/lang/StringBuilder")) 5 (1) (202) [.ref s, .int (nI y)] h (fun r h2 => r = some (.ref s) ∧ ∃ b2 N2, SBs G h2 s b2 N2 (l0 ++ [y]) ∧ (b2 = b ∧ N2 = N ∨ h b2 = none) ∧ Fr (m2 s b) h h2) := by
  refine Ct.of (by decide) (Nat.le_of_ble_eq_true rfl) (cat1 rfl) (fun X hXl F HN => ?_)
  subst hXl
  refine V_aload_n (i := 0) F dJ5_append_3_0 rfl rfl ?_
  refine V_iload_n (i := 1) F dJ5_append_3_1 rfl rfl ?_
  refine V_callSU (st := []) (nn := 1) F dJ5_append_3_2 ⟨lw_SU q3350 q4228 q249 q3351 q106 q3352, by decide, by decide +kernel⟩ (ct_J4_appendC hS hy hm) hS.isC rfl rfl (Nat.le_of_ble_eq_true rfl) (Nat.le_of_ble_eq_true rfl) (Nat.le_of_ble_eq_true rfl) (by omega) (by omega) ?_
  rintro _ h2 ⟨rfl, b2, N2, hS3, hbb, hx2⟩
  refine V_pop F dJ5_append_3_5 rfl ?_
  refine V_aload_n (i := 0) F dJ5_append_3_6 rfl rfl ?_
  exact V_aret F dJ5_append_3_7 (Or.inl ⟨_, rfl⟩) (Or.inr ⟨_, rfl⟩) (by first | exact Nat.le_of_ble_eq_true rfl | omega) (by first | exact Nat.le_of_ble_eq_true rfl | omega) ⟨rfl, b2, N2, hS3, hbb, hx2⟩
theorem ct_J4_setLength0 {G : GG} {l : Launch} {h : AH} {s b N : Nat} {l0 : List Nat}  (hS : SBs G h s b N l0) : Ct G l yJ4_setLength cJ4_setLength 2 none 4 (1) (202) [.ref s, .int (nI 0)] h (fun r h2 => r = none ∧ ∃ b2 N2, SBs G h2 s b2 N2 [] ∧ (b2 = b ∧ N2 = N ∨ h b2 = none) ∧ Fr (m1 s) h h2) := by
  refine Ct.of (by decide) (Nat.le_of_ble_eq_true rfl) (cat1 rfl) (fun X hXl F HN => ?_)
  subst hXl
  obtain ⟨ml, c, hs, hb, hlN, hN2, hc8, hcl, hal⟩ := id hS
  refine V_iload_n (i := 1) F dJ4_setLength_0 rfl rfl ?_
  refine V_if_geN (tgt := 13) F dJ4_setLength_1 (by decide) (by omega) ?_
  refine V_aload_n (i := 0) F dJ4_setLength_13 rfl rfl ?_
  refine V_iload_n (i := 1) F dJ4_setLength_14 rfl rfl ?_
  refine V_callP (st := []) (nn := 1) F dJ4_setLength_15 ⟨lw_P q568 q570 q106 q571, q569, ⟨_, _, _, q606, rfl⟩, by decide +kernel, by decide +kernel⟩ (ct_J4_ens (m := 0) hS (by omega)) hS.isC rfl rfl (Nat.le_of_ble_eq_true rfl) (Nat.le_of_ble_eq_true rfl) (Nat.le_of_ble_eq_true rfl) (by omega) (by omega) ?_
  rintro _ h2 ⟨rfl, b2, N2, hSn, hmN, hbb, hx2⟩
  obtain ⟨ml2, c2, hs2, hb2, hlN2, hN22, hc82, hcl2, hal2⟩ := id hSn
  refine V_aload_n (i := 0) F dJ4_setLength_18 rfl rfl ?_
  refine V_getf F dJ4_setLength_19 fc_J4_79_J5 (.inl hs2) rfl ?_
  refine V_iload_n (i := 1) F dJ4_setLength_22 rfl rfl ?_
  refine V_icmp_geN (tgt := 63) F dJ4_setLength_23 (by decide) (by omega) (by decide) (fun c_23 => ?_) (fun c_23 => absurd c_23 (by omega))
  refine V_aload_n (i := 0) F dJ4_setLength_63 rfl rfl ?_
  refine V_getf F dJ4_setLength_64 fc_J4_79_J5 (.inl hs2) rfl ?_
  refine V_iload_n (i := 1) F dJ4_setLength_67 rfl rfl ?_
  refine V_icmp_leN (tgt := 76) F dJ4_setLength_68 (by decide) (by omega) (by decide) (fun c_68 => ?_) (fun c_68 => ?_)
  · refine V_aload_n (i := 0) F dJ4_setLength_76 rfl rfl ?_
    refine V_iload_n (i := 1) F dJ4_setLength_77 rfl rfl ?_
    refine V_putf F dJ4_setLength_78 fp_J4_79_J5 hs2 rfl rfl (Nat.le_of_ble_eq_true rfl) ?_
    refine VV.heap (h' := (hset h2 (s) (.inr (21, [.ref (b2), .int (nI (0)), .int (ml2), .int (nI (0))])))) rfl ?_
    have qs : (hset h2 (s) (.inr (21, [.ref (b2), .int (nI (0)), .int (ml2), .int (nI (0))]))) s = some (.inr (21, [.ref (b2), .int (nI (0)), .int (ml2), .int (nI (0))])) := (hset_self (e := .inr (21, [.ref (b2), .int (nI (0)), .int (ml2), .int (nI (0))])))
    have qb : (hset h2 (s) (.inr (21, [.ref (b2), .int (nI (0)), .int (ml2), .int (nI (0))]))) b2 = some (byA G N2 c2) := ((hset_ne (ne_ao hb2 hs2)).trans hb2)
    have qf := (hx2.put (x := .inr (21, [.ref (b2), .int (nI (0)), .int (ml2), .int (nI (0))])) hs2 rfl rfl (Or.inl rfl))
    exact V_vret F dJ4_setLength_81 (by first | exact Nat.le_of_ble_eq_true rfl | omega) (by first | exact Nat.le_of_ble_eq_true rfl | omega) ⟨rfl, b2, N2, ⟨_, c2, qs, qb, Nat.zero_le _, hN22, hc82, fun i hi => absurd hi (Nat.not_lt_zero i), fun c hc => (by cases hc)⟩, hbb, qf⟩
  · refine V_aload_n (i := 0) F dJ4_setLength_71 rfl rfl ?_
    refine V_iconst (v := nI 1) F dJ4_setLength_72 rfl ?_
    refine V_putf F dJ4_setLength_73 fp_J4_73_J5 hs2 rfl rfl (Nat.le_of_ble_eq_true rfl) ?_
    refine VV.heap (h' := (hset h2 (s) (.inr (21, [.ref (b2), .int (nI (0)), .int (nI (1)), .int (nI (l0.length))])))) rfl ?_
    refine V_aload_n (i := 0) F dJ4_setLength_76 rfl rfl ?_
    refine V_iload_n (i := 1) F dJ4_setLength_77 rfl rfl ?_
    refine V_putf F dJ4_setLength_78 fp_J4_79_J5 (hset_self (e := .inr (21, [.ref (b2), .int (nI (0)), .int (nI (1)), .int (nI (l0.length))]))) rfl rfl (Nat.le_of_ble_eq_true rfl) ?_
    refine VV.heap (h' := (hset (hset h2 (s) (.inr (21, [.ref (b2), .int (nI (0)), .int (nI (1)), .int (nI (l0.length))]))) (s) (.inr (21, [.ref (b2), .int (nI (0)), .int (nI (1)), .int (nI (0))])))) rfl ?_
    have qs : (hset (hset h2 (s) (.inr (21, [.ref (b2), .int (nI (0)), .int (nI (1)), .int (nI (l0.length))]))) (s) (.inr (21, [.ref (b2), .int (nI (0)), .int (nI (1)), .int (nI (0))]))) s = some (.inr (21, [.ref (b2), .int (nI (0)), .int (nI (1)), .int (nI (0))])) := (hset_self (e := .inr (21, [.ref (b2), .int (nI (0)), .int (nI (1)), .int (nI (0))])))
    have qb : (hset (hset h2 (s) (.inr (21, [.ref (b2), .int (nI (0)), .int (nI (1)), .int (nI (l0.length))]))) (s) (.inr (21, [.ref (b2), .int (nI (0)), .int (nI (1)), .int (nI (0))]))) b2 = some (byA G N2 c2) := ((hset_ne (ne_ao hb2 hs2)).trans ((hset_ne (ne_ao hb2 hs2)).trans hb2))
    have qf := ((hx2.put (x := .inr (21, [.ref (b2), .int (nI (0)), .int (nI (1)), .int (nI (l0.length))])) hs2 rfl rfl (Or.inl rfl)).put (x := .inr (21, [.ref (b2), .int (nI (0)), .int (nI (1)), .int (nI (0))])) (hset_self (e := .inr (21, [.ref (b2), .int (nI (0)), .int (nI (1)), .int (nI (l0.length))]))) rfl rfl (Or.inl rfl))
    exact V_vret F dJ4_setLength_81 (by first | exact Nat.le_of_ble_eq_true rfl | omega) (by first | exact Nat.le_of_ble_eq_true rfl | omega) ⟨rfl, b2, N2, ⟨_, c2, qs, qb, Nat.zero_le _, hN22, hc82, fun i hi => absurd hi (Nat.not_lt_zero i), fun c hc => (by cases hc)⟩, hbb, qf⟩
theorem ct_J5_setLength0 {G : GG} {l : Launch} {h : AH} {s b N : Nat} {l0 : List Nat}  (hS : SBs G h s b N l0) : Ct G l yJ5_setLength cJ5_setLength 2 none 5 (1) (202) [.ref s, .int (nI 0)] h (fun r h2 => r = none ∧ ∃ b2 N2, SBs G h2 s b2 N2 [] ∧ (b2 = b ∧ N2 = N ∨ h b2 = none) ∧ Fr (m1 s) h h2) := by
  refine Ct.of (by decide) (Nat.le_of_ble_eq_true rfl) (cat1 rfl) (fun X hXl F HN => ?_)
  subst hXl
  refine V_aload_n (i := 0) F dJ5_setLength_0 rfl rfl ?_
  refine V_iload_n (i := 1) F dJ5_setLength_1 rfl rfl ?_
  refine V_callSU (st := []) (nn := 1) F dJ5_setLength_2 ⟨lw_SU q3372 q4229 q249 q3373 q106 q3374, by decide, by decide +kernel⟩ (ct_J4_setLength0 hS) hS.isC rfl rfl (Nat.le_of_ble_eq_true rfl) (Nat.le_of_ble_eq_true rfl) (Nat.le_of_ble_eq_true rfl) (by omega) (by omega) ?_
  rintro _ h2 ⟨rfl, b2, N2, hS3, hbb, hx2⟩
  exact V_vret F dJ5_setLength_5 (by first | exact Nat.le_of_ble_eq_true rfl | omega) (by first | exact Nat.le_of_ble_eq_true rfl | omega) ⟨rfl, b2, N2, hS3, hbb, hx2⟩
