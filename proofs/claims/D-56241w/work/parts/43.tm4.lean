/-- a TreeMap at t with n entries in order: keys K 0 .., values V 0 .. (addresses), at the nodes A 0 .. -/
def TMp (h : AH) (t mc n : Nat) (A K V : Nat → Nat) : Prop := AI n A ∧ ∃ (rt : Option Nat) (L R P : Nat → Option Nat) (C : Nat → Bool) (lo hi : Nat → Nat), TC h t n mc (rt.map A) ∧ TN h n A K V L R P C ∧ WT n rt L R P lo hi
/-- what comparing a key (whose place is pos; fd: it is there) with the key at i answers -/
def CS (pos : Nat) (fd : Bool) (c : Int32) (i : Nat) : Prop := (c < 0 ↔ pos ≤ i ∧ ¬ (fd = true ∧ i = pos)) ∧ (c = 0 ↔ fd = true ∧ i = pos)
/-- comparing the key at k, in the heap h, with every key of the map -/
def CMP (G : GG) (l : Launch) (h : AH) (k n pos : Nat) (fd : Bool) (K : Nat → Nat) (C : String) (y : MethodName) (cc : ByteArray) (mL dC : Nat) : Prop :=
  LkF RJ10 107 C ⟨"java/lang/Comparable", "compareTo", "(Ljava/lang/Object;)I"⟩ y cc mL (some .int) 1 ∧ isC G h k C ∧ Cond.castable C "java/lang/Comparable" ∈ lw_tbl ∧ mL ≤ 45 ∧ dC ≤ 4 ∧ pos ≤ n ∧ (fd = true → pos < n) ∧ ∀ i, i < n → ∃ c : Int32, Ct G l y cc mL (some .int) dC 0 0 [.ref k, .ref (K i)] h (PR (.int c) h) ∧ CS pos fd c i
theorem CS.lt {pos i : Nat} {fd : Bool} {c : Int32} (hs : CS pos fd c i) (h : ¬ 0 ≤ c) : pos ≤ i ∧ (fd = true → pos < i) := by
  have := hs.1.mp (Int32.not_le.mp h)
  refine ⟨this.1, fun q => ?_⟩
  have h2 : i ≠ pos := fun z => this.2 ⟨q, z⟩
  omega
theorem CS.gt {pos i : Nat} {fd : Bool} {c : Int32} (hs : CS pos fd c i) (h1 : ¬ c ≤ 0) : i < pos := by
  have h2 : ¬ c < 0 := fun q => h1 (Int32.le_of_lt q)
  have h3 : ¬ c = 0 := fun q => h1 (by rw [q]; exact Int32.le_refl _)
  by_cases q : i < pos
  · exact q
  · refine absurd (hs.1.mpr ⟨by omega, fun z => h3 (hs.2.mpr z)⟩) h2
theorem CS.eq {pos i : Nat} {fd : Bool} {c : Int32} (hs : CS pos fd c i) (h1 : 0 ≤ c) (h2 : c ≤ 0) : fd = true ∧ i = pos := hs.2.mp (Int32.le_antisymm h2 h1)
/-- the place is under the node i -/
def UN (lo hi : Nat → Nat) (pos : Nat) (fd : Bool) (i : Nat) : Prop := lo i ≤ pos ∧ pos ≤ hi i ∧ (fd = true → pos < hi i)

theorem ct_TM_size {G : GG} {l : Launch} {h : AH} {t mc n : Nat} {A K V : Nat → Nat}  (hM : TMp h t mc n A K V) : Ct G l yJ10_size cJ10_size 1 (some .int) 0 (0) (0) [.ref t] h (PR (.int (nI n)) h) := by
  refine Ct.of (by decide) (Nat.le_of_ble_eq_true rfl) (cat1 rfl) (fun X hXl F HN => ?_)
  subst hXl
  obtain ⟨hAI, rt, L, R, P, C, lo, hi, hC, hT, hw⟩ := hM
  obtain ⟨x0, x1, x6, x7, x8, ht, hv1, hv7⟩ := id hC
  refine V_aload_n (i := 0) F dJ10_size_0 rfl rfl ?_
  refine V_getf F dJ10_size_1 fc_J10_7_J10 (.inl ht) rfl ?_
  exact V_iret F dJ10_size_4 rfl (by first | exact Nat.le_of_ble_eq_true rfl | omega) (by first | exact Nat.le_of_ble_eq_true rfl | omega) ⟨rfl, rfl⟩
theorem ct_J9_init {G : GG} {l : Launch} {h : AH} {a : Nat}  : Ct G l yJ9_init cJ9_init 1 none 1 (0) (0) [.ref a] h (PV h) := by
  refine Ct.of (by decide) (Nat.le_of_ble_eq_true rfl) (cat1 rfl) (fun X hXl F HN => ?_)
  subst hXl
  refine V_aload_n (i := 0) F dJ9_init_0 rfl rfl ?_
  refine V_objInit F dJ9_init_1 q298 q180 q181 (Nat.le_of_ble_eq_true rfl) (Nat.le_of_ble_eq_true rfl) ?_
  exact V_vret F dJ9_init_4 (by first | exact Nat.le_of_ble_eq_true rfl | omega) (by first | exact Nat.le_of_ble_eq_true rfl | omega) ⟨rfl, rfl⟩
theorem WT.nil {L R P : Nat → Option Nat} {lo hi : Nat → Nat} : WT 0 none L R P lo hi := ⟨fun i h => absurd h (Nat.not_lt_zero i), fun i h => absurd h (Nat.not_lt_zero i), fun i j h => absurd h (Nat.not_lt_zero i), fun i h => absurd h (Nat.not_lt_zero i), fun i j h => absurd h (Nat.not_lt_zero i), fun i h => absurd h (Nat.not_lt_zero i), fun i j h => absurd h (Nat.not_lt_zero i), (fun r h => by cases h), fun _ => rfl⟩
theorem ct_TM_init {G : GG} {l : Launch} {h : AH} {t : Nat} (A K V : Nat → Nat) (ht : h t = some (.inr (23, [.null, .null, .null, .null, .int 0, .int 0, .null, .null, .null]))) : Ct G l yJ10_init cJ10_init 1 none 2 (0) (0) [.ref t] h (fun r0 h2 => r0 = none ∧ TMp h2 t 0 0 A K V ∧ Fr (m1 t) h h2) := by
  refine Ct.of (by decide) (Nat.le_of_ble_eq_true rfl) (cat1 rfl) (fun X hXl F HN => ?_)
  subst hXl
  refine V_aload_n (i := 0) F dJ10_init_0 rfl rfl ?_
  refine V_callI (st := []) F dJ10_init_1 lk_J10_1 (ct_J9_init) rfl rfl (Nat.le_of_ble_eq_true rfl) (Nat.le_of_ble_eq_true rfl) (Nat.le_of_ble_eq_true rfl) (by first | exact Nat.le_of_ble_eq_true rfl | omega) (by first | exact Nat.le_of_ble_eq_true rfl | omega) ?_
  refine PVk ?_
  refine V_aload_n (i := 0) F dJ10_init_4 rfl rfl ?_
  refine V_iconst (v := nI 0) F dJ10_init_5 rfl ?_
  refine V_putf F dJ10_init_6 fp_J10_7_J10 ht rfl rfl (Nat.le_of_ble_eq_true rfl) ?_
  refine VV.heap (h' := (hset h (t) (.inr (23, [.null, .null, .null, .null, .int (nI (0)), .int 0, .null, .null, .null])))) rfl ?_
  refine V_aload_n (i := 0) F dJ10_init_9 rfl rfl ?_
  refine V_iconst (v := nI 0) F dJ10_init_10 rfl ?_
  refine V_putf F dJ10_init_11 fp_J10_13_J10 (hset_self (e := .inr (23, [.null, .null, .null, .null, .int (nI (0)), .int 0, .null, .null, .null]))) rfl rfl (Nat.le_of_ble_eq_true rfl) ?_
  refine VV.heap (h' := (hset (hset h (t) (.inr (23, [.null, .null, .null, .null, .int (nI (0)), .int 0, .null, .null, .null]))) (t) (.inr (23, [.null, .null, .null, .null, .int (nI (0)), .int (nI (0)), .null, .null, .null])))) rfl ?_
  refine V_aload_n (i := 0) F dJ10_init_14 rfl rfl ?_
  refine V_null F dJ10_init_15 ?_
  refine V_putF F dJ10_init_16 ff_J10_16_J10 (hset_self (e := .inr (23, [.null, .null, .null, .null, .int (nI (0)), .int (nI (0)), .null, .null, .null]))) HN rfl rfl (Nat.le_of_ble_eq_true rfl) ?_
  refine VV.heap (h' := (hset (hset (hset h (t) (.inr (23, [.null, .null, .null, .null, .int (nI (0)), .int 0, .null, .null, .null]))) (t) (.inr (23, [.null, .null, .null, .null, .int (nI (0)), .int (nI (0)), .null, .null, .null]))) (t) (.inr (23, [.null, .null, .null, .null, .int (nI (0)), .int (nI (0)), .null, .null, .null])))) rfl ?_
  exact V_vret F dJ10_init_19 (by first | exact Nat.le_of_ble_eq_true rfl | omega) (by first | exact Nat.le_of_ble_eq_true rfl | omega) ⟨rfl, ⟨fun i j hi => absurd hi (Nat.not_lt_zero i), none, fun _ => none, fun _ => none, fun _ => none, fun _ => true, fun _ => 0, fun _ => 0, ⟨.null, .null, .null, .null, .null, (hset_self (e := .inr (23, [.null, .null, .null, .null, .int (nI (0)), .int (nI (0)), .null, .null, .null]))), Or.inl rfl, Or.inl rfl⟩, fun i hi => absurd hi (Nat.not_lt_zero i), WT.nil⟩, ((((Fr.rf (M := m1 t) (h := h)).put (x := .inr (23, [.null, .null, .null, .null, .int (nI (0)), .int 0, .null, .null, .null])) ht rfl rfl (Or.inl rfl)).put (x := .inr (23, [.null, .null, .null, .null, .int (nI (0)), .int (nI (0)), .null, .null, .null])) (hset_self (e := .inr (23, [.null, .null, .null, .null, .int (nI (0)), .int 0, .null, .null, .null]))) rfl rfl (Or.inl rfl)).put (x := .inr (23, [.null, .null, .null, .null, .int (nI (0)), .int (nI (0)), .null, .null, .null])) (hset_self (e := .inr (23, [.null, .null, .null, .null, .int (nI (0)), .int (nI (0)), .null, .null, .null]))) rfl rfl (Or.inl rfl))⟩
theorem ct_getEntry {G : GG} {l : Launch} {h : AH} {t mc n : Nat} {A K V : Nat → Nat} {k pos mL dC : Nat} {fd : Bool} {D : String} {y : MethodName} {cc : ByteArray}  (hM : TMp h t mc n A K V) (hcm : CMP G l h k n pos fd K D y cc mL dC) : Ct G l yJ10_getEntry cJ10_getEntry 5 (some (.object "java/util/TreeMap$Entry")) 6 (0) (0) [.ref t, .ref k] h (PR (va_rf ((if fd = true then some pos else none).map A)) h) := by
  refine Ct.of (by decide) (Nat.le_of_ble_eq_true rfl) (cat1 rfl) (fun X hXl F HN => ?_)
  subst hXl
  obtain ⟨hAI, rt, L, R, P, C, lo, hi, hC, hT, hw⟩ := hM
  obtain ⟨x0, x1, x6, x7, x8, ht, hv1, hv7⟩ := id hC
  obtain ⟨lk, hkc, hca, hmL, hdC, hpn, hfd, hcmp⟩ := hcm
  have loop_28 : ∀ (nn : Nat) (i : Nat), hi i - lo i < nn → i < n → UN lo hi pos fd i → VV G X 5 (EQ G X 0 0 (PR (va_rf ((if fd = true then some pos else none).map A)) h)) h 0 0 [none, none, some (.ref k), some (.ref (A i)), none] [] 28 := by
    intro nn
    induction nn with
    | zero => intro i hm hi1 hun; exact absurd hm (by omega)
    | succ nn ih_28 =>
      intro i hm hi1 hun
      refine V_aload_n (i := 3) F dJ10_getEntry_28 rfl rfl ?_
      refine V_ifnull F dJ10_getEntry_29 ?_
      refine V_aload_n (i := 2) F dJ10_getEntry_32 rfl rfl ?_
      refine V_aload_n (i := 3) F dJ10_getEntry_33 rfl rfl ?_
      refine V_getf F dJ10_getEntry_34 fc_J10_105_J41 (.inl (hT i hi1)) rfl ?_
      obtain ⟨ci, hcc, hcs⟩ := hcmp i hi1
      refine V_callF (st := []) F dJ10_getEntry_37 lk hcc hkc rfl rfl (Nat.le_of_ble_eq_true rfl) (by omega) hmL (by first | exact Nat.le_of_ble_eq_true rfl | omega) (by first | exact Nat.le_of_ble_eq_true rfl | omega) (PRk ?_)
      refine V_istore (i := 4) F dJ10_getEntry_42 (Nat.le_of_ble_eq_true rfl) (Nat.le_of_ble_eq_true rfl) ?_
      refine V_iload (i := 4) F dJ10_getEntry_44 rfl ?_
      refine V_if_ge (tgt := 57) F dJ10_getEntry_46 (by decide) (fun c_46 => ?_) (fun c_46 => ?_)
      · refine V_iload (i := 4) F dJ10_getEntry_57 rfl ?_
        refine V_if_le (tgt := 70) F dJ10_getEntry_59 (by decide) (fun c_59 => ?_) (fun c_59 => ?_)
        · refine V_aload_n (i := 3) F dJ10_getEntry_70 rfl rfl ?_
          exact V_aret F dJ10_getEntry_71 (Or.inl ⟨_, rfl⟩) (Or.inr ⟨_, rfl⟩) (by first | exact Nat.le_of_ble_eq_true rfl | omega) (by first | exact Nat.le_of_ble_eq_true rfl | omega) ⟨by have h6 := CS.eq hcs c_46 c_59; rw [if_pos h6.1]; exact (congrArg (fun z => some (Value.ref (A z))) h6.2), rfl⟩
        · refine V_aload_n (i := 3) F dJ10_getEntry_62 rfl rfl ?_
          refine V_getf F dJ10_getEntry_63 fc_J10_114_J41 (.inl (hT i hi1)) rfl ?_
          refine V_astore_nQ (i := 3) F dJ10_getEntry_66 rfl (Nat.le_of_ble_eq_true rfl) (Nat.le_of_ble_eq_true rfl) ?_
          refine V_goto (tgt := 72) F dJ10_getEntry_67 (by decide) ?_
          refine V_goto (tgt := 28) F dJ10_getEntry_72 (by decide) ?_
          cases hch : R i with
          | none =>
            refine VV.loc (L' := [none, none, some (.ref k), some .null, some (.int ci)]) (by first | rfl | (rw [hch]; rfl)) ?_
            have hnf : ¬ fd = true := by
              intro q
              have h1 := hw.1 i hi1
              have h2 := hun.2.2 q
              have h3 := hun.1
              have h4 := hw.2.2.2.1 i hi1 hch; have h5 := CS.gt hcs c_59; omega
            refine V_aload_nN (i := 3) F dJ10_getEntry_28 rfl rfl ?_
            refine V_ifnullN (tgt := 75) F dJ10_getEntry_29 (by decide) ?_
            refine V_null F dJ10_getEntry_75 ?_
            exact V_aret F dJ10_getEntry_76 (Or.inl ⟨_, rfl⟩) (Or.inl rfl) (by first | exact Nat.le_of_ble_eq_true rfl | omega) (by first | exact Nat.le_of_ble_eq_true rfl | omega) ⟨by rw [if_neg hnf]; rfl, rfl⟩
          | some j =>
            have hj : j < n := hw.bR hi1 hch
            have hu := hw.2.2.2.2.1 i j hi1 hch
            refine VV.loc (L' := [none, none, some (.ref k), some (.ref (A j)), some (.int ci)]) (by first | rfl | (rw [hch]; rfl)) ?_
            refine VV.weak (L' := [none, none, some (.ref (k)), some (.ref (A j)), none]) (LW.c0 (LW.c0 (LW.c1 (LW.c1 (LW.c0 LW.nil))))) ?_
            refine ih_28 j (by have h1 := hw.1 i hi1; have h2 := hw.1 j hj; omega) hj ?_
            have h5 := CS.gt hcs c_59
            exact ⟨by omega, by have := hun.2.1; omega, fun q => by have := hun.2.2 q; omega⟩
      · refine V_aload_n (i := 3) F dJ10_getEntry_49 rfl rfl ?_
        refine V_getf F dJ10_getEntry_50 fc_J10_111_J41 (.inl (hT i hi1)) rfl ?_
        refine V_astore_nQ (i := 3) F dJ10_getEntry_53 rfl (Nat.le_of_ble_eq_true rfl) (Nat.le_of_ble_eq_true rfl) ?_
        refine V_goto (tgt := 72) F dJ10_getEntry_54 (by decide) ?_
        refine V_goto (tgt := 28) F dJ10_getEntry_72 (by decide) ?_
        cases hch : L i with
        | none =>
          refine VV.loc (L' := [none, none, some (.ref k), some .null, some (.int ci)]) (by first | rfl | (rw [hch]; rfl)) ?_
          have hnf : ¬ fd = true := by
            intro q
            have h1 := hw.1 i hi1
            have h2 := hun.2.2 q
            have h3 := hun.1
            have h4 := hw.2.1 i hi1 hch; have h5 := (CS.lt hcs c_46).2 q; omega
          refine V_aload_nN (i := 3) F dJ10_getEntry_28 rfl rfl ?_
          refine V_ifnullN (tgt := 75) F dJ10_getEntry_29 (by decide) ?_
          refine V_null F dJ10_getEntry_75 ?_
          exact V_aret F dJ10_getEntry_76 (Or.inl ⟨_, rfl⟩) (Or.inl rfl) (by first | exact Nat.le_of_ble_eq_true rfl | omega) (by first | exact Nat.le_of_ble_eq_true rfl | omega) ⟨by rw [if_neg hnf]; rfl, rfl⟩
        | some j =>
          have hj : j < n := hw.bL hi1 hch
          have hu := hw.2.2.1 i j hi1 hch
          refine VV.loc (L' := [none, none, some (.ref k), some (.ref (A j)), some (.int ci)]) (by first | rfl | (rw [hch]; rfl)) ?_
          refine VV.weak (L' := [none, none, some (.ref (k)), some (.ref (A j)), none]) (LW.c0 (LW.c0 (LW.c1 (LW.c1 (LW.c0 LW.nil))))) ?_
          refine ih_28 j (by have h1 := hw.1 i hi1; have h2 := hw.1 j hj; omega) hj ?_
          have h5 := CS.lt hcs c_46
          exact ⟨by have := hun.1; omega, by omega, fun q => by have := h5.2 q; omega⟩
  cases hrt : rt with
  | none =>
    refine V_aload_n (i := 0) F dJ10_getEntry_0 rfl rfl ?_
    refine V_getf F dJ10_getEntry_1 fc_J10_16_J10 (.inl ht) rfl ?_
    refine V_ifnullN (tgt := 13) F dJ10_getEntry_4 (by decide) ?_
    refine V_aload_n (i := 1) F dJ10_getEntry_13 rfl rfl ?_
    refine V_callS (st := []) F dJ10_getEntry_14 lk_J10_95 (ct_requireNonNull) rfl rfl (Nat.le_of_ble_eq_true rfl) (Nat.le_of_ble_eq_true rfl) (Nat.le_of_ble_eq_true rfl) (by first | exact Nat.le_of_ble_eq_true rfl | omega) (by first | exact Nat.le_of_ble_eq_true rfl | omega) ?_
    refine PRk ?_
    refine V_pop F dJ10_getEntry_17 rfl ?_
    refine V_aload_n (i := 1) F dJ10_getEntry_18 rfl rfl ?_
    refine V_ck F dJ10_getEntry_19 q2115 hkc hca ?_
    refine V_astore_n (i := 2) F dJ10_getEntry_22 rfl (Nat.le_of_ble_eq_true rfl) (Nat.le_of_ble_eq_true rfl) ?_
    refine V_aload_n (i := 0) F dJ10_getEntry_23 rfl rfl ?_
    refine V_getf F dJ10_getEntry_24 fc_J10_101_J10 (.inl ht) (by rw [hrt]; rfl) ?_
    refine V_astore_nN (i := 3) F dJ10_getEntry_27 rfl (Nat.le_of_ble_eq_true rfl) (Nat.le_of_ble_eq_true rfl) ?_
    refine V_aload_nN (i := 3) F dJ10_getEntry_28 rfl rfl ?_
    refine V_ifnullN (tgt := 75) F dJ10_getEntry_29 (by decide) ?_
    refine V_null F dJ10_getEntry_75 ?_
    exact V_aret F dJ10_getEntry_76 (Or.inl ⟨_, rfl⟩) (Or.inl rfl) (by first | exact Nat.le_of_ble_eq_true rfl | omega) (by first | exact Nat.le_of_ble_eq_true rfl | omega) ⟨by rw [if_neg (fun q => by have := hfd q; have := hw.2.2.2.2.2.2.2.2 hrt; omega)]; rfl, rfl⟩
  | some r =>
    have hr1 := hw.2.2.2.2.2.2.2.1 r hrt
    refine V_aload_n (i := 0) F dJ10_getEntry_0 rfl rfl ?_
    refine V_getf F dJ10_getEntry_1 fc_J10_16_J10 (.inl ht) rfl ?_
    refine V_ifnullN (tgt := 13) F dJ10_getEntry_4 (by decide) ?_
    refine V_aload_n (i := 1) F dJ10_getEntry_13 rfl rfl ?_
    refine V_callS (st := []) F dJ10_getEntry_14 lk_J10_95 (ct_requireNonNull) rfl rfl (Nat.le_of_ble_eq_true rfl) (Nat.le_of_ble_eq_true rfl) (Nat.le_of_ble_eq_true rfl) (by first | exact Nat.le_of_ble_eq_true rfl | omega) (by first | exact Nat.le_of_ble_eq_true rfl | omega) ?_
    refine PRk ?_
    refine V_pop F dJ10_getEntry_17 rfl ?_
    refine V_aload_n (i := 1) F dJ10_getEntry_18 rfl rfl ?_
    refine V_ck F dJ10_getEntry_19 q2115 hkc hca ?_
    refine V_astore_n (i := 2) F dJ10_getEntry_22 rfl (Nat.le_of_ble_eq_true rfl) (Nat.le_of_ble_eq_true rfl) ?_
    refine V_aload_n (i := 0) F dJ10_getEntry_23 rfl rfl ?_
    refine V_getf F dJ10_getEntry_24 fc_J10_101_J10 (.inl ht) (by rw [hrt]; rfl) ?_
    refine V_astore_n (i := 3) F dJ10_getEntry_27 rfl (Nat.le_of_ble_eq_true rfl) (Nat.le_of_ble_eq_true rfl) ?_
    refine VV.weak (L' := [none, none, some (.ref (k)), some (.ref (A r)), none]) (LW.c0 (LW.c0 (LW.c1 (LW.c1 (LW.c0 LW.nil))))) ?_
    exact loop_28 (n + 1) r (by have := hw.1 r hr1.1; omega) hr1.1 ⟨by omega, by omega, fun q => by have := hfd q; omega⟩
