/-- the exchange of two places -/
def sw (i j a : Nat) : Nat := if a = i then j else if a = j then i else a
theorem sw_sw {i j a : Nat} : sw i j (sw i j a) = a := by unfold sw; grind
theorem sw_lt {i j a m : Nat} (hi : i < m) (hj : j < m) (ha : a < m) : sw i j a < m := by unfold sw; grind
theorem sw_perm {m i j : Nat} (hi : i < m) (hj : j < m) : ((List.range m).map (sw i j)).Perm (List.range m) := by
  refine (List.perm_ext_iff_of_nodup ?_ List.nodup_range).mpr ?_
  · unfold List.Nodup
    rw [List.pairwise_map]
    exact List.Pairwise.imp (fun {x y} h e => h (by rw [← sw_sw (i := i) (j := j) (a := x), e, sw_sw])) List.nodup_range
  · intro a
    simp only [List.mem_map, List.mem_range]
    constructor
    · rintro ⟨b, hb, rfl⟩; exact sw_lt hi hj hb
    · intro ha; exact ⟨sw i j a, sw_lt hi hj ha, sw_sw⟩
/-- the elements of a function's first m places -/
def els (f : Nat → Nat) (m : Nat) : List Nat := (List.range m).map f
theorem els_sw {f g : Nat → Nat} {m i j : Nat} (hi : i < m) (hj : j < m) (h : ∀ a, a < m → g a = f (sw i j a)) : (els g m).Perm (els f m) := by
  have e : els g m = ((List.range m).map (sw i j)).map f := by
    unfold els
    rw [List.map_map]
    exact List.map_congr_left (fun a ha => h a (List.mem_range.mp ha))
  rw [e]
  exact (sw_perm hi hj).map f
theorem els_ext {f g : Nat → Nat} {m : Nat} (h : ∀ a, a < m → g a = f a) : els g m = els f m := List.map_congr_left (fun a ha => h a (List.mem_range.mp ha))
/-- the hole moves from k to p -/
theorem els_hole {f : Nat → Nat} {m k p x : Nat} (hk : k < m) (hp : p < m) (hkp : k ≠ p) : (els (upo (upo f k (f p)) p x) m).Perm (els (upo f k x) m) :=
  els_sw hk hp (fun a _ => by unfold upo sw; grind)
theorem els_succ {f : Nat → Nat} {m : Nat} : els f (m + 1) = els f m ++ [f m] := by unfold els; rw [List.range_succ, List.map_append]; rfl
theorem nI_ushr1 {a : Nat} (ha : a < 2 ^ 31) : ((nI a).toUInt32 >>> ((nI 1).toUInt32 &&& Int32.toUInt32 31)).toInt32 = nI (a / 2) := by
  have e1 : (nI 1).toUInt32 &&& Int32.toUInt32 31 = 1 := by decide
  rw [e1]
  have e2 : (nI a).toUInt32 = UInt32.ofNat a := rfl
  have e3 : UInt32.ofNat a >>> 1 = UInt32.ofNat (a / 2) := by
    apply UInt32.toNat_inj.mp
    rw [UInt32.toNat_shiftRight, UInt32.toNat_ofNat_of_lt' (by show a < 4294967296; omega), UInt32.toNat_ofNat_of_lt' (by show a / 2 < 4294967296; omega)]
    show a >>> 1 = a / 2
    exact Nat.shiftRight_succ a 0
  rw [e2, e3]
  rfl

/-- comparing the key x with what is in E answers some int, in every heap that differs from h in the array alone -/
def PQC (G : GG) (l : Launch) (h : AH) (ar x : Nat) (E : List Nat) (C : String) (y : MethodName) (cc : ByteArray) (mL dC : Nat) : Prop :=
  LkF RJ46 146 C ⟨"java/lang/Comparable", "compareTo", "(Ljava/lang/Object;)I"⟩ y cc mL (some .int) 1 ∧ isC G h x C ∧ Cond.castable C "java/lang/Comparable" ∈ lw_tbl ∧ mL ≤ 45 ∧ dC ≤ 4 ∧ isO G h x ∧ (∀ z, z ∈ E → isO G h z) ∧ ∀ h', Fr (m1 ar) h h' → ∀ z, z ∈ E → ∃ c : Int32, Ct G l y cc mL (some .int) dC 0 0 [.ref x, .ref z] h' (PR (.int c) h')
theorem els_mem {f : Nat → Nat} {m i : Nat} (hi : i < m) : f i ∈ els f m := List.mem_map.mpr ⟨i, List.mem_range.mpr hi, rfl⟩

theorem ct_PQ_up {G : GG} {l : Launch} {h : AH} {ar x k0 m cap mL dC : Nat} {f0 : Nat → Nat} {g0 : Nat → Option Nat} {D : String} {y : MethodName} {cc : ByteArray} (hq : PQC G l h ar x (els (upo f0 k0 x) m) D y cc mL dC) (hk0 : k0 < m) (hmc : m ≤ cap) (hcap : cap < 100000) (har0 : h ar = some (qA G cap g0)) (hg0 : ∀ i, i < m → i ≠ k0 → g0 i = some (f0 i)) : Ct G l yJ46_siftUpComparable cJ46_siftUpComparable 6 none 5 (0) (0) [.int (nI k0), .ref x, .ref ar] h (fun r h2 => r = none ∧ ∃ f2 g2, h2 ar = some (qA G cap g2) ∧ (∀ i, i < m → g2 i = some (f2 i)) ∧ (els f2 m).Perm (els (upo f0 k0 x) m) ∧ Fr (m1 ar) h h2) := by
  refine Ct.of (by decide) (Nat.le_of_ble_eq_true rfl) (cat1 rfl) (fun X hXl F HN => ?_)
  subst hXl
  obtain ⟨lk, hxc, hca, hmL, hdC, hxo, hEo, hcmp⟩ := hq
  have loop : ∀ (nn k : Nat) (f : Nat → Nat) (g : Nat → Option Nat) (hh : AH), k < nn → k < m → hh ar = some (qA G cap g) → (∀ i, i < m → i ≠ k → g i = some (f i)) → (els (upo f k x) m).Perm (els (upo f0 k0 x) m) → Fr (m1 ar) h hh → VV G X 6 (EQ G X 0 0 (fun r h2 => r = none ∧ ∃ f2 g2, h2 ar = some (qA G cap g2) ∧ (∀ i, i < m → g2 i = some (f2 i)) ∧ (els f2 m).Perm (els (upo f0 k0 x) m) ∧ Fr (m1 ar) h h2)) hh 0 0 [some (.int (nI (k))), none, some (.ref (ar)), some (.ref (x)), none, none] [] 5 := by
    intro nn
    induction nn with
    | zero => intro k f g hh hm; exact absurd hm (by omega)
    | succ nn ih =>
      intro k f g hh hm hk har hg hP hF
      refine V_iload_n (i := 0) F dJ46_siftUpComparable_5 rfl rfl ?_
      refine V_if_leN (tgt := 47) F dJ46_siftUpComparable_6 (by decide) (by omega) (fun c_6 => ?_) (fun c_6 => ?_)
      · refine V_aload_n (i := 2) F dJ46_siftUpComparable_47 rfl rfl ?_
        refine V_iload_n (i := 0) F dJ46_siftUpComparable_48 rfl rfl ?_
        refine V_aload_n (i := 3) F dJ46_siftUpComparable_49 rfl rfl ?_
        refine V_aastON F dJ46_siftUpComparable_50 har (hF.isO hxo) (by omega) (by omega) ?_
        have pa : (hset hh (ar) (qA G cap ((upq g k (some x))))) ar = some (qA G cap ((upq g k (some x)))) := (hset_self (e := qA G cap ((upq g k (some x)))))
        refine V_vret F dJ46_siftUpComparable_51 (by first | exact Nat.le_of_ble_eq_true rfl | omega) (by first | exact Nat.le_of_ble_eq_true rfl | omega) ⟨rfl, upo f k x, _, pa, fun i hi => ?_, hP, (hF.put (x := qA G cap ((upq g k (some x)))) har ⟨rfl, rfl⟩ rfl (Or.inl rfl))⟩
        by_cases e : i = k
        · rw [e, upq_s, upo_s]
        · rw [upq_n e, upo_n e]; exact hg i hi e
      · have hin : f ((k - 1) / 2) ∈ els (upo f0 k0 x) m := hP.subset (by have z := els_mem (f := upo f k x) (m := m) (i := (k - 1) / 2) (by omega); rw [upo_n (by omega)] at z; exact z)
        refine V_iload_n (i := 0) F dJ46_siftUpComparable_9 rfl rfl ?_
        refine V_iconst (v := nI 1) F dJ46_siftUpComparable_10 rfl ?_
        refine V_isubN F dJ46_siftUpComparable_11 (by omega) ?_
        refine V_iconst (v := nI 1) F dJ46_siftUpComparable_12 rfl ?_
        refine V_iushr (v := nI ((k - 1) / 2)) F dJ46_siftUpComparable_13 (nI_ushr1 (by omega)) ?_
        refine V_istore (i := 4) F dJ46_siftUpComparable_14 (Nat.le_of_ble_eq_true rfl) (Nat.le_of_ble_eq_true rfl) ?_
        refine V_aload_n (i := 2) F dJ46_siftUpComparable_16 rfl rfl ?_
        refine V_iload (i := 4) F dJ46_siftUpComparable_17 rfl ?_
        refine V_aaldN F 6 dJ46_siftUpComparable_19 rfl (.inl har) (by omega) (by omega) (w := .ref (f ((k - 1) / 2))) (by rw [hg _ (by omega) (by omega)]; rfl) ?_
        refine V_astore (i := 5) F dJ46_siftUpComparable_20 (Nat.le_of_ble_eq_true rfl) (Nat.le_of_ble_eq_true rfl) ?_
        refine V_aload_n (i := 3) F dJ46_siftUpComparable_22 rfl rfl ?_
        refine V_aload (i := 5) F dJ46_siftUpComparable_23 rfl ?_
        obtain ⟨c, hcc⟩ := hcmp hh hF (f ((k - 1) / 2)) hin
        refine V_callF (st := []) F dJ46_siftUpComparable_25 lk hcc (hF.isC hxc) rfl rfl (Nat.le_of_ble_eq_true rfl) (by omega) hmL (by first | exact Nat.le_of_ble_eq_true rfl | omega) (by first | exact Nat.le_of_ble_eq_true rfl | omega) (PRk ?_)
        refine V_if_lt (tgt := 36) F dJ46_siftUpComparable_30 (by decide) (fun c_30 => ?_) (fun c_30 => ?_)
        · refine V_aload_n (i := 2) F dJ46_siftUpComparable_36 rfl rfl ?_
          refine V_iload_n (i := 0) F dJ46_siftUpComparable_37 rfl rfl ?_
          refine V_aload (i := 5) F dJ46_siftUpComparable_38 rfl ?_
          refine V_aastON F dJ46_siftUpComparable_40 har (hF.isO (hEo _ hin)) (by omega) (by omega) ?_
          refine V_iload (i := 4) F dJ46_siftUpComparable_41 rfl ?_
          refine V_istore_n (i := 0) F dJ46_siftUpComparable_43 rfl (Nat.le_of_ble_eq_true rfl) (Nat.le_of_ble_eq_true rfl) ?_
          refine V_goto (tgt := 5) F dJ46_siftUpComparable_44 (by decide) ?_
          have pa : (hset hh (ar) (qA G cap ((upq g k (some (f ((k - 1) / 2))))))) ar = some (qA G cap ((upq g k (some (f ((k - 1) / 2)))))) := (hset_self (e := qA G cap ((upq g k (some (f ((k - 1) / 2)))))))
          refine VV.weak (L' := [some (.int (nI (((k - 1) / 2)))), none, some (.ref (ar)), some (.ref (x)), none, none]) (LW.c1 (LW.c0 (LW.c1 (LW.c1 (LW.c0 (LW.c0 LW.nil)))))) ?_
          refine ih ((k - 1) / 2) (upo f k (f ((k - 1) / 2))) _ _ (by omega) (by omega) pa (fun i hi hne => ?_) ((els_hole hk (by omega) (by omega)).trans hP) (hF.put (x := qA G cap ((upq g k (some (f ((k - 1) / 2)))))) har ⟨rfl, rfl⟩ rfl (Or.inl rfl))
          by_cases e : i = k
          · rw [e, upq_s, upo_s]
          · rw [upq_n e, upo_n e]; exact hg i hi e
        · refine V_goto (tgt := 47) F dJ46_siftUpComparable_33 (by decide) ?_
          refine V_aload_n (i := 2) F dJ46_siftUpComparable_47 rfl rfl ?_
          refine V_iload_n (i := 0) F dJ46_siftUpComparable_48 rfl rfl ?_
          refine V_aload_n (i := 3) F dJ46_siftUpComparable_49 rfl rfl ?_
          refine V_aastON F dJ46_siftUpComparable_50 har (hF.isO hxo) (by omega) (by omega) ?_
          have pa : (hset hh (ar) (qA G cap ((upq g k (some x))))) ar = some (qA G cap ((upq g k (some x)))) := (hset_self (e := qA G cap ((upq g k (some x)))))
          refine V_vret F dJ46_siftUpComparable_51 (by first | exact Nat.le_of_ble_eq_true rfl | omega) (by first | exact Nat.le_of_ble_eq_true rfl | omega) ⟨rfl, upo f k x, _, pa, fun i hi => ?_, hP, (hF.put (x := qA G cap ((upq g k (some x)))) har ⟨rfl, rfl⟩ rfl (Or.inl rfl))⟩
          by_cases e : i = k
          · rw [e, upq_s, upo_s]
          · rw [upq_n e, upo_n e]; exact hg i hi e
  refine V_aload_n (i := 1) F dJ46_siftUpComparable_0 rfl rfl ?_
  refine V_ck F dJ46_siftUpComparable_1 q1532 hxc hca ?_
  refine V_astore_n (i := 3) F dJ46_siftUpComparable_4 rfl (Nat.le_of_ble_eq_true rfl) (Nat.le_of_ble_eq_true rfl) ?_
  refine VV.weak (L' := [some (.int (nI (k0))), none, some (.ref (ar)), some (.ref (x)), none, none]) (LW.c1 (LW.c0 (LW.c1 (LW.c1 (LW.c0 (LW.c0 LW.nil)))))) ?_
  exact loop (k0 + 1) k0 f0 g0 h (Nat.lt_succ_self k0) hk0 har0 hg0 (List.Perm.refl _) Fr.rf
