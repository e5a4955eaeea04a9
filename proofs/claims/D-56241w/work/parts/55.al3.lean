def OEQ (G : GG) (l : Launch) (h : AH) (a : Nat) : Prop := ∀ b, Ct G l yJ50_equals cJ50_equals 2 (some .boolean) 0 0 0 [.ref a, .ref b] h (PR (.int (b2 (a = b))) h)
theorem lkOE : LkU RJ8 93 "SleeperRailway$Booking" "java/lang/Object" ⟨"java/lang/Object", "equals", "(Ljava/lang/Object;)Z"⟩ yJ50_equals cJ50_equals 2 (some .boolean) 1 := ⟨lw_U q3162 q3164 q3167 q3163 q4232 q3203, q3161, (by decide +kernel)⟩
theorem ct_AL_ior {G : GG} {l : Launch} {h : AH} {a ar mc n : Nat} {p : Nat} {f : Nat → Nat} (hA : ALs G h a ar mc n f) (hx : isC G h (f p) "SleeperRailway$Booking") (hp : p < n) (hf : ∀ i, i < p → f i ≠ f p) (hn : n < 2000) (hoe : OEQ G l h (f p)) : Ct G l yJ8_indexOfRange cJ8_indexOfRange 6 (some .int) 1 (0) (0) [.ref a, .ref (f p), .int (nI 0), .int (nI n)] h (PR (.int (nI p)) h) := by
  refine Ct.of (by decide) (Nat.le_of_ble_eq_true rfl) (cat1 rfl) (fun X hXl F HN => ?_)
  subst hXl
  obtain ⟨cap, g, h0r, hw, z1, z2, z3, z4⟩ := hA.2.2
  have loop : ∀ (nn i : Nat), p - i < nn → i ≤ p → VV G X 6 (EQ G X 0 0 (PR (.int (nI p)) h)) h 0 0 [none, some (.ref (f p)), none, some (.int (nI (n))), some (.ref (ar)), some (.int (nI (i)))] [] 42 := by
    intro nn
    induction nn with
    | zero => intro i hm; exact absurd hm (by omega)
    | succ nn ih =>
      intro i hm hi
      refine V_iload (i := 5) F dJ8_indexOfRange_42 rfl ?_
      refine V_iload_n (i := 3) F dJ8_indexOfRange_44 rfl rfl ?_
      refine V_icmp_geN (tgt := 69) F dJ8_indexOfRange_45 (by decide) (by omega) (by omega) (fun c_45 => absurd c_45 (by omega)) (fun c_45 => ?_)
      refine V_aload_n (i := 1) F dJ8_indexOfRange_48 rfl rfl ?_
      refine V_aload (i := 4) F dJ8_indexOfRange_49 rfl ?_
      refine V_iload (i := 5) F dJ8_indexOfRange_51 rfl ?_
      refine V_aaldN F 6 dJ8_indexOfRange_53 rfl h0r (by omega) (by omega) (w := .ref (f i)) (by rw [z4 i (by omega)]; rfl) ?_
      refine V_callU (st := []) F dJ8_indexOfRange_54 lkOE (hoe _) hx rfl rfl (Nat.le_of_ble_eq_true rfl) (Nat.le_of_ble_eq_true rfl) (Nat.le_of_ble_eq_true rfl) (by first | exact Nat.le_of_ble_eq_true rfl | omega) (by first | exact Nat.le_of_ble_eq_true rfl | omega) (PRk ?_)
      refine V_if_eqB (tgt := 63) F dJ8_indexOfRange_57 (by decide) (fun c_57 => ?_) (fun c_57 => ?_)
      · refine V_iinc (i := 5) (v := nI (i + 1)) F dJ8_indexOfRange_63 rfl (nI_add (i) 1) (Nat.le_of_ble_eq_true rfl) ?_
        refine V_goto (tgt := 42) F dJ8_indexOfRange_66 (by decide) ?_
        refine VV.weak (L' := [none, some (.ref (f p)), none, some (.int (nI (n))), some (.ref (ar)), some (.int (nI (i + 1)))]) (LW.c0 (LW.c1 (LW.c0 (LW.c1 (LW.c1 (LW.c1 LW.nil)))))) ?_
        have hne : i ≠ p := fun z => c_57 (by rw [z])
        exact ih (i + 1) (by omega) (by omega)
      · refine V_iload (i := 5) F dJ8_indexOfRange_60 rfl ?_
        exact V_iret F dJ8_indexOfRange_62 rfl (by first | exact Nat.le_of_ble_eq_true rfl | omega) (by first | exact Nat.le_of_ble_eq_true rfl | omega) ⟨by rw [show i = p from Decidable.byContradiction (fun z => hf i (by omega) c_57.symm)], rfl⟩
  refine V_aload_n (i := 0) F dJ8_indexOfRange_0 rfl rfl ?_
  refine V_getf F dJ8_indexOfRange_1 fc_J8_9_J8 (.inl hA.1) rfl ?_
  refine V_astore (i := 4) F dJ8_indexOfRange_4 (Nat.le_of_ble_eq_true rfl) (Nat.le_of_ble_eq_true rfl) ?_
  refine V_aload_n (i := 1) F dJ8_indexOfRange_6 rfl rfl ?_
  refine V_ifnonnull (tgt := 39) F dJ8_indexOfRange_7 (by decide) ?_
  refine V_iload_n (i := 2) F dJ8_indexOfRange_39 rfl rfl ?_
  refine V_istore (i := 5) F dJ8_indexOfRange_40 (Nat.le_of_ble_eq_true rfl) (Nat.le_of_ble_eq_true rfl) ?_
  refine VV.weak (L' := [none, some (.ref (f p)), none, some (.int (nI (n))), some (.ref (ar)), some (.int (nI (0)))]) (LW.c0 (LW.c1 (LW.c0 (LW.c1 (LW.c1 (LW.c1 LW.nil)))))) ?_
  exact loop (p + 1) 0 (by omega) (Nat.zero_le p)
theorem ct_AL_indexOf {G : GG} {l : Launch} {h : AH} {a ar mc n : Nat} {p : Nat} {f : Nat → Nat} (hA : ALs G h a ar mc n f) (hx : isC G h (f p) "SleeperRailway$Booking") (hp : p < n) (hf : ∀ i, i < p → f i ≠ f p) (hn : n < 2000) (hoe : OEQ G l h (f p)) : Ct G l yJ8_indexOf cJ8_indexOf 2 (some .int) 2 (0) (0) [.ref a, .ref (f p)] h (PR (.int (nI p)) h) := by
  refine Ct.of (by decide) (Nat.le_of_ble_eq_true rfl) (cat1 rfl) (fun X hXl F HN => ?_)
  subst hXl
  obtain ⟨cap, g, h0r, hw, z1, z2, z3, z4⟩ := hA.2.2
  refine V_aload_n (i := 0) F dJ8_indexOf_0 rfl rfl ?_
  refine V_aload_n (i := 1) F dJ8_indexOf_1 rfl rfl ?_
  refine V_iconst (v := nI 0) F dJ8_indexOf_2 rfl ?_
  refine V_aload_n (i := 0) F dJ8_indexOf_3 rfl rfl ?_
  refine V_getf F dJ8_indexOf_4 fc_J8_48_J8 (.inl hA.1) rfl ?_
  refine V_callV (st := []) F dJ8_indexOf_7 lk_J8_89 (ct_AL_ior hA hx hp hf hn hoe) ⟨18, _, _, _, rfl, (.inl hA.1)⟩ rfl rfl (Nat.le_of_ble_eq_true rfl) (Nat.le_of_ble_eq_true rfl) (Nat.le_of_ble_eq_true rfl) (by first | exact Nat.le_of_ble_eq_true rfl | omega) (by first | exact Nat.le_of_ble_eq_true rfl | omega) ?_
  refine PRk ?_
  exact V_iret F dJ8_indexOf_10 rfl (by first | exact Nat.le_of_ble_eq_true rfl | omega) (by first | exact Nat.le_of_ble_eq_true rfl | omega) ⟨rfl, rfl⟩
