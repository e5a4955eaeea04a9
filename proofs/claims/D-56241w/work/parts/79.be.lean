/-! ===== berths ===== -/
/-- the place of a value among ascending ones -/
theorem asc_pos {n : Nat} {kv : Nat → Int32} {v : Int32} (hasc : ∀ i j, i < j → j < n → kv i < kv j) : ∃ pos, pos ≤ n ∧ (∀ i, i < pos → kv i < v) ∧ ∀ i, pos ≤ i → i < n → ¬ kv i < v := by
  induction n with
  | zero => exact ⟨0, Nat.le_refl _, fun i h => absurd h (Nat.not_lt_zero i), fun i _ h => absurd h (Nat.not_lt_zero i)⟩
  | succ n ih =>
    obtain ⟨pos, h1, h2, h3⟩ := ih (fun i j hij hj => hasc i j hij (by omega))
    by_cases hp : pos = n
    · by_cases hv : kv n < v
      · refine ⟨n + 1, Nat.le_refl _, fun i hi => ?_, fun i hi hi2 => absurd hi2 (by omega)⟩
        by_cases e : i = n
        · rw [e]; exact hv
        · exact h2 i (by omega)
      · refine ⟨n, Nat.le_succ n, fun i hi => h2 i (by omega), fun i hi hi2 => ?_⟩
        rw [show i = n by omega]; exact hv
    · refine ⟨pos, by omega, h2, fun i hi hi2 => ?_⟩
      by_cases e : i = n
      · rw [e]
        exact fun z => h3 pos (Nat.le_refl _) (by omega) (Int32.lt_trans (hasc pos n (by omega) (Nat.lt_succ_self n)) z)
      · exact h3 i hi (by omega)
/-- comparing an Integer with the ascending keys of a map -/
theorem cmp_asc {G : GG} {l : Launch} {h : AH} {k n : Nat} {K : Nat → Nat} {v : Int32} {kv : Nat → Int32} (hk : IV G h k v) (hK : ∀ i, i < n → IV G h (K i) (kv i)) (hasc : ∀ i j, i < j → j < n → kv i < kv j) : ∃ pos fd, CMP G l h k n pos fd K "java/lang/Integer" yJ22_compareTo cJ22_compareTo 2 2 ∧ pos ≤ n ∧ (fd = true → pos < n ∧ kv pos = v) ∧ (fd = false → ∀ i, i < n → kv i ≠ v) ∧ (∀ i, i < pos → kv i < v) ∧ (∀ i, pos ≤ i → i < n → ¬ kv i < v) := by
  obtain ⟨pos, h1, h2, h3⟩ := asc_pos (v := v) hasc
  by_cases hf : pos < n ∧ kv pos = v
  · refine ⟨pos, true, cmp_int hk hK h1 (fun _ => hf) (fun i _ hi => h2 i hi) (fun i hi hp hne => ?_), h1, fun _ => hf, (fun z => by cases z), h2, h3⟩
    have hlt : pos < i := by
      rcases Nat.lt_or_ge pos i with z | z
      · exact z
      · exact absurd ⟨rfl, by omega⟩ hne
    rw [← hf.2]; exact hasc pos i hlt hi
  · have hne : ∀ i, i < n → kv i ≠ v := by
      intro i hi e
      rcases Nat.lt_or_ge i pos with z | z
      · have := h2 i z; rw [e] at this; exact Int32.lt_irrefl this
      · by_cases e2 : i = pos
        · exact hf ⟨by omega, by rw [← e2]; exact e⟩
        · have z2 := hasc pos i (by omega) hi
          rw [e] at z2
          exact h3 pos (Nat.le_refl _) (by omega) z2
    refine ⟨pos, false, cmp_int hk hK h1 (fun z => by cases z) (fun i _ hi => h2 i hi) (fun i hi hp _ => ?_), h1, (fun z => by cases z), fun _ => hne, h2, h3⟩
    have := Int32.not_lt.mp (h3 i hp hi)
    rcases Int32.lt_or_eq_of_le this with z | z
    · exact z
    · exact absurd z.symm (hne i hi)
/-- a list of bookings in the heap: the rows' numbers -/
def BKS (G : GG) (h : AH) (a ar : Nat) (g : Nat → Nat) (S : List Nat) (f : Nat → Nat) : Prop := ALs G h a ar S.length S.length f ∧ ∀ i, i < S.length → h (f i) = some (BoE g (S.getD i 0))
theorem BKS.fr {G : GG} {M : Nat → Prop} {h h2 : AH} {a ar : Nat} {g : Nat → Nat} {L : List Nat} {f : Nat → Nat} (hL : BKS G h a ar g L f) (hx : Fr M h h2) (h1 : ¬ M a) (h3 : ∀ c f, h ar = some (qA G c f) → ¬ M ar) (h4 : offK M h (kO 11)) : BKS G h2 a ar g L f :=
  ⟨hL.1.frQ hx h1 h3, fun i hi => hx.get (hL.2 i hi) (h4.o (hL.2 i hi)) rfl⟩
theorem BKS.fr0 {G : GG} {h h2 : AH} {a ar : Nat} {g : Nat → Nat} {L : List Nat} {f : Nat → Nat} (hL : BKS G h a ar g L f) (hx : Fr nM h h2) : BKS G h2 a ar g L f := hL.fr hx id (fun _ _ _ => id) offK.nM
theorem BKS.nil {G : GG} {h : AH} {a : Nat} {g : Nat → Nat} {f : Nat → Nat} (hA : ALs G h a (ad G 1) 0 0 f) : BKS G h a (ad G 1) g [] f := ⟨hA, fun i hi => absurd hi (Nat.not_lt_zero i)⟩
theorem BKS.ins {G : GG} {h h2 : AH} {a ar ar2 x k at0 : Nat} {g : Nat → Nat} {S : List Nat} {f : Nat → Nat} (hL : BKS G h a ar g S f) (hb : HB G h) (hk0 : at0 ≤ S.length) (hx : h x = some (BoE g k)) (hA : ALs G h2 a ar2 (S.length + 1) (S.length + 1) (insF f at0 x)) (hF : Fr (m2 a ar) h h2) : BKS G h2 a ar2 g (S.take at0 ++ k :: S.drop at0) (insF f at0 x) := by
  have hk : offK (m2 a ar) h (kO 11) := offK.al hL.1 hb (fun _ => rfl) (fun _ _ _ => rfl)
  refine ⟨by rw [ins_len hk0]; exact hA, fun i hi => ?_⟩
  rw [ins_len hk0] at hi
  rcases Nat.lt_trichotomy i at0 with q | q | q
  · rw [ins_l hk0 q, insF_l q]
    have hi2 : i < S.length := by omega
    exact hF.get (hL.2 i hi2) (hk.o (hL.2 i hi2)) rfl
  · subst q
    rw [ins_e hk0, insF_e]
    exact hF.get hx (hk.o hx) rfl
  · rw [ins_g hk0 q, insF_g q]
    have hi2 : i - 1 < S.length := by omega
    exact hF.get (hL.2 _ hi2) (hk.o (hL.2 _ hi2)) rfl
/-- one booking comes before another -/
abbrev boLt (g : Nat → Nat) (p q : Nat) : Prop := g (264 + 4 * p + 2) < g (264 + 4 * q + 2) ∨ g (264 + 4 * p + 2) = g (264 + 4 * q + 2) ∧ g (264 + 4 * p + 0) < g (264 + 4 * q + 0)
abbrev boLe (g : Nat → Nat) (p q : Nat) : Prop := ¬ boLt g q p
/-- the booking at k' of the list S still holds its berth when the one at k begins -/
abbrev boU (g : Nat → Nat) (S : List Nat) (k' k : Nat) : Prop := g (264 + 4 * S.getD k 0 + 2) < g (264 + 4 * S.getD k' 0 + 3)
/-- b is the least berth that no booking of the list before k holds -/
def mexB (g : Nat → Nat) (S : List Nat) (N : Nat → Nat) (k b : Nat) : Prop := b ≤ k ∧ (∀ k', k' < k → boU g S k' k → N k' ≠ b) ∧ ∀ c, c < b → ∃ k', k' < k ∧ boU g S k' k ∧ N k' = c
theorem TSp.isC {G : GG} {h : AH} {s t mc n : Nat} {A K : Nat → Nat} (hS : TSp G h s t mc n A K) : isC G h s "java/util/TreeSet" := ⟨32, _, _, _, rfl, .inl hS.1⟩
theorem sk_mono {pos i j : Nat} (h : i < j) : sk pos i < sk pos j := by unfold sk; split <;> split <;> omega
theorem sk_cov {pos i n : Nat} (hi : i < n) (hne : i ≠ pos) (hp : pos < n) : ∃ j, j < n - 1 ∧ sk pos j = i := by
  refine ⟨cl pos i, cl_lt hi hne hp, ?_⟩
  unfold sk cl
  by_cases h : i < pos
  · rw [if_pos h, if_pos h]
  · rw [if_neg h, if_neg (by omega)]; omega

theorem ct_BE_init {G : GG} {l : Launch} {h : AH} {b : Nat}  (hb : h b = some (.inr (13, [.null, .null, .int 0]))) : Ct G l yX16_init cX16_init 1 none 4 (2) (6) [.ref b] h (fun r h2 => r = none ∧ ∃ so nu, so ≠ nu ∧ h so = none ∧ h nu = none ∧ h2 b = some (.inr (13, [.ref so, .ref nu, .int 0])) ∧ ALs G h2 so (ad G 1) 0 0 (fun _ => 0) ∧ ALs G h2 nu (ad G 1) 0 0 (fun _ => 0) ∧ Fr (m1 b) h h2) := by
  refine Ct.of (by decide) (Nat.le_of_ble_eq_true rfl) (cat1 rfl) (fun X hXl F HN => ?_)
  subst hXl
  refine V_aload_n (i := 0) F dX16_init_0 rfl rfl ?_
  refine V_objInit F dX16_init_1 q1864 q180 q181 (Nat.le_of_ble_eq_true rfl) (Nat.le_of_ble_eq_true rfl) ?_
  refine V_aload_n (i := 0) F dX16_init_4 rfl rfl ?_
  refine V_new F dX16_init_5 nw_X16_7 (by first | exact Nat.le_of_ble_eq_true rfl | omega) (by first | exact Nat.le_of_ble_eq_true rfl | omega) ?_
  intro so hfso hbso
  refine V_dup F dX16_init_8 rfl ?_
  have hso0 := hfso
  refine V_callI (st := [.ref (so), .ref (b)]) (nn := 0) F dX16_init_9 lk_X16_9 (ct_AL_init (fun _ => 0) (hset_self (e := .inr (18, [.int 0, .null, .int 0])))) rfl rfl (Nat.le_of_ble_eq_true rfl) (Nat.le_of_ble_eq_true rfl) (Nat.le_of_ble_eq_true rfl) (by first | exact Nat.le_of_ble_eq_true rfl | omega) (by first | exact Nat.le_of_ble_eq_true rfl | omega) ?_
  rintro _ hY1 ⟨rfl, hAs, hx2⟩
  have p3 := hx2.get ((hset_ne (ne_nw hb hfso)).trans hb) (ne_nw hb hfso) rfl
  have f4 : Fr (m1 b) h hY1 := ((Fr.rf (M := m1 b) (h := h)).nw (x := .inr (18, [.int 0, .null, .int 0])) hfso).cal hx2 (Yo.m1 ((Fr.rf (M := m1 b) (h := h)).yo hfso))
  refine V_putF F dX16_init_12 ff_X16_10_X16 p3 HN rfl rfl (Nat.le_of_ble_eq_true rfl) ?_
  refine VV.heap (h' := (hset hY1 (b) (.inr (13, [.ref (so), .null, .int (0)])))) rfl ?_
  refine V_aload_n (i := 0) F dX16_init_15 rfl rfl ?_
  have hfrA := (f4.put (x := .inr (13, [.ref (so), .null, .int (0)])) p3 rfl rfl (Or.inl rfl))
  refine V_new F dX16_init_16 nw_X16_7 (by first | exact Nat.le_of_ble_eq_true rfl | omega) (by first | exact Nat.le_of_ble_eq_true rfl | omega) ?_
  have hq1 : Fr (m1 b) hY1 (hset hY1 (b) (.inr (13, [.ref (so), .null, .int (0)]))) := Fr.rf.put p3 rfl rfl (Or.inl rfl)
  have hnb := ne_oo hAs.1 p3 (by decide)
  have hAs1 := hAs.frQ hq1 hnb (fun _ _ z => ne_ao z p3)
  intro nu hfnu hbnu
  have p5 : (hset hY1 (b) (.inr (13, [.ref (so), .null, .int (0)]))) b = some (.inr (13, [.ref (so), .null, .int (0)])) := (hset_self (e := .inr (13, [.ref (so), .null, .int (0)])))
  refine V_dup F dX16_init_19 rfl ?_
  refine V_callI (st := [.ref (nu), .ref (b)]) (nn := 0) F dX16_init_20 lk_X16_9 (ct_AL_init (fun _ => 0) (hset_self (e := .inr (18, [.int 0, .null, .int 0])))) rfl rfl (Nat.le_of_ble_eq_true rfl) (Nat.le_of_ble_eq_true rfl) (Nat.le_of_ble_eq_true rfl) (by first | exact Nat.le_of_ble_eq_true rfl | omega) (by first | exact Nat.le_of_ble_eq_true rfl | omega) ?_
  rintro _ hY6 ⟨rfl, hAn, hx7⟩
  have hAs2 := (hAs1.fr0 (Fr.rf.nw (x := .inr (18, [.int 0, .null, .int 0])) hfnu)).frQ hx7 (fun z => ne_nw hAs1.1 hfnu z) (fun _ _ z y => ne_ao z hset_self y)
  have p8 := hx7.get ((hset_ne (ne_nw p5 hfnu)).trans p5) (ne_nw p5 hfnu) rfl
  have f9 : Fr (m1 b) h hY6 := ((f4.put (x := .inr (13, [.ref (so), .null, .int (0)])) p3 rfl rfl (Or.inl rfl)).nw (x := .inr (18, [.int 0, .null, .int 0])) hfnu).cal hx7 (Yo.m1 ((f4.put (x := .inr (13, [.ref (so), .null, .int (0)])) p3 rfl rfl (Or.inl rfl)).yo hfnu))
  refine V_putF F dX16_init_23 ff_X16_16_X16 p8 HN rfl rfl (Nat.le_of_ble_eq_true rfl) ?_
  refine VV.heap (h' := (hset hY6 (b) (.inr (13, [.ref (so), .ref (nu), .int (0)])))) rfl ?_
  have hq2 : Fr (m1 b) hY6 (hset hY6 (b) (.inr (13, [.ref (so), .ref (nu), .int (0)]))) := Fr.rf.put p8 rfl rfl (Or.inl rfl)
  have hAs3 := hAs2.frQ hq2 (ne_oo hAs2.1 p8 (by decide)) (fun _ _ z => ne_ao z p8)
  have hAn3 := hAn.frQ hq2 (ne_oo hAn.1 p8 (by decide)) (fun _ _ z => ne_ao z p8)
  have hfr := (f9.put (x := .inr (13, [.ref (so), .ref (nu), .int (0)])) p8 rfl rfl (Or.inl rfl))
  have pb : (hset hY6 (b) (.inr (13, [.ref (so), .ref (nu), .int (0)]))) b = some (.inr (13, [.ref (so), .ref (nu), .int (0)])) := (hset_self (e := .inr (13, [.ref (so), .ref (nu), .int (0)])))
  exact V_vret F dX16_init_26 (by first | exact Nat.le_of_ble_eq_true rfl | omega) (by first | exact Nat.le_of_ble_eq_true rfl | omega) ⟨rfl, so, nu, (ne_nw hAs1.1 hfnu), hso0, hfrA.none hfnu, pb, hAs3, hAn3, hfr⟩
theorem ct_BE_add {G : GG} {l : Launch} {h : AH} {b x so nu ar k : Nat} {nd : Int32} {g : Nat → Nat} {S : List Nat} {f : Nat → Nat}  (hb : h b = some (.inr (13, [.ref so, .ref nu, .int nd]))) (hx : h x = some (BoE g k)) (hB : BKS G h so ar g S f) (hS : S.length ≤ 10) (hGB : GB g) : Ct G l yX16_add cX16_add 3 none 7 (1) (2 * S.length + 10) [.ref b, .ref x] h (fun r h2 => r = none ∧ ∃ at0 ar2, at0 ≤ S.length ∧ BKS G h2 so ar2 g (S.take at0 ++ k :: S.drop at0) (insF f at0 x) ∧ (0 < at0 → boLe g (S.getD (at0 - 1) 0) k) ∧ (at0 < S.length → boLt g k (S.getD at0 0)) ∧ Fr (m2 so ar) h h2 ∧ (ar2 = ar ∨ h ar2 = none ∧ bz G ≤ ar2)) := by
  refine Ct.of (by decide) (Nat.le_of_ble_eq_true rfl) (cat1 rfl) (fun X hXl F HN => ?_)
  subst hXl
  refine V_aload_n (i := 0) F dX16_add_0 rfl rfl ?_
  refine V_getf F dX16_add_1 fc_X16_10_X16 (.inl hb) rfl ?_
  refine V_callF (st := []) (nn := 0) F dX16_add_4 ⟨lw_F q2037 q388 q390 q111 q392, ⟨q386, List.mem_append_left _ q385, q391, q389, q387⟩, (by decide +kernel), (by decide +kernel)⟩ (ct_AL_size hB.1) hB.1.isC rfl rfl (Nat.le_of_ble_eq_true rfl) (Nat.le_of_ble_eq_true rfl) (Nat.le_of_ble_eq_true rfl) (by first | exact Nat.le_of_ble_eq_true rfl | omega) (by first | exact Nat.le_of_ble_eq_true rfl | omega) ?_
  refine PRk ?_
  refine V_istore_n (i := 2) F dX16_add_9 rfl (Nat.le_of_ble_eq_true rfl) (Nat.le_of_ble_eq_true rfl) ?_
  have loop_10 : ∀ (nn : Nat) (m : Nat), m < nn → m ≤ S.length → (m < S.length → boLt g k (S.getD m 0)) → VV G X 3 ((EQ G X (1) (2 * S.length + 10) (fun r h2 => r = none ∧ ∃ at0 ar2, at0 ≤ S.length ∧ BKS G h2 so ar2 g (S.take at0 ++ k :: S.drop at0) (insF f at0 x) ∧ (0 < at0 → boLe g (S.getD (at0 - 1) 0) k) ∧ (at0 < S.length → boLt g k (S.getD at0 0)) ∧ Fr (m2 so ar) h h2 ∧ (ar2 = ar ∨ h ar2 = none ∧ bz G ≤ ar2)))) h (0) (0) [some (.ref (b)), some (.ref (x)), some (.int (nI (m)))] [] 10 := by
    intro nn
    induction nn with
    | zero => intro m hm2 hmS hri; exact absurd hm2 (by omega)
    | succ nn ih_10 =>
      intro m hm2 hmS hri
      refine V_iload_n (i := 2) F dX16_add_10 rfl rfl ?_
      refine V_if_leN (tgt := 42) F dX16_add_11 (by decide) (by omega) (fun c_11 => ?_) (fun c_11 => ?_)
      · have hle : 0 < m → boLe g (S.getD (m - 1) 0) k := fun z => absurd z (by omega)
        refine V_aload_n (i := 0) F dX16_add_42 rfl rfl ?_
        refine V_getf F dX16_add_43 fc_X16_10_X16 (.inl hb) rfl ?_
        refine V_iload_n (i := 2) F dX16_add_46 rfl rfl ?_
        refine V_aload_n (i := 1) F dX16_add_47 rfl rfl ?_
        refine VV.bs (fun hB9 => ?_)
        refine V_callF (st := []) (nn := 2) F dX16_add_48 ⟨lw_F q2046 q1827 q1829 q111 q1831, ⟨q1826, List.mem_append_left _ q1825, q1830, q1828, q387⟩, (by decide +kernel), (by decide +kernel)⟩ (ct_AL_addAt hB.1 hmS (isO_book hx) (by omega)) hB.1.isC rfl rfl (Nat.le_of_ble_eq_true rfl) (Nat.le_of_ble_eq_true rfl) (Nat.le_of_ble_eq_true rfl) (by first | exact Nat.le_of_ble_eq_true rfl | omega) (by first | exact Nat.le_of_ble_eq_true rfl | omega) ?_
        rintro _ h2 ⟨rfl, ar2, hA2, hx2, hq2⟩
        exact V_vret F dX16_add_53 (by first | exact Nat.le_of_ble_eq_true rfl | omega) (by first | exact Nat.le_of_ble_eq_true rfl | omega) ⟨rfl, m, ar2, hmS, hB.ins hB9 hmS hx hA2 hx2, hle, hri, hx2, hq2⟩
      · refine V_aload_n (i := 1) F dX16_add_14 rfl rfl ?_
        refine V_aload_n (i := 0) F dX16_add_15 rfl rfl ?_
        refine V_getf F dX16_add_16 fc_X16_10_X16 (.inl hb) rfl ?_
        refine V_iload_n (i := 2) F dX16_add_19 rfl rfl ?_
        refine V_iconst (v := nI 1) F dX16_add_20 rfl ?_
        refine V_isubN F dX16_add_21 (by omega) ?_
        refine V_callF (st := [.ref (x)]) (nn := 1) F dX16_add_22 ⟨lw_F q2039 q473 q475 q111 q477, ⟨q472, List.mem_append_left _ q471, q476, q474, q387⟩, (by decide +kernel), (by decide +kernel)⟩ (ct_AL_get hB.1 (k := m - 1) (by omega) (by omega)) hB.1.isC rfl rfl (Nat.le_of_ble_eq_true rfl) (Nat.le_of_ble_eq_true rfl) (Nat.le_of_ble_eq_true rfl) (by first | exact Nat.le_of_ble_eq_true rfl | omega) (by first | exact Nat.le_of_ble_eq_true rfl | omega) ?_
        refine PRk ?_
        refine V_ckS F dX16_add_27 q2040 ⟨11, _, _, _, rfl, (.inl (hB.2 (m - 1) (by omega)))⟩ ?_
        refine V_callV (st := []) (nn := 1) F dX16_add_30 lk_X16_31 (ct_Bo_ahead hx (hB.2 (m - 1) (by omega)) (Nat.lt_trans (hGB _) (by decide)) (Nat.lt_trans (hGB _) (by decide)) (Nat.lt_trans (hGB _) (by decide)) (Nat.lt_trans (hGB _) (by decide))) ⟨11, _, _, _, rfl, (.inl hx)⟩ rfl rfl (Nat.le_of_ble_eq_true rfl) (Nat.le_of_ble_eq_true rfl) (Nat.le_of_ble_eq_true rfl) (by first | exact Nat.le_of_ble_eq_true rfl | omega) (by first | exact Nat.le_of_ble_eq_true rfl | omega) ?_
        refine PRk ?_
        refine V_if_eqB (tgt := 42) F dX16_add_33 (by decide) (fun c_33 => ?_) (fun c_33 => ?_)
        · have hle : 0 < m → boLe g (S.getD (m - 1) 0) k := fun _ => c_33
          refine V_aload_n (i := 0) F dX16_add_42 rfl rfl ?_
          refine V_getf F dX16_add_43 fc_X16_10_X16 (.inl hb) rfl ?_
          refine V_iload_n (i := 2) F dX16_add_46 rfl rfl ?_
          refine V_aload_n (i := 1) F dX16_add_47 rfl rfl ?_
          refine VV.bs (fun hB9 => ?_)
          refine V_callF (st := []) (nn := 2) F dX16_add_48 ⟨lw_F q2046 q1827 q1829 q111 q1831, ⟨q1826, List.mem_append_left _ q1825, q1830, q1828, q387⟩, (by decide +kernel), (by decide +kernel)⟩ (ct_AL_addAt hB.1 hmS (isO_book hx) (by omega)) hB.1.isC rfl rfl (Nat.le_of_ble_eq_true rfl) (Nat.le_of_ble_eq_true rfl) (Nat.le_of_ble_eq_true rfl) (by first | exact Nat.le_of_ble_eq_true rfl | omega) (by first | exact Nat.le_of_ble_eq_true rfl | omega) ?_
          rintro _ h2 ⟨rfl, ar2, hA2, hx2, hq2⟩
          exact V_vret F dX16_add_53 (by first | exact Nat.le_of_ble_eq_true rfl | omega) (by first | exact Nat.le_of_ble_eq_true rfl | omega) ⟨rfl, m, ar2, hmS, hB.ins hB9 hmS hx hA2 hx2, hle, hri, hx2, hq2⟩
        · refine V_iinc (i := 2) (v := nI (m - 1)) F dX16_add_36 rfl (nI_sub1 (by omega)) (Nat.le_of_ble_eq_true rfl) ?_
          refine V_goto (tgt := 10) F dX16_add_39 (by decide) ?_
          refine VV.weak (L' := [some (.ref (b)), some (.ref (x)), some (.int (nI (m - 1)))]) (LW.c1 (LW.c1 (LW.c1 LW.nil))) ?_
          exact ih_10 (m - 1) (by omega) (by omega) (fun _ => c_33)
  refine VV.weak (L' := [some (.ref (b)), some (.ref (x)), some (.int (nI (S.length)))]) (LW.c1 (LW.c1 (LW.c1 LW.nil))) ?_
  exact loop_10 (S.length + 1) S.length (Nat.lt_succ_self _) (Nat.le_refl _) (fun z => absurd z (Nat.lt_irrefl _))
