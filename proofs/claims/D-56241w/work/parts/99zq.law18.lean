set_option maxRecDepth 100000
/-! ===== berths: the two sides joined ===== -/
theorem pig_le : ∀ (m : Nat) (L : List Nat), (∀ c, c < m → c ∈ L) → m ≤ L.length
  | 0, _, _ => Nat.zero_le _
  | m + 1, L, h => by
    have h1 := pig_le m (L.erase m) (fun c hc => (List.mem_erase_of_ne (by omega)).mpr (h c (by omega)))
    rw [List.length_erase_of_mem (h m (Nat.lt_succ_self m))] at h1
    have := List.length_pos_of_mem (h m (Nat.lt_succ_self m))
    omega
theorem pig_ge : ∀ (m : Nat) (L : List Nat), L.Nodup → (∀ c, c ∈ L → c < m) → L.length ≤ m
  | 0, L, _, h => by
    cases L with
    | nil => exact Nat.le_refl _
    | cons x L => exact absurd (h x List.mem_cons_self) (Nat.not_lt_zero _)
  | m + 1, L, hn, h => by
    by_cases q : m ∈ L
    · have h1 := pig_ge m (L.erase m) (hn.erase m) (fun c hc => by
        have h2 := (hn.mem_erase_iff).mp hc
        have h3 := h c h2.2
        have h4 := h2.1
        omega)
      rw [List.length_erase_of_mem q] at h1
      omega
    · exact Nat.le_succ_of_le (pig_ge m L hn (fun c hc => by
        have h3 := h c hc
        have h4 : c ≠ m := fun e => q (e ▸ hc)
        omega))
section BE
variable {g : Nat → Nat} {t : Nat}
/-- a booking of the train takes the leg -/
abbrev cvB (g : Nat → Nat) (t l o : Nat) : Bool := decide (g (264 + 4 * o + 1) = t ∧ g (264 + 4 * o + 2) ≤ l ∧ l < g (264 + 4 * o + 3))
theorem bkG_cnt {l : Nat} : ∀ n, bkG g t l n = (List.range n).countP (cvB g t l)
  | 0 => rfl
  | n + 1 => by
    rw [List.range_succ, List.countP_append, ← bkG_cnt n]
    show bkG g t l n + bkC g t l n = _
    congr 1
    rw [List.countP_singleton]
    unfold bkC cvB
    by_cases q : g (264 + 4 * n + 1) = t ∧ g (264 + 4 * n + 2) ≤ l ∧ l < g (264 + 4 * n + 3)
    · rw [if_pos q, if_pos (decide_eq_true q)]
    · rw [if_neg q, if_neg (fun z => q (of_decide_eq_true z))]
theorem map_getD (S : List Nat) : (List.range S.length).map (fun k => S.getD k 0) = S := by
  refine List.ext_getElem (by rw [List.length_map, List.length_range]) (fun i h1 h2 => ?_)
  rw [List.getElem_map, List.getElem_range, List.getD_eq_getElem?_getD, List.getElem?_eq_getElem h2]
  rfl
theorem cnt_pos {S : List Nat} {P : Nat → Bool} : (List.range S.length).countP (fun k => P (S.getD k 0)) = S.countP P := by
  conv => rhs; rw [← map_getD S, List.countP_map]
  rfl
theorem BOS.cnt {S : List Nat} {l : Nat} (h : BOS g t S) : S.countP (cvB g t l) = bkG g t l (g 3) := by
  rw [h.1.countP_eq, List.countP_filter, bkG_cnt]
  refine List.countP_congr (fun o _ => ?_)
  unfold cvB
  simp only [Bool.and_eq_true, decide_eq_true_eq]
  constructor
  · rintro ⟨h1, -⟩; exact h1
  · intro h1; exact ⟨h1, h1.1⟩
theorem BOS.nd {S : List Nat} (h : BOS g t S) : S.Nodup := (h.1.nodup_iff).mpr (List.Pairwise.filter _ List.nodup_range)
theorem BOS.gm {S : List Nat} {k : Nat} (hk : k < S.length) : S.getD k 0 ∈ S := by
  rw [List.getD_eq_getElem?_getD, List.getElem?_eq_getElem hk]; exact List.getElem_mem _
theorem BOS.inj {S : List Nat} (h : BOS g t S) {i j : Nat} (hi : i < S.length) (hj : j < S.length) (e : S.getD i 0 = S.getD j 0) : i = j := by
  rw [List.getD_eq_getElem?_getD, List.getElem?_eq_getElem hi, List.getD_eq_getElem?_getD, List.getElem?_eq_getElem hj] at e
  exact (List.getElem_inj h.nd).mp e
theorem BOS.srt {S : List Nat} (h : BOS g t S) {i j : Nat} (hij : i < j) (hj : j < S.length) : boLe g (S.getD i 0) (S.getD j 0) := by
  have := (List.pairwise_iff_getElem.mp h.2) i j (by omega) hj hij
  rw [List.getD_eq_getElem?_getD, List.getElem?_eq_getElem (by omega), List.getD_eq_getElem?_getD, List.getElem?_eq_getElem hj]
  exact this
/-- the order of the bookings by first stop and place -/
abbrev LX (g : Nat → Nat) (o p : Nat) : Prop := g (264 + 4 * o + 2) < g (264 + 4 * p + 2) ∨ g (264 + 4 * o + 2) = g (264 + 4 * p + 2) ∧ o < p
theorem BOS.lx {n : Nat} {S : List Nat} (hV : INV n g) (h : BOS g t S) {i j : Nat} (hij : i < j) (hj : j < S.length) : LX g (S.getD i 0) (S.getD j 0) := by
  have h1 := h.srt hij hj
  have h2 : S.getD i 0 ≠ S.getD j 0 := fun e => by have := h.inj (by omega) hj e; omega
  have h3 := (h.lt (BOS.gm (show i < S.length by omega))).1
  have h4 := (h.lt (BOS.gm hj)).1
  generalize S.getD i 0 = o at *
  generalize S.getD j 0 = p at *
  show _ ∨ _
  by_cases q : g (264 + 4 * o + 2) < g (264 + 4 * p + 2)
  · exact Or.inl q
  · have q2 : ¬ g (264 + 4 * p + 2) < g (264 + 4 * o + 2) := fun z => h1 (Or.inl z)
    refine Or.inr ⟨by omega, ?_⟩
    apply Classical.byContradiction
    intro z
    have := hV.bd p o (by omega) h3
    exact h1 (Or.inr ⟨by omega, this⟩)
theorem BOS.lt_of_lx {n : Nat} {S : List Nat} (hV : INV n g) (h : BOS g t S) {i j : Nat} (hi : i < S.length) (hx : LX g (S.getD i 0) (S.getD j 0)) : i < j := by
  apply Classical.byContradiction
  intro q
  by_cases e : i = j
  · subst e
    rcases hx with z | z
    · exact absurd z (Nat.lt_irrefl _)
    · exact absurd z.2 (Nat.lt_irrefl _)
  · have h1 := h.lx hV (show j < i by omega) hi
    rcases hx with z | z <;> rcases h1 with y | y <;> omega
/-- as many berths are needed as bookings take one leg -/
theorem nd_most {n nd : Nat} {S : List Nat} {N : Nat → Nat} (hV : INV n g) (ht : t < g 1) (h : BGV g t S N nd) : nd = bmN g t (g (16 + 36 * t + 3) - 1) := by
  obtain ⟨hS, hM, h1, h2⟩ := h
  have hbm : ∀ m l, l < m → bkG g t l (g 3) ≤ bmN g t m := by
    intro m
    induction m with
    | zero => intro l hl; exact absurd hl (Nat.not_lt_zero l)
    | succ m ih =>
      intro l hl
      unfold bmN
      by_cases e : l = m
      · subst e; exact Nat.le_max_right _ _
      · exact Nat.le_trans (ih l (by omega)) (Nat.le_max_left _ _)
  have hbm2 : ∀ m, (∀ l, l < m → bkG g t l (g 3) ≤ nd) → bmN g t m ≤ nd := by
    intro m
    induction m with
    | zero => intro _; exact Nat.zero_le _
    | succ m ih =>
      intro hl
      unfold bmN
      exact Nat.max_le.mpr ⟨ih (fun l z => hl l (by omega)), hl m (Nat.lt_succ_self m)⟩
  apply Nat.le_antisymm
  · rcases h2 with rfl | ⟨i, hi, rfl⟩
    · exact Nat.zero_le _
    · obtain ⟨m1, m2, m3⟩ := hM i hi
      have hoi := hS.lt (BOS.gm hi)
      obtain ⟨-, b2, b3⟩ := hV.bv _ hoi.1
      rw [hoi.2] at b3
      refine Nat.le_trans ?_ (hbm _ (g (264 + 4 * S.getD i 0 + 2)) (by omega))
      rw [← hS.cnt, ← cnt_pos, List.countP_eq_length_filter, ← List.length_map (f := N)]
      refine pig_le _ _ (fun c hc => ?_)
      rw [List.mem_map]
      by_cases e : c = N i
      · refine ⟨i, List.mem_filter.mpr ⟨List.mem_range.mpr hi, ?_⟩, e.symm⟩
        exact decide_eq_true ⟨hoi.2, Nat.le_refl _, b2⟩
      · obtain ⟨k', k1, k2, k3⟩ := m3 c (by omega)
        refine ⟨k', List.mem_filter.mpr ⟨List.mem_range.mpr (by omega), ?_⟩, k3⟩
        have hok := hS.lt (BOS.gm (show k' < S.length by omega))
        refine decide_eq_true ⟨hok.2, ?_, k2⟩
        rcases hS.lx hV k1 hi with z | z <;> omega
  · refine hbm2 _ (fun l hl => ?_)
    rw [← hS.cnt, ← cnt_pos, List.countP_eq_length_filter, ← List.length_map (f := N)]
    refine pig_ge _ _ ?_ (fun c hc => ?_)
    · unfold List.Nodup
      rw [List.pairwise_map]
      refine List.Pairwise.imp_of_mem (R := (· < ·)) (fun {p q} hp hq hlt => ?_) (List.Pairwise.filter _ List.pairwise_lt_range)
      have hp := List.mem_filter.mp hp
      have hq := List.mem_filter.mp hq
      have p1 := of_decide_eq_true hp.2
      have q1 := of_decide_eq_true hq.2
      obtain ⟨-, m2, -⟩ := hM q (List.mem_range.mp hq.1)
      exact m2 p hlt (show _ < _ by omega)
    · obtain ⟨k, hk, rfl⟩ := List.mem_map.mp hc
      have := h1 k (List.mem_range.mp (List.mem_filter.mp hk).1)
      omega
theorem bk_zero {n l : Nat} (hV : INV n g) (hl : g (16 + 36 * t + 3) ≤ l + 1) : bkG g t l (g 3) = 0 := by
  rw [bkG_cnt, List.countP_eq_zero]
  intro o ho
  obtain ⟨-, b2, b3⟩ := hV.bv o (List.mem_range.mp ho)
  intro z
  have z := of_decide_eq_true z
  rw [z.1] at b3
  omega
theorem ndG_max : ∀ k, ndG g t k = bmN g t k
  | 0 => rfl
  | k + 1 => by
    unfold ndG bmN
    rw [ndG_max k]
    split <;> omega
theorem bmN_end {n : Nat} (hV : INV n g) : ∀ d, bmN g t (g (16 + 36 * t + 3) - 1 + d) = bmN g t (g (16 + 36 * t + 3) - 1)
  | 0 => rfl
  | d + 1 => by
    show max (bmN g t (g (16 + 36 * t + 3) - 1 + d)) (bkG g t (g (16 + 36 * t + 3) - 1 + d) (g 3)) = _
    rw [bk_zero hV (by omega), bmN_end hV d]
    omega
theorem nd_join {n : Nat} (hV : INV n g) (ht : t < g 1) : ndG g t 8 = bmN g t (g (16 + 36 * t + 3) - 1) := by
  have h8 := (hV.W.2.2.2.2.2.1 t ht).2
  rw [ndG_max, ← bmN_end hV (8 - (g (16 + 36 * t + 3) - 1))]
  congr 1; omega
/-- bits of the berths used -/
theorem bt_orE {u c b : Nat} : (u ||| 2 ^ c) / 2 ^ b % 2 = 1 ↔ (u / 2 ^ b % 2 = 1 ∨ c = b) := by
  have h1 := Nat.testBit_or u (2 ^ c) b
  rw [Nat.testBit_two_pow, Nat.testBit_eq_decide_div_mod_eq, Nat.testBit_eq_decide_div_mod_eq] at h1
  constructor
  · intro q
    rw [decide_eq_true q] at h1
    have h2 := Bool.or_eq_true_iff.mp h1.symm
    exact h2.imp of_decide_eq_true of_decide_eq_true
  · intro q
    have h2 : (decide (u / 2 ^ b % 2 = 1) || decide (c = b)) = true := Bool.or_eq_true_iff.mpr (q.imp decide_eq_true decide_eq_true)
    rw [h2] at h1
    exact of_decide_eq_true h1
theorem us_bit {β : Nat → Nat} {s b : Nat} : ∀ n, usG g β s n / 2 ^ b % 2 = 1 ↔ ∃ o, o < n ∧ β o = b + 1 ∧ s < g (264 + 4 * o + 3)
  | 0 => by
    constructor
    · intro q
      have q : 0 / 2 ^ b % 2 = 1 := q
      rw [Nat.zero_div] at q; cases q
    · rintro ⟨o, ho, -⟩; exact absurd ho (Nat.not_lt_zero o)
  | n + 1 => by
    have ih := us_bit (β := β) (s := s) (b := b) n
    unfold usG
    by_cases q : β n ≠ 0 ∧ s < g (264 + 4 * n + 3)
    · rw [if_pos q, bt_orE, ih]
      constructor
      · rintro (⟨o, h1, h2, h3⟩ | h)
        · exact ⟨o, by omega, h2, h3⟩
        · exact ⟨n, Nat.lt_succ_self n, by have := q.1; omega, q.2⟩
      · rintro ⟨o, h1, h2, h3⟩
        by_cases e : o = n
        · subst e; exact Or.inr (by omega)
        · exact Or.inl ⟨o, by omega, h2, h3⟩
    · rw [if_neg q, ih]
      constructor
      · rintro ⟨o, h1, h2, h3⟩; exact ⟨o, by omega, h2, h3⟩
      · rintro ⟨o, h1, h2, h3⟩
        by_cases e : o = n
        · subst e; exact absurd ⟨by omega, h3⟩ q
        · exact ⟨o, by omega, h2, h3⟩
theorem fs_mex {u N : Nat} (h1 : ∀ c, c < N → u / 2 ^ c % 2 = 1) (h2 : ¬ u / 2 ^ N % 2 = 1) : ∀ K b, b ≤ N → N < b + K → fsB u K b = N
  | 0, b, hb, hK => by omega
  | K + 1, b, hb, hK => by
    unfold fsB
    by_cases e : b = N
    · subst e; rw [if_neg h2]
    · rw [if_pos (h1 b (by omega))]
      exact fs_mex h1 h2 K (b + 1) (by omega) (by omega)
/-- what is given behind the stop s, place k -/
def GVI (g : Nat → Nat) (t : Nat) (S : List Nat) (N : Nat → Nat) (s k : Nat) (β : Nat → Nat) : Prop :=
  (∀ p, p < S.length → (g (264 + 4 * S.getD p 0 + 2) < s ∨ g (264 + 4 * S.getD p 0 + 2) = s ∧ S.getD p 0 < k) → β (S.getD p 0) = N p + 1) ∧
    ∀ o, o < g 3 → ¬ (g (264 + 4 * o + 1) = t ∧ (g (264 + 4 * o + 2) < s ∨ g (264 + 4 * o + 2) = s ∧ o < k)) → β o = 0
theorem BOS.pos {S : List Nat} (h : BOS g t S) {o : Nat} (ho : o < g 3) (hon : g (264 + 4 * o + 1) = t) : ∃ p, p < S.length ∧ S.getD p 0 = o := by
  have hm : o ∈ S := (h.1.mem_iff).mpr (List.mem_filter.mpr ⟨List.mem_range.mpr ho, decide_eq_true hon⟩)
  obtain ⟨p, hp, e⟩ := List.mem_iff_getElem.mp hm
  exact ⟨p, hp, by rw [List.getD_eq_getElem?_getD, List.getElem?_eq_getElem hp]; exact e⟩
theorem GVI.step {n nd s k : Nat} {S : List Nat} {N β : Nat → Nat} (hV : INV n g) (h : BGV g t S N nd) (hk : k < g 3) (hI : GVI g t S N s k β) : GVI g t S N s (k + 1) (if g (264 + 4 * k + 1) = t ∧ g (264 + 4 * k + 2) = s then up β k (fsB (usG g β s (g 3)) 12 0 + 1) else β) := by
  obtain ⟨hS, hM, -⟩ := h
  obtain ⟨i1, i2⟩ := hI
  by_cases q : g (264 + 4 * k + 1) = t ∧ g (264 + 4 * k + 2) = s
  · rw [if_pos q]
    obtain ⟨p, hp, hpk⟩ := hS.pos hk q.1
    obtain ⟨m1, m2, m3⟩ := hM p hp
    have hN : fsB (usG g β s (g 3)) 12 0 = N p := by
      have hlen := hS.len
      have h3 := hV.W.2.2.2.2.1
      refine fs_mex (fun c hc => ?_) (fun z => ?_) 12 0 (Nat.zero_le _) (by omega)
      · obtain ⟨k', k1, k2, k3⟩ := m3 c hc
        refine (us_bit _).mpr ⟨S.getD k' 0, (hS.lt (BOS.gm (by omega))).1, ?_, ?_⟩
        · rw [← k3]
          refine i1 k' (by omega) ?_
          have hx : g (264 + 4 * S.getD k' 0 + 2) < g (264 + 4 * S.getD p 0 + 2) ∨ g (264 + 4 * S.getD k' 0 + 2) = g (264 + 4 * S.getD p 0 + 2) ∧ S.getD k' 0 < S.getD p 0 := hS.lx hV k1 hp
          rw [hpk, q.2] at hx
          exact hx
        · have k2 : g (264 + 4 * S.getD p 0 + 2) < _ := k2
          rw [hpk, q.2] at k2
          exact k2
      · obtain ⟨o, o1, o2, o3⟩ := (us_bit _).mp z
        have o4 : g (264 + 4 * o + 1) = t ∧ (g (264 + 4 * o + 2) < s ∨ g (264 + 4 * o + 2) = s ∧ o < k) := by
          apply Classical.byContradiction
          intro w
          have := i2 o o1 w
          omega
        obtain ⟨p', hp', hpo⟩ := hS.pos o1 o4.1
        have o5 := i1 p' hp' (by rw [hpo]; exact o4.2)
        rw [hpo] at o5
        have hlt : p' < p := hS.lt_of_lx hV hp' (by rw [hpo, hpk]; show _ ∨ _; rw [q.2]; exact o4.2)
        have := m2 p' hlt (by show g (264 + 4 * S.getD p 0 + 2) < g (264 + 4 * S.getD p' 0 + 3); rw [hpk, hpo, q.2]; exact o3)
        omega
    rw [hN]
    refine ⟨fun p2 hp2 hc => ?_, fun o ho hc => ?_⟩
    · by_cases e : S.getD p2 0 = k
      · have : p2 = p := hS.inj hp2 hp (e.trans hpk.symm)
        subst this
        rw [e, up_s]
      · rw [up_n e]
        refine i1 p2 hp2 (hc.imp id (fun z => ⟨z.1, by omega⟩))
    · have e : o ≠ k := fun e => hc (by subst e; exact ⟨q.1, Or.inr ⟨q.2, Nat.lt_succ_self o⟩⟩)
      rw [up_n e]
      exact i2 o ho (fun z => hc ⟨z.1, z.2.imp id (fun z => ⟨z.1, by omega⟩)⟩)
  · rw [if_neg q]
    refine ⟨fun p2 hp2 hc => ?_, fun o ho hc => i2 o ho (fun z => hc ⟨z.1, z.2.imp id (fun z => ⟨z.1, by omega⟩)⟩)⟩
    refine i1 p2 hp2 (hc.imp id (fun z => ⟨z.1, ?_⟩))
    have e : S.getD p2 0 ≠ k := fun e => q ⟨by rw [← e]; exact (hS.lt (BOS.gm hp2)).2, by rw [← e]; exact z.1⟩
    omega
theorem GVI.stop {n nd s : Nat} {S : List Nat} {N β : Nat → Nat} (hV : INV n g) (h : BGV g t S N nd) (hI : GVI g t S N s 0 β) : ∀ k, k ≤ g 3 → GVI g t S N s k (gvK g t s β k)
  | 0, _ => hI
  | k + 1, hk => GVI.step hV h (by omega) (GVI.stop hV h hI k (by omega))
theorem GVI.next {s : Nat} {S : List Nat} {N β : Nat → Nat} (hS : BOS g t S) (hI : GVI g t S N s (g 3) β) : GVI g t S N (s + 1) 0 β :=
  ⟨fun p hp hc => hI.1 p hp (by
    have := (hS.lt (BOS.gm hp)).1
    rcases hc with z | z <;> omega), fun o ho hc => hI.2 o ho (fun z => hc ⟨z.1, by
    have := z.2
    rcases this with y | y <;> omega⟩)⟩
theorem GVI.all {n nd : Nat} {S : List Nat} {N β : Nat → Nat} (hV : INV n g) (h : BGV g t S N nd) (h0 : ∀ o, o < g 3 → β o = 0) : ∀ s, GVI g t S N s 0 (gvS g t β s)
  | 0 => ⟨fun p hp hc => by rcases hc with z | z <;> exact absurd z (by omega), fun o ho _ => h0 o ho⟩
  | s + 1 => GVI.next h.1 (GVI.stop hV h (GVI.all hV h h0 s) (g 3) (Nat.le_refl _))
/-- the reference's berth of a booking is the class's -/
theorem gv_join {n nd p : Nat} {S : List Nat} {N b0 : Nat → Nat} (hV : INV n g) (ht : t < g 1) (h : BGV g t S N nd) (hp : p < S.length) : gvB g t b0 (S.getD p 0) = N p + 1 := by
  have hall := GVI.all hV h (β := zbN b0 (g 3)) (fun o ho => if_pos ho) 8
  have hl := h.1.lt (BOS.gm hp)
  obtain ⟨-, b2, b3⟩ := hV.bv _ hl.1
  rw [hl.2] at b3
  have h8 := (hV.W.2.2.2.2.2.1 t ht).2
  exact hall.1 p hp (Or.inl (by omega))
end BE
