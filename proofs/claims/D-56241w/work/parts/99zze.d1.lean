set_option maxRecDepth 100000
/-! ===== a double among the locals ===== -/
theorem q64_t : ∀ a : Fin 211, ∀ b : Fin 42, Op.cmpValue (FP.dcmp (FP.ddiv (FP.i2d (nI a.1)) (FP.i2d (nI (b.1 + 1)))) (FP.ddiv (FP.i2d (nI a.1)) (FP.i2d (nI (b.1 + 1))))) .l = 0 := by decide +kernel
theorem f64_t : ∀ a : Fin 43, ∀ b : Fin 42, FP.f2d (FP.fdiv (FP.i2f (nI a.1)) (FP.i2f (nI (b.1 + 1)))) &&& 0x7fffffffffffffff ≤ 0x7ff0000000000000 := by decide +kernel
theorem q32_t : ∀ a : Fin 43, ∀ b : Fin 42, Op.cmpValue (FP.dcmp (FP.f2d (FP.fdiv (FP.i2f (nI a.1)) (FP.i2f (nI (b.1 + 1))))) (FP.f2d (FP.fdiv (FP.i2f (nI a.1)) (FP.i2f (nI (b.1 + 1)))))) .l = 0 := by decide +kernel
def VD (G : GG) (X : CX) (nL : Nat) (Q : State → Prop) (h : AH) (k n : Nat) (L : LV) (x : UInt64) (st : List Value) (pc : Nat) : Prop :=
  ∀ (H : Heap) (locs : List Loc) (ls : Array Slot), Sim G h H → (∀ q ∈ locs, fr G q.base) → lvH ls nL L → ls[7]? = some (.val (.double x)) →
    W (xP X) (xl X) (xe X) (xR X) (xs X) (xm X) (xa X) (xb X) (xt X) (xc X) H locs k n Q (F0 (xm X) pc ls st)
section DROWS
variable {G : GG} {X : CX} {cc : ByteArray} {nL : Nat} {own : String} {ret : Option FieldType} {d MC MS : Nat} {Q : State → Prop} {h : AH} {kc n : Nat} {L : LV} {st : List Value} {pc : Nat} {w : UInt64}
theorem D_off (k : VV G X nL Q h kc n L st pc) : VD G X nL Q h kc n L w st pc := fun H locs ls hS hL hl _ => k H locs ls hS hL hl
theorem D_dstore (F : Fx G X cc nL own ret d MC MS) (hd : decode cc pc = .ok (.dstore 7, 2)) (hn : 7 + 1 < nL) (h7 : ∀ v, L[7]? ≠ some (some v)) (h8 : ∀ v, L[8]? ≠ some (some v)) (k : VD G X nL Q h kc n L w st (pc + 2)) : VV G X nL Q h kc n L (.double w :: st) pc :=
  fun H locs ls hS hL hl => lv_dstore F.exec F.code hd hl.kit hn rfl (fun ls2 hl2 => k H locs ls2 hS hL ⟨hl2.1, hl2.2.1, fun i v hi => ⟨hl2.2.2 (i, v) (List.mem_cons_of_mem _ (List.mem_filter.mpr ⟨mem_asl.mpr hi, by
    have i7 : i ≠ 7 := fun z => h7 v (z ▸ hi)
    have i8 : i ≠ 8 := fun z => h8 v (z ▸ hi)
    have hc := (hl.2.2 i v hi).2
    simp [i7, i8, hc]⟩)), (hl.2.2 i v hi).2⟩⟩ (hl2.2.2 (7, .double w) List.mem_cons_self))
theorem D_aload_n (F : Fx G X cc nL own ret d MC MS) {j : Fin 4} {i : Nat} {x : Nat} (hd : decode cc pc = .ok (.aload_n j, 1)) (hi : (j : Nat) = i) (hv : L[i]? = some (some (.ref x))) (k : VD G X nL Q h kc n L w (.ref x :: st) (pc + 1)) : VD G X nL Q h kc n L w (st) pc :=
  fun H locs ls hS hL hl hx => lv_aload_n F.exec F.code hd hi (hl.2.2 i _ hv).1 (k H locs ls hS hL hl hx)
theorem D_aload (F : Fx G X cc nL own ret d MC MS) {i : Nat} {x : Nat} (hd : decode cc pc = .ok (.aload i, 2)) (hv : L[i]? = some (some (.ref x))) (k : VD G X nL Q h kc n L w (.ref x :: st) (pc + 2)) : VD G X nL Q h kc n L w (st) pc :=
  fun H locs ls hS hL hl hx => lv_aload F.exec F.code hd (hl.2.2 i _ hv).1 (k H locs ls hS hL hl hx)
theorem D_iload (F : Fx G X cc nL own ret d MC MS) {i : Nat} {x : Int32} (hd : decode cc pc = .ok (.iload i, 2)) (hv : L[i]? = some (some (.int x))) (k : VD G X nL Q h kc n L w (.int x :: st) (pc + 2)) : VD G X nL Q h kc n L w (st) pc :=
  fun H locs ls hS hL hl hx => lv_iload F.exec F.code hd (hl.2.2 i _ hv).1 (k H locs ls hS hL hl hx)
theorem D_iconst (F : Fx G X cc nL own ret d MC MS) {i : Int} {v : Int32} (hd : decode cc pc = .ok (.iconst i, 1)) (hv : Int32.ofInt i = v) (k : VD G X nL Q h kc n L w (.int v :: st) (pc + 1)) : VD G X nL Q h kc n L w (st) pc :=
  fun H locs ls hS hL hl hx => lv_iconst F.exec F.code hd hv (k H locs ls hS hL hl hx)
theorem D_icmp_eq (F : Fx G X cc nL own ret d MC MS) {x y : Int32} {off : Int} {tgt : Nat} (hd : decode cc pc = .ok (.if_icmp .eq off, 3)) (ht : (pc : Int) + off = (tgt : Int)) (k1 : x = y → VD G X nL Q h kc n L w st tgt) (k2 : ¬ x = y → VD G X nL Q h kc n L w st (pc + 3)) : VD G X nL Q h kc n L w (.int y :: .int x :: st) pc :=
  fun H locs ls hS hL hl hx => lv_icmp_eq F.exec F.code hd ht (fun c => k1 c H locs ls hS hL hl hx) (fun c => k2 c H locs ls hS hL hl hx)
theorem D_if_ne (F : Fx G X cc nL own ret d MC MS) {x : Int32} {off : Int} {tgt : Nat} (hd : decode cc pc = .ok (.ifCond .ne off, 3)) (ht : (pc : Int) + off = (tgt : Int)) (k1 : x ≠ 0 → VD G X nL Q h kc n L w st tgt) (k2 : x = 0 → VD G X nL Q h kc n L w st (pc + 3)) : VD G X nL Q h kc n L w (.int x :: st) pc :=
  fun H locs ls hS hL hl hx => lv_if_ne F.exec F.code hd ht (fun c => k1 c H locs ls hS hL hl hx) (fun c => k2 c H locs ls hS hL hl hx)
theorem D_dald (F : Fx G X cc nL own ret d MC MS) (t : Nat) {cA : ClassId} {a N : Nat} {f : Nat → UInt64} {i : Int32} (hd : decode cc pc = .ok (.daload, 1)) (ht : (TY G)[t]? = some (cA, .double)) (he : rd G h a (.inl (cA, N, .inr (.inr (.inr (.inl f)))))) (hin : vp_in i N) (kk : VD G X nL Q h kc n L w (.double (f i.toNatClampNeg) :: st) (pc + 1)) : VD G X nL Q h kc n L w (.int i :: .ref a :: st) pc :=
  fun H locs ls hS hL hl hx => by
    obtain ⟨cell, c1, c2, c3, c4, c5, c6, c7⟩ := hS.rd he
    have hlt2 : i.toNatClampNeg < N := Nat.not_le.mp fun q => hin (Or.inr q)
    exact W.dald (v := .double (f i.toNatClampNeg)) F.exec F.code c1 (cl_arr c2 c3 (F.kn.1.2 t _ ht).1) c4 (cl_in hin c5) (by rw [c7 _ hlt2]; show (arrV cA N (fun j => .double (f j))).slots[_]? = _; rw [arrV_read _ _ hlt2]) rfl rfl hd (kk H locs ls hS hL hl hx)
theorem D_dload (F : Fx G X cc nL own ret d MC MS) (hd : decode cc pc = .ok (.dload 7, 2)) (k : VV G X nL Q h kc n L (.double w :: st) (pc + 2)) : VD G X nL Q h kc n L w st pc :=
  fun H locs ls hS hL hl hx => lv_dload F.exec F.code hd hx (k H locs ls hS hL hl)
theorem V_dcmp (F : Fx G X cc nL own ret d MC MS) {x y : UInt64} {op : CmpOp} (hd : decode cc pc = .ok (.dcmp op, 1)) (k : VV G X nL Q h kc n L (.int (Op.cmpValue (FP.dcmp x y) op) :: st) (pc + 1)) : VV G X nL Q h kc n L (.double y :: .double x :: st) pc :=
  fun H locs ls hS hL hl => lv_dcmp F.exec F.code hd (k H locs ls hS hL hl)
theorem D_run {mc ms : Nat} {st0 : List Value} {Post : Option Value → AH → Prop} {len : Nat} (hr : ∀ (H : Heap) (locs : List Loc) (ls : Array Slot), Sim G h H → lvH ls nL L → ∀ T : State, T.heap = H → Stand (xP X) (xl X) (xe X) (xR X) (xs X) (xm X) (xa X) (xb X) (xt X) (xc X) T locs kc n → ∃ (v : Option Value) (st₀ t T' : State) (Lo : List Loc), st₀.heap = H ∧ Stand (xP X) (xl X) (xe X) (xR X) (xs X) (xm X) (xa X) (xb X) (xt X) (xc X) T' (locs ++ Lo) (kc + mc) (n + ms) ∧ (∀ q ∈ Lo, fr G q.base) ∧ T'.heap = t.heap ∧ T'.vm = t.vm ∧ (∃ v' h', Outcome.returned v = .returned v' ∧ Post v' h' ∧ Sim G h' t.heap) ∧
    Goes (xP X) (xe X) (xb X) T (F0 (xm X) pc ls st0) T' { (F0 (xm X) pc ls st0) with pc := pc + len, stack := v.toList ++ st })
    (kk : ∀ v h', Post v h' → VD G X nL Q h' (kc + mc) (n + ms) L w (v.toList ++ st) (pc + len)) : VD G X nL Q h kc n L w st0 pc := by
  intro H locs ls hS hL hl hx T hT XX
  obtain ⟨v, st₀, t, T', Lo, h0, X', hLf, e1, e2, ⟨v', h', hv, hp, hs⟩, hst⟩ := hr H locs ls hS hl T hT XX
  cases hv
  have hLL : ∀ q ∈ locs ++ Lo, fr G q.base := by
    intro q hq
    rcases List.mem_append.mp hq with h9 | h9
    · exact hL q h9
    · exact hLf q h9
  obtain ⟨t2, a1, b1⟩ := kk v h' hp T'.heap (locs ++ Lo) ls (by rw [e1]; exact hs) hLL hl hx T' rfl X'
  exact ⟨t2, hst t2 a1, b1⟩
theorem D_cV0r {y : MethodName} {cc' : ByteArray} {mL' d' mc ms idx : Nat} {b : Nat} {ret' : Option FieldType} {C : String} {r : Value} {h2 : AH} (F : Fx G X cc nL own ret d MC MS) (hd : decode cc pc = .ok (.invokevirtual idx, 3)) (lk : LkV own idx C y cc' mL' ret' 0) (hc : Ct G (xl X) y cc' mL' ret' d' mc ms [.ref b] h (PR r h2)) (hrc : isC G h b C) (hsum : (st.map fun v => v.category).sum ≤ 8) (hd1 : d' + 1 ≤ d) (hm : mL' ≤ 45) (hr1 : kc + mc ≤ MC) (hr2 : n + ms ≤ MS) (kk : VD G X nL Q h2 (kc + mc) (n + ms) L w (r :: st) (pc + 3)) : VD G X nL Q h kc n L w (.ref b :: st) pc :=
  D_run (len := 3) (Post := PR r h2) (fun H locs ls hS hl => va_runV (rest := st) F.fix hc (cwV 0 F.wd lk.1 rfl rfl rfl lk.2 (roomR hd1 hm F.room)) ⟨preG.blind, hrc.cell F hS, fun U hU hW => preG.at F.kn hS hU hW⟩ rfl rfl hl.1 rfl (lv_room hsum) hd ⟨Nat.le_trans hr1 F.room.2.2.1, Nat.le_trans hr2 F.room.2.2.2⟩) (fun v h' hp => by obtain ⟨rfl, rfl⟩ := hp; exact kk)
end DROWS
theorem mean_eq {n : Nat} {g : Nat → Nat} (hV : INV n g) (hc : lgG g (g 1) ≠ 0) : Op.cmpValue (FP.dcmp (FP.ddiv (FP.i2d (nI (smG g (g 1)))) (FP.i2d (nI (lgG g (g 1))))) (FP.ddiv (FP.i2d (nI (smG g (g 1)))) (FP.i2d (nI (lgG g (g 1)))))) .l = 0 := by
  have h1 : smG g (g 1) ≤ 210 := by rw [smG_lg]; exact sm_210 hV
  have h2 : lgG g (g 1) ≤ 42 := by rw [lgG_len]; exact lgL_len hV.W
  have := q64_t ⟨smG g (g 1), by omega⟩ ⟨lgG g (g 1) - 1, by omega⟩
  rwa [show lgG g (g 1) - 1 + 1 = lgG g (g 1) from by omega] at this
theorem full_eq {n : Nat} {g : Nat → Nat} (hV : INV n g) (hc : lgG g (g 1) ≠ 0) : Op.cmpValue (FP.dcmp (FP.f2d (FP.fdiv (FP.i2f (nI (fuG g (g 1)))) (FP.i2f (nI (lgG g (g 1)))))) (FP.f2d (FP.fdiv (FP.i2f (nI (fuG g (g 1)))) (FP.i2f (nI (lgG g (g 1))))))) .l = 0 ∧ vf_n64 (FP.f2d (FP.fdiv (FP.i2f (nI (fuG g (g 1)))) (FP.i2f (nI (lgG g (g 1)))))) := by
  have h1 : fuG g (g 1) ≤ 42 := by first | (rw [← fu_join hV]; exact fu_42 hV) | (rw [fu_join hV]; exact fu_42 hV)
  have h2 : lgG g (g 1) ≤ 42 := by rw [lgG_len]; exact lgL_len hV.W
  have k1 := q32_t ⟨fuG g (g 1), by omega⟩ ⟨lgG g (g 1) - 1, by omega⟩
  have k2 := f64_t ⟨fuG g (g 1), by omega⟩ ⟨lgG g (g 1) - 1, by omega⟩
  rw [show lgG g (g 1) - 1 + 1 = lgG g (g 1) from by omega] at k1 k2
  exact ⟨k1, k2⟩
