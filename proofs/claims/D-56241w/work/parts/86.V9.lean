section V9
variable {G : GG} {X : CX} {cc : ByteArray} {nL : Nat} {own : String} {ret : Option FieldType} {d MC MS : Nat} {Q : State → Prop} {h : AH} {kc n : Nat} {L : LV} {st : List Value} {pc : Nat}
/-- an array of arrays of ints -/
abbrev yA (G : GG) (n : Nat) (f : Nat → Option Nat) : va_E := .inl (G.2.1 7, n, .inr (.inr (.inr (.inr f))))
theorem Fx.ai (F : Fx G X cc nL own ret d MC MS) : va_AI (xs X) := F.kn.2.2.2.2.2.2.2.2.2.2.2.2.1
theorem V_anewI {N idx : Nat} (F : Fx G X cc nL own ret d MC MS) (hd : decode cc pc = .ok (.anewarray idx, 3)) (hcl : Cond.classLink own idx "[I" ∈ lw_all) (hN : N < 100000) (hr1 : kc + 1 ≤ MC) (hr2 : n + N ≤ MS) (kk : ∀ a : Nat, h a = none → bz G ≤ a → VV G X nL Q (hset h a (yA G N (fun _ => none))) (kc + 1) (n + N) L (.ref a :: st) (pc + 3)) : VV G X nL Q h kc n L (.int (nI N) :: st) pc :=
  V_newA F (ty := .int) 7 hd hcl F.ai rfl (i := nI N) (fun q => by rw [lt_toInt, nI_toInt (by omega)] at q; have : (0 : Int32).toInt = 0 := rfl; omega) (nI_clamp (by omega)) (by omega) hr1 hr2 kk
theorem V_aastI (F : Fx G X cc nL own ret d MC MS) {a v N j m : Nat} {f : Nat → Option Nat} {fi : Nat → Int32} (hd : decode cc pc = .ok (.aastore, 1)) (he : h a = some (yA G N f)) (hv : rd G h v (iA G m fi)) (hj : j < N) (hN : N < 2 ^ 31) (kk : VV G X nL Q (hset h a (yA G N (upq f j (some v)))) kc n L st (pc + 1)) : VV G X nL Q h kc n L (.ref v :: .int (nI j) :: .ref a :: st) pc := by
  intro H locs ls hS hL hl
  obtain ⟨hb0, ha⟩ := hS.1 a _ he
  have hin := vp_in_nI hj hN
  have hlt : (nI j).toNatClampNeg < N := Nat.not_le.mp fun q => hin (Or.inr q)
  have h0 : ¬ nI j < 0 := fun q => hin (Or.inl q)
  obtain ⟨cell, hcv, c2, c3, -⟩ := hS.rd hv
  obtain ⟨comp, c7, k7, k1, -, k3, k4, k5⟩ := ai_spec F.ai
  have e7 : c7 = G.2.1 7 := Option.some.inj (k5.symm.trans (F.kn.1.2 7 _ rfl).2)
  subst e7
  have e0 : comp = G.2.1 0 := Option.some.inj (k1.symm.trans (F.kn.1.2 0 _ rfl).2)
  subst e0
  obtain ⟨kcomp, hkcomp, -⟩ := Vm.findClass_spec k1
  refine W.aast F.exec F.code ha (fun q h => by cases h) (fun h => by cases h) k3 k4 rfl hkcomp ⟨h0, by show _ < (arrV _ _ _).slots.size; rw [arrV_size]; exact hlt⟩ hcv c3 (by rw [c2]; exact hkcomp) (by rw [c2]; exact va_asg _ _) rfl rfl hd fun H1 e z oq => ?_
  rw [show (nI j).toNatClampNeg = j from nI_clamp (Nat.lt_trans hj hN)] at e
  refine kk H1 _ ls (hS.put he z oq ?_) (locs_app hL hb0) hl
  show H1[a]? = some (vp_cell _ _)
  rw [e]
  rw [vp_cell_q, vp_cell_q, arrV_store]
  congr 2
  funext q
  by_cases hq : q = j
  · subst hq
    simp [updV, va_up, va_rf]
  · simp [updV, va_up, hq]
end V9
