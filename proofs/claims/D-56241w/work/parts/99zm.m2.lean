set_option maxRecDepth 100000
/-! ===== the reference over its whole world: queries ===== -/
theorem cm_stationCount {G : GG} {l : Launch} {h : AH} {m : Nat} {A : Nat → Nat} {W tm : Nat} {gb τ g : Nat → Nat} {sn : Option (Nat → Nat)} {hs : List (Nat → Nat)} {tx : List Nat} {ep fc : Nat} {ot : List Nat} {cd n : Nat}  (hM : MW G h m A W tm gb τ g sn hs tx ep fc ot cd) (hV : SVI n g sn hs tx ep fc ot) : Ct G l yX4_stationCount cX4_stationCount 1 (some .int) 0 0 0 [.ref m] h (QE G h m A W tm gb τ g sn hs tx ep fc ot (0) (.int (nI 0)) (.int (nI (g 0)))) := by
  obtain ⟨V, F, hC, hE⟩ := hM
  obtain rfl := hE.gg
  exact (ct_stationCount hC.mm rfl hC.a0 rfl).mono (fun r h2 hp => QE.pr 0 hC hE rfl hp)
theorem cm_trainCount {G : GG} {l : Launch} {h : AH} {m : Nat} {A : Nat → Nat} {W tm : Nat} {gb τ g : Nat → Nat} {sn : Option (Nat → Nat)} {hs : List (Nat → Nat)} {tx : List Nat} {ep fc : Nat} {ot : List Nat} {cd n : Nat}  (hM : MW G h m A W tm gb τ g sn hs tx ep fc ot cd) (hV : SVI n g sn hs tx ep fc ot) : Ct G l yX4_trainCount cX4_trainCount 1 (some .int) 0 0 0 [.ref m] h (QE G h m A W tm gb τ g sn hs tx ep fc ot (0) (.int (nI 0)) (.int (nI (g 1)))) := by
  obtain ⟨V, F, hC, hE⟩ := hM
  obtain rfl := hE.gg
  exact (ct_trainCount hC.mm rfl hC.a0 rfl).mono (fun r h2 hp => QE.pr 0 hC hE rfl hp)
theorem cm_suitcaseCount {G : GG} {l : Launch} {h : AH} {m : Nat} {A : Nat → Nat} {W tm : Nat} {gb τ g : Nat → Nat} {sn : Option (Nat → Nat)} {hs : List (Nat → Nat)} {tx : List Nat} {ep fc : Nat} {ot : List Nat} {cd n : Nat}  (hM : MW G h m A W tm gb τ g sn hs tx ep fc ot cd) (hV : SVI n g sn hs tx ep fc ot) : Ct G l yX4_suitcaseCount cX4_suitcaseCount 1 (some .int) 0 0 0 [.ref m] h (QE G h m A W tm gb τ g sn hs tx ep fc ot (0) (.int (nI 0)) (.int (nI (g 2)))) := by
  obtain ⟨V, F, hC, hE⟩ := hM
  obtain rfl := hE.gg
  exact (ct_suitcaseCount hC.mm rfl hC.a0 rfl).mono (fun r h2 hp => QE.pr 0 hC hE rfl hp)
theorem cm_bookingCount {G : GG} {l : Launch} {h : AH} {m : Nat} {A : Nat → Nat} {W tm : Nat} {gb τ g : Nat → Nat} {sn : Option (Nat → Nat)} {hs : List (Nat → Nat)} {tx : List Nat} {ep fc : Nat} {ot : List Nat} {cd n : Nat}  (hM : MW G h m A W tm gb τ g sn hs tx ep fc ot cd) (hV : SVI n g sn hs tx ep fc ot) : Ct G l yX4_bookingCount cX4_bookingCount 1 (some .int) 0 0 0 [.ref m] h (QE G h m A W tm gb τ g sn hs tx ep fc ot (0) (.int (nI 0)) (.int (nI (g 3)))) := by
  obtain ⟨V, F, hC, hE⟩ := hM
  obtain rfl := hE.gg
  exact (ct_bookingCount hC.mm rfl hC.a0 rfl).mono (fun r h2 hp => QE.pr 0 hC hE rfl hp)
theorem cm_coins {G : GG} {l : Launch} {h : AH} {m : Nat} {A : Nat → Nat} {W tm : Nat} {gb τ g : Nat → Nat} {sn : Option (Nat → Nat)} {hs : List (Nat → Nat)} {tx : List Nat} {ep fc : Nat} {ot : List Nat} {cd n : Nat}  (hM : MW G h m A W tm gb τ g sn hs tx ep fc ot cd) (hV : SVI n g sn hs tx ep fc ot) : Ct G l yX4_coins cX4_coins 1 (some .int) 0 0 0 [.ref m] h (QE G h m A W tm gb τ g sn hs tx ep fc ot (0) (.int (nI 0)) (.int (nI (g 6)))) := by
  obtain ⟨V, F, hC, hE⟩ := hM
  obtain rfl := hE.gg
  exact (ct_coins hC.mm rfl hC.a0 rfl).mono (fun r h2 hp => QE.pr 0 hC hE rfl hp)
theorem cm_collectedTotal {G : GG} {l : Launch} {h : AH} {m : Nat} {A : Nat → Nat} {W tm : Nat} {gb τ g : Nat → Nat} {sn : Option (Nat → Nat)} {hs : List (Nat → Nat)} {tx : List Nat} {ep fc : Nat} {ot : List Nat} {cd n : Nat}  (hM : MW G h m A W tm gb τ g sn hs tx ep fc ot cd) (hV : SVI n g sn hs tx ep fc ot) : Ct G l yX4_collectedTotal cX4_collectedTotal 1 (some .int) 0 0 0 [.ref m] h (QE G h m A W tm gb τ g sn hs tx ep fc ot (0) (.int (nI 0)) (.int (nI (g 7)))) := by
  obtain ⟨V, F, hC, hE⟩ := hM
  obtain rfl := hE.gg
  exact (ct_collectedTotal hC.mm rfl hC.a0 rfl).mono (fun r h2 hp => QE.pr 0 hC hE rfl hp)
theorem cm_coinsByLoads {G : GG} {l : Launch} {h : AH} {m : Nat} {A : Nat → Nat} {W tm : Nat} {gb τ g : Nat → Nat} {sn : Option (Nat → Nat)} {hs : List (Nat → Nat)} {tx : List Nat} {ep fc : Nat} {ot : List Nat} {cd n : Nat}  (hM : MW G h m A W tm gb τ g sn hs tx ep fc ot cd) (hV : SVI n g sn hs tx ep fc ot) : Ct G l yX4_coinsByLoads cX4_coinsByLoads 4 (some .int) 1 0 0 [.ref m] h (QE G h m A W tm gb τ g sn hs tx ep fc ot (0) (.int (nI 0)) (.int (nI (clG g (g 1))))) := by
  obtain ⟨V, F, hC, hE⟩ := hM
  obtain rfl := hE.gg
  exact (ct_coinsByLoads hC.mm rfl hC.a0 rfl hV.1.1.W).mono (fun r h2 hp => QE.pr 0 hC hE rfl hp)
theorem cm_transferTime {G : GG} {l : Launch} {h : AH} {m : Nat} {A : Nat → Nat} {W tm : Nat} {gb τ g : Nat → Nat} {sn : Option (Nat → Nat)} {hs : List (Nat → Nat)} {tx : List Nat} {ep fc : Nat} {ot : List Nat} {cd n : Nat} {p : Int32} (hM : MW G h m A W tm gb τ g sn hs tx ep fc ot cd) (hV : SVI n g sn hs tx ep fc ot) : Ct G l yX4_transferTime cX4_transferTime 2 (some .int) 2 0 0 [.ref m, .int p] h (QE G h m A W tm gb τ g sn hs tx ep fc ot (if ¬ iR p (g 0) then 1 else 0) (.int (nI 0)) (.int (nI (g (8 + tn p))))) := by
  obtain ⟨V, F, hC, hE⟩ := hM
  obtain rfl := hE.gg
  exact (ct_transferTime hC.mm rfl hC.a0 rfl hV.1.1.W).mono (fun r h2 hp => QE.px hC hE hp)
theorem cm_stopCount {G : GG} {l : Launch} {h : AH} {m : Nat} {A : Nat → Nat} {W tm : Nat} {gb τ g : Nat → Nat} {sn : Option (Nat → Nat)} {hs : List (Nat → Nat)} {tx : List Nat} {ep fc : Nat} {ot : List Nat} {cd n : Nat} {p : Int32} (hM : MW G h m A W tm gb τ g sn hs tx ep fc ot cd) (hV : SVI n g sn hs tx ep fc ot) : Ct G l yX4_stopCount cX4_stopCount 2 (some .int) 3 0 0 [.ref m, .int p] h (QE G h m A W tm gb τ g sn hs tx ep fc ot (if ¬ iR p (g 1) then 1 else 0) (.int (nI 0)) (.int (nI (g (16 + 36 * tn p + 3))))) := by
  obtain ⟨V, F, hC, hE⟩ := hM
  obtain rfl := hE.gg
  exact (ct_stopCount hC.mm rfl hC.a0 rfl hV.1.1.W).mono (fun r h2 hp => QE.px hC hE hp)
theorem cm_capacity {G : GG} {l : Launch} {h : AH} {m : Nat} {A : Nat → Nat} {W tm : Nat} {gb τ g : Nat → Nat} {sn : Option (Nat → Nat)} {hs : List (Nat → Nat)} {tx : List Nat} {ep fc : Nat} {ot : List Nat} {cd n : Nat} {p : Int32} (hM : MW G h m A W tm gb τ g sn hs tx ep fc ot cd) (hV : SVI n g sn hs tx ep fc ot) : Ct G l yX4_capacity cX4_capacity 2 (some .int) 3 0 0 [.ref m, .int p] h (QE G h m A W tm gb τ g sn hs tx ep fc ot (if ¬ iR p (g 1) then 1 else 0) (.int (nI 0)) (.int (nI (g (16 + 36 * tn p + 0))))) := by
  obtain ⟨V, F, hC, hE⟩ := hM
  obtain rfl := hE.gg
  exact (ct_capacity hC.mm rfl hC.a0 rfl hV.1.1.W).mono (fun r h2 hp => QE.px hC hE hp)
theorem cm_delayOf {G : GG} {l : Launch} {h : AH} {m : Nat} {A : Nat → Nat} {W tm : Nat} {gb τ g : Nat → Nat} {sn : Option (Nat → Nat)} {hs : List (Nat → Nat)} {tx : List Nat} {ep fc : Nat} {ot : List Nat} {cd n : Nat} {p : Int32} (hM : MW G h m A W tm gb τ g sn hs tx ep fc ot cd) (hV : SVI n g sn hs tx ep fc ot) : Ct G l yX4_delayOf cX4_delayOf 2 (some .int) 3 0 0 [.ref m, .int p] h (QE G h m A W tm gb τ g sn hs tx ep fc ot (if ¬ iR p (g 1) then 1 else 0) (.int (nI 0)) (.int (nI (g (16 + 36 * tn p + 2))))) := by
  obtain ⟨V, F, hC, hE⟩ := hM
  obtain rfl := hE.gg
  exact (ct_delayOf hC.mm rfl hC.a0 rfl hV.1.1.W).mono (fun r h2 hp => QE.px hC hE hp)
theorem cm_stationAt {G : GG} {l : Launch} {h : AH} {m : Nat} {A : Nat → Nat} {W tm : Nat} {gb τ g : Nat → Nat} {sn : Option (Nat → Nat)} {hs : List (Nat → Nat)} {tx : List Nat} {ep fc : Nat} {ot : List Nat} {cd n : Nat} {p : Int32} {q : Int32} (hM : MW G h m A W tm gb τ g sn hs tx ep fc ot cd) (hV : SVI n g sn hs tx ep fc ot) : Ct G l yX4_stationAt cX4_stationAt 3 (some .int) 3 0 0 [.ref m, .int p, .int q] h (QE G h m A W tm gb τ g sn hs tx ep fc ot (if ¬ (iR p (g 1) ∧ iR q (g (16 + 36 * tn p + 3))) then 1 else 0) (.int (nI 0)) (.int (nI (plG g (tn p) (tn q))))) := by
  obtain ⟨V, F, hC, hE⟩ := hM
  obtain rfl := hE.gg
  exact (ct_stationAt hC.mm rfl hC.a0 rfl hV.1.1.W).mono (fun r h2 hp => QE.px hC hE hp)
theorem cm_arrivalAt {G : GG} {l : Launch} {h : AH} {m : Nat} {A : Nat → Nat} {W tm : Nat} {gb τ g : Nat → Nat} {sn : Option (Nat → Nat)} {hs : List (Nat → Nat)} {tx : List Nat} {ep fc : Nat} {ot : List Nat} {cd n : Nat} {p : Int32} {q : Int32} (hM : MW G h m A W tm gb τ g sn hs tx ep fc ot cd) (hV : SVI n g sn hs tx ep fc ot) : Ct G l yX4_arrivalAt cX4_arrivalAt 3 (some .int) 3 0 0 [.ref m, .int p, .int q] h (QE G h m A W tm gb τ g sn hs tx ep fc ot (if ¬ (iR p (g 1) ∧ iR q (g (16 + 36 * tn p + 3))) then 1 else if tn q = 0 then 2 else 0) (.int (nI 0)) (.int (nI (CmG g (tn p) (tn q))))) := by
  obtain ⟨V, F, hC, hE⟩ := hM
  obtain rfl := hE.gg
  exact (ct_arrivalAt hC.mm rfl hC.a0 rfl hV.1.1.W).mono (fun r h2 hp => QE.px hC hE hp)
theorem cm_departureAt {G : GG} {l : Launch} {h : AH} {m : Nat} {A : Nat → Nat} {W tm : Nat} {gb τ g : Nat → Nat} {sn : Option (Nat → Nat)} {hs : List (Nat → Nat)} {tx : List Nat} {ep fc : Nat} {ot : List Nat} {cd n : Nat} {p : Int32} {q : Int32} (hM : MW G h m A W tm gb τ g sn hs tx ep fc ot cd) (hV : SVI n g sn hs tx ep fc ot) : Ct G l yX4_departureAt cX4_departureAt 3 (some .int) 3 0 0 [.ref m, .int p, .int q] h (QE G h m A W tm gb τ g sn hs tx ep fc ot (if ¬ (iR p (g 1) ∧ iR q (g (16 + 36 * tn p + 3))) then 1 else if tn q = g (16 + 36 * tn p + 3) - 1 then 2 else 0) (.int (nI 0)) (.int (nI (LvG g (tn p) (tn q))))) := by
  obtain ⟨V, F, hC, hE⟩ := hM
  obtain rfl := hE.gg
  exact (ct_departureAt hC.mm rfl hC.a0 rfl hV.1.1.W).mono (fun r h2 hp => QE.px hC hE hp)
theorem cm_load {G : GG} {l : Launch} {h : AH} {m : Nat} {A : Nat → Nat} {W tm : Nat} {gb τ g : Nat → Nat} {sn : Option (Nat → Nat)} {hs : List (Nat → Nat)} {tx : List Nat} {ep fc : Nat} {ot : List Nat} {cd n : Nat} {p : Int32} {q : Int32} (hM : MW G h m A W tm gb τ g sn hs tx ep fc ot cd) (hV : SVI n g sn hs tx ep fc ot) : Ct G l yX4_load cX4_load 3 (some .int) 3 0 0 [.ref m, .int p, .int q] h (QE G h m A W tm gb τ g sn hs tx ep fc ot (if ¬ (iR p (g 1) ∧ iR q (g (16 + 36 * tn p + 3) - 1)) then 1 else 0) (.int (nI 0)) (.int (nI (ldG g (tn p) (tn q))))) := by
  obtain ⟨V, F, hC, hE⟩ := hM
  obtain rfl := hE.gg
  exact (ct_load hC.mm rfl hC.a0 rfl hV.1.1.W).mono (fun r h2 hp => QE.px hC hE hp)
theorem cm_isFull {G : GG} {l : Launch} {h : AH} {m : Nat} {A : Nat → Nat} {W tm : Nat} {gb τ g : Nat → Nat} {sn : Option (Nat → Nat)} {hs : List (Nat → Nat)} {tx : List Nat} {ep fc : Nat} {ot : List Nat} {cd n : Nat} {p : Int32} {q : Int32} (hM : MW G h m A W tm gb τ g sn hs tx ep fc ot cd) (hV : SVI n g sn hs tx ep fc ot) : Ct G l yX4_isFull cX4_isFull 3 (some .boolean) 4 0 0 [.ref m, .int p, .int q] h (QE G h m A W tm gb τ g sn hs tx ep fc ot (if ¬ (iR p (g 1) ∧ iR q (g (16 + 36 * tn p + 3) - 1)) then 1 else 0) (.int (nI 0)) (.int (b2 (g (16 + 36 * tn p + 0) ≤ ldG g (tn p) (tn q))))) := by
  obtain ⟨V, F, hC, hE⟩ := hM
  obtain rfl := hE.gg
  exact (ct_isFull hC.mm rfl hC.a0 rfl hV.1.1.W).mono (fun r h2 hp => QE.px hC hE hp)
theorem cm_suitcaseAt {G : GG} {l : Launch} {h : AH} {m : Nat} {A : Nat → Nat} {W tm : Nat} {gb τ g : Nat → Nat} {sn : Option (Nat → Nat)} {hs : List (Nat → Nat)} {tx : List Nat} {ep fc : Nat} {ot : List Nat} {cd n : Nat} {p : Int32} (hM : MW G h m A W tm gb τ g sn hs tx ep fc ot cd) (hV : SVI n g sn hs tx ep fc ot) : Ct G l yX4_suitcaseAt cX4_suitcaseAt 2 (some .int) 1 0 0 [.ref m, .int p] h (QE G h m A W tm gb τ g sn hs tx ep fc ot (if ¬ iR p (g 2) then 1 else 0) (.int (nI 0)) (.int (nI (g (232 + 4 * tn p + 0))))) := by
  obtain ⟨V, F, hC, hE⟩ := hM
  obtain rfl := hE.gg
  exact (ct_suitcaseAt hC.mm rfl hC.a0 rfl hV.1.1.W).mono (fun r h2 hp => QE.px hC hE hp)
theorem cm_bookingAt {G : GG} {l : Launch} {h : AH} {m : Nat} {A : Nat → Nat} {W tm : Nat} {gb τ g : Nat → Nat} {sn : Option (Nat → Nat)} {hs : List (Nat → Nat)} {tx : List Nat} {ep fc : Nat} {ot : List Nat} {cd n : Nat} {p : Int32} (hM : MW G h m A W tm gb τ g sn hs tx ep fc ot cd) (hV : SVI n g sn hs tx ep fc ot) : Ct G l yX4_bookingAt cX4_bookingAt 2 (some .int) 1 0 0 [.ref m, .int p] h (QE G h m A W tm gb τ g sn hs tx ep fc ot (if ¬ iR p (g 3) then 1 else 0) (.int (nI 0)) (.int (nI (g (264 + 4 * tn p + 0))))) := by
  obtain ⟨V, F, hC, hE⟩ := hM
  obtain rfl := hE.gg
  exact (ct_bookingAt hC.mm rfl hC.a0 rfl hV.1.1.W).mono (fun r h2 hp => QE.px hC hE hp)
theorem cm_berthsNeeded {G : GG} {l : Launch} {h : AH} {m : Nat} {A : Nat → Nat} {W tm : Nat} {gb τ g : Nat → Nat} {sn : Option (Nat → Nat)} {hs : List (Nat → Nat)} {tx : List Nat} {ep fc : Nat} {ot : List Nat} {cd n : Nat} {p : Int32} (hM : MW G h m A W tm gb τ g sn hs tx ep fc ot cd) (hV : SVI n g sn hs tx ep fc ot) : Ct G l yX4_berthsNeeded cX4_berthsNeeded 2 (some .int) 3 0 0 [.ref m, .int p] h (QE G h m A W tm gb τ g sn hs tx ep fc ot (if ¬ iR p (g 1) then 1 else 0) (.int (nI 0)) (.int (nI (ndG g (tn p) 8)))) := by
  obtain ⟨V, F, hC, hE⟩ := hM
  obtain rfl := hE.gg
  exact (ct_berthsNeeded hC.mm rfl hC.a0 rfl hV.1.1.W).mono (fun r h2 hp => QE.px hC hE hp)
theorem cm_berthsNeededByLegs {G : GG} {l : Launch} {h : AH} {m : Nat} {A : Nat → Nat} {W tm : Nat} {gb τ g : Nat → Nat} {sn : Option (Nat → Nat)} {hs : List (Nat → Nat)} {tx : List Nat} {ep fc : Nat} {ot : List Nat} {cd n : Nat} {p : Int32} (hM : MW G h m A W tm gb τ g sn hs tx ep fc ot cd) (hV : SVI n g sn hs tx ep fc ot) : Ct G l yX4_berthsNeededByLegs cX4_berthsNeededByLegs 2 (some .int) 3 0 0 [.ref m, .int p] h (QE G h m A W tm gb τ g sn hs tx ep fc ot (if ¬ iR p (g 1) then 1 else 0) (.int (nI 0)) (.int (nI (ndG g (tn p) 8)))) := by
  obtain ⟨V, F, hC, hE⟩ := hM
  obtain rfl := hE.gg
  exact (ct_berthsNeededByLegs hC.mm rfl hC.a0 rfl hV.1.1.W).mono (fun r h2 hp => QE.px hC hE hp)
theorem cm_nextTrain {G : GG} {l : Launch} {h : AH} {m : Nat} {A : Nat → Nat} {W tm : Nat} {gb τ g : Nat → Nat} {sn : Option (Nat → Nat)} {hs : List (Nat → Nat)} {tx : List Nat} {ep fc : Nat} {ot : List Nat} {cd n : Nat} {p : Int32} {q : Int32} (hM : MW G h m A W tm gb τ g sn hs tx ep fc ot cd) (hV : SVI n g sn hs tx ep fc ot) : Ct G l yX4_nextTrain cX4_nextTrain 7 (some .int) 2 0 0 [.ref m, .int p, .int q] h (QE G h m A W tm gb τ g sn hs tx ep fc ot (if ¬ iR p (g 0) then 1 else if ¬ (nI 0 ≤ q ∧ q ≤ nI 9999) then 2 else if (ntO g (tn p) (tn q) (g 1)).1 = none then 3 else 0) (.int (nI 0)) (.int (rO (ntO g (tn p) (tn q) (g 1)).1))) := by
  obtain ⟨V, F, hC, hE⟩ := hM
  obtain rfl := hE.gg
  exact (ct_nextTrain hC.mm rfl hC.a0 rfl hV.1.1.W).mono (fun r h2 hp => QE.px hC hE hp)
theorem cm_stationOf {G : GG} {l : Launch} {h : AH} {m : Nat} {A : Nat → Nat} {W tm : Nat} {gb τ g : Nat → Nat} {sn : Option (Nat → Nat)} {hs : List (Nat → Nat)} {tx : List Nat} {ep fc : Nat} {ot : List Nat} {cd n : Nat} {p : Int32} (hM : MW G h m A W tm gb τ g sn hs tx ep fc ot cd) (hV : SVI n g sn hs tx ep fc ot) : Ct G l yX4_stationOf cX4_stationOf 2 (some .int) 4 0 0 [.ref m, .int p] h (QE G h m A W tm gb τ g sn hs tx ep fc ot ((fdO g 232 p (g 2)).elim 1 (fun _ => 0)) (.int (nI 0)) (.int ((fdO g 232 p (g 2)).elim (nI 0) (fun k => nI (g (232 + 4 * k + 1)))))) := by
  obtain ⟨V, F, hC, hE⟩ := hM
  obtain rfl := hE.gg
  cases hf : fdO (F 0) 232 p ((F 0) 2) with
  | none => exact ((ct_stationOfN hC.mm rfl hC.a0 rfl hV.1.1.W hf).up (by decide)).mono (fun r h2 hp => QE.pr 1 hC hE rfl hp)
  | some k => exact ((ct_stationOfS hC.mm rfl hC.a0 rfl hV.1.1.W hf).up (by decide)).mono (fun r h2 hp => QE.pr 0 hC hE rfl hp)
theorem cm_destinationOf {G : GG} {l : Launch} {h : AH} {m : Nat} {A : Nat → Nat} {W tm : Nat} {gb τ g : Nat → Nat} {sn : Option (Nat → Nat)} {hs : List (Nat → Nat)} {tx : List Nat} {ep fc : Nat} {ot : List Nat} {cd n : Nat} {p : Int32} (hM : MW G h m A W tm gb τ g sn hs tx ep fc ot cd) (hV : SVI n g sn hs tx ep fc ot) : Ct G l yX4_destinationOf cX4_destinationOf 2 (some .int) 4 0 0 [.ref m, .int p] h (QE G h m A W tm gb τ g sn hs tx ep fc ot ((fdO g 232 p (g 2)).elim 1 (fun _ => 0)) (.int (nI 0)) (.int ((fdO g 232 p (g 2)).elim (nI 0) (fun k => nI (g (232 + 4 * k + 2)))))) := by
  obtain ⟨V, F, hC, hE⟩ := hM
  obtain rfl := hE.gg
  cases hf : fdO (F 0) 232 p ((F 0) 2) with
  | none => exact ((ct_destinationOfN hC.mm rfl hC.a0 rfl hV.1.1.W hf).up (by decide)).mono (fun r h2 hp => QE.pr 1 hC hE rfl hp)
  | some k => exact ((ct_destinationOfS hC.mm rfl hC.a0 rfl hV.1.1.W hf).up (by decide)).mono (fun r h2 hp => QE.pr 0 hC hE rfl hp)
theorem cm_readyAt {G : GG} {l : Launch} {h : AH} {m : Nat} {A : Nat → Nat} {W tm : Nat} {gb τ g : Nat → Nat} {sn : Option (Nat → Nat)} {hs : List (Nat → Nat)} {tx : List Nat} {ep fc : Nat} {ot : List Nat} {cd n : Nat} {p : Int32} (hM : MW G h m A W tm gb τ g sn hs tx ep fc ot cd) (hV : SVI n g sn hs tx ep fc ot) : Ct G l yX4_readyAt cX4_readyAt 2 (some .int) 4 0 0 [.ref m, .int p] h (QE G h m A W tm gb τ g sn hs tx ep fc ot ((fdO g 232 p (g 2)).elim 1 (fun _ => 0)) (.int (nI 0)) (.int ((fdO g 232 p (g 2)).elim (nI 0) (fun k => nI (g (232 + 4 * k + 3)))))) := by
  obtain ⟨V, F, hC, hE⟩ := hM
  obtain rfl := hE.gg
  cases hf : fdO (F 0) 232 p ((F 0) 2) with
  | none => exact ((ct_readyAtN hC.mm rfl hC.a0 rfl hV.1.1.W hf).up (by decide)).mono (fun r h2 hp => QE.pr 1 hC hE rfl hp)
  | some k => exact ((ct_readyAtS hC.mm rfl hC.a0 rfl hV.1.1.W hf).up (by decide)).mono (fun r h2 hp => QE.pr 0 hC hE rfl hp)
theorem cm_isThere {G : GG} {l : Launch} {h : AH} {m : Nat} {A : Nat → Nat} {W tm : Nat} {gb τ g : Nat → Nat} {sn : Option (Nat → Nat)} {hs : List (Nat → Nat)} {tx : List Nat} {ep fc : Nat} {ot : List Nat} {cd n : Nat} {p : Int32} (hM : MW G h m A W tm gb τ g sn hs tx ep fc ot cd) (hV : SVI n g sn hs tx ep fc ot) : Ct G l yX4_isThere cX4_isThere 2 (some .boolean) 3 0 0 [.ref m, .int p] h (QE G h m A W tm gb τ g sn hs tx ep fc ot ((fdO g 232 p (g 2)).elim 1 (fun _ => 0)) (.int (nI 0)) (.int ((fdO g 232 p (g 2)).elim (nI 0) (fun k => b2 (g (232 + 4 * k + 1) = g (232 + 4 * k + 2)))))) := by
  obtain ⟨V, F, hC, hE⟩ := hM
  obtain rfl := hE.gg
  cases hf : fdO (F 0) 232 p ((F 0) 2) with
  | none => exact ((ct_isThereN hC.mm rfl hC.a0 rfl hV.1.1.W hf).up (by decide)).mono (fun r h2 hp => QE.pr 1 hC hE rfl hp)
  | some k => exact ((ct_isThereS hC.mm rfl hC.a0 rfl hV.1.1.W hf).up (by decide)).mono (fun r h2 hp => QE.pr 0 hC hE rfl hp)
theorem cm_suitcaseByReady {G : GG} {l : Launch} {h : AH} {m : Nat} {A : Nat → Nat} {W tm : Nat} {gb τ g : Nat → Nat} {sn : Option (Nat → Nat)} {hs : List (Nat → Nat)} {tx : List Nat} {ep fc : Nat} {ot : List Nat} {cd n : Nat} {p : Int32} (hM : MW G h m A W tm gb τ g sn hs tx ep fc ot cd) (hV : SVI n g sn hs tx ep fc ot) : Ct G l yX4_suitcaseByReady cX4_suitcaseByReady 5 (some .int) 1 0 0 [.ref m, .int p] h (QE G h m A W tm gb τ g sn hs tx ep fc ot ((fdP (fun i => nI (rkG g i (g 2)) = p) (g 2)).elim 1 (fun _ => 0)) (.int (nI 0)) (.int ((fdP (fun i => nI (rkG g i (g 2)) = p) (g 2)).elim (nI 0) (fun k => nI (g (232 + 4 * k + 0)))))) := by
  obtain ⟨V, F, hC, hE⟩ := hM
  obtain rfl := hE.gg
  cases hf : fdP (fun i => nI (rkG (F 0) i ((F 0) 2)) = p) ((F 0) 2) with
  | none => exact ((ct_suitcaseByReadyN hC.mm rfl hC.a0 rfl hV.1.1.W hf).up (by decide)).mono (fun r h2 hp => QE.pr 1 hC hE rfl hp)
  | some k => exact ((ct_suitcaseByReadyS hC.mm rfl hC.a0 rfl hV.1.1.W hf).up (by decide)).mono (fun r h2 hp => QE.pr 0 hC hE rfl hp)
theorem cm_isConsistent {G : GG} {l : Launch} {h : AH} {m : Nat} {A : Nat → Nat} {W tm : Nat} {gb τ g : Nat → Nat} {sn : Option (Nat → Nat)} {hs : List (Nat → Nat)} {tx : List Nat} {ep fc : Nat} {ot : List Nat} {cd n : Nat}  (hM : MW G h m A W tm gb τ g sn hs tx ep fc ot cd) (hV : SVI n g sn hs tx ep fc ot) : Ct G l yX4_isConsistent cX4_isConsistent 3 (some .boolean) 3 0 0 [.ref m] h (QE G h m A W tm gb τ g sn hs tx ep fc ot (0) (.int (nI 0)) (.int (nI 1))) := by
  obtain ⟨V, F, hC, hE⟩ := hM
  obtain rfl := hE.gg
  exact (ct_isConsistent hC.mm rfl hC.a0 rfl hV.1.1.W (fun t ht k hk => hV.1.1.L t k ⟨ht, hk⟩)).mono (fun r h2 hp => QE.pr 0 hC hE rfl hp)
theorem cm_meanLoad {G : GG} {l : Launch} {h : AH} {m : Nat} {A : Nat → Nat} {W tm : Nat} {gb τ g : Nat → Nat} {sn : Option (Nat → Nat)} {hs : List (Nat → Nat)} {tx : List Nat} {ep fc : Nat} {ot : List Nat} {cd n : Nat}  (hM : MW G h m A W tm gb τ g sn hs tx ep fc ot cd) (hV : SVI n g sn hs tx ep fc ot) (hsm : smG g (g 1) ≤ 210) : Ct G l yX4_meanLoad cX4_meanLoad 4 (some .double) 3 0 0 [.ref m] h (QE G h m A W tm gb τ g sn hs tx ep fc ot (if lgG g (g 1) = 0 then 1 else 0) (.double FP.dconst0) (.double (FP.ddiv (FP.i2d (nI (smG g (g 1)))) (FP.i2d (nI (lgG g (g 1))))))) := by
  obtain ⟨V, F, hC, hE⟩ := hM
  obtain rfl := hE.gg
  exact (ct_meanLoad hC.mm rfl hC.a0 rfl hV.1.1.W hsm).mono (fun r h2 hp => QE.py hC hE hp)
theorem cm_fullShare {G : GG} {l : Launch} {h : AH} {m : Nat} {A : Nat → Nat} {W tm : Nat} {gb τ g : Nat → Nat} {sn : Option (Nat → Nat)} {hs : List (Nat → Nat)} {tx : List Nat} {ep fc : Nat} {ot : List Nat} {cd n : Nat}  (hM : MW G h m A W tm gb τ g sn hs tx ep fc ot cd) (hV : SVI n g sn hs tx ep fc ot) : Ct G l yX4_fullShare cX4_fullShare 4 (some .float) 4 0 0 [.ref m] h (QE G h m A W tm gb τ g sn hs tx ep fc ot (if lgG g (g 1) = 0 then 1 else 0) (.float FP.fconst0) (.float (FP.fdiv (FP.i2f (nI (fuG g (g 1)))) (FP.i2f (nI (lgG g (g 1))))))) := by
  obtain ⟨V, F, hC, hE⟩ := hM
  obtain rfl := hE.gg
  exact (ct_fullShare hC.mm rfl hC.a0 rfl hV.1.1.W).mono (fun r h2 hp => QE.py hC hE hp)
theorem cm_outputAt {G : GG} {l : Launch} {h : AH} {m : Nat} {A : Nat → Nat} {W tm : Nat} {gb τ g : Nat → Nat} {sn : Option (Nat → Nat)} {hs : List (Nat → Nat)} {tx : List Nat} {ep fc : Nat} {ot : List Nat} {cd n : Nat} {p : Int32} (hM : MW G h m A W tm gb τ g sn hs tx ep fc ot cd) (hV : SVI n g sn hs tx ep fc ot) : Ct G l yX4_outputAt cX4_outputAt 2 (some .char) 1 0 0 [.ref m, .int p] h (QE G h m A W tm gb τ g sn hs tx ep fc ot (if ¬ iR p ot.length then 1 else 0) (.int (nI 32)) (.int (nI (ot.getD (tn p) 0)))) := by
  obtain ⟨V, F, hC, hE⟩ := hM
  obtain rfl := hE.gg
  refine (ct_outputAt (n := ot.length) hC.mm rfl hC.a5 (congrArg some hE.v13) rfl (by have := hV.2.2.2.2.2.2.2.2.1; omega) hV.2.2.2.2.2.2.2.2.1 hE.o.2).mono (fun r h2 hp => ?_)
  refine QE.py hC hE ?_
  by_cases q : iR p ot.length
  · rw [if_neg (fun z => z q)] at hp ⊢
    refine ⟨fun z => absurd rfl z, fun _ => ?_⟩
    obtain ⟨e1, e2⟩ := hp.2 rfl
    refine ⟨?_, e2⟩
    rw [e1, hE.o.1 (tn p) (by obtain ⟨z1, z2⟩ := q; unfold tn; omega)]
  · rw [if_pos q] at hp ⊢
    exact ⟨hp.1, fun z => by cases z⟩
theorem cm_errorPosition {G : GG} {l : Launch} {h : AH} {m : Nat} {A : Nat → Nat} {W tm : Nat} {gb τ g : Nat → Nat} {sn : Option (Nat → Nat)} {hs : List (Nat → Nat)} {tx : List Nat} {ep fc : Nat} {ot : List Nat} {cd n : Nat}  (hM : MW G h m A W tm gb τ g sn hs tx ep fc ot cd) (hV : SVI n g sn hs tx ep fc ot) : Ct G l yX4_errorPosition cX4_errorPosition 1 (some .int) 1 0 0 [.ref m] h (QE G h m A W tm gb τ g sn hs tx ep fc ot (if ep = 0 then 1 else 0) (.int (nI 0)) (.int (rP ep))) := by
  obtain ⟨V, F, hC, hE⟩ := hM
  obtain rfl := hE.gg
  exact (ct_errorPosition hC.mm (congrArg some hE.v10) (by have := hV.2.2.2.2.2.2.1; omega) rfl).mono (fun r h2 hp => QE.px hC hE hp)
theorem cm_failedCommand {G : GG} {l : Launch} {h : AH} {m : Nat} {A : Nat → Nat} {W tm : Nat} {gb τ g : Nat → Nat} {sn : Option (Nat → Nat)} {hs : List (Nat → Nat)} {tx : List Nat} {ep fc : Nat} {ot : List Nat} {cd n : Nat}  (hM : MW G h m A W tm gb τ g sn hs tx ep fc ot cd) (hV : SVI n g sn hs tx ep fc ot) : Ct G l yX4_failedCommand cX4_failedCommand 1 (some .int) 1 0 0 [.ref m] h (QE G h m A W tm gb τ g sn hs tx ep fc ot (if fc = 0 then 1 else 0) (.int (nI 0)) (.int (rP fc))) := by
  obtain ⟨V, F, hC, hE⟩ := hM
  obtain rfl := hE.gg
  exact (ct_failedCommand hC.mm (congrArg some hE.v11) (by have := hV.2.2.2.2.2.2.2.1; omega) rfl).mono (fun r h2 hp => QE.px hC hE hp)
