/-! the JDK's arithmetic, static helpers -/
set_option maxRecDepth 100000
theorem c_J2_min {G : GT} (h : AH) (a b : Int) : CnA G mJ2_min_2 1 0 0 [.inr (.inl a), .inr (.inl b)] h (fun r h1 => r = some (.inr (.inl (if w64 a ≤ w64 b then a else b))) ∧ h1 = h) := by
  refine CnA.ofF (by decide +kernel) (Nat.le_of_ble_eq_true rfl) ?_
  simp only [largs, lpad, mr_J2_min_2]
  refine vsA_ok tk_J2_min_2 rfl 40 ?_
  simp only [at_J2_min_2, mr_J2_min_2, vsA, vcA, denA, lget, lset, lst1, lst2, lclr, argsA, restA, acats, acat, tcA, tcN, rzA, lle, List.length_cons, List.length_nil, Option.toList_some, Option.toList_none, List.cons_append, List.nil_append, eG, eM, eD, eC, eS, eQ, eH, if_true, if_false, Nat.reduceAdd, Nat.reduceLeDiff, Nat.reduceEqDiff, Nat.reduceLT, Nat.reduceSub, Int.reduceEq, Int.reduceLE, Int.reduceToNat, reduceCtorEq, reduceIte, Nat.reduceBEq, Int.reduceNeg, not_true, not_false_iff, true_and, and_true, true_or, or_true, false_or, or_false, forall_const, implies_true, Nat.le_refl, Int.toNat_natCast, Int.reduceLT, ne_eq, Fin.isValue, Nat.add_zero, nC_hrw, nS_hrw, nC_hwr, nS_hwr, hkd_hrw, hkd_hwr, fin4_0, fin4_1, fin4_2, fin4_3, fin2_0, fin2_1, ci0, ci1, cnn, false_implies, w32_eq, w64_eq]
  simp only [yc_lt, yc_le, yc_gt, yc_ge, yc_eq]
  constructor
  · intro q
    rw [if_neg (by omega)]
  · intro q
    rw [if_pos (by omega)]
theorem c_X0_in {G : GT} (v lo hi : Int) (h : AH) : CnA G mX0_in 1 0 0 [.inr (.inl v), .inr (.inl lo), .inr (.inl hi)] h (fun r h1 => r = some (.inl (if w64 lo ≤ w64 v ∧ w64 v ≤ w64 hi then 1 else 0)) ∧ h1 = h) := by
  refine CnA.of rfl (Nat.le_of_ble_eq_true rfl) ?_
  simp only [largs, lpad, mr_X0_in]
  refine vsA_ok tk_X0_in rfl 40 ?_
  simp only [at_X0_in, mr_X0_in, vsA, vcA, denA, lget, lset, lst1, lst2, lclr, argsA, restA, acats, acat, tcA, tcN, rzA, lle, List.length_cons, List.length_nil, Option.toList_some, Option.toList_none, List.cons_append, List.nil_append, eG, eM, eD, eC, eS, eQ, eH, if_true, if_false, Nat.reduceAdd, Nat.reduceLeDiff, Nat.reduceEqDiff, Nat.reduceLT, Nat.reduceSub, Int.reduceEq, Int.reduceLE, Int.reduceToNat, reduceCtorEq, reduceIte, Nat.reduceBEq, Int.reduceNeg, not_true, not_false_iff, true_and, and_true, true_or, or_true, false_or, or_false, forall_const, implies_true, Nat.le_refl, Int.toNat_natCast, Int.reduceLT, ne_eq, Fin.isValue, Nat.add_zero, nC_hrw, nS_hrw, nC_hwr, nS_hwr, hkd_hrw, hkd_hwr, fin4_0, fin4_1, fin4_2, fin4_3, fin2_0, fin2_1, ci0, ci1, cnn, false_implies, w32_eq, w64_eq]
  simp only [yc_lt, yc_le, yc_gt, yc_ge, yc_eq]
  refine ⟨fun q => ?_, fun q => ⟨fun q2 => ?_, fun q2 => ?_⟩⟩
  · rw [if_neg (by omega)]
  · rw [if_neg (by omega)]
  · rw [if_pos (by omega)]
