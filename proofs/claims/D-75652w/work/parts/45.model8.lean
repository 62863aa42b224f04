/-! THE REFERENCE: what is kept beside -/
set_option maxRecDepth 100000
theorem fup_same (f : Nat → Int) (j : Nat) : fup f j (f j) = f := funext fun i => by
  unfold fup
  split
  · rename_i e; rw [e]
  · rfl
section
variable {G : GT} {h : AH}
theorem c_X5_stores (hF : FxA h) : CnA G mX5_stores 1 0 0 [.inr (.inr (124))] h (fun v h1 => v = none ∧ ∃ f, h1 = hrw h 134 f ∧ ∀ k, k < 3 → f k = hdt h 125 (111 + k)) := by
  refine CnA.of rfl (Nat.le_of_ble_eq_true rfl) ?_
  simp only [largs, lpad, mr_X5_stores]
  have hFr : ∀ f, FxA (hrw h 134 f) := fun f => hF.hrw (by decide +kernel) f
  generalize hE : ((G, mX5_stores, _, _, _, _, h) : EV) = E
  have L1 : ∀ i, i ≤ 3 → ∀ f : Nat → Int, (∀ k, k < i → f k = hdt h 125 (111 + k)) → ExA E 2 [some (.inr (.inr (124))), some (.inl ((i : Int)))] [] (hrw h 134 f) := by
    refine lpI 3 fun i hi ih f hf => ?_
    by_cases hi3 : i < 3
    · have nx := ih hi3 (fup f i (hdt h 125 (111 + i))) (fun k hk => by
        by_cases e : k = i
        · rw [e, fup_s]
        · rw [fup_n _ _ e]
          exact hf k (by omega))
      have e5 : hdt (hrw h 134 f) 125 = hdt h 125 := hdt_hrw_n _ _ (by decide)
      subst hE
      refine vsA_ok tk_X5_stores rfl 20 ?_
      simp only [at_X5_stores, mr_X5_stores, vsA, vcA, denA, lget, lset, lst1, lst2, lclr, argsA, restA, acats, acat, tcA, tcN, rzA, lle, List.length_cons, List.length_nil, Option.toList_some, Option.toList_none, List.cons_append, List.nil_append, eG, eM, eD, eC, eS, eQ, eH, if_true, if_false, Nat.reduceAdd, Nat.reduceLeDiff, Nat.reduceEqDiff, Nat.reduceLT, Nat.reduceSub, Int.reduceEq, Int.reduceLE, Int.reduceToNat, reduceCtorEq, reduceIte, Nat.reduceBEq, Int.reduceNeg, not_true, not_false_iff, true_and, and_true, true_or, or_true, false_or, or_false, forall_const, implies_true, Nat.le_refl, Int.toNat_natCast, Int.reduceLT, ne_eq, Fin.isValue, Nat.add_zero, nC_hrw, nS_hrw, nC_hwr, nS_hwr, hkd_hrw, hkd_hwr, fin4_0, fin4_1, fin4_2, fin4_3, fin2_0, fin2_1, ci0, ci1, cnn, false_implies, w32_eq, w64_eq, (hFr f).m, e5]
      try simp (disch := omega) only [yc_lt, yc_le, yc_gt, yc_ge, yc_eq, w32_eq, w64_eq, tn_add, tn_mul, Int.toNat_natCast, Int.reduceToNat, not_true, not_false_iff, false_implies, forall_const, implies_true, hwr_hrw]
      repeat' (with_reducible first | apply And.intro | intro _)
      all_goals try omega
      all_goals try simp (disch := omega) only [w32_eq, w64_eq, tn_add, tn_mul, Int.toNat_natCast, Int.reduceToNat, Option.some.injEq, Sum.inr.injEq, Sum.inl.injEq, hwr_hrw]
      all_goals try omega
      all_goals try exact (nx).weak rfl (by simp [lle] <;> omega)
    · subst hE
      refine vsA_ok tk_X5_stores rfl 20 ?_
      simp only [at_X5_stores, mr_X5_stores, vsA, vcA, denA, lget, lset, lst1, lst2, lclr, argsA, restA, acats, acat, tcA, tcN, rzA, lle, List.length_cons, List.length_nil, Option.toList_some, Option.toList_none, List.cons_append, List.nil_append, eG, eM, eD, eC, eS, eQ, eH, if_true, if_false, Nat.reduceAdd, Nat.reduceLeDiff, Nat.reduceEqDiff, Nat.reduceLT, Nat.reduceSub, Int.reduceEq, Int.reduceLE, Int.reduceToNat, reduceCtorEq, reduceIte, Nat.reduceBEq, Int.reduceNeg, not_true, not_false_iff, true_and, and_true, true_or, or_true, false_or, or_false, forall_const, implies_true, Nat.le_refl, Int.toNat_natCast, Int.reduceLT, ne_eq, Fin.isValue, Nat.add_zero, nC_hrw, nS_hrw, nC_hwr, nS_hwr, hkd_hrw, hkd_hwr, fin4_0, fin4_1, fin4_2, fin4_3, fin2_0, fin2_1, ci0, ci1, cnn, false_implies, w32_eq, w64_eq]
      try simp (disch := omega) only [yc_lt, yc_le, yc_gt, yc_ge, yc_eq, w32_eq, w64_eq, tn_add, tn_mul, Int.toNat_natCast, Int.reduceToNat, not_true, not_false_iff, false_implies, forall_const, implies_true]
      repeat' (with_reducible first | apply And.intro | intro _)
      all_goals try omega
      all_goals try simp (disch := omega) only [w32_eq, w64_eq, tn_add, tn_mul, Int.toNat_natCast, Int.reduceToNat, Option.some.injEq, Sum.inr.injEq, Sum.inl.injEq]
      all_goals try omega
      exact ⟨f, rfl, fun k hk => hf k (by omega)⟩
  have l1 := L1 0 (by omega) (hdt h 134) (fun k hk => by omega)
  rw [hrw_self] at l1
  subst hE
  refine vsA_ok tk_X5_stores rfl 20 ?_
  simp only [at_X5_stores, mr_X5_stores, vsA, vcA, denA, lget, lset, lst1, lst2, lclr, argsA, restA, acats, acat, tcA, tcN, rzA, lle, List.length_cons, List.length_nil, Option.toList_some, Option.toList_none, List.cons_append, List.nil_append, eG, eM, eD, eC, eS, eQ, eH, if_true, if_false, Nat.reduceAdd, Nat.reduceLeDiff, Nat.reduceEqDiff, Nat.reduceLT, Nat.reduceSub, Int.reduceEq, Int.reduceLE, Int.reduceToNat, reduceCtorEq, reduceIte, Nat.reduceBEq, Int.reduceNeg, not_true, not_false_iff, true_and, and_true, true_or, or_true, false_or, or_false, forall_const, implies_true, Nat.le_refl, Int.toNat_natCast, Int.reduceLT, ne_eq, Fin.isValue, Nat.add_zero, nC_hrw, nS_hrw, nC_hwr, nS_hwr, hkd_hrw, hkd_hwr, fin4_0, fin4_1, fin4_2, fin4_3, fin2_0, fin2_1, ci0, ci1, cnn, false_implies, w32_eq, w64_eq]
  try simp (disch := omega) only [yc_lt, yc_le, yc_gt, yc_ge, yc_eq, w32_eq, w64_eq, tn_add, tn_mul, Int.toNat_natCast, Int.reduceToNat, not_true, not_false_iff, false_implies, forall_const, implies_true]
  repeat' (with_reducible first | apply And.intro | intro _)
  all_goals try omega
  all_goals try simp (disch := omega) only [w32_eq, w64_eq, tn_add, tn_mul, Int.toNat_natCast, Int.reduceToNat, Option.some.injEq, Sum.inr.injEq, Sum.inl.injEq]
  all_goals try omega
  all_goals try exact (l1).weak rfl (by simp [lle] <;> omega)
theorem c_X5_isAgain (hF : FxA h) : CnA G mX5_isAgain 1 0 0 [.inr (.inr (124))] h (fun v h1 => v = none ∧ ∃ f, h1 = hrw h 125 f ∧ (∀ k, k < 3 → f (111 + k) = hdt h 134 k) ∧ ∀ j, j < 111 ∨ 113 < j → f j = hdt h 125 j) := by
  refine CnA.of rfl (Nat.le_of_ble_eq_true rfl) ?_
  simp only [largs, lpad, mr_X5_isAgain]
  have hFr : ∀ f, FxA (hrw h 125 f) := fun f => hF.hrw (by decide +kernel) f
  generalize hE : ((G, mX5_isAgain, _, _, _, _, h) : EV) = E
  have L1 : ∀ i, i ≤ 3 → ∀ f : Nat → Int, (∀ k, k < i → f (111 + k) = hdt h 134 k) → (∀ j, j < 111 ∨ 113 < j → f j = hdt h 125 j) → ExA E 2 [some (.inr (.inr (124))), some (.inl ((i : Int)))] [] (hrw h 125 f) := by
    refine lpI 3 fun i hi ih f hf hg => ?_
    by_cases hi3 : i < 3
    · have nx := ih hi3 (fup f (111 + i) (hdt h 134 i)) (fun k hk => by
        by_cases e : k = i
        · rw [e, fup_s]
        · rw [fup_n _ _ (by omega)]
          exact hf k (by omega)) (fun j hj => by rw [fup_n _ _ (by omega)]; exact hg j hj)
      have e5 : hdt (hrw h 125 f) 134 = hdt h 134 := hdt_hrw_n _ _ (by decide)
      subst hE
      refine vsA_ok tk_X5_isAgain rfl 20 ?_
      simp only [at_X5_isAgain, mr_X5_isAgain, vsA, vcA, denA, lget, lset, lst1, lst2, lclr, argsA, restA, acats, acat, tcA, tcN, rzA, lle, List.length_cons, List.length_nil, Option.toList_some, Option.toList_none, List.cons_append, List.nil_append, eG, eM, eD, eC, eS, eQ, eH, if_true, if_false, Nat.reduceAdd, Nat.reduceLeDiff, Nat.reduceEqDiff, Nat.reduceLT, Nat.reduceSub, Int.reduceEq, Int.reduceLE, Int.reduceToNat, reduceCtorEq, reduceIte, Nat.reduceBEq, Int.reduceNeg, not_true, not_false_iff, true_and, and_true, true_or, or_true, false_or, or_false, forall_const, implies_true, Nat.le_refl, Int.toNat_natCast, Int.reduceLT, ne_eq, Fin.isValue, Nat.add_zero, nC_hrw, nS_hrw, nC_hwr, nS_hwr, hkd_hrw, hkd_hwr, fin4_0, fin4_1, fin4_2, fin4_3, fin2_0, fin2_1, ci0, ci1, cnn, false_implies, w32_eq, w64_eq, (hFr f).m, e5]
      try simp (disch := omega) only [yc_lt, yc_le, yc_gt, yc_ge, yc_eq, w32_eq, w64_eq, tn_add, tn_mul, Int.toNat_natCast, Int.reduceToNat, not_true, not_false_iff, false_implies, forall_const, implies_true, hwr_hrw]
      repeat' (with_reducible first | apply And.intro | intro _)
      all_goals try omega
      all_goals try simp (disch := omega) only [w32_eq, w64_eq, tn_add, tn_mul, Int.toNat_natCast, Int.reduceToNat, Option.some.injEq, Sum.inr.injEq, Sum.inl.injEq, hwr_hrw]
      all_goals try omega
      all_goals try exact (nx).weak rfl (by simp [lle] <;> omega)
    · subst hE
      refine vsA_ok tk_X5_isAgain rfl 20 ?_
      simp only [at_X5_isAgain, mr_X5_isAgain, vsA, vcA, denA, lget, lset, lst1, lst2, lclr, argsA, restA, acats, acat, tcA, tcN, rzA, lle, List.length_cons, List.length_nil, Option.toList_some, Option.toList_none, List.cons_append, List.nil_append, eG, eM, eD, eC, eS, eQ, eH, if_true, if_false, Nat.reduceAdd, Nat.reduceLeDiff, Nat.reduceEqDiff, Nat.reduceLT, Nat.reduceSub, Int.reduceEq, Int.reduceLE, Int.reduceToNat, reduceCtorEq, reduceIte, Nat.reduceBEq, Int.reduceNeg, not_true, not_false_iff, true_and, and_true, true_or, or_true, false_or, or_false, forall_const, implies_true, Nat.le_refl, Int.toNat_natCast, Int.reduceLT, ne_eq, Fin.isValue, Nat.add_zero, nC_hrw, nS_hrw, nC_hwr, nS_hwr, hkd_hrw, hkd_hwr, fin4_0, fin4_1, fin4_2, fin4_3, fin2_0, fin2_1, ci0, ci1, cnn, false_implies, w32_eq, w64_eq]
      try simp (disch := omega) only [yc_lt, yc_le, yc_gt, yc_ge, yc_eq, w32_eq, w64_eq, tn_add, tn_mul, Int.toNat_natCast, Int.reduceToNat, not_true, not_false_iff, false_implies, forall_const, implies_true]
      repeat' (with_reducible first | apply And.intro | intro _)
      all_goals try omega
      all_goals try simp (disch := omega) only [w32_eq, w64_eq, tn_add, tn_mul, Int.toNat_natCast, Int.reduceToNat, Option.some.injEq, Sum.inr.injEq, Sum.inl.injEq]
      all_goals try omega
      exact ⟨f, rfl, fun k hk => hf k (by omega), hg⟩
  have l1 := L1 0 (by omega) (hdt h 125) (fun k hk => by omega) (fun j hj => rfl)
  rw [hrw_self] at l1
  subst hE
  refine vsA_ok tk_X5_isAgain rfl 20 ?_
  simp only [at_X5_isAgain, mr_X5_isAgain, vsA, vcA, denA, lget, lset, lst1, lst2, lclr, argsA, restA, acats, acat, tcA, tcN, rzA, lle, List.length_cons, List.length_nil, Option.toList_some, Option.toList_none, List.cons_append, List.nil_append, eG, eM, eD, eC, eS, eQ, eH, if_true, if_false, Nat.reduceAdd, Nat.reduceLeDiff, Nat.reduceEqDiff, Nat.reduceLT, Nat.reduceSub, Int.reduceEq, Int.reduceLE, Int.reduceToNat, reduceCtorEq, reduceIte, Nat.reduceBEq, Int.reduceNeg, not_true, not_false_iff, true_and, and_true, true_or, or_true, false_or, or_false, forall_const, implies_true, Nat.le_refl, Int.toNat_natCast, Int.reduceLT, ne_eq, Fin.isValue, Nat.add_zero, nC_hrw, nS_hrw, nC_hwr, nS_hwr, hkd_hrw, hkd_hwr, fin4_0, fin4_1, fin4_2, fin4_3, fin2_0, fin2_1, ci0, ci1, cnn, false_implies, w32_eq, w64_eq]
  try simp (disch := omega) only [yc_lt, yc_le, yc_gt, yc_ge, yc_eq, w32_eq, w64_eq, tn_add, tn_mul, Int.toNat_natCast, Int.reduceToNat, not_true, not_false_iff, false_implies, forall_const, implies_true]
  repeat' (with_reducible first | apply And.intro | intro _)
  all_goals try omega
  all_goals try simp (disch := omega) only [w32_eq, w64_eq, tn_add, tn_mul, Int.toNat_natCast, Int.reduceToNat, Option.some.injEq, Sum.inr.injEq, Sum.inl.injEq]
  all_goals try omega
  all_goals try exact (l1).weak rfl (by simp [lle] <;> omega)
theorem c_X5_storesBy (hF : FxA h) : CnA G mX5_storesBy 1 0 0 [.inr (.inr (124))] h (fun v h1 => v = none ∧ ∃ f, h1 = hrw h 135 f ∧ ∀ k, k < 60 → f k = hdt h 125 (145 + k)) := by
  refine CnA.of rfl (Nat.le_of_ble_eq_true rfl) ?_
  simp only [largs, lpad, mr_X5_storesBy]
  have hFr : ∀ f, FxA (hrw h 135 f) := fun f => hF.hrw (by decide +kernel) f
  generalize hE : ((G, mX5_storesBy, _, _, _, _, h) : EV) = E
  have L1 : ∀ i, i ≤ 60 → ∀ f : Nat → Int, (∀ k, k < i → f k = hdt h 125 (145 + k)) → ExA E 2 [some (.inr (.inr (124))), some (.inl ((i : Int)))] [] (hrw h 135 f) := by
    refine lpI 60 fun i hi ih f hf => ?_
    by_cases hi3 : i < 60
    · have nx := ih hi3 (fup f i (hdt h 125 (145 + i))) (fun k hk => by
        by_cases e : k = i
        · rw [e, fup_s]
        · rw [fup_n _ _ e]
          exact hf k (by omega))
      have e5 : hdt (hrw h 135 f) 125 = hdt h 125 := hdt_hrw_n _ _ (by decide)
      subst hE
      refine vsA_ok tk_X5_storesBy rfl 20 ?_
      simp only [at_X5_storesBy, mr_X5_storesBy, vsA, vcA, denA, lget, lset, lst1, lst2, lclr, argsA, restA, acats, acat, tcA, tcN, rzA, lle, List.length_cons, List.length_nil, Option.toList_some, Option.toList_none, List.cons_append, List.nil_append, eG, eM, eD, eC, eS, eQ, eH, if_true, if_false, Nat.reduceAdd, Nat.reduceLeDiff, Nat.reduceEqDiff, Nat.reduceLT, Nat.reduceSub, Int.reduceEq, Int.reduceLE, Int.reduceToNat, reduceCtorEq, reduceIte, Nat.reduceBEq, Int.reduceNeg, not_true, not_false_iff, true_and, and_true, true_or, or_true, false_or, or_false, forall_const, implies_true, Nat.le_refl, Int.toNat_natCast, Int.reduceLT, ne_eq, Fin.isValue, Nat.add_zero, nC_hrw, nS_hrw, nC_hwr, nS_hwr, hkd_hrw, hkd_hwr, fin4_0, fin4_1, fin4_2, fin4_3, fin2_0, fin2_1, ci0, ci1, cnn, false_implies, w32_eq, w64_eq, (hFr f).m, e5]
      try simp (disch := omega) only [yc_lt, yc_le, yc_gt, yc_ge, yc_eq, w32_eq, w64_eq, tn_add, tn_mul, Int.toNat_natCast, Int.reduceToNat, not_true, not_false_iff, false_implies, forall_const, implies_true, hwr_hrw]
      repeat' (with_reducible first | apply And.intro | intro _)
      all_goals try omega
      all_goals try simp (disch := omega) only [w32_eq, w64_eq, tn_add, tn_mul, Int.toNat_natCast, Int.reduceToNat, Option.some.injEq, Sum.inr.injEq, Sum.inl.injEq, hwr_hrw]
      all_goals try omega
      all_goals try exact (nx).weak rfl (by simp [lle] <;> omega)
    · subst hE
      refine vsA_ok tk_X5_storesBy rfl 20 ?_
      simp only [at_X5_storesBy, mr_X5_storesBy, vsA, vcA, denA, lget, lset, lst1, lst2, lclr, argsA, restA, acats, acat, tcA, tcN, rzA, lle, List.length_cons, List.length_nil, Option.toList_some, Option.toList_none, List.cons_append, List.nil_append, eG, eM, eD, eC, eS, eQ, eH, if_true, if_false, Nat.reduceAdd, Nat.reduceLeDiff, Nat.reduceEqDiff, Nat.reduceLT, Nat.reduceSub, Int.reduceEq, Int.reduceLE, Int.reduceToNat, reduceCtorEq, reduceIte, Nat.reduceBEq, Int.reduceNeg, not_true, not_false_iff, true_and, and_true, true_or, or_true, false_or, or_false, forall_const, implies_true, Nat.le_refl, Int.toNat_natCast, Int.reduceLT, ne_eq, Fin.isValue, Nat.add_zero, nC_hrw, nS_hrw, nC_hwr, nS_hwr, hkd_hrw, hkd_hwr, fin4_0, fin4_1, fin4_2, fin4_3, fin2_0, fin2_1, ci0, ci1, cnn, false_implies, w32_eq, w64_eq]
      try simp (disch := omega) only [yc_lt, yc_le, yc_gt, yc_ge, yc_eq, w32_eq, w64_eq, tn_add, tn_mul, Int.toNat_natCast, Int.reduceToNat, not_true, not_false_iff, false_implies, forall_const, implies_true]
      repeat' (with_reducible first | apply And.intro | intro _)
      all_goals try omega
      all_goals try simp (disch := omega) only [w32_eq, w64_eq, tn_add, tn_mul, Int.toNat_natCast, Int.reduceToNat, Option.some.injEq, Sum.inr.injEq, Sum.inl.injEq]
      all_goals try omega
      exact ⟨f, rfl, fun k hk => hf k (by omega)⟩
  have l1 := L1 0 (by omega) (hdt h 135) (fun k hk => by omega)
  rw [hrw_self] at l1
  subst hE
  refine vsA_ok tk_X5_storesBy rfl 20 ?_
  simp only [at_X5_storesBy, mr_X5_storesBy, vsA, vcA, denA, lget, lset, lst1, lst2, lclr, argsA, restA, acats, acat, tcA, tcN, rzA, lle, List.length_cons, List.length_nil, Option.toList_some, Option.toList_none, List.cons_append, List.nil_append, eG, eM, eD, eC, eS, eQ, eH, if_true, if_false, Nat.reduceAdd, Nat.reduceLeDiff, Nat.reduceEqDiff, Nat.reduceLT, Nat.reduceSub, Int.reduceEq, Int.reduceLE, Int.reduceToNat, reduceCtorEq, reduceIte, Nat.reduceBEq, Int.reduceNeg, not_true, not_false_iff, true_and, and_true, true_or, or_true, false_or, or_false, forall_const, implies_true, Nat.le_refl, Int.toNat_natCast, Int.reduceLT, ne_eq, Fin.isValue, Nat.add_zero, nC_hrw, nS_hrw, nC_hwr, nS_hwr, hkd_hrw, hkd_hwr, fin4_0, fin4_1, fin4_2, fin4_3, fin2_0, fin2_1, ci0, ci1, cnn, false_implies, w32_eq, w64_eq]
  try simp (disch := omega) only [yc_lt, yc_le, yc_gt, yc_ge, yc_eq, w32_eq, w64_eq, tn_add, tn_mul, Int.toNat_natCast, Int.reduceToNat, not_true, not_false_iff, false_implies, forall_const, implies_true]
  repeat' (with_reducible first | apply And.intro | intro _)
  all_goals try omega
  all_goals try simp (disch := omega) only [w32_eq, w64_eq, tn_add, tn_mul, Int.toNat_natCast, Int.reduceToNat, Option.some.injEq, Sum.inr.injEq, Sum.inl.injEq]
  all_goals try omega
  all_goals try exact (l1).weak rfl (by simp [lle] <;> omega)
theorem c_X5_isAgainBy (hF : FxA h) : CnA G mX5_isAgainBy 1 0 0 [.inr (.inr (124))] h (fun v h1 => v = none ∧ ∃ f, h1 = hrw h 125 f ∧ (∀ k, k < 60 → f (145 + k) = hdt h 135 k) ∧ ∀ j, j < 145 ∨ 205 ≤ j → f j = hdt h 125 j) := by
  refine CnA.of rfl (Nat.le_of_ble_eq_true rfl) ?_
  simp only [largs, lpad, mr_X5_isAgainBy]
  have hFr : ∀ f, FxA (hrw h 125 f) := fun f => hF.hrw (by decide +kernel) f
  generalize hE : ((G, mX5_isAgainBy, _, _, _, _, h) : EV) = E
  have L1 : ∀ i, i ≤ 60 → ∀ f : Nat → Int, (∀ k, k < i → f (145 + k) = hdt h 135 k) → (∀ j, j < 145 ∨ 205 ≤ j → f j = hdt h 125 j) → ExA E 2 [some (.inr (.inr (124))), some (.inl ((i : Int)))] [] (hrw h 125 f) := by
    refine lpI 60 fun i hi ih f hf hg => ?_
    by_cases hi3 : i < 60
    · have nx := ih hi3 (fup f (145 + i) (hdt h 135 i)) (fun k hk => by
        by_cases e : k = i
        · rw [e, fup_s]
        · rw [fup_n _ _ (by omega)]
          exact hf k (by omega)) (fun j hj => by rw [fup_n _ _ (by omega)]; exact hg j hj)
      have e5 : hdt (hrw h 125 f) 135 = hdt h 135 := hdt_hrw_n _ _ (by decide)
      subst hE
      refine vsA_ok tk_X5_isAgainBy rfl 20 ?_
      simp only [at_X5_isAgainBy, mr_X5_isAgainBy, vsA, vcA, denA, lget, lset, lst1, lst2, lclr, argsA, restA, acats, acat, tcA, tcN, rzA, lle, List.length_cons, List.length_nil, Option.toList_some, Option.toList_none, List.cons_append, List.nil_append, eG, eM, eD, eC, eS, eQ, eH, if_true, if_false, Nat.reduceAdd, Nat.reduceLeDiff, Nat.reduceEqDiff, Nat.reduceLT, Nat.reduceSub, Int.reduceEq, Int.reduceLE, Int.reduceToNat, reduceCtorEq, reduceIte, Nat.reduceBEq, Int.reduceNeg, not_true, not_false_iff, true_and, and_true, true_or, or_true, false_or, or_false, forall_const, implies_true, Nat.le_refl, Int.toNat_natCast, Int.reduceLT, ne_eq, Fin.isValue, Nat.add_zero, nC_hrw, nS_hrw, nC_hwr, nS_hwr, hkd_hrw, hkd_hwr, fin4_0, fin4_1, fin4_2, fin4_3, fin2_0, fin2_1, ci0, ci1, cnn, false_implies, w32_eq, w64_eq, (hFr f).m, e5]
      try simp (disch := omega) only [yc_lt, yc_le, yc_gt, yc_ge, yc_eq, w32_eq, w64_eq, tn_add, tn_mul, Int.toNat_natCast, Int.reduceToNat, not_true, not_false_iff, false_implies, forall_const, implies_true, hwr_hrw]
      repeat' (with_reducible first | apply And.intro | intro _)
      all_goals try omega
      all_goals try simp (disch := omega) only [w32_eq, w64_eq, tn_add, tn_mul, Int.toNat_natCast, Int.reduceToNat, Option.some.injEq, Sum.inr.injEq, Sum.inl.injEq, hwr_hrw]
      all_goals try omega
      all_goals try exact (nx).weak rfl (by simp [lle] <;> omega)
    · subst hE
      refine vsA_ok tk_X5_isAgainBy rfl 20 ?_
      simp only [at_X5_isAgainBy, mr_X5_isAgainBy, vsA, vcA, denA, lget, lset, lst1, lst2, lclr, argsA, restA, acats, acat, tcA, tcN, rzA, lle, List.length_cons, List.length_nil, Option.toList_some, Option.toList_none, List.cons_append, List.nil_append, eG, eM, eD, eC, eS, eQ, eH, if_true, if_false, Nat.reduceAdd, Nat.reduceLeDiff, Nat.reduceEqDiff, Nat.reduceLT, Nat.reduceSub, Int.reduceEq, Int.reduceLE, Int.reduceToNat, reduceCtorEq, reduceIte, Nat.reduceBEq, Int.reduceNeg, not_true, not_false_iff, true_and, and_true, true_or, or_true, false_or, or_false, forall_const, implies_true, Nat.le_refl, Int.toNat_natCast, Int.reduceLT, ne_eq, Fin.isValue, Nat.add_zero, nC_hrw, nS_hrw, nC_hwr, nS_hwr, hkd_hrw, hkd_hwr, fin4_0, fin4_1, fin4_2, fin4_3, fin2_0, fin2_1, ci0, ci1, cnn, false_implies, w32_eq, w64_eq]
      try simp (disch := omega) only [yc_lt, yc_le, yc_gt, yc_ge, yc_eq, w32_eq, w64_eq, tn_add, tn_mul, Int.toNat_natCast, Int.reduceToNat, not_true, not_false_iff, false_implies, forall_const, implies_true]
      repeat' (with_reducible first | apply And.intro | intro _)
      all_goals try omega
      all_goals try simp (disch := omega) only [w32_eq, w64_eq, tn_add, tn_mul, Int.toNat_natCast, Int.reduceToNat, Option.some.injEq, Sum.inr.injEq, Sum.inl.injEq]
      all_goals try omega
      exact ⟨f, rfl, fun k hk => hf k (by omega), hg⟩
  have l1 := L1 0 (by omega) (hdt h 125) (fun k hk => by omega) (fun j hj => rfl)
  rw [hrw_self] at l1
  subst hE
  refine vsA_ok tk_X5_isAgainBy rfl 20 ?_
  simp only [at_X5_isAgainBy, mr_X5_isAgainBy, vsA, vcA, denA, lget, lset, lst1, lst2, lclr, argsA, restA, acats, acat, tcA, tcN, rzA, lle, List.length_cons, List.length_nil, Option.toList_some, Option.toList_none, List.cons_append, List.nil_append, eG, eM, eD, eC, eS, eQ, eH, if_true, if_false, Nat.reduceAdd, Nat.reduceLeDiff, Nat.reduceEqDiff, Nat.reduceLT, Nat.reduceSub, Int.reduceEq, Int.reduceLE, Int.reduceToNat, reduceCtorEq, reduceIte, Nat.reduceBEq, Int.reduceNeg, not_true, not_false_iff, true_and, and_true, true_or, or_true, false_or, or_false, forall_const, implies_true, Nat.le_refl, Int.toNat_natCast, Int.reduceLT, ne_eq, Fin.isValue, Nat.add_zero, nC_hrw, nS_hrw, nC_hwr, nS_hwr, hkd_hrw, hkd_hwr, fin4_0, fin4_1, fin4_2, fin4_3, fin2_0, fin2_1, ci0, ci1, cnn, false_implies, w32_eq, w64_eq]
  try simp (disch := omega) only [yc_lt, yc_le, yc_gt, yc_ge, yc_eq, w32_eq, w64_eq, tn_add, tn_mul, Int.toNat_natCast, Int.reduceToNat, not_true, not_false_iff, false_implies, forall_const, implies_true]
  repeat' (with_reducible first | apply And.intro | intro _)
  all_goals try omega
  all_goals try simp (disch := omega) only [w32_eq, w64_eq, tn_add, tn_mul, Int.toNat_natCast, Int.reduceToNat, Option.some.injEq, Sum.inr.injEq, Sum.inl.injEq]
  all_goals try omega
  all_goals try exact (l1).weak rfl (by simp [lle] <;> omega)
abbrev T3 : Type := Int × Int × Int
abbrev d3 : T3 := (0, 0, 0)
/-- what was: rows of three -/
def UndC (f : Nat → Int) (us : List T3) : Prop := us.length ≤ 10 ∧ f 114 = (us.length : Int) ∧ ∀ i, i < us.length → f (115 + 3 * i) = (us.getD i d3).1 ∧ f (115 + 3 * i + 1) = (us.getD i d3).2.1 ∧ f (115 + 3 * i + 2) = (us.getD i d3).2.2
def pushT (us : List T3) (q : T3) : List T3 := (if us.length = 10 then us.drop 1 else us) ++ [q]
theorem c_X5_notes {us : List T3} (hF : FxA h) (hU : UndC (hdt h 125) us) :
    CnA G mX5_notes 1 0 0 [.inr (.inr (124))] h (fun v h1 => v = none ∧ ∃ f, h1 = hrw h 125 f ∧ UndC f (pushT us (hdt h 134 0, hdt h 134 1, hdt h 134 2)) ∧ ∀ j, j < 114 ∨ 144 < j → f j = hdt h 125 j) := by
  refine CnA.of rfl (Nat.le_of_ble_eq_true rfl) ?_
  simp only [largs, lpad, mr_X5_notes]
  obtain ⟨hl, hn, hu⟩ := hU
  have hFr : ∀ f, FxA (hrw h 125 f) := fun f => hF.hrw (by decide +kernel) f
  have e34 : ∀ f, hdt (hrw h 125 f) 134 = hdt h 134 := fun f => hdt_hrw_n _ _ (by decide)
  generalize hq : ((hdt h 134 0, hdt h 134 1, hdt h 134 2) : T3) = q
  have q0 : hdt h 134 0 = q.1 := by rw [← hq]
  have q1 : hdt h 134 1 = q.2.1 := by rw [← hq]
  have q2 : hdt h 134 2 = q.2.2 := by rw [← hq]
  generalize hE : ((G, mX5_notes, _, _, _, _, h) : EV) = E
  -- the second part
  have L2 : ∀ (ws : List T3) (f0 : Nat → Int), pushT us q = ws ++ [q] → ws.length < 10 → UndC f0 ws → (∀ j, j < 114 ∨ 144 < j → f0 j = hdt h 125 j) → ∀ i, i ≤ 3 → ∀ f : Nat → Int,
      (∀ j, j < 115 + 3 * ws.length ∨ 115 + 3 * ws.length + 2 < j → f j = f0 j) → (∀ k, k < i → f (115 + 3 * ws.length + k) = hdt h 134 k) → ExA E 57 [some (.inr (.inr (124))), some (.inl ((i : Int)))] [] (hrw h 125 f) := by
    intro ws f0 hpw hw hU0 hg
    obtain ⟨w1, w2, w3⟩ := hU0
    refine lpI 3 fun i hi ih f hf1 hf2 => ?_
    have e114 : hdt (hrw h 125 f) 125 114 = (ws.length : Int) := by rw [hdt_hrw_s, hf1 114 (by omega)]; exact w2
    by_cases hi3 : i < 3
    · have nx := ih hi3 (fup f (115 + 3 * ws.length + i) (hdt h 134 i)) (fun j hj => by rw [fup_n _ _ (by omega)]; exact hf1 j hj) (fun k hk => by
        by_cases e : k = i
        · rw [e, fup_s]
        · rw [fup_n _ _ (by omega)]
          exact hf2 k (by omega))
      subst hE
      refine vsA_ok tk_X5_notes rfl 30 ?_
      simp only [at_X5_notes, mr_X5_notes, vsA, vcA, denA, lget, lset, lst1, lst2, lclr, argsA, restA, acats, acat, tcA, tcN, rzA, lle, List.length_cons, List.length_nil, Option.toList_some, Option.toList_none, List.cons_append, List.nil_append, eG, eM, eD, eC, eS, eQ, eH, if_true, if_false, Nat.reduceAdd, Nat.reduceLeDiff, Nat.reduceEqDiff, Nat.reduceLT, Nat.reduceSub, Int.reduceEq, Int.reduceLE, Int.reduceToNat, reduceCtorEq, reduceIte, Nat.reduceBEq, Int.reduceNeg, not_true, not_false_iff, true_and, and_true, true_or, or_true, false_or, or_false, forall_const, implies_true, Nat.le_refl, Int.toNat_natCast, Int.reduceLT, ne_eq, Fin.isValue, Nat.add_zero, nC_hrw, nS_hrw, nC_hwr, nS_hwr, hkd_hrw, hkd_hwr, fin4_0, fin4_1, fin4_2, fin4_3, fin2_0, fin2_1, ci0, ci1, cnn, false_implies, w32_eq, w64_eq, (hFr f).m, e114, e34]
      try simp (disch := omega) only [yc_lt, yc_le, yc_gt, yc_ge, yc_eq, w32_eq, w64_eq, tn_add, tn_mul, Int.toNat_natCast, Int.reduceToNat, not_true, not_false_iff, false_implies, forall_const, implies_true, hwr_hrw]
      repeat' (with_reducible first | apply And.intro | intro _)
      all_goals try omega
      all_goals try simp (disch := omega) only [w32_eq, w64_eq, tn_add, tn_mul, Int.toNat_natCast, Int.reduceToNat, Option.some.injEq, Sum.inr.injEq, Sum.inl.injEq, hwr_hrw]
      all_goals try omega
      all_goals try exact (nx).weak rfl (by simp [lle] <;> omega)
    · have hi4 : i = 3 := by omega
      subst hi4
      rw [hpw] at hE
      subst hE
      refine vsA_ok tk_X5_notes rfl 20 ?_
      simp only [at_X5_notes, mr_X5_notes, vsA, vcA, denA, lget, lset, lst1, lst2, lclr, argsA, restA, acats, acat, tcA, tcN, rzA, lle, List.length_cons, List.length_nil, Option.toList_some, Option.toList_none, List.cons_append, List.nil_append, eG, eM, eD, eC, eS, eQ, eH, if_true, if_false, Nat.reduceAdd, Nat.reduceLeDiff, Nat.reduceEqDiff, Nat.reduceLT, Nat.reduceSub, Int.reduceEq, Int.reduceLE, Int.reduceToNat, reduceCtorEq, reduceIte, Nat.reduceBEq, Int.reduceNeg, not_true, not_false_iff, true_and, and_true, true_or, or_true, false_or, or_false, forall_const, implies_true, Nat.le_refl, Int.toNat_natCast, Int.reduceLT, ne_eq, Fin.isValue, Nat.add_zero, nC_hrw, nS_hrw, nC_hwr, nS_hwr, hkd_hrw, hkd_hwr, fin4_0, fin4_1, fin4_2, fin4_3, fin2_0, fin2_1, ci0, ci1, cnn, false_implies, w32_eq, w64_eq, (hFr f).m, e114]
      try simp (disch := omega) only [yc_lt, yc_le, yc_gt, yc_ge, yc_eq, w32_eq, w64_eq, tn_add, tn_mul, Int.toNat_natCast, Int.reduceToNat, not_true, not_false_iff, false_implies, forall_const, implies_true, hwr_hrw]
      repeat' (with_reducible first | apply And.intro | intro _)
      all_goals try omega
      all_goals try simp (disch := omega) only [w32_eq, w64_eq, tn_add, tn_mul, Int.toNat_natCast, Int.reduceToNat, Option.some.injEq, Sum.inr.injEq, Sum.inl.injEq, hwr_hrw]
      all_goals try omega
      refine ⟨_, rfl, ⟨?_, ?_, fun k hk => ?_⟩, fun j hj => ?_⟩
      · simp
        omega
      · rw [fup_s]
        simp
      · rw [List.length_append, List.length_singleton] at hk
        rw [fup_n _ _ (by omega), fup_n _ _ (by omega), fup_n _ _ (by omega)]
        by_cases e : k = ws.length
        · subst e
          have r0 := hf2 0 (by omega)
          have r1 := hf2 1 (by omega)
          have r2 := hf2 2 (by omega)
          rw [Nat.add_zero] at r0
          rw [r0, r1, r2, q0, q1, q2]
          simp
        · rw [hf1 _ (by omega), hf1 _ (by omega), hf1 _ (by omega)]
          have := w3 k (by omega)
          rw [show (ws ++ [q]).getD k d3 = ws.getD k d3 by
            simp only [List.getD_eq_getElem?_getD]
            rw [List.getElem?_append_left (by omega)]]
          exact this
      · rw [fup_n _ _ (by omega), hf1 j (by omega)]
        exact hg j hj
  by_cases h10 : us.length = 10
  · have hpw : pushT us q = us.drop 1 ++ [q] := by unfold pushT; rw [if_pos h10]
    have L1 : ∀ i, i ≤ 27 → ∀ f : Nat → Int, (∀ k, k < i → f (115 + k) = hdt h 125 (118 + k)) → (∀ j, j < 115 ∨ 115 + i ≤ j → f j = hdt h 125 j) → ExA E 14 [some (.inr (.inr (124))), some (.inl ((i : Int)))] [] (hrw h 125 f) := by
      refine lpI 27 fun i hi ih f hf1 hf2 => ?_
      by_cases hi3 : i < 27
      · have nx := ih hi3 (fup f (115 + i) (hdt h 125 (118 + i))) (fun k hk => by
          by_cases e : k = i
          · rw [e, fup_s]
          · rw [fup_n _ _ (by omega)]
            exact hf1 k (by omega)) (fun j hj => by rw [fup_n _ _ (by omega)]; exact hf2 j (by omega))
        have er := hf2 (118 + i) (by omega)
        subst hE
        refine vsA_ok tk_X5_notes rfl 20 ?_
        simp only [at_X5_notes, mr_X5_notes, vsA, vcA, denA, lget, lset, lst1, lst2, lclr, argsA, restA, acats, acat, tcA, tcN, rzA, lle, List.length_cons, List.length_nil, Option.toList_some, Option.toList_none, List.cons_append, List.nil_append, eG, eM, eD, eC, eS, eQ, eH, if_true, if_false, Nat.reduceAdd, Nat.reduceLeDiff, Nat.reduceEqDiff, Nat.reduceLT, Nat.reduceSub, Int.reduceEq, Int.reduceLE, Int.reduceToNat, reduceCtorEq, reduceIte, Nat.reduceBEq, Int.reduceNeg, not_true, not_false_iff, true_and, and_true, true_or, or_true, false_or, or_false, forall_const, implies_true, Nat.le_refl, Int.toNat_natCast, Int.reduceLT, ne_eq, Fin.isValue, Nat.add_zero, nC_hrw, nS_hrw, nC_hwr, nS_hwr, hkd_hrw, hkd_hwr, fin4_0, fin4_1, fin4_2, fin4_3, fin2_0, fin2_1, ci0, ci1, cnn, false_implies, w32_eq, w64_eq, (hFr f).m]
        try simp (disch := omega) only [yc_lt, yc_le, yc_gt, yc_ge, yc_eq, w32_eq, w64_eq, tn_add, tn_mul, Int.toNat_natCast, Int.reduceToNat, not_true, not_false_iff, false_implies, forall_const, implies_true, hwr_hrw, hdt_hrw_s, er]
        repeat' (with_reducible first | apply And.intro | intro _)
        all_goals try omega
        all_goals try simp (disch := omega) only [w32_eq, w64_eq, tn_add, tn_mul, Int.toNat_natCast, Int.reduceToNat, Option.some.injEq, Sum.inr.injEq, Sum.inl.injEq, hwr_hrw, hdt_hrw_s, er]
        all_goals try omega
        all_goals try exact (nx).weak rfl (by simp [lle] <;> omega)
      · have hi4 : i = 27 := by omega
        subst hi4
        have e114 : hdt (hrw h 125 f) 125 114 = 10 := by rw [hdt_hrw_s, hf2 114 (by omega), hn, h10]; rfl
        have hld : (us.drop 1).length = 9 := by rw [List.length_drop]; omega
        have nx := L2 (us.drop 1) (fup f 114 9) hpw (by omega) ⟨by omega, by rw [fup_s, hld]; rfl, fun k hk => by
          have := hu (k + 1) (by omega)
          rw [fup_n _ _ (by omega), fup_n _ _ (by omega), fup_n _ _ (by omega), show 115 + 3 * k + 1 = 115 + (3 * k + 1) by omega, show 115 + 3 * k + 2 = 115 + (3 * k + 2) by omega, hf1 _ (by omega), hf1 _ (by omega), hf1 _ (by omega)]
          rw [show 118 + 3 * k = 115 + 3 * (k + 1) by omega, show 118 + (3 * k + 1) = 115 + 3 * (k + 1) + 1 by omega, show 118 + (3 * k + 2) = 115 + 3 * (k + 1) + 2 by omega]
          rw [show (us.drop 1).getD k d3 = us.getD (k + 1) d3 by
            simp only [List.getD_eq_getElem?_getD]
            rw [List.getElem?_drop, Nat.add_comm]]
          exact this⟩ (fun j hj => by rw [fup_n _ _ (by omega)]; exact hf2 j (by omega)) 0 (by omega) (fup f 114 9) (fun j hj => rfl) (fun k hk => by omega)
        subst hE
        refine vsA_ok tk_X5_notes rfl 20 ?_
        simp only [at_X5_notes, mr_X5_notes, vsA, vcA, denA, lget, lset, lst1, lst2, lclr, argsA, restA, acats, acat, tcA, tcN, rzA, lle, List.length_cons, List.length_nil, Option.toList_some, Option.toList_none, List.cons_append, List.nil_append, eG, eM, eD, eC, eS, eQ, eH, if_true, if_false, Nat.reduceAdd, Nat.reduceLeDiff, Nat.reduceEqDiff, Nat.reduceLT, Nat.reduceSub, Int.reduceEq, Int.reduceLE, Int.reduceToNat, reduceCtorEq, reduceIte, Nat.reduceBEq, Int.reduceNeg, not_true, not_false_iff, true_and, and_true, true_or, or_true, false_or, or_false, forall_const, implies_true, Nat.le_refl, Int.toNat_natCast, Int.reduceLT, ne_eq, Fin.isValue, Nat.add_zero, nC_hrw, nS_hrw, nC_hwr, nS_hwr, hkd_hrw, hkd_hwr, fin4_0, fin4_1, fin4_2, fin4_3, fin2_0, fin2_1, ci0, ci1, cnn, false_implies, w32_eq, w64_eq, (hFr f).m, e114]
        try simp (disch := omega) only [yc_lt, yc_le, yc_gt, yc_ge, yc_eq, w32_eq, w64_eq, tn_add, tn_mul, Int.toNat_natCast, Int.reduceToNat, not_true, not_false_iff, false_implies, forall_const, implies_true, hwr_hrw]
        repeat' (with_reducible first | apply And.intro | intro _)
        all_goals try omega
        all_goals try simp (disch := omega) only [w32_eq, w64_eq, tn_add, tn_mul, Int.toNat_natCast, Int.reduceToNat, Option.some.injEq, Sum.inr.injEq, Sum.inl.injEq, hwr_hrw]
        all_goals try omega
        all_goals try exact (nx).weak rfl (by simp [lle] <;> omega)
    have l1 := L1 0 (by omega) (hdt h 125) (fun k hk => by omega) (fun j hj => rfl)
    rw [hrw_self] at l1
    have hn' : hdt h 125 114 = 10 := by rw [hn, h10]; rfl
    subst hE
    refine vsA_ok tk_X5_notes rfl 20 ?_
    simp only [at_X5_notes, mr_X5_notes, vsA, vcA, denA, lget, lset, lst1, lst2, lclr, argsA, restA, acats, acat, tcA, tcN, rzA, lle, List.length_cons, List.length_nil, Option.toList_some, Option.toList_none, List.cons_append, List.nil_append, eG, eM, eD, eC, eS, eQ, eH, if_true, if_false, Nat.reduceAdd, Nat.reduceLeDiff, Nat.reduceEqDiff, Nat.reduceLT, Nat.reduceSub, Int.reduceEq, Int.reduceLE, Int.reduceToNat, reduceCtorEq, reduceIte, Nat.reduceBEq, Int.reduceNeg, not_true, not_false_iff, true_and, and_true, true_or, or_true, false_or, or_false, forall_const, implies_true, Nat.le_refl, Int.toNat_natCast, Int.reduceLT, ne_eq, Fin.isValue, Nat.add_zero, nC_hrw, nS_hrw, nC_hwr, nS_hwr, hkd_hrw, hkd_hwr, fin4_0, fin4_1, fin4_2, fin4_3, fin2_0, fin2_1, ci0, ci1, cnn, false_implies, w32_eq, w64_eq, hF.m, hn']
    try simp (disch := omega) only [yc_lt, yc_le, yc_gt, yc_ge, yc_eq, w32_eq, w64_eq, tn_add, tn_mul, Int.toNat_natCast, Int.reduceToNat, not_true, not_false_iff, false_implies, forall_const, implies_true]
    repeat' (with_reducible first | apply And.intro | intro _)
    all_goals try omega
    all_goals try simp (disch := omega) only [w32_eq, w64_eq, tn_add, tn_mul, Int.toNat_natCast, Int.reduceToNat, Option.some.injEq, Sum.inr.injEq, Sum.inl.injEq]
    all_goals try omega
    all_goals try exact (l1).weak rfl (by simp [lle] <;> omega)
  · have hpw : pushT us q = us ++ [q] := by unfold pushT; rw [if_neg h10]
    have nx := L2 us (hdt h 125) hpw (by omega) ⟨hl, hn, hu⟩ (fun j hj => rfl) 0 (by omega) (hdt h 125) (fun j hj => rfl) (fun k hk => by omega)
    rw [hrw_self] at nx
    subst hE
    refine vsA_ok tk_X5_notes rfl 7 ?_
    simp only [at_X5_notes, mr_X5_notes, vsA, vcA, denA, lget, lset, lst1, lst2, lclr, argsA, restA, acats, acat, tcA, tcN, rzA, lle, List.length_cons, List.length_nil, Option.toList_some, Option.toList_none, List.cons_append, List.nil_append, eG, eM, eD, eC, eS, eQ, eH, if_true, if_false, Nat.reduceAdd, Nat.reduceLeDiff, Nat.reduceEqDiff, Nat.reduceLT, Nat.reduceSub, Int.reduceEq, Int.reduceLE, Int.reduceToNat, reduceCtorEq, reduceIte, Nat.reduceBEq, Int.reduceNeg, not_true, not_false_iff, true_and, and_true, true_or, or_true, false_or, or_false, forall_const, implies_true, Nat.le_refl, Int.toNat_natCast, Int.reduceLT, ne_eq, Fin.isValue, Nat.add_zero, nC_hrw, nS_hrw, nC_hwr, nS_hwr, hkd_hrw, hkd_hwr, fin4_0, fin4_1, fin4_2, fin4_3, fin2_0, fin2_1, ci0, ci1, cnn, false_implies, w32_eq, w64_eq, hF.m, hn]
    try simp (disch := omega) only [yc_lt, yc_le, yc_gt, yc_ge, yc_eq, w32_eq, w64_eq, tn_add, tn_mul, Int.toNat_natCast, Int.reduceToNat, not_true, not_false_iff, false_implies, forall_const, implies_true]
    repeat' (with_reducible first | apply And.intro | intro _)
    all_goals try omega
    all_goals try simp (disch := omega) only [w32_eq, w64_eq, tn_add, tn_mul, Int.toNat_natCast, Int.reduceToNat, Option.some.injEq, Sum.inr.injEq, Sum.inl.injEq]
    all_goals try omega
    all_goals try exact (nx).weak rfl (by simp [lle] <;> omega)
end
