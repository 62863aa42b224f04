/-! THE REFERENCE: what letters become, counts -/
set_option maxRecDepth 100000
def becP (s : SP) (t c i : Int) : Int :=
  if (0 ≤ t ∧ t < (sT s : Int)) ∧ 0 ≤ c ∧ c ≤ 5 then if i < -1 then -3 else if i = -1 then ((sB s t.toNat c.toNat).length : Int) else if i < ((sB s t.toNat c.toNat).length : Int) then (((sB s t.toNat c.toNat).getD i.toNat 0 : Nat) : Int) else -1 else -2
def cntP (W : List Nat) (c p : Int) : Int := if 0 ≤ c ∧ c ≤ 5 then if 0 ≤ p ∧ p ≤ (W.length : Int) then (((W.take p.toNat).count c.toNat : Nat) : Int) else -3 else -2
/-- letters that begin with themselves -/
def begP (s : SP) (t : Int) : Int := if 0 ≤ t ∧ t < (sT s : Int) then ((mskP (fun c => decide (1 < (sB s t.toNat c).length ∧ (sB s t.toNat c).getD 0 0 = c)) 6 : Nat) : Int) else -2
section
variable {G : GT} {h : AH} {w : WD} {N : Int}
theorem c_X5_becomes (hF : FxA h) (hM : MdC h w) (t c i : Int) (ht : In32 t) (hc : In32 c) (hi : In32 i) :
    CnA G mX5_becomes 3 0 0 [.inr (.inr (124)), .inl (t), .inl (c), .inl (i)] h (fun r h1 => r = some (.inl (becP (wS w) t c i)) ∧ MpC h h1 w) := by
  refine CnA.of rfl (Nat.le_of_ble_eq_true rfl) ?_
  simp only [largs, lpad, mr_X5_becomes]
  obtain ⟨x0, hF0, hM0⟩ := thr_0 hF hM
  have hfin : MpC h (hwr h 124 0 0) w := MpC.scr hF hM x0 (by decide) (by decide)
  obtain ⟨ht1, ht2⟩ := ht
  obtain ⟨hc1, hc2⟩ := hc
  obtain ⟨hi1, hi2⟩ := hi
  have hA : AllC (hdt (hwr h 124 0 0) 125) (sT (wS w)) (sB (wS w)) (sS (wS w)) (wA w).1 (wA w).2.1 (wA w).2.2 := hM0.1.1.1
  have hs := hA.sz
  refine vsA_ok tk_X5_becomes rfl 20 ?_
  simp only [at_X5_becomes, mr_X5_becomes, vsA, vcA, denA, lget, lset, lst1, lst2, lclr, argsA, restA, acats, acat, tcA, tcN, rzA, lle, List.length_cons, List.length_nil, Option.toList_some, Option.toList_none, List.cons_append, List.nil_append, eG, eM, eD, eC, eS, eQ, eH, if_true, if_false, Nat.reduceAdd, Nat.reduceLeDiff, Nat.reduceEqDiff, Nat.reduceLT, Nat.reduceSub, Int.reduceEq, Int.reduceLE, Int.reduceToNat, reduceCtorEq, reduceIte, Nat.reduceBEq, Int.reduceNeg, not_true, not_false_iff, true_and, and_true, true_or, or_true, false_or, or_false, forall_const, implies_true, Nat.le_refl, Int.toNat_natCast, Int.reduceLT, ne_eq, Fin.isValue, Nat.add_zero, nC_hrw, nS_hrw, nC_hwr, nS_hwr, hkd_hrw, hkd_hwr, fin4_0, fin4_1, fin4_2, fin4_3, fin2_0, fin2_1, ci0, ci1, cnn, false_implies, w32_eq, w64_eq, hF.m, hF0.m]
  try simp (disch := omega) only [yc_lt, yc_le, yc_gt, yc_ge, yc_eq, w32_eq, w64_eq, tn_add, tn_mul, Int.toNat_natCast, Int.reduceToNat, not_true, not_false_iff, false_implies, forall_const, implies_true]
  repeat' (with_reducible first | apply And.intro | intro _)
  all_goals try omega
  all_goals try simp (disch := omega) only [w32_eq, w64_eq, tn_add, tn_mul, Int.toNat_natCast, Int.reduceToNat, Option.some.injEq, Sum.inr.injEq, Sum.inl.injEq]
  all_goals try omega
  refine ClA.pure (c_X5_isTable hF0 hA t ht1 ht2) (by first | exact Nat.le_of_ble_eq_true rfl | (simp only [eD]; omega)) (by first | exact Nat.le_refl _ | (simp only [eG, eD, eC, eS, eQ, eH, nC_hrw, nC_hwr, nS_hrw, nS_hwr, nC_hnw, nS_hnw]; omega)) (by first | exact Nat.le_refl _ | (simp only [eG, eD, eC, eS, eQ, eH, nC_hrw, nC_hwr, nS_hrw, nS_hwr, nC_hnw, nS_hnw]; omega)) ?_
  by_cases qt : 0 ≤ t ∧ t < (sT (wS w) : Int)
  · rw [if_pos qt]
    refine vsA_ok tk_X5_becomes rfl 20 ?_
    simp only [at_X5_becomes, mr_X5_becomes, vsA, vcA, denA, lget, lset, lst1, lst2, lclr, argsA, restA, acats, acat, tcA, tcN, rzA, lle, List.length_cons, List.length_nil, Option.toList_some, Option.toList_none, List.cons_append, List.nil_append, eG, eM, eD, eC, eS, eQ, eH, if_true, if_false, Nat.reduceAdd, Nat.reduceLeDiff, Nat.reduceEqDiff, Nat.reduceLT, Nat.reduceSub, Int.reduceEq, Int.reduceLE, Int.reduceToNat, reduceCtorEq, reduceIte, Nat.reduceBEq, Int.reduceNeg, not_true, not_false_iff, true_and, and_true, true_or, or_true, false_or, or_false, forall_const, implies_true, Nat.le_refl, Int.toNat_natCast, Int.reduceLT, ne_eq, Fin.isValue, Nat.add_zero, nC_hrw, nS_hrw, nC_hwr, nS_hwr, hkd_hrw, hkd_hwr, fin4_0, fin4_1, fin4_2, fin4_3, fin2_0, fin2_1, ci0, ci1, cnn, false_implies, w32_eq, w64_eq]
    try simp (disch := omega) only [yc_lt, yc_le, yc_gt, yc_ge, yc_eq, w32_eq, w64_eq, tn_add, tn_mul, Int.toNat_natCast, Int.reduceToNat, not_true, not_false_iff, false_implies, forall_const, implies_true]
    repeat' (with_reducible first | apply And.intro | intro _)
    all_goals try omega
    all_goals try simp (disch := omega) only [w32_eq, w64_eq, tn_add, tn_mul, Int.toNat_natCast, Int.reduceToNat, Option.some.injEq, Sum.inr.injEq, Sum.inl.injEq]
    all_goals try omega
    refine ClA.pure (c_X5_isLetter c _ (by omega) (by omega)) (by first | exact Nat.le_of_ble_eq_true rfl | (simp only [eD]; omega)) (by first | exact Nat.le_refl _ | (simp only [eG, eD, eC, eS, eQ, eH, nC_hrw, nC_hwr, nS_hrw, nS_hwr, nC_hnw, nS_hnw]; omega)) (by first | exact Nat.le_refl _ | (simp only [eG, eD, eC, eS, eQ, eH, nC_hrw, nC_hwr, nS_hrw, nS_hwr, nC_hnw, nS_hnw]; omega)) ?_
    by_cases qc : 0 ≤ c ∧ c ≤ 5
    · rw [if_pos qc]
      obtain ⟨tn, rfl⟩ : ∃ m : Nat, t = m := ⟨t.toNat, by omega⟩
      obtain ⟨cn, rfl⟩ : ∃ m : Nat, c = m := ⟨c.toNat, by omega⟩
      have h4 := (hA.b4 (t := tn) (c := cn) (by omega) (by omega)).1
      have e : becP (wS w) tn cn i = if i < -1 then -3 else if i = -1 then ((sB (wS w) tn cn).length : Int) else if i < ((sB (wS w) tn cn).length : Int) then (((sB (wS w) tn cn).getD i.toNat 0 : Nat) : Int) else -1 := if_pos ⟨qt, qc⟩
      rw [e]
      by_cases q1 : i < -1
      · rw [if_pos q1]
        refine vsA_ok tk_X5_becomes rfl 20 ?_
        simp only [at_X5_becomes, mr_X5_becomes, vsA, vcA, denA, lget, lset, lst1, lst2, lclr, argsA, restA, acats, acat, tcA, tcN, rzA, lle, List.length_cons, List.length_nil, Option.toList_some, Option.toList_none, List.cons_append, List.nil_append, eG, eM, eD, eC, eS, eQ, eH, if_true, if_false, Nat.reduceAdd, Nat.reduceLeDiff, Nat.reduceEqDiff, Nat.reduceLT, Nat.reduceSub, Int.reduceEq, Int.reduceLE, Int.reduceToNat, reduceCtorEq, reduceIte, Nat.reduceBEq, Int.reduceNeg, not_true, not_false_iff, true_and, and_true, true_or, or_true, false_or, or_false, forall_const, implies_true, Nat.le_refl, Int.toNat_natCast, Int.reduceLT, ne_eq, Fin.isValue, Nat.add_zero, nC_hrw, nS_hrw, nC_hwr, nS_hwr, hkd_hrw, hkd_hwr, fin4_0, fin4_1, fin4_2, fin4_3, fin2_0, fin2_1, ci0, ci1, cnn, false_implies, w32_eq, w64_eq]
        try simp (disch := omega) only [yc_lt, yc_le, yc_gt, yc_ge, yc_eq, w32_eq, w64_eq, tn_add, tn_mul, Int.toNat_natCast, Int.reduceToNat, not_true, not_false_iff, false_implies, forall_const, implies_true]
        repeat' (with_reducible first | apply And.intro | intro _)
        all_goals try omega
        all_goals try simp (disch := omega) only [w32_eq, w64_eq, tn_add, tn_mul, Int.toNat_natCast, Int.reduceToNat, Option.some.injEq, Sum.inr.injEq, Sum.inl.injEq]
        all_goals try omega
        all_goals exact hfin
      · rw [if_neg q1]
        by_cases q2 : i = -1
        · rw [if_pos q2]
          refine vsA_ok tk_X5_becomes rfl 20 ?_
          simp only [at_X5_becomes, mr_X5_becomes, vsA, vcA, denA, lget, lset, lst1, lst2, lclr, argsA, restA, acats, acat, tcA, tcN, rzA, lle, List.length_cons, List.length_nil, Option.toList_some, Option.toList_none, List.cons_append, List.nil_append, eG, eM, eD, eC, eS, eQ, eH, if_true, if_false, Nat.reduceAdd, Nat.reduceLeDiff, Nat.reduceEqDiff, Nat.reduceLT, Nat.reduceSub, Int.reduceEq, Int.reduceLE, Int.reduceToNat, reduceCtorEq, reduceIte, Nat.reduceBEq, Int.reduceNeg, not_true, not_false_iff, true_and, and_true, true_or, or_true, false_or, or_false, forall_const, implies_true, Nat.le_refl, Int.toNat_natCast, Int.reduceLT, ne_eq, Fin.isValue, Nat.add_zero, nC_hrw, nS_hrw, nC_hwr, nS_hwr, hkd_hrw, hkd_hwr, fin4_0, fin4_1, fin4_2, fin4_3, fin2_0, fin2_1, ci0, ci1, cnn, false_implies, w32_eq, w64_eq, hF0.m]
          try simp (disch := omega) only [yc_lt, yc_le, yc_gt, yc_ge, yc_eq, w32_eq, w64_eq, tn_add, tn_mul, Int.toNat_natCast, Int.reduceToNat, not_true, not_false_iff, false_implies, forall_const, implies_true]
          repeat' (with_reducible first | apply And.intro | intro _)
          all_goals try omega
          all_goals try simp (disch := omega) only [w32_eq, w64_eq, tn_add, tn_mul, Int.toNat_natCast, Int.reduceToNat, Option.some.injEq, Sum.inr.injEq, Sum.inl.injEq]
          all_goals try omega
          refine ClA.pure (c_X5_becomeMany hF0 hA (t := tn) (c := cn) (by omega) (by omega)) (by first | exact Nat.le_of_ble_eq_true rfl | (simp only [eD]; omega)) (by first | exact Nat.le_refl _ | (simp only [eG, eD, eC, eS, eQ, eH, nC_hrw, nC_hwr, nS_hrw, nS_hwr, nC_hnw, nS_hnw]; omega)) (by first | exact Nat.le_refl _ | (simp only [eG, eD, eC, eS, eQ, eH, nC_hrw, nC_hwr, nS_hrw, nS_hwr, nC_hnw, nS_hnw]; omega)) ?_
          refine vsA_ok tk_X5_becomes rfl 20 ?_
          simp only [at_X5_becomes, mr_X5_becomes, vsA, vcA, denA, lget, lset, lst1, lst2, lclr, argsA, restA, acats, acat, tcA, tcN, rzA, lle, List.length_cons, List.length_nil, Option.toList_some, Option.toList_none, List.cons_append, List.nil_append, eG, eM, eD, eC, eS, eQ, eH, if_true, if_false, Nat.reduceAdd, Nat.reduceLeDiff, Nat.reduceEqDiff, Nat.reduceLT, Nat.reduceSub, Int.reduceEq, Int.reduceLE, Int.reduceToNat, reduceCtorEq, reduceIte, Nat.reduceBEq, Int.reduceNeg, not_true, not_false_iff, true_and, and_true, true_or, or_true, false_or, or_false, forall_const, implies_true, Nat.le_refl, Int.toNat_natCast, Int.reduceLT, ne_eq, Fin.isValue, Nat.add_zero, nC_hrw, nS_hrw, nC_hwr, nS_hwr, hkd_hrw, hkd_hwr, fin4_0, fin4_1, fin4_2, fin4_3, fin2_0, fin2_1, ci0, ci1, cnn, false_implies, w32_eq, w64_eq]
          try simp (disch := omega) only [yc_lt, yc_le, yc_gt, yc_ge, yc_eq, w32_eq, w64_eq, tn_add, tn_mul, Int.toNat_natCast, Int.reduceToNat, not_true, not_false_iff, false_implies, forall_const, implies_true]
          repeat' (with_reducible first | apply And.intro | intro _)
          all_goals try omega
          all_goals try simp (disch := omega) only [w32_eq, w64_eq, tn_add, tn_mul, Int.toNat_natCast, Int.reduceToNat, Option.some.injEq, Sum.inr.injEq, Sum.inl.injEq]
          all_goals try omega
          all_goals exact hfin
        · rw [if_neg q2]
          obtain ⟨k, rfl⟩ : ∃ m : Nat, i = m := ⟨i.toNat, by omega⟩
          by_cases q3 : (k : Int) < ((sB (wS w) tn cn).length : Int)
          · rw [if_pos q3]
            refine vsA_ok tk_X5_becomes rfl 20 ?_
            simp only [at_X5_becomes, mr_X5_becomes, vsA, vcA, denA, lget, lset, lst1, lst2, lclr, argsA, restA, acats, acat, tcA, tcN, rzA, lle, List.length_cons, List.length_nil, Option.toList_some, Option.toList_none, List.cons_append, List.nil_append, eG, eM, eD, eC, eS, eQ, eH, if_true, if_false, Nat.reduceAdd, Nat.reduceLeDiff, Nat.reduceEqDiff, Nat.reduceLT, Nat.reduceSub, Int.reduceEq, Int.reduceLE, Int.reduceToNat, reduceCtorEq, reduceIte, Nat.reduceBEq, Int.reduceNeg, not_true, not_false_iff, true_and, and_true, true_or, or_true, false_or, or_false, forall_const, implies_true, Nat.le_refl, Int.toNat_natCast, Int.reduceLT, ne_eq, Fin.isValue, Nat.add_zero, nC_hrw, nS_hrw, nC_hwr, nS_hwr, hkd_hrw, hkd_hwr, fin4_0, fin4_1, fin4_2, fin4_3, fin2_0, fin2_1, ci0, ci1, cnn, false_implies, w32_eq, w64_eq, hF0.m]
            try simp (disch := omega) only [yc_lt, yc_le, yc_gt, yc_ge, yc_eq, w32_eq, w64_eq, tn_add, tn_mul, Int.toNat_natCast, Int.reduceToNat, not_true, not_false_iff, false_implies, forall_const, implies_true]
            repeat' (with_reducible first | apply And.intro | intro _)
            all_goals try omega
            all_goals try simp (disch := omega) only [w32_eq, w64_eq, tn_add, tn_mul, Int.toNat_natCast, Int.reduceToNat, Option.some.injEq, Sum.inr.injEq, Sum.inl.injEq]
            all_goals try omega
            refine ClA.pure (c_X5_becomeMany hF0 hA (t := tn) (c := cn) (by omega) (by omega)) (by first | exact Nat.le_of_ble_eq_true rfl | (simp only [eD]; omega)) (by first | exact Nat.le_refl _ | (simp only [eG, eD, eC, eS, eQ, eH, nC_hrw, nC_hwr, nS_hrw, nS_hwr, nC_hnw, nS_hnw]; omega)) (by first | exact Nat.le_refl _ | (simp only [eG, eD, eC, eS, eQ, eH, nC_hrw, nC_hwr, nS_hrw, nS_hwr, nC_hnw, nS_hnw]; omega)) ?_
            refine vsA_ok tk_X5_becomes rfl 20 ?_
            simp only [at_X5_becomes, mr_X5_becomes, vsA, vcA, denA, lget, lset, lst1, lst2, lclr, argsA, restA, acats, acat, tcA, tcN, rzA, lle, List.length_cons, List.length_nil, Option.toList_some, Option.toList_none, List.cons_append, List.nil_append, eG, eM, eD, eC, eS, eQ, eH, if_true, if_false, Nat.reduceAdd, Nat.reduceLeDiff, Nat.reduceEqDiff, Nat.reduceLT, Nat.reduceSub, Int.reduceEq, Int.reduceLE, Int.reduceToNat, reduceCtorEq, reduceIte, Nat.reduceBEq, Int.reduceNeg, not_true, not_false_iff, true_and, and_true, true_or, or_true, false_or, or_false, forall_const, implies_true, Nat.le_refl, Int.toNat_natCast, Int.reduceLT, ne_eq, Fin.isValue, Nat.add_zero, nC_hrw, nS_hrw, nC_hwr, nS_hwr, hkd_hrw, hkd_hwr, fin4_0, fin4_1, fin4_2, fin4_3, fin2_0, fin2_1, ci0, ci1, cnn, false_implies, w32_eq, w64_eq, hF0.m]
            try simp (disch := omega) only [yc_lt, yc_le, yc_gt, yc_ge, yc_eq, w32_eq, w64_eq, tn_add, tn_mul, Int.toNat_natCast, Int.reduceToNat, not_true, not_false_iff, false_implies, forall_const, implies_true]
            repeat' (with_reducible first | apply And.intro | intro _)
            all_goals try omega
            all_goals try simp (disch := omega) only [w32_eq, w64_eq, tn_add, tn_mul, Int.toNat_natCast, Int.reduceToNat, Option.some.injEq, Sum.inr.injEq, Sum.inl.injEq]
            all_goals try omega
            refine ClA.pure (c_X5_becomeOf hF0 hA (t := tn) (c := cn) (i := k) (by omega) (by omega) (by omega)) (by first | exact Nat.le_of_ble_eq_true rfl | (simp only [eD]; omega)) (by first | exact Nat.le_refl _ | (simp only [eG, eD, eC, eS, eQ, eH, nC_hrw, nC_hwr, nS_hrw, nS_hwr, nC_hnw, nS_hnw]; omega)) (by first | exact Nat.le_refl _ | (simp only [eG, eD, eC, eS, eQ, eH, nC_hrw, nC_hwr, nS_hrw, nS_hwr, nC_hnw, nS_hnw]; omega)) ?_
            refine vsA_ok tk_X5_becomes rfl 20 ?_
            simp only [at_X5_becomes, mr_X5_becomes, vsA, vcA, denA, lget, lset, lst1, lst2, lclr, argsA, restA, acats, acat, tcA, tcN, rzA, lle, List.length_cons, List.length_nil, Option.toList_some, Option.toList_none, List.cons_append, List.nil_append, eG, eM, eD, eC, eS, eQ, eH, if_true, if_false, Nat.reduceAdd, Nat.reduceLeDiff, Nat.reduceEqDiff, Nat.reduceLT, Nat.reduceSub, Int.reduceEq, Int.reduceLE, Int.reduceToNat, reduceCtorEq, reduceIte, Nat.reduceBEq, Int.reduceNeg, not_true, not_false_iff, true_and, and_true, true_or, or_true, false_or, or_false, forall_const, implies_true, Nat.le_refl, Int.toNat_natCast, Int.reduceLT, ne_eq, Fin.isValue, Nat.add_zero, nC_hrw, nS_hrw, nC_hwr, nS_hwr, hkd_hrw, hkd_hwr, fin4_0, fin4_1, fin4_2, fin4_3, fin2_0, fin2_1, ci0, ci1, cnn, false_implies, w32_eq, w64_eq]
            try simp (disch := omega) only [yc_lt, yc_le, yc_gt, yc_ge, yc_eq, w32_eq, w64_eq, tn_add, tn_mul, Int.toNat_natCast, Int.reduceToNat, not_true, not_false_iff, false_implies, forall_const, implies_true]
            repeat' (with_reducible first | apply And.intro | intro _)
            all_goals try omega
            all_goals try simp (disch := omega) only [w32_eq, w64_eq, tn_add, tn_mul, Int.toNat_natCast, Int.reduceToNat, Option.some.injEq, Sum.inr.injEq, Sum.inl.injEq]
            all_goals try omega
            all_goals first | rfl | exact hfin
          · rw [if_neg q3]
            refine vsA_ok tk_X5_becomes rfl 20 ?_
            simp only [at_X5_becomes, mr_X5_becomes, vsA, vcA, denA, lget, lset, lst1, lst2, lclr, argsA, restA, acats, acat, tcA, tcN, rzA, lle, List.length_cons, List.length_nil, Option.toList_some, Option.toList_none, List.cons_append, List.nil_append, eG, eM, eD, eC, eS, eQ, eH, if_true, if_false, Nat.reduceAdd, Nat.reduceLeDiff, Nat.reduceEqDiff, Nat.reduceLT, Nat.reduceSub, Int.reduceEq, Int.reduceLE, Int.reduceToNat, reduceCtorEq, reduceIte, Nat.reduceBEq, Int.reduceNeg, not_true, not_false_iff, true_and, and_true, true_or, or_true, false_or, or_false, forall_const, implies_true, Nat.le_refl, Int.toNat_natCast, Int.reduceLT, ne_eq, Fin.isValue, Nat.add_zero, nC_hrw, nS_hrw, nC_hwr, nS_hwr, hkd_hrw, hkd_hwr, fin4_0, fin4_1, fin4_2, fin4_3, fin2_0, fin2_1, ci0, ci1, cnn, false_implies, w32_eq, w64_eq, hF0.m]
            try simp (disch := omega) only [yc_lt, yc_le, yc_gt, yc_ge, yc_eq, w32_eq, w64_eq, tn_add, tn_mul, Int.toNat_natCast, Int.reduceToNat, not_true, not_false_iff, false_implies, forall_const, implies_true]
            repeat' (with_reducible first | apply And.intro | intro _)
            all_goals try omega
            all_goals try simp (disch := omega) only [w32_eq, w64_eq, tn_add, tn_mul, Int.toNat_natCast, Int.reduceToNat, Option.some.injEq, Sum.inr.injEq, Sum.inl.injEq]
            all_goals try omega
            refine ClA.pure (c_X5_becomeMany hF0 hA (t := tn) (c := cn) (by omega) (by omega)) (by first | exact Nat.le_of_ble_eq_true rfl | (simp only [eD]; omega)) (by first | exact Nat.le_refl _ | (simp only [eG, eD, eC, eS, eQ, eH, nC_hrw, nC_hwr, nS_hrw, nS_hwr, nC_hnw, nS_hnw]; omega)) (by first | exact Nat.le_refl _ | (simp only [eG, eD, eC, eS, eQ, eH, nC_hrw, nC_hwr, nS_hrw, nS_hwr, nC_hnw, nS_hnw]; omega)) ?_
            refine vsA_ok tk_X5_becomes rfl 20 ?_
            simp only [at_X5_becomes, mr_X5_becomes, vsA, vcA, denA, lget, lset, lst1, lst2, lclr, argsA, restA, acats, acat, tcA, tcN, rzA, lle, List.length_cons, List.length_nil, Option.toList_some, Option.toList_none, List.cons_append, List.nil_append, eG, eM, eD, eC, eS, eQ, eH, if_true, if_false, Nat.reduceAdd, Nat.reduceLeDiff, Nat.reduceEqDiff, Nat.reduceLT, Nat.reduceSub, Int.reduceEq, Int.reduceLE, Int.reduceToNat, reduceCtorEq, reduceIte, Nat.reduceBEq, Int.reduceNeg, not_true, not_false_iff, true_and, and_true, true_or, or_true, false_or, or_false, forall_const, implies_true, Nat.le_refl, Int.toNat_natCast, Int.reduceLT, ne_eq, Fin.isValue, Nat.add_zero, nC_hrw, nS_hrw, nC_hwr, nS_hwr, hkd_hrw, hkd_hwr, fin4_0, fin4_1, fin4_2, fin4_3, fin2_0, fin2_1, ci0, ci1, cnn, false_implies, w32_eq, w64_eq, hF0.m]
            try simp (disch := omega) only [yc_lt, yc_le, yc_gt, yc_ge, yc_eq, w32_eq, w64_eq, tn_add, tn_mul, Int.toNat_natCast, Int.reduceToNat, not_true, not_false_iff, false_implies, forall_const, implies_true]
            repeat' (with_reducible first | apply And.intro | intro _)
            all_goals try omega
            all_goals try simp (disch := omega) only [w32_eq, w64_eq, tn_add, tn_mul, Int.toNat_natCast, Int.reduceToNat, Option.some.injEq, Sum.inr.injEq, Sum.inl.injEq]
            all_goals try omega
            all_goals exact hfin
    · rw [if_neg qc, show becP (wS w) t c i = -2 from if_neg (fun q => qc q.2)]
      refine vsA_ok tk_X5_becomes rfl 20 ?_
      simp only [at_X5_becomes, mr_X5_becomes, vsA, vcA, denA, lget, lset, lst1, lst2, lclr, argsA, restA, acats, acat, tcA, tcN, rzA, lle, List.length_cons, List.length_nil, Option.toList_some, Option.toList_none, List.cons_append, List.nil_append, eG, eM, eD, eC, eS, eQ, eH, if_true, if_false, Nat.reduceAdd, Nat.reduceLeDiff, Nat.reduceEqDiff, Nat.reduceLT, Nat.reduceSub, Int.reduceEq, Int.reduceLE, Int.reduceToNat, reduceCtorEq, reduceIte, Nat.reduceBEq, Int.reduceNeg, not_true, not_false_iff, true_and, and_true, true_or, or_true, false_or, or_false, forall_const, implies_true, Nat.le_refl, Int.toNat_natCast, Int.reduceLT, ne_eq, Fin.isValue, Nat.add_zero, nC_hrw, nS_hrw, nC_hwr, nS_hwr, hkd_hrw, hkd_hwr, fin4_0, fin4_1, fin4_2, fin4_3, fin2_0, fin2_1, ci0, ci1, cnn, false_implies, w32_eq, w64_eq]
      try simp (disch := omega) only [yc_lt, yc_le, yc_gt, yc_ge, yc_eq, w32_eq, w64_eq, tn_add, tn_mul, Int.toNat_natCast, Int.reduceToNat, not_true, not_false_iff, false_implies, forall_const, implies_true]
      repeat' (with_reducible first | apply And.intro | intro _)
      all_goals try omega
      all_goals try simp (disch := omega) only [w32_eq, w64_eq, tn_add, tn_mul, Int.toNat_natCast, Int.reduceToNat, Option.some.injEq, Sum.inr.injEq, Sum.inl.injEq]
      all_goals try omega
      all_goals exact hfin
  · rw [if_neg qt, show becP (wS w) t c i = -2 from if_neg (fun q => qt q.1)]
    refine vsA_ok tk_X5_becomes rfl 20 ?_
    simp only [at_X5_becomes, mr_X5_becomes, vsA, vcA, denA, lget, lset, lst1, lst2, lclr, argsA, restA, acats, acat, tcA, tcN, rzA, lle, List.length_cons, List.length_nil, Option.toList_some, Option.toList_none, List.cons_append, List.nil_append, eG, eM, eD, eC, eS, eQ, eH, if_true, if_false, Nat.reduceAdd, Nat.reduceLeDiff, Nat.reduceEqDiff, Nat.reduceLT, Nat.reduceSub, Int.reduceEq, Int.reduceLE, Int.reduceToNat, reduceCtorEq, reduceIte, Nat.reduceBEq, Int.reduceNeg, not_true, not_false_iff, true_and, and_true, true_or, or_true, false_or, or_false, forall_const, implies_true, Nat.le_refl, Int.toNat_natCast, Int.reduceLT, ne_eq, Fin.isValue, Nat.add_zero, nC_hrw, nS_hrw, nC_hwr, nS_hwr, hkd_hrw, hkd_hwr, fin4_0, fin4_1, fin4_2, fin4_3, fin2_0, fin2_1, ci0, ci1, cnn, false_implies, w32_eq, w64_eq]
    try simp (disch := omega) only [yc_lt, yc_le, yc_gt, yc_ge, yc_eq, w32_eq, w64_eq, tn_add, tn_mul, Int.toNat_natCast, Int.reduceToNat, not_true, not_false_iff, false_implies, forall_const, implies_true]
    repeat' (with_reducible first | apply And.intro | intro _)
    all_goals try omega
    all_goals try simp (disch := omega) only [w32_eq, w64_eq, tn_add, tn_mul, Int.toNat_natCast, Int.reduceToNat, Option.some.injEq, Sum.inr.injEq, Sum.inl.injEq]
    all_goals try omega
    all_goals exact hfin
theorem c_X5_count (hF : FxA h) (hM : MdC h w) (hW : WOK N w) (c p : Int) (hc : In32 c) (hp : In64 p) :
    CnA G mX5_count 6 0 0 [.inr (.inr (124)), .inl (c), .inr (.inl (p))] h (fun r h1 => r = some (.inr (.inl (cntP (wrdS (wS w) (wA w)) c p))) ∧ MpC h h1 w) := by
  refine CnA.of rfl (Nat.le_of_ble_eq_true rfl) ?_
  simp only [largs, lpad, mr_X5_count]
  obtain ⟨x0, hF0, hM0⟩ := thr_0 hF hM
  have hfin : MpC h (hwr h 124 0 0) w := MpC.scr hF hM x0 (by decide) (by decide)
  obtain ⟨hc1, hc2⟩ := hc
  obtain ⟨hp1, hp2⟩ := hp
  have hA : AllC (hdt (hwr h 124 0 0) 125) (sT (wS w)) (sB (wS w)) (sS (wS w)) (wA w).1 (wA w).2.1 (wA w).2.2 := hM0.1.1.1
  have hL : (wrd (sB (wS w)) (sS (wS w)) (wA w).1).length ≤ 1000000000000 := hW.2.1.2.2.2.2
  unfold wrdS
  generalize hWW : wrd (sB (wS w)) (sS (wS w)) (wA w).1 = W at *
  refine vsA_ok tk_X5_count rfl 20 ?_
  simp only [at_X5_count, mr_X5_count, vsA, vcA, denA, lget, lset, lst1, lst2, lclr, argsA, restA, acats, acat, tcA, tcN, rzA, lle, List.length_cons, List.length_nil, Option.toList_some, Option.toList_none, List.cons_append, List.nil_append, eG, eM, eD, eC, eS, eQ, eH, if_true, if_false, Nat.reduceAdd, Nat.reduceLeDiff, Nat.reduceEqDiff, Nat.reduceLT, Nat.reduceSub, Int.reduceEq, Int.reduceLE, Int.reduceToNat, reduceCtorEq, reduceIte, Nat.reduceBEq, Int.reduceNeg, not_true, not_false_iff, true_and, and_true, true_or, or_true, false_or, or_false, forall_const, implies_true, Nat.le_refl, Int.toNat_natCast, Int.reduceLT, ne_eq, Fin.isValue, Nat.add_zero, nC_hrw, nS_hrw, nC_hwr, nS_hwr, hkd_hrw, hkd_hwr, fin4_0, fin4_1, fin4_2, fin4_3, fin2_0, fin2_1, ci0, ci1, cnn, false_implies, w32_eq, w64_eq, hF.m, hF0.m]
  try simp (disch := omega) only [yc_lt, yc_le, yc_gt, yc_ge, yc_eq, w32_eq, w64_eq, tn_add, tn_mul, Int.toNat_natCast, Int.reduceToNat, not_true, not_false_iff, false_implies, forall_const, implies_true]
  repeat' (with_reducible first | apply And.intro | intro _)
  all_goals try omega
  all_goals try simp (disch := omega) only [w32_eq, w64_eq, tn_add, tn_mul, Int.toNat_natCast, Int.reduceToNat, Option.some.injEq, Sum.inr.injEq, Sum.inl.injEq]
  all_goals try omega
  refine ClA.pure (c_X5_isLetter c _ (by omega) (by omega)) (by first | exact Nat.le_of_ble_eq_true rfl | (simp only [eD]; omega)) (by first | exact Nat.le_refl _ | (simp only [eG, eD, eC, eS, eQ, eH, nC_hrw, nC_hwr, nS_hrw, nS_hwr, nC_hnw, nS_hnw]; omega)) (by first | exact Nat.le_refl _ | (simp only [eG, eD, eC, eS, eQ, eH, nC_hrw, nC_hwr, nS_hrw, nS_hwr, nC_hnw, nS_hnw]; omega)) ?_
  by_cases qc : 0 ≤ c ∧ c ≤ 5
  · rw [if_pos qc]
    obtain ⟨cn, rfl⟩ : ∃ m : Nat, c = m := ⟨c.toNat, by omega⟩
    refine vsA_ok tk_X5_count rfl 20 ?_
    simp only [at_X5_count, mr_X5_count, vsA, vcA, denA, lget, lset, lst1, lst2, lclr, argsA, restA, acats, acat, tcA, tcN, rzA, lle, List.length_cons, List.length_nil, Option.toList_some, Option.toList_none, List.cons_append, List.nil_append, eG, eM, eD, eC, eS, eQ, eH, if_true, if_false, Nat.reduceAdd, Nat.reduceLeDiff, Nat.reduceEqDiff, Nat.reduceLT, Nat.reduceSub, Int.reduceEq, Int.reduceLE, Int.reduceToNat, reduceCtorEq, reduceIte, Nat.reduceBEq, Int.reduceNeg, not_true, not_false_iff, true_and, and_true, true_or, or_true, false_or, or_false, forall_const, implies_true, Nat.le_refl, Int.toNat_natCast, Int.reduceLT, ne_eq, Fin.isValue, Nat.add_zero, nC_hrw, nS_hrw, nC_hwr, nS_hwr, hkd_hrw, hkd_hwr, fin4_0, fin4_1, fin4_2, fin4_3, fin2_0, fin2_1, ci0, ci1, cnn, false_implies, w32_eq, w64_eq, hF0.m]
    try simp (disch := omega) only [yc_lt, yc_le, yc_gt, yc_ge, yc_eq, w32_eq, w64_eq, tn_add, tn_mul, Int.toNat_natCast, Int.reduceToNat, not_true, not_false_iff, false_implies, forall_const, implies_true]
    repeat' (with_reducible first | apply And.intro | intro _)
    all_goals try omega
    all_goals try simp (disch := omega) only [w32_eq, w64_eq, tn_add, tn_mul, Int.toNat_natCast, Int.reduceToNat, Option.some.injEq, Sum.inr.injEq, Sum.inl.injEq]
    all_goals try omega
    refine ClA.of (c_X5_lengthNow hF0 hA (by rw [hWW]; exact hL)) (by first | exact Nat.le_of_ble_eq_true rfl | (simp only [eD]; omega)) (by first | exact Nat.le_refl _ | (simp only [eG, eD, eC, eS, eQ, eH, nC_hrw, nC_hwr, nS_hrw, nS_hwr, nC_hnw, nS_hnw]; omega)) (by first | exact Nat.le_refl _ | (simp only [eG, eD, eC, eS, eQ, eH, nC_hrw, nC_hwr, nS_hrw, nS_hwr, nC_hnw, nS_hnw]; omega)) ?_
    rintro _ h2 ⟨rfl, f, rfl, hf⟩ hn1 hn2
    rw [hWW]
    have hx2 : FrM [130] [0] h (hrw (hwr h 124 0 0) 130 f) := (by repeat' (first | exact FrP.rf | assumption | refine FrM.wc ?_ (by decide) _ _ | refine FrM.wf ?_ (by decide) _ | refine FrM.rc ?_ (by decide) _))
    have hF2 := hF.frm hx2 (by decide +kernel)
    have c2 := hx2.2.1
    have hfin2 : MpC h (hrw (hwr h 124 0 0) 130 f) w := MpC.scr hF hM hx2 (by decide) (by decide)
    by_cases qp : 0 ≤ p ∧ p ≤ (W.length : Int)
    · obtain ⟨pn, rfl⟩ : ∃ m : Nat, p = m := ⟨p.toNat, by omega⟩
      rw [show cntP W cn pn = (((W.take pn).count cn : Nat) : Int) by unfold cntP; rw [if_pos qc, if_pos qp]; rfl]
      refine vsA_ok tk_X5_count rfl 20 ?_
      simp only [at_X5_count, mr_X5_count, vsA, vcA, denA, lget, lset, lst1, lst2, lclr, argsA, restA, acats, acat, tcA, tcN, rzA, lle, List.length_cons, List.length_nil, Option.toList_some, Option.toList_none, List.cons_append, List.nil_append, eG, eM, eD, eC, eS, eQ, eH, if_true, if_false, Nat.reduceAdd, Nat.reduceLeDiff, Nat.reduceEqDiff, Nat.reduceLT, Nat.reduceSub, Int.reduceEq, Int.reduceLE, Int.reduceToNat, reduceCtorEq, reduceIte, Nat.reduceBEq, Int.reduceNeg, not_true, not_false_iff, true_and, and_true, true_or, or_true, false_or, or_false, forall_const, implies_true, Nat.le_refl, Int.toNat_natCast, Int.reduceLT, ne_eq, Fin.isValue, Nat.add_zero, nC_hrw, nS_hrw, nC_hwr, nS_hwr, hkd_hrw, hkd_hwr, fin4_0, fin4_1, fin4_2, fin4_3, fin2_0, fin2_1, ci0, ci1, cnn, false_implies, w32_eq, w64_eq]
      try simp (disch := omega) only [yc_lt, yc_le, yc_gt, yc_ge, yc_eq, w32_eq, w64_eq, tn_add, tn_mul, Int.toNat_natCast, Int.reduceToNat, not_true, not_false_iff, false_implies, forall_const, implies_true]
      repeat' (with_reducible first | apply And.intro | intro _)
      all_goals try omega
      all_goals try simp (disch := omega) only [w32_eq, w64_eq, tn_add, tn_mul, Int.toNat_natCast, Int.reduceToNat, Option.some.injEq, Sum.inr.injEq, Sum.inl.injEq]
      all_goals try omega
      refine ClA.pure (c_X5_within_T _ (by omega) (by omega) (by omega) qp) (by first | exact Nat.le_of_ble_eq_true rfl | (simp only [eD]; omega)) (by first | exact Nat.le_refl _ | (simp only [eG, eD, eC, eS, eQ, eH, nC_hrw, nC_hwr, nS_hrw, nS_hwr, nC_hnw, nS_hnw]; omega)) (by first | exact Nat.le_refl _ | (simp only [eG, eD, eC, eS, eQ, eH, nC_hrw, nC_hwr, nS_hrw, nS_hwr, nC_hnw, nS_hnw]; omega)) ?_
      refine vsA_ok tk_X5_count rfl 20 ?_
      simp only [at_X5_count, mr_X5_count, vsA, vcA, denA, lget, lset, lst1, lst2, lclr, argsA, restA, acats, acat, tcA, tcN, rzA, lle, List.length_cons, List.length_nil, Option.toList_some, Option.toList_none, List.cons_append, List.nil_append, eG, eM, eD, eC, eS, eQ, eH, if_true, if_false, Nat.reduceAdd, Nat.reduceLeDiff, Nat.reduceEqDiff, Nat.reduceLT, Nat.reduceSub, Int.reduceEq, Int.reduceLE, Int.reduceToNat, reduceCtorEq, reduceIte, Nat.reduceBEq, Int.reduceNeg, not_true, not_false_iff, true_and, and_true, true_or, or_true, false_or, or_false, forall_const, implies_true, Nat.le_refl, Int.toNat_natCast, Int.reduceLT, ne_eq, Fin.isValue, Nat.add_zero, nC_hrw, nS_hrw, nC_hwr, nS_hwr, hkd_hrw, hkd_hwr, fin4_0, fin4_1, fin4_2, fin4_3, fin2_0, fin2_1, ci0, ci1, cnn, false_implies, w32_eq, w64_eq, hF2.m]
      try simp (disch := omega) only [yc_lt, yc_le, yc_gt, yc_ge, yc_eq, w32_eq, w64_eq, tn_add, tn_mul, Int.toNat_natCast, Int.reduceToNat, not_true, not_false_iff, false_implies, forall_const, implies_true]
      repeat' (with_reducible first | apply And.intro | intro _)
      all_goals try omega
      all_goals try simp (disch := omega) only [w32_eq, w64_eq, tn_add, tn_mul, Int.toNat_natCast, Int.reduceToNat, Option.some.injEq, Sum.inr.injEq, Sum.inl.injEq]
      all_goals try omega
      refine ClA.of (c_X5_laysOf hF2 (by rw [hdt_hrw_n _ _ (by decide)]; exact hA) (x := cn) (by omega)) (by first | exact Nat.le_of_ble_eq_true rfl | (simp only [eD]; omega)) (by first | exact Nat.le_refl _ | (simp only [eG, eD, eC, eS, eQ, eH, nC_hrw, nC_hwr, nS_hrw, nS_hwr, nC_hnw, nS_hnw]; omega)) (by first | exact Nat.le_refl _ | (simp only [eG, eD, eC, eS, eQ, eH, nC_hrw, nC_hwr, nS_hrw, nS_hwr, nC_hnw, nS_hnw]; omega)) ?_
      rintro _ h3 ⟨rfl, g, rfl, hg⟩ hm1 hm2
      have hx3 : FrM [130, 131] [0] h (hrw (hrw (hwr h 124 0 0) 130 f) 131 g) := (by repeat' (first | exact FrP.rf | assumption | refine FrM.wc ?_ (by decide) _ _ | refine FrM.wf ?_ (by decide) _ | refine FrM.rc ?_ (by decide) _))
      have hF3 := hF.frm hx3 (by decide +kernel)
      have c3 := hx3.2.1
      refine vsA_ok tk_X5_count rfl 20 ?_
      simp only [at_X5_count, mr_X5_count, vsA, vcA, denA, lget, lset, lst1, lst2, lclr, argsA, restA, acats, acat, tcA, tcN, rzA, lle, List.length_cons, List.length_nil, Option.toList_some, Option.toList_none, List.cons_append, List.nil_append, eG, eM, eD, eC, eS, eQ, eH, if_true, if_false, Nat.reduceAdd, Nat.reduceLeDiff, Nat.reduceEqDiff, Nat.reduceLT, Nat.reduceSub, Int.reduceEq, Int.reduceLE, Int.reduceToNat, reduceCtorEq, reduceIte, Nat.reduceBEq, Int.reduceNeg, not_true, not_false_iff, true_and, and_true, true_or, or_true, false_or, or_false, forall_const, implies_true, Nat.le_refl, Int.toNat_natCast, Int.reduceLT, ne_eq, Fin.isValue, Nat.add_zero, nC_hrw, nS_hrw, nC_hwr, nS_hwr, hkd_hrw, hkd_hwr, fin4_0, fin4_1, fin4_2, fin4_3, fin2_0, fin2_1, ci0, ci1, cnn, false_implies, w32_eq, w64_eq, hF3.m]
      try simp (disch := omega) only [yc_lt, yc_le, yc_gt, yc_ge, yc_eq, w32_eq, w64_eq, tn_add, tn_mul, Int.toNat_natCast, Int.reduceToNat, not_true, not_false_iff, false_implies, forall_const, implies_true]
      repeat' (with_reducible first | apply And.intro | intro _)
      all_goals try omega
      all_goals try simp (disch := omega) only [w32_eq, w64_eq, tn_add, tn_mul, Int.toNat_natCast, Int.reduceToNat, Option.some.injEq, Sum.inr.injEq, Sum.inl.injEq]
      all_goals try omega
      refine ClA.of (c_X5_comesTo (T := sT (wS w)) (bec := sB (wS w)) (std := sS (wS w)) (tbl := (wA w).1) (nights := (wA w).2.1) (moon := (wA w).2.2) hF3 (by rw [hdt_hrw_n _ _ (by decide), hdt_hrw_n _ _ (by decide)]; exact hA) (by rw [hWW]; exact hL) (p := pn) (by omega) (by rw [hdt_hrw_n _ _ (by decide), hdt_hrw_s]; exact hf)) (by first | exact Nat.le_of_ble_eq_true rfl | (simp only [eD]; omega)) (by first | exact Nat.le_refl _ | (simp only [eG, eD, eC, eS, eQ, eH, nC_hrw, nC_hwr, nS_hrw, nS_hwr, nC_hnw, nS_hnw]; omega)) (by first | exact Nat.le_refl _ | (simp only [eG, eD, eC, eS, eQ, eH, nC_hrw, nC_hwr, nS_hrw, nS_hwr, nC_hnw, nS_hnw]; omega)) ?_
      rintro _ h4 ⟨rfl, z, rfl, hz⟩ hk1 hk2
      rw [hWW] at hz
      have hz := hz cn (by rw [hdt_hrw_s]; exact hg)
      subst hz
      generalize hzz : (((W.take pn).count cn : Nat) : Int) = z at *
      have hx4 : FrM [130, 131] [0, 18] h (hwr (hrw (hrw (hwr h 124 0 0) 130 f) 131 g) 124 18 z) := (by repeat' (first | exact FrP.rf | assumption | refine FrM.wc ?_ (by decide) _ _ | refine FrM.wf ?_ (by decide) _ | refine FrM.rc ?_ (by decide) _))
      have hF4 := hF.frm hx4 (by decide +kernel)
      have c4 := hx4.2.1
      have e18 : hdt (hwr (hrw (hrw (hwr h 124 0 0) 130 f) 131 g) 124 18 z) 124 18 = z := by rw [hdt_hwr, if_pos rfl, fup_s]
      have hfin4 := MpC.scr hF hM hx4 (by decide) (by decide)
      generalize hwr (hrw (hrw (hwr h 124 0 0) 130 f) 131 g) 124 18 z = h5 at *
      refine vsA_ok tk_X5_count rfl 20 ?_
      simp only [at_X5_count, mr_X5_count, vsA, vcA, denA, lget, lset, lst1, lst2, lclr, argsA, restA, acats, acat, tcA, tcN, rzA, lle, List.length_cons, List.length_nil, Option.toList_some, Option.toList_none, List.cons_append, List.nil_append, eG, eM, eD, eC, eS, eQ, eH, if_true, if_false, Nat.reduceAdd, Nat.reduceLeDiff, Nat.reduceEqDiff, Nat.reduceLT, Nat.reduceSub, Int.reduceEq, Int.reduceLE, Int.reduceToNat, reduceCtorEq, reduceIte, Nat.reduceBEq, Int.reduceNeg, not_true, not_false_iff, true_and, and_true, true_or, or_true, false_or, or_false, forall_const, implies_true, Nat.le_refl, Int.toNat_natCast, Int.reduceLT, ne_eq, Fin.isValue, Nat.add_zero, nC_hrw, nS_hrw, nC_hwr, nS_hwr, hkd_hrw, hkd_hwr, fin4_0, fin4_1, fin4_2, fin4_3, fin2_0, fin2_1, ci0, ci1, cnn, false_implies, w32_eq, w64_eq, hF4.m, e18, c4]
      try simp (disch := omega) only [yc_lt, yc_le, yc_gt, yc_ge, yc_eq, w32_eq, w64_eq, tn_add, tn_mul, Int.toNat_natCast, Int.reduceToNat, not_true, not_false_iff, false_implies, forall_const, implies_true]
      repeat' (with_reducible first | apply And.intro | intro _)
      all_goals try omega
      all_goals try simp (disch := omega) only [w32_eq, w64_eq, tn_add, tn_mul, Int.toNat_natCast, Int.reduceToNat, Option.some.injEq, Sum.inr.injEq, Sum.inl.injEq]
      all_goals try omega
      all_goals exact hfin4
    · rw [show cntP W cn p = -3 by unfold cntP; rw [if_pos qc, if_neg qp]]
      refine vsA_ok tk_X5_count rfl 20 ?_
      simp only [at_X5_count, mr_X5_count, vsA, vcA, denA, lget, lset, lst1, lst2, lclr, argsA, restA, acats, acat, tcA, tcN, rzA, lle, List.length_cons, List.length_nil, Option.toList_some, Option.toList_none, List.cons_append, List.nil_append, eG, eM, eD, eC, eS, eQ, eH, if_true, if_false, Nat.reduceAdd, Nat.reduceLeDiff, Nat.reduceEqDiff, Nat.reduceLT, Nat.reduceSub, Int.reduceEq, Int.reduceLE, Int.reduceToNat, reduceCtorEq, reduceIte, Nat.reduceBEq, Int.reduceNeg, not_true, not_false_iff, true_and, and_true, true_or, or_true, false_or, or_false, forall_const, implies_true, Nat.le_refl, Int.toNat_natCast, Int.reduceLT, ne_eq, Fin.isValue, Nat.add_zero, nC_hrw, nS_hrw, nC_hwr, nS_hwr, hkd_hrw, hkd_hwr, fin4_0, fin4_1, fin4_2, fin4_3, fin2_0, fin2_1, ci0, ci1, cnn, false_implies, w32_eq, w64_eq]
      try simp (disch := omega) only [yc_lt, yc_le, yc_gt, yc_ge, yc_eq, w32_eq, w64_eq, tn_add, tn_mul, Int.toNat_natCast, Int.reduceToNat, not_true, not_false_iff, false_implies, forall_const, implies_true]
      repeat' (with_reducible first | apply And.intro | intro _)
      all_goals try omega
      all_goals try simp (disch := omega) only [w32_eq, w64_eq, tn_add, tn_mul, Int.toNat_natCast, Int.reduceToNat, Option.some.injEq, Sum.inr.injEq, Sum.inl.injEq]
      all_goals try omega
      refine ClA.pure (c_X5_within_F _ (by omega) (by omega) (by omega) qp) (by first | exact Nat.le_of_ble_eq_true rfl | (simp only [eD]; omega)) (by first | exact Nat.le_refl _ | (simp only [eG, eD, eC, eS, eQ, eH, nC_hrw, nC_hwr, nS_hrw, nS_hwr, nC_hnw, nS_hnw]; omega)) (by first | exact Nat.le_refl _ | (simp only [eG, eD, eC, eS, eQ, eH, nC_hrw, nC_hwr, nS_hrw, nS_hwr, nC_hnw, nS_hnw]; omega)) ?_
      refine vsA_ok tk_X5_count rfl 20 ?_
      simp only [at_X5_count, mr_X5_count, vsA, vcA, denA, lget, lset, lst1, lst2, lclr, argsA, restA, acats, acat, tcA, tcN, rzA, lle, List.length_cons, List.length_nil, Option.toList_some, Option.toList_none, List.cons_append, List.nil_append, eG, eM, eD, eC, eS, eQ, eH, if_true, if_false, Nat.reduceAdd, Nat.reduceLeDiff, Nat.reduceEqDiff, Nat.reduceLT, Nat.reduceSub, Int.reduceEq, Int.reduceLE, Int.reduceToNat, reduceCtorEq, reduceIte, Nat.reduceBEq, Int.reduceNeg, not_true, not_false_iff, true_and, and_true, true_or, or_true, false_or, or_false, forall_const, implies_true, Nat.le_refl, Int.toNat_natCast, Int.reduceLT, ne_eq, Fin.isValue, Nat.add_zero, nC_hrw, nS_hrw, nC_hwr, nS_hwr, hkd_hrw, hkd_hwr, fin4_0, fin4_1, fin4_2, fin4_3, fin2_0, fin2_1, ci0, ci1, cnn, false_implies, w32_eq, w64_eq, c2]
      try simp (disch := omega) only [yc_lt, yc_le, yc_gt, yc_ge, yc_eq, w32_eq, w64_eq, tn_add, tn_mul, Int.toNat_natCast, Int.reduceToNat, not_true, not_false_iff, false_implies, forall_const, implies_true]
      repeat' (with_reducible first | apply And.intro | intro _)
      all_goals try omega
      all_goals try simp (disch := omega) only [w32_eq, w64_eq, tn_add, tn_mul, Int.toNat_natCast, Int.reduceToNat, Option.some.injEq, Sum.inr.injEq, Sum.inl.injEq]
      all_goals try omega
      all_goals exact hfin2
  · rw [if_neg qc, show cntP W c p = -2 from if_neg qc]
    refine vsA_ok tk_X5_count rfl 20 ?_
    simp only [at_X5_count, mr_X5_count, vsA, vcA, denA, lget, lset, lst1, lst2, lclr, argsA, restA, acats, acat, tcA, tcN, rzA, lle, List.length_cons, List.length_nil, Option.toList_some, Option.toList_none, List.cons_append, List.nil_append, eG, eM, eD, eC, eS, eQ, eH, if_true, if_false, Nat.reduceAdd, Nat.reduceLeDiff, Nat.reduceEqDiff, Nat.reduceLT, Nat.reduceSub, Int.reduceEq, Int.reduceLE, Int.reduceToNat, reduceCtorEq, reduceIte, Nat.reduceBEq, Int.reduceNeg, not_true, not_false_iff, true_and, and_true, true_or, or_true, false_or, or_false, forall_const, implies_true, Nat.le_refl, Int.toNat_natCast, Int.reduceLT, ne_eq, Fin.isValue, Nat.add_zero, nC_hrw, nS_hrw, nC_hwr, nS_hwr, hkd_hrw, hkd_hwr, fin4_0, fin4_1, fin4_2, fin4_3, fin2_0, fin2_1, ci0, ci1, cnn, false_implies, w32_eq, w64_eq]
    try simp (disch := omega) only [yc_lt, yc_le, yc_gt, yc_ge, yc_eq, w32_eq, w64_eq, tn_add, tn_mul, Int.toNat_natCast, Int.reduceToNat, not_true, not_false_iff, false_implies, forall_const, implies_true]
    repeat' (with_reducible first | apply And.intro | intro _)
    all_goals try omega
    all_goals try simp (disch := omega) only [w32_eq, w64_eq, tn_add, tn_mul, Int.toNat_natCast, Int.reduceToNat, Option.some.injEq, Sum.inr.injEq, Sum.inl.injEq]
    all_goals try omega
    all_goals exact hfin
theorem c_X5_begins (hF : FxA h) (hM : MdC h w) (t : Int) (ht : In32 t) :
    CnA G mX5_begins 3 0 0 [.inr (.inr (124)), .inl (t)] h (fun r h1 => r = some (.inl (begP (wS w) t)) ∧ MpC h h1 w) := by
  obtain ⟨x0, hF0, hM0⟩ := thr_0 hF hM
  have hfin : MpC h (hwr h 124 0 0) w := MpC.scr hF hM x0 (by decide) (by decide)
  obtain ⟨ht1, ht2⟩ := ht
  have hA : AllC (hdt (hwr h 124 0 0) 125) (sT (wS w)) (sB (wS w)) (sS (wS w)) (wA w).1 (wA w).2.1 (wA w).2.2 := hM0.1.1.1
  have hs := hA.sz
  by_cases qt : 0 ≤ t ∧ t < (sT (wS w) : Int)
  · obtain ⟨tn, rfl⟩ : ∃ m : Nat, t = m := ⟨t.toNat, by omega⟩
    rw [show begP (wS w) tn = ((mskP (fun c => decide (1 < (sB (wS w) tn c).length ∧ (sB (wS w) tn c).getD 0 0 = c)) 6 : Nat) : Int) from if_pos qt]
    generalize hm : mskP (fun c => decide (1 < (sB (wS w) tn c).length ∧ (sB (wS w) tn c).getD 0 0 = c)) 6 = mm
    refine CnA.of rfl (Nat.le_of_ble_eq_true rfl) ?_
    simp only [largs, lpad, mr_X5_begins]
    generalize hE : ((G, mX5_begins, _, _, _, _, h) : EV) = E
    have L1 : ∀ c, c ≤ 6 → ExA E 20 [some (.inr (.inr (124))), some (.inl ((tn : Int))), some (.inl (((mskP (fun c => decide (1 < (sB (wS w) tn c).length ∧ (sB (wS w) tn c).getD 0 0 = c)) c : Nat) : Int))), some (.inl ((c : Int)))] [] (hwr h 124 0 0) := by
      refine lpI 6 fun c hc ih => ?_
      have hk6 := mskP_6 (c := fun c => decide (1 < (sB (wS w) tn c).length ∧ (sB (wS w) tn c).getD 0 0 = c)) hc
      by_cases hc6 : c < 6
      · have nx := ih hc6
        have h4 := (hA.b4 (t := tn) (c := c) (by omega) hc6).1
        by_cases q1 : 1 < (sB (wS w) tn c).length
        · have hd6 := (hA.b4 (t := tn) (c := c) (by omega) hc6).2 _ (getD_mem (k := 0) (by omega))
          by_cases q2 : (sB (wS w) tn c).getD 0 0 = c
          · rw [mskP_t (by simpa using ⟨q1, q2⟩)] at nx
            generalize mskP (fun c => decide (1 < (sB (wS w) tn c).length ∧ (sB (wS w) tn c).getD 0 0 = c)) c = k at *
            subst hE
            refine vsA_ok tk_X5_begins rfl 2 ?_
            simp only [at_X5_begins, mr_X5_begins, vsA, vcA, denA, lget, lset, lst1, lst2, lclr, argsA, restA, acats, acat, tcA, tcN, rzA, lle, List.length_cons, List.length_nil, Option.toList_some, Option.toList_none, List.cons_append, List.nil_append, eG, eM, eD, eC, eS, eQ, eH, if_true, if_false, Nat.reduceAdd, Nat.reduceLeDiff, Nat.reduceEqDiff, Nat.reduceLT, Nat.reduceSub, Int.reduceEq, Int.reduceLE, Int.reduceToNat, reduceCtorEq, reduceIte, Nat.reduceBEq, Int.reduceNeg, not_true, not_false_iff, true_and, and_true, true_or, or_true, false_or, or_false, forall_const, implies_true, Nat.le_refl, Int.toNat_natCast, Int.reduceLT, ne_eq, Fin.isValue, Nat.add_zero, nC_hrw, nS_hrw, nC_hwr, nS_hwr, hkd_hrw, hkd_hwr, fin4_0, fin4_1, fin4_2, fin4_3, fin2_0, fin2_1, ci0, ci1, cnn, false_implies, w32_eq, w64_eq]
            try simp (disch := omega) only [yc_lt, yc_le, yc_gt, yc_ge, yc_eq, w32_eq, w64_eq, tn_add, tn_mul, Int.toNat_natCast, Int.reduceToNat, not_true, not_false_iff, false_implies, forall_const, implies_true]
            repeat' (with_reducible first | apply And.intro | intro _)
            all_goals try omega
            all_goals try simp (disch := omega) only [w32_eq, w64_eq, tn_add, tn_mul, Int.toNat_natCast, Int.reduceToNat, Option.some.injEq, Sum.inr.injEq, Sum.inl.injEq]
            all_goals try omega
            refine vsA_ok tk_X5_begins rfl 20 ?_
            simp only [at_X5_begins, mr_X5_begins, vsA, vcA, denA, lget, lset, lst1, lst2, lclr, argsA, restA, acats, acat, tcA, tcN, rzA, lle, List.length_cons, List.length_nil, Option.toList_some, Option.toList_none, List.cons_append, List.nil_append, eG, eM, eD, eC, eS, eQ, eH, if_true, if_false, Nat.reduceAdd, Nat.reduceLeDiff, Nat.reduceEqDiff, Nat.reduceLT, Nat.reduceSub, Int.reduceEq, Int.reduceLE, Int.reduceToNat, reduceCtorEq, reduceIte, Nat.reduceBEq, Int.reduceNeg, not_true, not_false_iff, true_and, and_true, true_or, or_true, false_or, or_false, forall_const, implies_true, Nat.le_refl, Int.toNat_natCast, Int.reduceLT, ne_eq, Fin.isValue, Nat.add_zero, nC_hrw, nS_hrw, nC_hwr, nS_hwr, hkd_hrw, hkd_hwr, fin4_0, fin4_1, fin4_2, fin4_3, fin2_0, fin2_1, ci0, ci1, cnn, false_implies, w32_eq, w64_eq, hF0.m]
            try simp (disch := omega) only [yc_lt, yc_le, yc_gt, yc_ge, yc_eq, w32_eq, w64_eq, tn_add, tn_mul, Int.toNat_natCast, Int.reduceToNat, not_true, not_false_iff, false_implies, forall_const, implies_true]
            repeat' (with_reducible first | apply And.intro | intro _)
            all_goals try omega
            all_goals try simp (disch := omega) only [w32_eq, w64_eq, tn_add, tn_mul, Int.toNat_natCast, Int.reduceToNat, Option.some.injEq, Sum.inr.injEq, Sum.inl.injEq]
            all_goals try omega
            refine ClA.pure (c_X5_becomeMany hF0 hA (t := tn) (c := c) (by omega) hc6) (by first | exact Nat.le_of_ble_eq_true rfl | (simp only [eD]; omega)) (by first | exact Nat.le_refl _ | (simp only [eG, eD, eC, eS, eQ, eH, nC_hrw, nC_hwr, nS_hrw, nS_hwr, nC_hnw, nS_hnw]; omega)) (by first | exact Nat.le_refl _ | (simp only [eG, eD, eC, eS, eQ, eH, nC_hrw, nC_hwr, nS_hrw, nS_hwr, nC_hnw, nS_hnw]; omega)) ?_
            refine vsA_ok tk_X5_begins rfl 1 ?_
            simp only [at_X5_begins, mr_X5_begins, vsA, vcA, denA, lget, lset, lst1, lst2, lclr, argsA, restA, acats, acat, tcA, tcN, rzA, lle, List.length_cons, List.length_nil, Option.toList_some, Option.toList_none, List.cons_append, List.nil_append, eG, eM, eD, eC, eS, eQ, eH, if_true, if_false, Nat.reduceAdd, Nat.reduceLeDiff, Nat.reduceEqDiff, Nat.reduceLT, Nat.reduceSub, Int.reduceEq, Int.reduceLE, Int.reduceToNat, reduceCtorEq, reduceIte, Nat.reduceBEq, Int.reduceNeg, not_true, not_false_iff, true_and, and_true, true_or, or_true, false_or, or_false, forall_const, implies_true, Nat.le_refl, Int.toNat_natCast, Int.reduceLT, ne_eq, Fin.isValue, Nat.add_zero, nC_hrw, nS_hrw, nC_hwr, nS_hwr, hkd_hrw, hkd_hwr, fin4_0, fin4_1, fin4_2, fin4_3, fin2_0, fin2_1, ci0, ci1, cnn, false_implies, w32_eq, w64_eq]
            try simp (disch := omega) only [yc_lt, yc_le, yc_gt, yc_ge, yc_eq, w32_eq, w64_eq, tn_add, tn_mul, Int.toNat_natCast, Int.reduceToNat, not_true, not_false_iff, false_implies, forall_const, implies_true]
            repeat' (with_reducible first | apply And.intro | intro _)
            all_goals try omega
            all_goals try simp (disch := omega) only [w32_eq, w64_eq, tn_add, tn_mul, Int.toNat_natCast, Int.reduceToNat, Option.some.injEq, Sum.inr.injEq, Sum.inl.injEq]
            all_goals try omega
            refine vsA_ok tk_X5_begins rfl 20 ?_
            simp only [at_X5_begins, mr_X5_begins, vsA, vcA, denA, lget, lset, lst1, lst2, lclr, argsA, restA, acats, acat, tcA, tcN, rzA, lle, List.length_cons, List.length_nil, Option.toList_some, Option.toList_none, List.cons_append, List.nil_append, eG, eM, eD, eC, eS, eQ, eH, if_true, if_false, Nat.reduceAdd, Nat.reduceLeDiff, Nat.reduceEqDiff, Nat.reduceLT, Nat.reduceSub, Int.reduceEq, Int.reduceLE, Int.reduceToNat, reduceCtorEq, reduceIte, Nat.reduceBEq, Int.reduceNeg, not_true, not_false_iff, true_and, and_true, true_or, or_true, false_or, or_false, forall_const, implies_true, Nat.le_refl, Int.toNat_natCast, Int.reduceLT, ne_eq, Fin.isValue, Nat.add_zero, nC_hrw, nS_hrw, nC_hwr, nS_hwr, hkd_hrw, hkd_hwr, fin4_0, fin4_1, fin4_2, fin4_3, fin2_0, fin2_1, ci0, ci1, cnn, false_implies, w32_eq, w64_eq, hF0.m]
            try simp (disch := omega) only [yc_lt, yc_le, yc_gt, yc_ge, yc_eq, w32_eq, w64_eq, tn_add, tn_mul, Int.toNat_natCast, Int.reduceToNat, not_true, not_false_iff, false_implies, forall_const, implies_true]
            repeat' (with_reducible first | apply And.intro | intro _)
            all_goals try omega
            all_goals try simp (disch := omega) only [w32_eq, w64_eq, tn_add, tn_mul, Int.toNat_natCast, Int.reduceToNat, Option.some.injEq, Sum.inr.injEq, Sum.inl.injEq]
            all_goals try omega
            refine ClA.pure (c_X5_becomeOf hF0 hA (t := tn) (c := c) (i := 0) (by omega) hc6 (by omega)) (by first | exact Nat.le_of_ble_eq_true rfl | (simp only [eD]; omega)) (by first | exact Nat.le_refl _ | (simp only [eG, eD, eC, eS, eQ, eH, nC_hrw, nC_hwr, nS_hrw, nS_hwr, nC_hnw, nS_hnw]; omega)) (by first | exact Nat.le_refl _ | (simp only [eG, eD, eC, eS, eQ, eH, nC_hrw, nC_hwr, nS_hrw, nS_hwr, nC_hnw, nS_hnw]; omega)) ?_
            rw [q2]
            refine vsA_ok tk_X5_begins rfl 1 ?_
            simp only [at_X5_begins, mr_X5_begins, vsA, vcA, denA, lget, lset, lst1, lst2, lclr, argsA, restA, acats, acat, tcA, tcN, rzA, lle, List.length_cons, List.length_nil, Option.toList_some, Option.toList_none, List.cons_append, List.nil_append, eG, eM, eD, eC, eS, eQ, eH, if_true, if_false, Nat.reduceAdd, Nat.reduceLeDiff, Nat.reduceEqDiff, Nat.reduceLT, Nat.reduceSub, Int.reduceEq, Int.reduceLE, Int.reduceToNat, reduceCtorEq, reduceIte, Nat.reduceBEq, Int.reduceNeg, not_true, not_false_iff, true_and, and_true, true_or, or_true, false_or, or_false, forall_const, implies_true, Nat.le_refl, Int.toNat_natCast, Int.reduceLT, ne_eq, Fin.isValue, Nat.add_zero, nC_hrw, nS_hrw, nC_hwr, nS_hwr, hkd_hrw, hkd_hwr, fin4_0, fin4_1, fin4_2, fin4_3, fin2_0, fin2_1, ci0, ci1, cnn, false_implies, w32_eq, w64_eq]
            try simp (disch := omega) only [yc_lt, yc_le, yc_gt, yc_ge, yc_eq, w32_eq, w64_eq, tn_add, tn_mul, Int.toNat_natCast, Int.reduceToNat, not_true, not_false_iff, false_implies, forall_const, implies_true]
            repeat' (with_reducible first | apply And.intro | intro _)
            all_goals try omega
            all_goals try simp (disch := omega) only [w32_eq, w64_eq, tn_add, tn_mul, Int.toNat_natCast, Int.reduceToNat, Option.some.injEq, Sum.inr.injEq, Sum.inl.injEq]
            all_goals try omega
            refine vsA_ok tk_X5_begins rfl 3 ?_
            simp only [at_X5_begins, mr_X5_begins, vsA, vcA, denA, lget, lset, lst1, lst2, lclr, argsA, restA, acats, acat, tcA, tcN, rzA, lle, List.length_cons, List.length_nil, Option.toList_some, Option.toList_none, List.cons_append, List.nil_append, eG, eM, eD, eC, eS, eQ, eH, if_true, if_false, Nat.reduceAdd, Nat.reduceLeDiff, Nat.reduceEqDiff, Nat.reduceLT, Nat.reduceSub, Int.reduceEq, Int.reduceLE, Int.reduceToNat, reduceCtorEq, reduceIte, Nat.reduceBEq, Int.reduceNeg, not_true, not_false_iff, true_and, and_true, true_or, or_true, false_or, or_false, forall_const, implies_true, Nat.le_refl, Int.toNat_natCast, Int.reduceLT, ne_eq, Fin.isValue, Nat.add_zero, nC_hrw, nS_hrw, nC_hwr, nS_hwr, hkd_hrw, hkd_hwr, fin4_0, fin4_1, fin4_2, fin4_3, fin2_0, fin2_1, ci0, ci1, cnn, false_implies, w32_eq, w64_eq]
            try simp (disch := omega) only [yc_lt, yc_le, yc_gt, yc_ge, yc_eq, w32_eq, w64_eq, tn_add, tn_mul, Int.toNat_natCast, Int.reduceToNat, not_true, not_false_iff, false_implies, forall_const, implies_true]
            repeat' (with_reducible first | apply And.intro | intro _)
            all_goals try omega
            all_goals try simp (disch := omega) only [w32_eq, w64_eq, tn_add, tn_mul, Int.toNat_natCast, Int.reduceToNat, Option.some.injEq, Sum.inr.injEq, Sum.inl.injEq]
            all_goals try omega
            refine vsA_ok tk_X5_begins rfl 20 ?_
            simp only [at_X5_begins, mr_X5_begins, vsA, vcA, denA, lget, lset, lst1, lst2, lclr, argsA, restA, acats, acat, tcA, tcN, rzA, lle, List.length_cons, List.length_nil, Option.toList_some, Option.toList_none, List.cons_append, List.nil_append, eG, eM, eD, eC, eS, eQ, eH, if_true, if_false, Nat.reduceAdd, Nat.reduceLeDiff, Nat.reduceEqDiff, Nat.reduceLT, Nat.reduceSub, Int.reduceEq, Int.reduceLE, Int.reduceToNat, reduceCtorEq, reduceIte, Nat.reduceBEq, Int.reduceNeg, not_true, not_false_iff, true_and, and_true, true_or, or_true, false_or, or_false, forall_const, implies_true, Nat.le_refl, Int.toNat_natCast, Int.reduceLT, ne_eq, Fin.isValue, Nat.add_zero, nC_hrw, nS_hrw, nC_hwr, nS_hwr, hkd_hrw, hkd_hwr, fin4_0, fin4_1, fin4_2, fin4_3, fin2_0, fin2_1, ci0, ci1, cnn, false_implies, w32_eq, w64_eq]
            try simp (disch := omega) only [yc_lt, yc_le, yc_gt, yc_ge, yc_eq, w32_eq, w64_eq, tn_add, tn_mul, Int.toNat_natCast, Int.reduceToNat, not_true, not_false_iff, false_implies, forall_const, implies_true, zor_1]
            repeat' (with_reducible first | apply And.intro | intro _)
            all_goals try omega
            all_goals try simp (disch := omega) only [w32_eq, w64_eq, tn_add, tn_mul, Int.toNat_natCast, Int.reduceToNat, Option.some.injEq, Sum.inr.injEq, Sum.inl.injEq, zor_1]
            all_goals try omega
            all_goals try exact (nx).weak rfl (by simp [lle] <;> omega)
          · rw [mskP_f (by simp; exact fun _ => by simpa using q2)] at nx
            generalize mskP (fun c => decide (1 < (sB (wS w) tn c).length ∧ (sB (wS w) tn c).getD 0 0 = c)) c = k at *
            subst hE
            refine vsA_ok tk_X5_begins rfl 2 ?_
            simp only [at_X5_begins, mr_X5_begins, vsA, vcA, denA, lget, lset, lst1, lst2, lclr, argsA, restA, acats, acat, tcA, tcN, rzA, lle, List.length_cons, List.length_nil, Option.toList_some, Option.toList_none, List.cons_append, List.nil_append, eG, eM, eD, eC, eS, eQ, eH, if_true, if_false, Nat.reduceAdd, Nat.reduceLeDiff, Nat.reduceEqDiff, Nat.reduceLT, Nat.reduceSub, Int.reduceEq, Int.reduceLE, Int.reduceToNat, reduceCtorEq, reduceIte, Nat.reduceBEq, Int.reduceNeg, not_true, not_false_iff, true_and, and_true, true_or, or_true, false_or, or_false, forall_const, implies_true, Nat.le_refl, Int.toNat_natCast, Int.reduceLT, ne_eq, Fin.isValue, Nat.add_zero, nC_hrw, nS_hrw, nC_hwr, nS_hwr, hkd_hrw, hkd_hwr, fin4_0, fin4_1, fin4_2, fin4_3, fin2_0, fin2_1, ci0, ci1, cnn, false_implies, w32_eq, w64_eq]
            try simp (disch := omega) only [yc_lt, yc_le, yc_gt, yc_ge, yc_eq, w32_eq, w64_eq, tn_add, tn_mul, Int.toNat_natCast, Int.reduceToNat, not_true, not_false_iff, false_implies, forall_const, implies_true]
            repeat' (with_reducible first | apply And.intro | intro _)
            all_goals try omega
            all_goals try simp (disch := omega) only [w32_eq, w64_eq, tn_add, tn_mul, Int.toNat_natCast, Int.reduceToNat, Option.some.injEq, Sum.inr.injEq, Sum.inl.injEq]
            all_goals try omega
            refine vsA_ok tk_X5_begins rfl 20 ?_
            simp only [at_X5_begins, mr_X5_begins, vsA, vcA, denA, lget, lset, lst1, lst2, lclr, argsA, restA, acats, acat, tcA, tcN, rzA, lle, List.length_cons, List.length_nil, Option.toList_some, Option.toList_none, List.cons_append, List.nil_append, eG, eM, eD, eC, eS, eQ, eH, if_true, if_false, Nat.reduceAdd, Nat.reduceLeDiff, Nat.reduceEqDiff, Nat.reduceLT, Nat.reduceSub, Int.reduceEq, Int.reduceLE, Int.reduceToNat, reduceCtorEq, reduceIte, Nat.reduceBEq, Int.reduceNeg, not_true, not_false_iff, true_and, and_true, true_or, or_true, false_or, or_false, forall_const, implies_true, Nat.le_refl, Int.toNat_natCast, Int.reduceLT, ne_eq, Fin.isValue, Nat.add_zero, nC_hrw, nS_hrw, nC_hwr, nS_hwr, hkd_hrw, hkd_hwr, fin4_0, fin4_1, fin4_2, fin4_3, fin2_0, fin2_1, ci0, ci1, cnn, false_implies, w32_eq, w64_eq, hF0.m]
            try simp (disch := omega) only [yc_lt, yc_le, yc_gt, yc_ge, yc_eq, w32_eq, w64_eq, tn_add, tn_mul, Int.toNat_natCast, Int.reduceToNat, not_true, not_false_iff, false_implies, forall_const, implies_true]
            repeat' (with_reducible first | apply And.intro | intro _)
            all_goals try omega
            all_goals try simp (disch := omega) only [w32_eq, w64_eq, tn_add, tn_mul, Int.toNat_natCast, Int.reduceToNat, Option.some.injEq, Sum.inr.injEq, Sum.inl.injEq]
            all_goals try omega
            refine ClA.pure (c_X5_becomeMany hF0 hA (t := tn) (c := c) (by omega) hc6) (by first | exact Nat.le_of_ble_eq_true rfl | (simp only [eD]; omega)) (by first | exact Nat.le_refl _ | (simp only [eG, eD, eC, eS, eQ, eH, nC_hrw, nC_hwr, nS_hrw, nS_hwr, nC_hnw, nS_hnw]; omega)) (by first | exact Nat.le_refl _ | (simp only [eG, eD, eC, eS, eQ, eH, nC_hrw, nC_hwr, nS_hrw, nS_hwr, nC_hnw, nS_hnw]; omega)) ?_
            refine vsA_ok tk_X5_begins rfl 1 ?_
            simp only [at_X5_begins, mr_X5_begins, vsA, vcA, denA, lget, lset, lst1, lst2, lclr, argsA, restA, acats, acat, tcA, tcN, rzA, lle, List.length_cons, List.length_nil, Option.toList_some, Option.toList_none, List.cons_append, List.nil_append, eG, eM, eD, eC, eS, eQ, eH, if_true, if_false, Nat.reduceAdd, Nat.reduceLeDiff, Nat.reduceEqDiff, Nat.reduceLT, Nat.reduceSub, Int.reduceEq, Int.reduceLE, Int.reduceToNat, reduceCtorEq, reduceIte, Nat.reduceBEq, Int.reduceNeg, not_true, not_false_iff, true_and, and_true, true_or, or_true, false_or, or_false, forall_const, implies_true, Nat.le_refl, Int.toNat_natCast, Int.reduceLT, ne_eq, Fin.isValue, Nat.add_zero, nC_hrw, nS_hrw, nC_hwr, nS_hwr, hkd_hrw, hkd_hwr, fin4_0, fin4_1, fin4_2, fin4_3, fin2_0, fin2_1, ci0, ci1, cnn, false_implies, w32_eq, w64_eq]
            try simp (disch := omega) only [yc_lt, yc_le, yc_gt, yc_ge, yc_eq, w32_eq, w64_eq, tn_add, tn_mul, Int.toNat_natCast, Int.reduceToNat, not_true, not_false_iff, false_implies, forall_const, implies_true]
            repeat' (with_reducible first | apply And.intro | intro _)
            all_goals try omega
            all_goals try simp (disch := omega) only [w32_eq, w64_eq, tn_add, tn_mul, Int.toNat_natCast, Int.reduceToNat, Option.some.injEq, Sum.inr.injEq, Sum.inl.injEq]
            all_goals try omega
            refine vsA_ok tk_X5_begins rfl 20 ?_
            simp only [at_X5_begins, mr_X5_begins, vsA, vcA, denA, lget, lset, lst1, lst2, lclr, argsA, restA, acats, acat, tcA, tcN, rzA, lle, List.length_cons, List.length_nil, Option.toList_some, Option.toList_none, List.cons_append, List.nil_append, eG, eM, eD, eC, eS, eQ, eH, if_true, if_false, Nat.reduceAdd, Nat.reduceLeDiff, Nat.reduceEqDiff, Nat.reduceLT, Nat.reduceSub, Int.reduceEq, Int.reduceLE, Int.reduceToNat, reduceCtorEq, reduceIte, Nat.reduceBEq, Int.reduceNeg, not_true, not_false_iff, true_and, and_true, true_or, or_true, false_or, or_false, forall_const, implies_true, Nat.le_refl, Int.toNat_natCast, Int.reduceLT, ne_eq, Fin.isValue, Nat.add_zero, nC_hrw, nS_hrw, nC_hwr, nS_hwr, hkd_hrw, hkd_hwr, fin4_0, fin4_1, fin4_2, fin4_3, fin2_0, fin2_1, ci0, ci1, cnn, false_implies, w32_eq, w64_eq, hF0.m]
            try simp (disch := omega) only [yc_lt, yc_le, yc_gt, yc_ge, yc_eq, w32_eq, w64_eq, tn_add, tn_mul, Int.toNat_natCast, Int.reduceToNat, not_true, not_false_iff, false_implies, forall_const, implies_true]
            repeat' (with_reducible first | apply And.intro | intro _)
            all_goals try omega
            all_goals try simp (disch := omega) only [w32_eq, w64_eq, tn_add, tn_mul, Int.toNat_natCast, Int.reduceToNat, Option.some.injEq, Sum.inr.injEq, Sum.inl.injEq]
            all_goals try omega
            refine ClA.pure (c_X5_becomeOf hF0 hA (t := tn) (c := c) (i := 0) (by omega) hc6 (by omega)) (by first | exact Nat.le_of_ble_eq_true rfl | (simp only [eD]; omega)) (by first | exact Nat.le_refl _ | (simp only [eG, eD, eC, eS, eQ, eH, nC_hrw, nC_hwr, nS_hrw, nS_hwr, nC_hnw, nS_hnw]; omega)) (by first | exact Nat.le_refl _ | (simp only [eG, eD, eC, eS, eQ, eH, nC_hrw, nC_hwr, nS_hrw, nS_hwr, nC_hnw, nS_hnw]; omega)) ?_
            generalize (sB (wS w) tn c).getD 0 0 = d at *
            refine vsA_ok tk_X5_begins rfl 1 ?_
            simp only [at_X5_begins, mr_X5_begins, vsA, vcA, denA, lget, lset, lst1, lst2, lclr, argsA, restA, acats, acat, tcA, tcN, rzA, lle, List.length_cons, List.length_nil, Option.toList_some, Option.toList_none, List.cons_append, List.nil_append, eG, eM, eD, eC, eS, eQ, eH, if_true, if_false, Nat.reduceAdd, Nat.reduceLeDiff, Nat.reduceEqDiff, Nat.reduceLT, Nat.reduceSub, Int.reduceEq, Int.reduceLE, Int.reduceToNat, reduceCtorEq, reduceIte, Nat.reduceBEq, Int.reduceNeg, not_true, not_false_iff, true_and, and_true, true_or, or_true, false_or, or_false, forall_const, implies_true, Nat.le_refl, Int.toNat_natCast, Int.reduceLT, ne_eq, Fin.isValue, Nat.add_zero, nC_hrw, nS_hrw, nC_hwr, nS_hwr, hkd_hrw, hkd_hwr, fin4_0, fin4_1, fin4_2, fin4_3, fin2_0, fin2_1, ci0, ci1, cnn, false_implies, w32_eq, w64_eq]
            try simp (disch := omega) only [yc_lt, yc_le, yc_gt, yc_ge, yc_eq, w32_eq, w64_eq, tn_add, tn_mul, Int.toNat_natCast, Int.reduceToNat, not_true, not_false_iff, false_implies, forall_const, implies_true]
            repeat' (with_reducible first | apply And.intro | intro _)
            all_goals try omega
            all_goals try simp (disch := omega) only [w32_eq, w64_eq, tn_add, tn_mul, Int.toNat_natCast, Int.reduceToNat, Option.some.injEq, Sum.inr.injEq, Sum.inl.injEq]
            all_goals try omega
            refine vsA_ok tk_X5_begins rfl 20 ?_
            simp only [at_X5_begins, mr_X5_begins, vsA, vcA, denA, lget, lset, lst1, lst2, lclr, argsA, restA, acats, acat, tcA, tcN, rzA, lle, List.length_cons, List.length_nil, Option.toList_some, Option.toList_none, List.cons_append, List.nil_append, eG, eM, eD, eC, eS, eQ, eH, if_true, if_false, Nat.reduceAdd, Nat.reduceLeDiff, Nat.reduceEqDiff, Nat.reduceLT, Nat.reduceSub, Int.reduceEq, Int.reduceLE, Int.reduceToNat, reduceCtorEq, reduceIte, Nat.reduceBEq, Int.reduceNeg, not_true, not_false_iff, true_and, and_true, true_or, or_true, false_or, or_false, forall_const, implies_true, Nat.le_refl, Int.toNat_natCast, Int.reduceLT, ne_eq, Fin.isValue, Nat.add_zero, nC_hrw, nS_hrw, nC_hwr, nS_hwr, hkd_hrw, hkd_hwr, fin4_0, fin4_1, fin4_2, fin4_3, fin2_0, fin2_1, ci0, ci1, cnn, false_implies, w32_eq, w64_eq]
            try simp (disch := omega) only [yc_lt, yc_le, yc_gt, yc_ge, yc_eq, w32_eq, w64_eq, tn_add, tn_mul, Int.toNat_natCast, Int.reduceToNat, not_true, not_false_iff, false_implies, forall_const, implies_true, zor_0]
            repeat' (with_reducible first | apply And.intro | intro _)
            all_goals try omega
            all_goals try simp (disch := omega) only [w32_eq, w64_eq, tn_add, tn_mul, Int.toNat_natCast, Int.reduceToNat, Option.some.injEq, Sum.inr.injEq, Sum.inl.injEq, zor_0]
            all_goals try omega
            all_goals try exact (nx).weak rfl (by simp [lle] <;> omega)
        · rw [mskP_f (by simp; exact fun q => absurd q q1)] at nx
          generalize mskP (fun c => decide (1 < (sB (wS w) tn c).length ∧ (sB (wS w) tn c).getD 0 0 = c)) c = k at *
          subst hE
          refine vsA_ok tk_X5_begins rfl 2 ?_
          simp only [at_X5_begins, mr_X5_begins, vsA, vcA, denA, lget, lset, lst1, lst2, lclr, argsA, restA, acats, acat, tcA, tcN, rzA, lle, List.length_cons, List.length_nil, Option.toList_some, Option.toList_none, List.cons_append, List.nil_append, eG, eM, eD, eC, eS, eQ, eH, if_true, if_false, Nat.reduceAdd, Nat.reduceLeDiff, Nat.reduceEqDiff, Nat.reduceLT, Nat.reduceSub, Int.reduceEq, Int.reduceLE, Int.reduceToNat, reduceCtorEq, reduceIte, Nat.reduceBEq, Int.reduceNeg, not_true, not_false_iff, true_and, and_true, true_or, or_true, false_or, or_false, forall_const, implies_true, Nat.le_refl, Int.toNat_natCast, Int.reduceLT, ne_eq, Fin.isValue, Nat.add_zero, nC_hrw, nS_hrw, nC_hwr, nS_hwr, hkd_hrw, hkd_hwr, fin4_0, fin4_1, fin4_2, fin4_3, fin2_0, fin2_1, ci0, ci1, cnn, false_implies, w32_eq, w64_eq]
          try simp (disch := omega) only [yc_lt, yc_le, yc_gt, yc_ge, yc_eq, w32_eq, w64_eq, tn_add, tn_mul, Int.toNat_natCast, Int.reduceToNat, not_true, not_false_iff, false_implies, forall_const, implies_true]
          repeat' (with_reducible first | apply And.intro | intro _)
          all_goals try omega
          all_goals try simp (disch := omega) only [w32_eq, w64_eq, tn_add, tn_mul, Int.toNat_natCast, Int.reduceToNat, Option.some.injEq, Sum.inr.injEq, Sum.inl.injEq]
          all_goals try omega
          refine vsA_ok tk_X5_begins rfl 20 ?_
          simp only [at_X5_begins, mr_X5_begins, vsA, vcA, denA, lget, lset, lst1, lst2, lclr, argsA, restA, acats, acat, tcA, tcN, rzA, lle, List.length_cons, List.length_nil, Option.toList_some, Option.toList_none, List.cons_append, List.nil_append, eG, eM, eD, eC, eS, eQ, eH, if_true, if_false, Nat.reduceAdd, Nat.reduceLeDiff, Nat.reduceEqDiff, Nat.reduceLT, Nat.reduceSub, Int.reduceEq, Int.reduceLE, Int.reduceToNat, reduceCtorEq, reduceIte, Nat.reduceBEq, Int.reduceNeg, not_true, not_false_iff, true_and, and_true, true_or, or_true, false_or, or_false, forall_const, implies_true, Nat.le_refl, Int.toNat_natCast, Int.reduceLT, ne_eq, Fin.isValue, Nat.add_zero, nC_hrw, nS_hrw, nC_hwr, nS_hwr, hkd_hrw, hkd_hwr, fin4_0, fin4_1, fin4_2, fin4_3, fin2_0, fin2_1, ci0, ci1, cnn, false_implies, w32_eq, w64_eq, hF0.m]
          try simp (disch := omega) only [yc_lt, yc_le, yc_gt, yc_ge, yc_eq, w32_eq, w64_eq, tn_add, tn_mul, Int.toNat_natCast, Int.reduceToNat, not_true, not_false_iff, false_implies, forall_const, implies_true]
          repeat' (with_reducible first | apply And.intro | intro _)
          all_goals try omega
          all_goals try simp (disch := omega) only [w32_eq, w64_eq, tn_add, tn_mul, Int.toNat_natCast, Int.reduceToNat, Option.some.injEq, Sum.inr.injEq, Sum.inl.injEq]
          all_goals try omega
          refine ClA.pure (c_X5_becomeMany hF0 hA (t := tn) (c := c) (by omega) hc6) (by first | exact Nat.le_of_ble_eq_true rfl | (simp only [eD]; omega)) (by first | exact Nat.le_refl _ | (simp only [eG, eD, eC, eS, eQ, eH, nC_hrw, nC_hwr, nS_hrw, nS_hwr, nC_hnw, nS_hnw]; omega)) (by first | exact Nat.le_refl _ | (simp only [eG, eD, eC, eS, eQ, eH, nC_hrw, nC_hwr, nS_hrw, nS_hwr, nC_hnw, nS_hnw]; omega)) ?_
          refine vsA_ok tk_X5_begins rfl 1 ?_
          simp only [at_X5_begins, mr_X5_begins, vsA, vcA, denA, lget, lset, lst1, lst2, lclr, argsA, restA, acats, acat, tcA, tcN, rzA, lle, List.length_cons, List.length_nil, Option.toList_some, Option.toList_none, List.cons_append, List.nil_append, eG, eM, eD, eC, eS, eQ, eH, if_true, if_false, Nat.reduceAdd, Nat.reduceLeDiff, Nat.reduceEqDiff, Nat.reduceLT, Nat.reduceSub, Int.reduceEq, Int.reduceLE, Int.reduceToNat, reduceCtorEq, reduceIte, Nat.reduceBEq, Int.reduceNeg, not_true, not_false_iff, true_and, and_true, true_or, or_true, false_or, or_false, forall_const, implies_true, Nat.le_refl, Int.toNat_natCast, Int.reduceLT, ne_eq, Fin.isValue, Nat.add_zero, nC_hrw, nS_hrw, nC_hwr, nS_hwr, hkd_hrw, hkd_hwr, fin4_0, fin4_1, fin4_2, fin4_3, fin2_0, fin2_1, ci0, ci1, cnn, false_implies, w32_eq, w64_eq]
          try simp (disch := omega) only [yc_lt, yc_le, yc_gt, yc_ge, yc_eq, w32_eq, w64_eq, tn_add, tn_mul, Int.toNat_natCast, Int.reduceToNat, not_true, not_false_iff, false_implies, forall_const, implies_true]
          repeat' (with_reducible first | apply And.intro | intro _)
          all_goals try omega
          all_goals try simp (disch := omega) only [w32_eq, w64_eq, tn_add, tn_mul, Int.toNat_natCast, Int.reduceToNat, Option.some.injEq, Sum.inr.injEq, Sum.inl.injEq]
          all_goals try omega
          refine vsA_ok tk_X5_begins rfl 20 ?_
          simp only [at_X5_begins, mr_X5_begins, vsA, vcA, denA, lget, lset, lst1, lst2, lclr, argsA, restA, acats, acat, tcA, tcN, rzA, lle, List.length_cons, List.length_nil, Option.toList_some, Option.toList_none, List.cons_append, List.nil_append, eG, eM, eD, eC, eS, eQ, eH, if_true, if_false, Nat.reduceAdd, Nat.reduceLeDiff, Nat.reduceEqDiff, Nat.reduceLT, Nat.reduceSub, Int.reduceEq, Int.reduceLE, Int.reduceToNat, reduceCtorEq, reduceIte, Nat.reduceBEq, Int.reduceNeg, not_true, not_false_iff, true_and, and_true, true_or, or_true, false_or, or_false, forall_const, implies_true, Nat.le_refl, Int.toNat_natCast, Int.reduceLT, ne_eq, Fin.isValue, Nat.add_zero, nC_hrw, nS_hrw, nC_hwr, nS_hwr, hkd_hrw, hkd_hwr, fin4_0, fin4_1, fin4_2, fin4_3, fin2_0, fin2_1, ci0, ci1, cnn, false_implies, w32_eq, w64_eq]
          try simp (disch := omega) only [yc_lt, yc_le, yc_gt, yc_ge, yc_eq, w32_eq, w64_eq, tn_add, tn_mul, Int.toNat_natCast, Int.reduceToNat, not_true, not_false_iff, false_implies, forall_const, implies_true, zor_0]
          repeat' (with_reducible first | apply And.intro | intro _)
          all_goals try omega
          all_goals try simp (disch := omega) only [w32_eq, w64_eq, tn_add, tn_mul, Int.toNat_natCast, Int.reduceToNat, Option.some.injEq, Sum.inr.injEq, Sum.inl.injEq, zor_0]
          all_goals try omega
          all_goals try exact (nx).weak rfl (by simp [lle] <;> omega)
      · have hc7 : c = 6 := by omega
        subst hc7
        rw [hm]
        subst hE
        refine vsA_ok tk_X5_begins rfl 2 ?_
        simp only [at_X5_begins, mr_X5_begins, vsA, vcA, denA, lget, lset, lst1, lst2, lclr, argsA, restA, acats, acat, tcA, tcN, rzA, lle, List.length_cons, List.length_nil, Option.toList_some, Option.toList_none, List.cons_append, List.nil_append, eG, eM, eD, eC, eS, eQ, eH, if_true, if_false, Nat.reduceAdd, Nat.reduceLeDiff, Nat.reduceEqDiff, Nat.reduceLT, Nat.reduceSub, Int.reduceEq, Int.reduceLE, Int.reduceToNat, reduceCtorEq, reduceIte, Nat.reduceBEq, Int.reduceNeg, not_true, not_false_iff, true_and, and_true, true_or, or_true, false_or, or_false, forall_const, implies_true, Nat.le_refl, Int.toNat_natCast, Int.reduceLT, ne_eq, Fin.isValue, Nat.add_zero, nC_hrw, nS_hrw, nC_hwr, nS_hwr, hkd_hrw, hkd_hwr, fin4_0, fin4_1, fin4_2, fin4_3, fin2_0, fin2_1, ci0, ci1, cnn, false_implies, w32_eq, w64_eq]
        try simp (disch := omega) only [yc_lt, yc_le, yc_gt, yc_ge, yc_eq, w32_eq, w64_eq, tn_add, tn_mul, Int.toNat_natCast, Int.reduceToNat, not_true, not_false_iff, false_implies, forall_const, implies_true]
        repeat' (with_reducible first | apply And.intro | intro _)
        all_goals try omega
        all_goals try simp (disch := omega) only [w32_eq, w64_eq, tn_add, tn_mul, Int.toNat_natCast, Int.reduceToNat, Option.some.injEq, Sum.inr.injEq, Sum.inl.injEq]
        all_goals try omega
        refine vsA_ok tk_X5_begins rfl 5 ?_
        simp only [at_X5_begins, mr_X5_begins, vsA, vcA, denA, lget, lset, lst1, lst2, lclr, argsA, restA, acats, acat, tcA, tcN, rzA, lle, List.length_cons, List.length_nil, Option.toList_some, Option.toList_none, List.cons_append, List.nil_append, eG, eM, eD, eC, eS, eQ, eH, if_true, if_false, Nat.reduceAdd, Nat.reduceLeDiff, Nat.reduceEqDiff, Nat.reduceLT, Nat.reduceSub, Int.reduceEq, Int.reduceLE, Int.reduceToNat, reduceCtorEq, reduceIte, Nat.reduceBEq, Int.reduceNeg, not_true, not_false_iff, true_and, and_true, true_or, or_true, false_or, or_false, forall_const, implies_true, Nat.le_refl, Int.toNat_natCast, Int.reduceLT, ne_eq, Fin.isValue, Nat.add_zero, nC_hrw, nS_hrw, nC_hwr, nS_hwr, hkd_hrw, hkd_hwr, fin4_0, fin4_1, fin4_2, fin4_3, fin2_0, fin2_1, ci0, ci1, cnn, false_implies, w32_eq, w64_eq]
        try simp (disch := omega) only [yc_lt, yc_le, yc_gt, yc_ge, yc_eq, w32_eq, w64_eq, tn_add, tn_mul, Int.toNat_natCast, Int.reduceToNat, not_true, not_false_iff, false_implies, forall_const, implies_true]
        repeat' (with_reducible first | apply And.intro | intro _)
        all_goals try omega
        all_goals try simp (disch := omega) only [w32_eq, w64_eq, tn_add, tn_mul, Int.toNat_natCast, Int.reduceToNat, Option.some.injEq, Sum.inr.injEq, Sum.inl.injEq]
        all_goals try omega
        all_goals exact hfin
    have l1 := L1 0 (by omega)
    rw [show mskP (fun c => decide (1 < (sB (wS w) tn c).length ∧ (sB (wS w) tn c).getD 0 0 = c)) 0 = 0 from rfl] at l1
    subst hE
    refine vsA_ok tk_X5_begins rfl 20 ?_
    simp only [at_X5_begins, mr_X5_begins, vsA, vcA, denA, lget, lset, lst1, lst2, lclr, argsA, restA, acats, acat, tcA, tcN, rzA, lle, List.length_cons, List.length_nil, Option.toList_some, Option.toList_none, List.cons_append, List.nil_append, eG, eM, eD, eC, eS, eQ, eH, if_true, if_false, Nat.reduceAdd, Nat.reduceLeDiff, Nat.reduceEqDiff, Nat.reduceLT, Nat.reduceSub, Int.reduceEq, Int.reduceLE, Int.reduceToNat, reduceCtorEq, reduceIte, Nat.reduceBEq, Int.reduceNeg, not_true, not_false_iff, true_and, and_true, true_or, or_true, false_or, or_false, forall_const, implies_true, Nat.le_refl, Int.toNat_natCast, Int.reduceLT, ne_eq, Fin.isValue, Nat.add_zero, nC_hrw, nS_hrw, nC_hwr, nS_hwr, hkd_hrw, hkd_hwr, fin4_0, fin4_1, fin4_2, fin4_3, fin2_0, fin2_1, ci0, ci1, cnn, false_implies, w32_eq, w64_eq, hF.m, hF0.m]
    try simp (disch := omega) only [yc_lt, yc_le, yc_gt, yc_ge, yc_eq, w32_eq, w64_eq, tn_add, tn_mul, Int.toNat_natCast, Int.reduceToNat, not_true, not_false_iff, false_implies, forall_const, implies_true]
    repeat' (with_reducible first | apply And.intro | intro _)
    all_goals try omega
    all_goals try simp (disch := omega) only [w32_eq, w64_eq, tn_add, tn_mul, Int.toNat_natCast, Int.reduceToNat, Option.some.injEq, Sum.inr.injEq, Sum.inl.injEq]
    all_goals try omega
    refine ClA.pure (c_X5_isTable hF0 hA (tn : Int) ht1 ht2) (by first | exact Nat.le_of_ble_eq_true rfl | (simp only [eD]; omega)) (by first | exact Nat.le_refl _ | (simp only [eG, eD, eC, eS, eQ, eH, nC_hrw, nC_hwr, nS_hrw, nS_hwr, nC_hnw, nS_hnw]; omega)) (by first | exact Nat.le_refl _ | (simp only [eG, eD, eC, eS, eQ, eH, nC_hrw, nC_hwr, nS_hrw, nS_hwr, nC_hnw, nS_hnw]; omega)) ?_
    rw [if_pos qt]
    refine vsA_ok tk_X5_begins rfl 20 ?_
    simp only [at_X5_begins, mr_X5_begins, vsA, vcA, denA, lget, lset, lst1, lst2, lclr, argsA, restA, acats, acat, tcA, tcN, rzA, lle, List.length_cons, List.length_nil, Option.toList_some, Option.toList_none, List.cons_append, List.nil_append, eG, eM, eD, eC, eS, eQ, eH, if_true, if_false, Nat.reduceAdd, Nat.reduceLeDiff, Nat.reduceEqDiff, Nat.reduceLT, Nat.reduceSub, Int.reduceEq, Int.reduceLE, Int.reduceToNat, reduceCtorEq, reduceIte, Nat.reduceBEq, Int.reduceNeg, not_true, not_false_iff, true_and, and_true, true_or, or_true, false_or, or_false, forall_const, implies_true, Nat.le_refl, Int.toNat_natCast, Int.reduceLT, ne_eq, Fin.isValue, Nat.add_zero, nC_hrw, nS_hrw, nC_hwr, nS_hwr, hkd_hrw, hkd_hwr, fin4_0, fin4_1, fin4_2, fin4_3, fin2_0, fin2_1, ci0, ci1, cnn, false_implies, w32_eq, w64_eq]
    try simp (disch := omega) only [yc_lt, yc_le, yc_gt, yc_ge, yc_eq, w32_eq, w64_eq, tn_add, tn_mul, Int.toNat_natCast, Int.reduceToNat, not_true, not_false_iff, false_implies, forall_const, implies_true]
    repeat' (with_reducible first | apply And.intro | intro _)
    all_goals try omega
    all_goals try simp (disch := omega) only [w32_eq, w64_eq, tn_add, tn_mul, Int.toNat_natCast, Int.reduceToNat, Option.some.injEq, Sum.inr.injEq, Sum.inl.injEq]
    all_goals try omega
    all_goals try exact (l1).weak rfl (by simp [lle] <;> omega)
  · rw [show begP (wS w) t = -2 from if_neg qt]
    refine CnA.of rfl (Nat.le_of_ble_eq_true rfl) ?_
    simp only [largs, lpad, mr_X5_begins]
    refine vsA_ok tk_X5_begins rfl 20 ?_
    simp only [at_X5_begins, mr_X5_begins, vsA, vcA, denA, lget, lset, lst1, lst2, lclr, argsA, restA, acats, acat, tcA, tcN, rzA, lle, List.length_cons, List.length_nil, Option.toList_some, Option.toList_none, List.cons_append, List.nil_append, eG, eM, eD, eC, eS, eQ, eH, if_true, if_false, Nat.reduceAdd, Nat.reduceLeDiff, Nat.reduceEqDiff, Nat.reduceLT, Nat.reduceSub, Int.reduceEq, Int.reduceLE, Int.reduceToNat, reduceCtorEq, reduceIte, Nat.reduceBEq, Int.reduceNeg, not_true, not_false_iff, true_and, and_true, true_or, or_true, false_or, or_false, forall_const, implies_true, Nat.le_refl, Int.toNat_natCast, Int.reduceLT, ne_eq, Fin.isValue, Nat.add_zero, nC_hrw, nS_hrw, nC_hwr, nS_hwr, hkd_hrw, hkd_hwr, fin4_0, fin4_1, fin4_2, fin4_3, fin2_0, fin2_1, ci0, ci1, cnn, false_implies, w32_eq, w64_eq, hF.m, hF0.m]
    try simp (disch := omega) only [yc_lt, yc_le, yc_gt, yc_ge, yc_eq, w32_eq, w64_eq, tn_add, tn_mul, Int.toNat_natCast, Int.reduceToNat, not_true, not_false_iff, false_implies, forall_const, implies_true]
    repeat' (with_reducible first | apply And.intro | intro _)
    all_goals try omega
    all_goals try simp (disch := omega) only [w32_eq, w64_eq, tn_add, tn_mul, Int.toNat_natCast, Int.reduceToNat, Option.some.injEq, Sum.inr.injEq, Sum.inl.injEq]
    all_goals try omega
    refine ClA.pure (c_X5_isTable hF0 hA t ht1 ht2) (by first | exact Nat.le_of_ble_eq_true rfl | (simp only [eD]; omega)) (by first | exact Nat.le_refl _ | (simp only [eG, eD, eC, eS, eQ, eH, nC_hrw, nC_hwr, nS_hrw, nS_hwr, nC_hnw, nS_hnw]; omega)) (by first | exact Nat.le_refl _ | (simp only [eG, eD, eC, eS, eQ, eH, nC_hrw, nC_hwr, nS_hrw, nS_hwr, nC_hnw, nS_hnw]; omega)) ?_
    rw [if_neg qt]
    refine vsA_ok tk_X5_begins rfl 20 ?_
    simp only [at_X5_begins, mr_X5_begins, vsA, vcA, denA, lget, lset, lst1, lst2, lclr, argsA, restA, acats, acat, tcA, tcN, rzA, lle, List.length_cons, List.length_nil, Option.toList_some, Option.toList_none, List.cons_append, List.nil_append, eG, eM, eD, eC, eS, eQ, eH, if_true, if_false, Nat.reduceAdd, Nat.reduceLeDiff, Nat.reduceEqDiff, Nat.reduceLT, Nat.reduceSub, Int.reduceEq, Int.reduceLE, Int.reduceToNat, reduceCtorEq, reduceIte, Nat.reduceBEq, Int.reduceNeg, not_true, not_false_iff, true_and, and_true, true_or, or_true, false_or, or_false, forall_const, implies_true, Nat.le_refl, Int.toNat_natCast, Int.reduceLT, ne_eq, Fin.isValue, Nat.add_zero, nC_hrw, nS_hrw, nC_hwr, nS_hwr, hkd_hrw, hkd_hwr, fin4_0, fin4_1, fin4_2, fin4_3, fin2_0, fin2_1, ci0, ci1, cnn, false_implies, w32_eq, w64_eq]
    try simp (disch := omega) only [yc_lt, yc_le, yc_gt, yc_ge, yc_eq, w32_eq, w64_eq, tn_add, tn_mul, Int.toNat_natCast, Int.reduceToNat, not_true, not_false_iff, false_implies, forall_const, implies_true]
    repeat' (with_reducible first | apply And.intro | intro _)
    all_goals try omega
    all_goals try simp (disch := omega) only [w32_eq, w64_eq, tn_add, tn_mul, Int.toNat_natCast, Int.reduceToNat, Option.some.injEq, Sum.inr.injEq, Sum.inl.injEq]
    all_goals try omega
    all_goals exact hfin
end
