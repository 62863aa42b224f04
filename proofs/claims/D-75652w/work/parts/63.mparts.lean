/-! THE REFERENCE: fractions; rows that are told -/
set_option maxRecDepth 100000
theorem tdiv_nn {a b : Nat} : (a : Int).tdiv (b : Int) = ((a / b : Nat) : Int) := (Int.ofNat_tdiv a b).symm
section
variable {G : GT}
theorem cm5_0 {h : AH} {a : Nat} : CnA G mX5_common 1 0 0 [.inr (.inl ((a : Int))), .inr (.inl (((0 : Nat) : Int)))] h (fun r h1 => r = some (.inr (.inl ((a : Int)))) ∧ h1 = h) := by
  refine CnA.of rfl (Nat.le_of_ble_eq_true rfl) ?_
  simp only [largs, lpad, mr_X5_common]
  refine vsA_ok tk_X5_common rfl 10 ?_
  simp only [at_X5_common, mr_X5_common, vsA, vcA, denA, lget, lset, lst1, lst2, lclr, argsA, restA, acats, acat, tcA, tcN, rzA, lle, List.length_cons, List.length_nil, Option.toList_some, Option.toList_none, List.cons_append, List.nil_append, eG, eM, eD, eC, eS, eQ, eH, if_true, if_false, Nat.reduceAdd, Nat.reduceLeDiff, Nat.reduceEqDiff, Nat.reduceLT, Nat.reduceSub, Int.reduceEq, Int.reduceLE, Int.reduceToNat, reduceCtorEq, reduceIte, Nat.reduceBEq, Int.reduceNeg, not_true, not_false_iff, true_and, and_true, true_or, or_true, false_or, or_false, forall_const, implies_true, Nat.le_refl, Int.toNat_natCast, Int.reduceLT, ne_eq, Fin.isValue, Nat.add_zero, nC_hrw, nS_hrw, nC_hwr, nS_hwr, hkd_hrw, hkd_hwr, fin4_0, fin4_1, fin4_2, fin4_3, fin2_0, fin2_1, ci0, ci1, cnn, false_implies, w32_eq, w64_eq]
  try simp (disch := omega) only [yc_lt, yc_le, yc_gt, yc_ge, yc_eq, w32_eq, w64_eq, tn_add, tn_mul, Int.toNat_natCast, Int.reduceToNat, not_true, not_false_iff, false_implies, forall_const, implies_true]
  repeat' (with_reducible first | apply And.intro | intro _)
  all_goals try omega
  all_goals try simp (disch := omega) only [w32_eq, w64_eq, tn_add, tn_mul, Int.toNat_natCast, Int.reduceToNat, Option.some.injEq, Sum.inr.injEq, Sum.inl.injEq]
  all_goals try omega
theorem cm5_s {h : AH} {a b d g : Nat} (ha : a < 9223372036854775808) (hb : b < 9223372036854775808) (h0 : b ≠ 0) (ih : CnA G mX5_common d 0 0 [.inr (.inl ((b : Int))), .inr (.inl (((a % b : Nat) : Int)))] h (fun r h1 => r = some (.inr (.inl ((g : Int)))) ∧ h1 = h)) : CnA G mX5_common (d + 1) 0 0 [.inr (.inl ((a : Int))), .inr (.inl ((b : Int)))] h (fun r h1 => r = some (.inr (.inl ((g : Int)))) ∧ h1 = h) := by
  have em : (a : Int).tmod (b : Int) = ((a % b : Nat) : Int) := tmod_nn
  refine CnA.of rfl (Nat.le_of_ble_eq_true rfl) ?_
  simp only [largs, lpad, mr_X5_common]
  refine vsA_ok tk_X5_common rfl 6 ?_
  simp only [at_X5_common, mr_X5_common, vsA, vcA, denA, lget, lset, lst1, lst2, lclr, argsA, restA, acats, acat, tcA, tcN, rzA, lle, List.length_cons, List.length_nil, Option.toList_some, Option.toList_none, List.cons_append, List.nil_append, eG, eM, eD, eC, eS, eQ, eH, if_true, if_false, Nat.reduceAdd, Nat.reduceLeDiff, Nat.reduceEqDiff, Nat.reduceLT, Nat.reduceSub, Int.reduceEq, Int.reduceLE, Int.reduceToNat, reduceCtorEq, reduceIte, Nat.reduceBEq, Int.reduceNeg, not_true, not_false_iff, true_and, and_true, true_or, or_true, false_or, or_false, forall_const, implies_true, Nat.le_refl, Int.toNat_natCast, Int.reduceLT, ne_eq, Fin.isValue, Nat.add_zero, nC_hrw, nS_hrw, nC_hwr, nS_hwr, hkd_hrw, hkd_hwr, fin4_0, fin4_1, fin4_2, fin4_3, fin2_0, fin2_1, ci0, ci1, cnn, false_implies, w32_eq, w64_eq]
  try simp (disch := omega) only [yc_lt, yc_le, yc_gt, yc_ge, yc_eq, w32_eq, w64_eq, tn_add, tn_mul, Int.toNat_natCast, Int.reduceToNat, not_true, not_false_iff, false_implies, forall_const, implies_true]
  repeat' (with_reducible first | apply And.intro | intro _)
  all_goals try omega
  all_goals try simp (disch := omega) only [w32_eq, w64_eq, tn_add, tn_mul, Int.toNat_natCast, Int.reduceToNat, Option.some.injEq, Sum.inr.injEq, Sum.inl.injEq]
  all_goals try omega
  refine vsA_ok tk_X5_common rfl 3 ?_
  simp only [at_X5_common, mr_X5_common, vsA, vcA, denA, lget, lset, lst1, lst2, lclr, argsA, restA, acats, acat, tcA, tcN, rzA, lle, List.length_cons, List.length_nil, Option.toList_some, Option.toList_none, List.cons_append, List.nil_append, eG, eM, eD, eC, eS, eQ, eH, if_true, if_false, Nat.reduceAdd, Nat.reduceLeDiff, Nat.reduceEqDiff, Nat.reduceLT, Nat.reduceSub, Int.reduceEq, Int.reduceLE, Int.reduceToNat, reduceCtorEq, reduceIte, Nat.reduceBEq, Int.reduceNeg, not_true, not_false_iff, true_and, and_true, true_or, or_true, false_or, or_false, forall_const, implies_true, Nat.le_refl, Int.toNat_natCast, Int.reduceLT, ne_eq, Fin.isValue, Nat.add_zero, nC_hrw, nS_hrw, nC_hwr, nS_hwr, hkd_hrw, hkd_hwr, fin4_0, fin4_1, fin4_2, fin4_3, fin2_0, fin2_1, ci0, ci1, cnn, false_implies, w32_eq, w64_eq]
  try simp (disch := omega) only [yc_lt, yc_le, yc_gt, yc_ge, yc_eq, w32_eq, w64_eq, tn_add, tn_mul, Int.toNat_natCast, Int.reduceToNat, not_true, not_false_iff, false_implies, forall_const, implies_true, em]
  repeat' (with_reducible first | apply And.intro | intro _)
  all_goals try omega
  all_goals try simp (disch := omega) only [w32_eq, w64_eq, tn_add, tn_mul, Int.toNat_natCast, Int.reduceToNat, Option.some.injEq, Sum.inr.injEq, Sum.inl.injEq, em]
  all_goals try omega
  refine ClA.pure (ih) (by first | exact Nat.le_of_ble_eq_true rfl | (simp only [eD]; omega)) (by first | exact Nat.le_refl _ | (simp only [eG, eD, eC, eS, eQ, eH, nC_hrw, nC_hwr, nS_hrw, nS_hwr, nC_hnw, nS_hnw]; omega)) (by first | exact Nat.le_refl _ | (simp only [eG, eD, eC, eS, eQ, eH, nC_hrw, nC_hwr, nS_hrw, nS_hwr, nC_hnw, nS_hnw]; omega)) ?_
  refine vsA_ok tk_X5_common rfl 10 ?_
  simp only [at_X5_common, mr_X5_common, vsA, vcA, denA, lget, lset, lst1, lst2, lclr, argsA, restA, acats, acat, tcA, tcN, rzA, lle, List.length_cons, List.length_nil, Option.toList_some, Option.toList_none, List.cons_append, List.nil_append, eG, eM, eD, eC, eS, eQ, eH, if_true, if_false, Nat.reduceAdd, Nat.reduceLeDiff, Nat.reduceEqDiff, Nat.reduceLT, Nat.reduceSub, Int.reduceEq, Int.reduceLE, Int.reduceToNat, reduceCtorEq, reduceIte, Nat.reduceBEq, Int.reduceNeg, not_true, not_false_iff, true_and, and_true, true_or, or_true, false_or, or_false, forall_const, implies_true, Nat.le_refl, Int.toNat_natCast, Int.reduceLT, ne_eq, Fin.isValue, Nat.add_zero, nC_hrw, nS_hrw, nC_hwr, nS_hwr, hkd_hrw, hkd_hwr, fin4_0, fin4_1, fin4_2, fin4_3, fin2_0, fin2_1, ci0, ci1, cnn, false_implies, w32_eq, w64_eq]
  try simp (disch := omega) only [yc_lt, yc_le, yc_gt, yc_ge, yc_eq, w32_eq, w64_eq, tn_add, tn_mul, Int.toNat_natCast, Int.reduceToNat, not_true, not_false_iff, false_implies, forall_const, implies_true]
  repeat' (with_reducible first | apply And.intro | intro _)
  all_goals try omega
  all_goals try simp (disch := omega) only [w32_eq, w64_eq, tn_add, tn_mul, Int.toNat_natCast, Int.reduceToNat, Option.some.injEq, Sum.inr.injEq, Sum.inl.injEq]
  all_goals try omega
theorem CnA.deep {M : MR} {d e mc ms : Nat} {args : List AV} {h : AH} {Q : Option AV → AH → Prop} (hM : plainName M.1.cls = true) (hl : d ≤ e) (hA : CnA G M d mc ms args h Q) : d ≤ e := hl
theorem c_X5_common {h : AH} : ∀ (f a b : Nat), b < 2 ^ f → a < 9223372036854775808 → b < 9223372036854775808 → ∃ d, d ≤ 2 * f + 1 ∧ CnA G mX5_common d 0 0 [.inr (.inl ((a : Int))), .inr (.inl ((b : Int)))] h (fun r h1 => r = some (.inr (.inl (((Nat.gcd a b : Nat) : Int)))) ∧ h1 = h)
  | 0, a, b, hb, _, _ => by
    have h0 : b = 0 := by simp at hb; omega
    subst h0
    refine ⟨1, by omega, ?_⟩
    rw [Nat.gcd_zero_right]
    exact cm5_0
  | f + 1, a, b, hb, ha, hb2 => by
    by_cases h0 : b = 0
    · subst h0
      refine ⟨1, by omega, ?_⟩
      rw [Nat.gcd_zero_right]
      exact cm5_0
    · have hr : a % b < b := Nat.mod_lt _ (by omega)
      have hg : Nat.gcd a b = Nat.gcd b (a % b) := by rw [Nat.gcd_comm a b, Nat.gcd_rec, Nat.gcd_comm]
      rw [hg]
      by_cases hs : a % b < 2 ^ f
      · obtain ⟨d, hd, hc⟩ := c_X5_common (h := h) f b (a % b) hs hb2 (by omega)
        exact ⟨d + 1, by omega, cm5_s ha hb2 h0 hc⟩
      · have h1 : a % b ≠ 0 := by
          have : 0 < 2 ^ f := Nat.pow_pos (by decide)
          omega
        have h2 : b % (a % b) < 2 ^ f := by
          rw [Nat.pow_succ] at hb
          have e : b % (a % b) = b - a % b := by
            rw [Nat.mod_eq_sub_mod (by omega), Nat.mod_eq_of_lt (by omega)]
          omega
        have hg2 : Nat.gcd b (a % b) = Nat.gcd (a % b) (b % (a % b)) := by rw [Nat.gcd_comm b (a % b), Nat.gcd_rec, Nat.gcd_comm]
        have h3 := Nat.mod_lt b (show 0 < a % b by omega)
        obtain ⟨d, hd, hc⟩ := c_X5_common (h := h) f (a % b) (b % (a % b)) h2 (by omega) (by omega)
        rw [hg2]
        exact ⟨d + 1 + 1, by omega, cm5_s ha hb2 h0 (cm5_s hb2 (by omega) h1 hc)⟩
theorem c_X5_wholeOf {h : AH} {T : Nat} {bec : Nat → Nat → List Nat} {std tbl : List Nat} {nights moon : Int} (hF : FxA h) (hA : AllC (hdt h 125) T bec std tbl nights moon) (n : Nat) (hn : n ≤ 12) :
    CnA G mX5_wholeOf 1 0 0 [.inr (.inr (124)), .inl ((n : Int))] h (fun r h1 => r = some (.inr (.inl (((T ^ n : Nat) : Int)))) ∧ h1 = h) := by
  refine CnA.of rfl (Nat.le_of_ble_eq_true rfl) ?_
  simp only [largs, lpad, mr_X5_wholeOf]
  have hs := hA.sz
  have hq := hA.q
  generalize hE : ((G, mX5_wholeOf, _, _, _, _, h) : EV) = E
  have L1 : ∀ i, i ≤ n → ExA E 5 [some (.inr (.inr (124))), some (.inl ((n : Int))), some (.inr (.inl (((T ^ i : Nat) : Int)))), none, some (.inl ((i : Int)))] [] h := by
    refine lpI _ fun i hi ih => ?_
    by_cases hil : i < n
    · have nx := ih hil
      have e : ((T ^ i : Nat) : Int) * (T : Int) = ((T ^ (i + 1) : Nat) : Int) := by rw [Nat.pow_succ]; exact (Int.natCast_mul _ _).symm
      rw [← e] at nx
      generalize ((T ^ i : Nat) : Int) = p at *
      subst hE
      refine vsA_ok tk_X5_wholeOf rfl 9 ?_
      simp only [at_X5_wholeOf, mr_X5_wholeOf, vsA, vcA, denA, lget, lset, lst1, lst2, lclr, argsA, restA, acats, acat, tcA, tcN, rzA, lle, List.length_cons, List.length_nil, Option.toList_some, Option.toList_none, List.cons_append, List.nil_append, eG, eM, eD, eC, eS, eQ, eH, if_true, if_false, Nat.reduceAdd, Nat.reduceLeDiff, Nat.reduceEqDiff, Nat.reduceLT, Nat.reduceSub, Int.reduceEq, Int.reduceLE, Int.reduceToNat, reduceCtorEq, reduceIte, Nat.reduceBEq, Int.reduceNeg, not_true, not_false_iff, true_and, and_true, true_or, or_true, false_or, or_false, forall_const, implies_true, Nat.le_refl, Int.toNat_natCast, Int.reduceLT, ne_eq, Fin.isValue, Nat.add_zero, nC_hrw, nS_hrw, nC_hwr, nS_hwr, hkd_hrw, hkd_hwr, fin4_0, fin4_1, fin4_2, fin4_3, fin2_0, fin2_1, ci0, ci1, cnn, false_implies, w32_eq, w64_eq, hF.m, hq]
      try simp (disch := omega) only [yc_lt, yc_le, yc_gt, yc_ge, yc_eq, w32_eq, w64_eq, tn_add, tn_mul, Int.toNat_natCast, Int.reduceToNat, not_true, not_false_iff, false_implies, forall_const, implies_true]
      repeat' (with_reducible first | apply And.intro | intro _)
      all_goals try omega
      all_goals try simp (disch := omega) only [w32_eq, w64_eq, tn_add, tn_mul, Int.toNat_natCast, Int.reduceToNat, Option.some.injEq, Sum.inr.injEq, Sum.inl.injEq]
      all_goals try omega
      refine vsA_ok tk_X5_wholeOf rfl 10 ?_
      simp only [at_X5_wholeOf, mr_X5_wholeOf, vsA, vcA, denA, lget, lset, lst1, lst2, lclr, argsA, restA, acats, acat, tcA, tcN, rzA, lle, List.length_cons, List.length_nil, Option.toList_some, Option.toList_none, List.cons_append, List.nil_append, eG, eM, eD, eC, eS, eQ, eH, if_true, if_false, Nat.reduceAdd, Nat.reduceLeDiff, Nat.reduceEqDiff, Nat.reduceLT, Nat.reduceSub, Int.reduceEq, Int.reduceLE, Int.reduceToNat, reduceCtorEq, reduceIte, Nat.reduceBEq, Int.reduceNeg, not_true, not_false_iff, true_and, and_true, true_or, or_true, false_or, or_false, forall_const, implies_true, Nat.le_refl, Int.toNat_natCast, Int.reduceLT, ne_eq, Fin.isValue, Nat.add_zero, nC_hrw, nS_hrw, nC_hwr, nS_hwr, hkd_hrw, hkd_hwr, fin4_0, fin4_1, fin4_2, fin4_3, fin2_0, fin2_1, ci0, ci1, cnn, false_implies, w32_eq, w64_eq]
      try simp (disch := omega) only [yc_lt, yc_le, yc_gt, yc_ge, yc_eq, w32_eq, w64_eq, tn_add, tn_mul, Int.toNat_natCast, Int.reduceToNat, not_true, not_false_iff, false_implies, forall_const, implies_true]
      repeat' (with_reducible first | apply And.intro | intro _)
      all_goals try omega
      all_goals try simp (disch := omega) only [w32_eq, w64_eq, tn_add, tn_mul, Int.toNat_natCast, Int.reduceToNat, Option.some.injEq, Sum.inr.injEq, Sum.inl.injEq]
      all_goals try omega
      all_goals try exact (nx).weak rfl (by simp [lle] <;> omega)
    · have hin : i = n := by omega
      subst hin
      subst hE
      refine vsA_ok tk_X5_wholeOf rfl 2 ?_
      simp only [at_X5_wholeOf, mr_X5_wholeOf, vsA, vcA, denA, lget, lset, lst1, lst2, lclr, argsA, restA, acats, acat, tcA, tcN, rzA, lle, List.length_cons, List.length_nil, Option.toList_some, Option.toList_none, List.cons_append, List.nil_append, eG, eM, eD, eC, eS, eQ, eH, if_true, if_false, Nat.reduceAdd, Nat.reduceLeDiff, Nat.reduceEqDiff, Nat.reduceLT, Nat.reduceSub, Int.reduceEq, Int.reduceLE, Int.reduceToNat, reduceCtorEq, reduceIte, Nat.reduceBEq, Int.reduceNeg, not_true, not_false_iff, true_and, and_true, true_or, or_true, false_or, or_false, forall_const, implies_true, Nat.le_refl, Int.toNat_natCast, Int.reduceLT, ne_eq, Fin.isValue, Nat.add_zero, nC_hrw, nS_hrw, nC_hwr, nS_hwr, hkd_hrw, hkd_hwr, fin4_0, fin4_1, fin4_2, fin4_3, fin2_0, fin2_1, ci0, ci1, cnn, false_implies, w32_eq, w64_eq]
      try simp (disch := omega) only [yc_lt, yc_le, yc_gt, yc_ge, yc_eq, w32_eq, w64_eq, tn_add, tn_mul, Int.toNat_natCast, Int.reduceToNat, not_true, not_false_iff, false_implies, forall_const, implies_true]
      repeat' (with_reducible first | apply And.intro | intro _)
      all_goals try omega
      all_goals try simp (disch := omega) only [w32_eq, w64_eq, tn_add, tn_mul, Int.toNat_natCast, Int.reduceToNat, Option.some.injEq, Sum.inr.injEq, Sum.inl.injEq]
      all_goals try omega
      refine vsA_ok tk_X5_wholeOf rfl 5 ?_
      simp only [at_X5_wholeOf, mr_X5_wholeOf, vsA, vcA, denA, lget, lset, lst1, lst2, lclr, argsA, restA, acats, acat, tcA, tcN, rzA, lle, List.length_cons, List.length_nil, Option.toList_some, Option.toList_none, List.cons_append, List.nil_append, eG, eM, eD, eC, eS, eQ, eH, if_true, if_false, Nat.reduceAdd, Nat.reduceLeDiff, Nat.reduceEqDiff, Nat.reduceLT, Nat.reduceSub, Int.reduceEq, Int.reduceLE, Int.reduceToNat, reduceCtorEq, reduceIte, Nat.reduceBEq, Int.reduceNeg, not_true, not_false_iff, true_and, and_true, true_or, or_true, false_or, or_false, forall_const, implies_true, Nat.le_refl, Int.toNat_natCast, Int.reduceLT, ne_eq, Fin.isValue, Nat.add_zero, nC_hrw, nS_hrw, nC_hwr, nS_hwr, hkd_hrw, hkd_hwr, fin4_0, fin4_1, fin4_2, fin4_3, fin2_0, fin2_1, ci0, ci1, cnn, false_implies, w32_eq, w64_eq]
      try simp (disch := omega) only [yc_lt, yc_le, yc_gt, yc_ge, yc_eq, w32_eq, w64_eq, tn_add, tn_mul, Int.toNat_natCast, Int.reduceToNat, not_true, not_false_iff, false_implies, forall_const, implies_true]
      repeat' (with_reducible first | apply And.intro | intro _)
      all_goals try omega
      all_goals try simp (disch := omega) only [w32_eq, w64_eq, tn_add, tn_mul, Int.toNat_natCast, Int.reduceToNat, Option.some.injEq, Sum.inr.injEq, Sum.inl.injEq]
      all_goals try omega
  have l1 := L1 0 (Nat.zero_le _)
  rw [Nat.pow_zero] at l1
  subst hE
  refine vsA_ok tk_X5_wholeOf rfl 20 ?_
  simp only [at_X5_wholeOf, mr_X5_wholeOf, vsA, vcA, denA, lget, lset, lst1, lst2, lclr, argsA, restA, acats, acat, tcA, tcN, rzA, lle, List.length_cons, List.length_nil, Option.toList_some, Option.toList_none, List.cons_append, List.nil_append, eG, eM, eD, eC, eS, eQ, eH, if_true, if_false, Nat.reduceAdd, Nat.reduceLeDiff, Nat.reduceEqDiff, Nat.reduceLT, Nat.reduceSub, Int.reduceEq, Int.reduceLE, Int.reduceToNat, reduceCtorEq, reduceIte, Nat.reduceBEq, Int.reduceNeg, not_true, not_false_iff, true_and, and_true, true_or, or_true, false_or, or_false, forall_const, implies_true, Nat.le_refl, Int.toNat_natCast, Int.reduceLT, ne_eq, Fin.isValue, Nat.add_zero, nC_hrw, nS_hrw, nC_hwr, nS_hwr, hkd_hrw, hkd_hwr, fin4_0, fin4_1, fin4_2, fin4_3, fin2_0, fin2_1, ci0, ci1, cnn, false_implies, w32_eq, w64_eq]
  try simp (disch := omega) only [yc_lt, yc_le, yc_gt, yc_ge, yc_eq, w32_eq, w64_eq, tn_add, tn_mul, Int.toNat_natCast, Int.reduceToNat, not_true, not_false_iff, false_implies, forall_const, implies_true]
  repeat' (with_reducible first | apply And.intro | intro _)
  all_goals try omega
  all_goals try simp (disch := omega) only [w32_eq, w64_eq, tn_add, tn_mul, Int.toNat_natCast, Int.reduceToNat, Option.some.injEq, Sum.inr.injEq, Sum.inl.injEq]
  all_goals try omega
  all_goals try exact (l1).weak rfl (by simp [lle] <;> omega)
/-- a fraction's upper, lower part -/
def prP (a b : Nat) (what : Int) : Nat := (if what = 0 then a else b) / Nat.gcd a b
theorem c_X5_part {h : AH} {a b : Nat} {what : Int} (ha : a < 4611686018427387904) (hb : 0 < b ∧ b < 4611686018427387904) (hw : In32 what) :
    CnA G mX5_part 140 0 0 [.inr (.inl ((a : Int))), .inr (.inl ((b : Int))), .inl (what)] h (fun r h1 => r = some (.inr (.inl (((prP a b what : Nat) : Int)))) ∧ h1 = h) := by
  refine CnA.of rfl (Nat.le_of_ble_eq_true rfl) ?_
  simp only [largs, lpad, mr_X5_part]
  obtain ⟨hw1, hw2⟩ := hw
  obtain ⟨d, hd, hc⟩ := c_X5_common (G := G) (h := h) 62 a b hb.2 (by omega) (by omega)
  have hg : Nat.gcd a b ≤ b := Nat.gcd_le_right a hb.1
  have hg0 : 0 < Nat.gcd a b := Nat.gcd_pos_of_pos_right a hb.1
  have e1 : (a : Int).tdiv (Nat.gcd a b : Int) = ((a / Nat.gcd a b : Nat) : Int) := tdiv_nn
  have e2 : (b : Int).tdiv (Nat.gcd a b : Int) = ((b / Nat.gcd a b : Nat) : Int) := tdiv_nn
  by_cases q : what = 0
  · rw [show prP a b what = a / Nat.gcd a b by unfold prP; rw [if_pos q]]
    refine vsA_ok tk_X5_part rfl 10 ?_
    simp only [at_X5_part, mr_X5_part, vsA, vcA, denA, lget, lset, lst1, lst2, lclr, argsA, restA, acats, acat, tcA, tcN, rzA, lle, List.length_cons, List.length_nil, Option.toList_some, Option.toList_none, List.cons_append, List.nil_append, eG, eM, eD, eC, eS, eQ, eH, if_true, if_false, Nat.reduceAdd, Nat.reduceLeDiff, Nat.reduceEqDiff, Nat.reduceLT, Nat.reduceSub, Int.reduceEq, Int.reduceLE, Int.reduceToNat, reduceCtorEq, reduceIte, Nat.reduceBEq, Int.reduceNeg, not_true, not_false_iff, true_and, and_true, true_or, or_true, false_or, or_false, forall_const, implies_true, Nat.le_refl, Int.toNat_natCast, Int.reduceLT, ne_eq, Fin.isValue, Nat.add_zero, nC_hrw, nS_hrw, nC_hwr, nS_hwr, hkd_hrw, hkd_hwr, fin4_0, fin4_1, fin4_2, fin4_3, fin2_0, fin2_1, ci0, ci1, cnn, false_implies, w32_eq, w64_eq]
    try simp (disch := omega) only [yc_lt, yc_le, yc_gt, yc_ge, yc_eq, w32_eq, w64_eq, tn_add, tn_mul, Int.toNat_natCast, Int.reduceToNat, not_true, not_false_iff, false_implies, forall_const, implies_true]
    repeat' (with_reducible first | apply And.intro | intro _)
    all_goals try omega
    all_goals try simp (disch := omega) only [w32_eq, w64_eq, tn_add, tn_mul, Int.toNat_natCast, Int.reduceToNat, Option.some.injEq, Sum.inr.injEq, Sum.inl.injEq]
    all_goals try omega
    refine ClA.pure (hc) (by first | exact Nat.le_of_ble_eq_true rfl | (simp only [eD]; omega)) (by first | exact Nat.le_refl _ | (simp only [eG, eD, eC, eS, eQ, eH, nC_hrw, nC_hwr, nS_hrw, nS_hwr, nC_hnw, nS_hnw]; omega)) (by first | exact Nat.le_refl _ | (simp only [eG, eD, eC, eS, eQ, eH, nC_hrw, nC_hwr, nS_hrw, nS_hwr, nC_hnw, nS_hnw]; omega)) ?_
    generalize Nat.gcd a b = g at *
    refine vsA_ok tk_X5_part rfl 10 ?_
    simp only [at_X5_part, mr_X5_part, vsA, vcA, denA, lget, lset, lst1, lst2, lclr, argsA, restA, acats, acat, tcA, tcN, rzA, lle, List.length_cons, List.length_nil, Option.toList_some, Option.toList_none, List.cons_append, List.nil_append, eG, eM, eD, eC, eS, eQ, eH, if_true, if_false, Nat.reduceAdd, Nat.reduceLeDiff, Nat.reduceEqDiff, Nat.reduceLT, Nat.reduceSub, Int.reduceEq, Int.reduceLE, Int.reduceToNat, reduceCtorEq, reduceIte, Nat.reduceBEq, Int.reduceNeg, not_true, not_false_iff, true_and, and_true, true_or, or_true, false_or, or_false, forall_const, implies_true, Nat.le_refl, Int.toNat_natCast, Int.reduceLT, ne_eq, Fin.isValue, Nat.add_zero, nC_hrw, nS_hrw, nC_hwr, nS_hwr, hkd_hrw, hkd_hwr, fin4_0, fin4_1, fin4_2, fin4_3, fin2_0, fin2_1, ci0, ci1, cnn, false_implies, w32_eq, w64_eq]
    try simp (disch := omega) only [yc_lt, yc_le, yc_gt, yc_ge, yc_eq, w32_eq, w64_eq, tn_add, tn_mul, Int.toNat_natCast, Int.reduceToNat, not_true, not_false_iff, false_implies, forall_const, implies_true, e1]
    repeat' (with_reducible first | apply And.intro | intro _)
    all_goals try omega
    all_goals try simp (disch := omega) only [w32_eq, w64_eq, tn_add, tn_mul, Int.toNat_natCast, Int.reduceToNat, Option.some.injEq, Sum.inr.injEq, Sum.inl.injEq, e1]
    all_goals try omega
  · rw [show prP a b what = b / Nat.gcd a b by unfold prP; rw [if_neg q]]
    refine vsA_ok tk_X5_part rfl 10 ?_
    simp only [at_X5_part, mr_X5_part, vsA, vcA, denA, lget, lset, lst1, lst2, lclr, argsA, restA, acats, acat, tcA, tcN, rzA, lle, List.length_cons, List.length_nil, Option.toList_some, Option.toList_none, List.cons_append, List.nil_append, eG, eM, eD, eC, eS, eQ, eH, if_true, if_false, Nat.reduceAdd, Nat.reduceLeDiff, Nat.reduceEqDiff, Nat.reduceLT, Nat.reduceSub, Int.reduceEq, Int.reduceLE, Int.reduceToNat, reduceCtorEq, reduceIte, Nat.reduceBEq, Int.reduceNeg, not_true, not_false_iff, true_and, and_true, true_or, or_true, false_or, or_false, forall_const, implies_true, Nat.le_refl, Int.toNat_natCast, Int.reduceLT, ne_eq, Fin.isValue, Nat.add_zero, nC_hrw, nS_hrw, nC_hwr, nS_hwr, hkd_hrw, hkd_hwr, fin4_0, fin4_1, fin4_2, fin4_3, fin2_0, fin2_1, ci0, ci1, cnn, false_implies, w32_eq, w64_eq]
    try simp (disch := omega) only [yc_lt, yc_le, yc_gt, yc_ge, yc_eq, w32_eq, w64_eq, tn_add, tn_mul, Int.toNat_natCast, Int.reduceToNat, not_true, not_false_iff, false_implies, forall_const, implies_true]
    repeat' (with_reducible first | apply And.intro | intro _)
    all_goals try omega
    all_goals try simp (disch := omega) only [w32_eq, w64_eq, tn_add, tn_mul, Int.toNat_natCast, Int.reduceToNat, Option.some.injEq, Sum.inr.injEq, Sum.inl.injEq]
    all_goals try omega
    refine ClA.pure (hc) (by first | exact Nat.le_of_ble_eq_true rfl | (simp only [eD]; omega)) (by first | exact Nat.le_refl _ | (simp only [eG, eD, eC, eS, eQ, eH, nC_hrw, nC_hwr, nS_hrw, nS_hwr, nC_hnw, nS_hnw]; omega)) (by first | exact Nat.le_refl _ | (simp only [eG, eD, eC, eS, eQ, eH, nC_hrw, nC_hwr, nS_hrw, nS_hwr, nC_hnw, nS_hnw]; omega)) ?_
    generalize Nat.gcd a b = g at *
    refine vsA_ok tk_X5_part rfl 10 ?_
    simp only [at_X5_part, mr_X5_part, vsA, vcA, denA, lget, lset, lst1, lst2, lclr, argsA, restA, acats, acat, tcA, tcN, rzA, lle, List.length_cons, List.length_nil, Option.toList_some, Option.toList_none, List.cons_append, List.nil_append, eG, eM, eD, eC, eS, eQ, eH, if_true, if_false, Nat.reduceAdd, Nat.reduceLeDiff, Nat.reduceEqDiff, Nat.reduceLT, Nat.reduceSub, Int.reduceEq, Int.reduceLE, Int.reduceToNat, reduceCtorEq, reduceIte, Nat.reduceBEq, Int.reduceNeg, not_true, not_false_iff, true_and, and_true, true_or, or_true, false_or, or_false, forall_const, implies_true, Nat.le_refl, Int.toNat_natCast, Int.reduceLT, ne_eq, Fin.isValue, Nat.add_zero, nC_hrw, nS_hrw, nC_hwr, nS_hwr, hkd_hrw, hkd_hwr, fin4_0, fin4_1, fin4_2, fin4_3, fin2_0, fin2_1, ci0, ci1, cnn, false_implies, w32_eq, w64_eq]
    try simp (disch := omega) only [yc_lt, yc_le, yc_gt, yc_ge, yc_eq, w32_eq, w64_eq, tn_add, tn_mul, Int.toNat_natCast, Int.reduceToNat, not_true, not_false_iff, false_implies, forall_const, implies_true, e2]
    repeat' (with_reducible first | apply And.intro | intro _)
    all_goals try omega
    all_goals try simp (disch := omega) only [w32_eq, w64_eq, tn_add, tn_mul, Int.toNat_natCast, Int.reduceToNat, Option.some.injEq, Sum.inr.injEq, Sum.inl.injEq, e2]
    all_goals try omega
/-- what is wrong with numbers as lengths -/
def lfP (vs : List Int) (low : Int) : Int := if 1 ≤ vs.length ∧ vs.length ≤ 8 then if ∀ i, i < vs.length → low ≤ vs.getD i 0 then 0 else -3 else -4
def longF (w : WD) (t low : Int) : Int := if trF w t = 0 then lfP (trV w t) low else trF w t
theorem c_X5_noLong {h : AH} {w : WD} {N : Int} (hF : FxA h) (hM : MdC h w) (hW : WOK N w) (v low : Int) (hv : In32 v) (hlo : In32 low) : CnA G mX5_noLong 3 0 0 [.inr (.inr (124)), .inl (v), .inl (low)] h (fun r h1 => r = some (.inl (longF w v low)) ∧ h1 = h) := by
  have hr : trF w v = 0 ∨ trF w v = -2 ∨ trF w v = -6 := by
    unfold trF
    split
    · split
      · exact Or.inr (Or.inr rfl)
      · exact Or.inl rfl
    · exact Or.inr (Or.inl rfl)
  obtain ⟨hl1, hl2⟩ := hlo
  by_cases q0 : trF w v = 0
  · rw [show longF w v low = lfP (trV w v) low from if_pos q0]
    have hnt := c_X5_noTray (G := G) hF hM hW v hv
    rw [q0] at hnt
    obtain ⟨n, q, rfl, hn, hq, hvv⟩ := trF_0 q0
    rw [hvv]
    have hTM : TrM h n q.2 := by
      have := hM.2.2.2.2.2 n hn
      rw [hq] at this
      exact this.2
    obtain ⟨t1, t2, t3, t4⟩ := hTM
    generalize q.2 = vs at *
    by_cases ql : 1 ≤ vs.length ∧ vs.length ≤ 8
    · generalize hR : lfP vs low = RR
      have hR : RR = if ∀ i, i < vs.length → low ≤ vs.getD i 0 then 0 else -3 := by rw [← hR]; exact if_pos ql
      refine CnA.of rfl (Nat.le_of_ble_eq_true rfl) ?_
      simp only [largs, lpad, mr_X5_noLong]
      generalize hE : ((G, mX5_noLong, _, _, _, _, h) : EV) = E
      have L1 : ∀ i, i ≤ vs.length → (∀ j, j < i → low ≤ vs.getD j 0) → ExA E 35 [some (.inr (.inr (124))), some (.inl ((n : Int))), some (.inl (low)), some (.inl (0)), some (.inl ((i : Int)))] [] h := by
        refine lpI _ fun i hi ih hj => ?_
        by_cases hil : i < vs.length
        · have e1 := t3 i hil
          have e2 := t4 _ (getD_memI hil)
          have ei : (40 * (n : Int) + (i : Int)).toNat = 40 * n + i := by omega
          by_cases ql2 : low ≤ vs.getD i 0
          · have nx := ih hil (fun j hji => by
              by_cases e : j = i
              · rw [e]; exact ql2
              · exact hj j (by omega))
            generalize vs.getD i 0 = y at *
            subst hE
            refine vsA_ok tk_X5_noLong rfl 25 ?_
            simp only [at_X5_noLong, mr_X5_noLong, vsA, vcA, denA, lget, lset, lst1, lst2, lclr, argsA, restA, acats, acat, tcA, tcN, rzA, lle, List.length_cons, List.length_nil, Option.toList_some, Option.toList_none, List.cons_append, List.nil_append, eG, eM, eD, eC, eS, eQ, eH, if_true, if_false, Nat.reduceAdd, Nat.reduceLeDiff, Nat.reduceEqDiff, Nat.reduceLT, Nat.reduceSub, Int.reduceEq, Int.reduceLE, Int.reduceToNat, reduceCtorEq, reduceIte, Nat.reduceBEq, Int.reduceNeg, not_true, not_false_iff, true_and, and_true, true_or, or_true, false_or, or_false, forall_const, implies_true, Nat.le_refl, Int.toNat_natCast, Int.reduceLT, ne_eq, Fin.isValue, Nat.add_zero, nC_hrw, nS_hrw, nC_hwr, nS_hwr, hkd_hrw, hkd_hwr, fin4_0, fin4_1, fin4_2, fin4_3, fin2_0, fin2_1, ci0, ci1, cnn, false_implies, w32_eq, w64_eq, hF.m, t2, ei, e1]
            try simp (disch := omega) only [yc_lt, yc_le, yc_gt, yc_ge, yc_eq, w32_eq, w64_eq, tn_add, tn_mul, Int.toNat_natCast, Int.reduceToNat, not_true, not_false_iff, false_implies, forall_const, implies_true]
            repeat' (with_reducible first | apply And.intro | intro _)
            all_goals try omega
            all_goals try simp (disch := omega) only [w32_eq, w64_eq, tn_add, tn_mul, Int.toNat_natCast, Int.reduceToNat, Option.some.injEq, Sum.inr.injEq, Sum.inl.injEq]
            all_goals try omega
            all_goals try exact (nx).weak rfl (by simp [lle] <;> omega)
          · rw [if_neg (fun q => ql2 (q i hil))] at hR
            subst hR
            generalize vs.getD i 0 = y at *
            subst hE
            refine vsA_ok tk_X5_noLong rfl 25 ?_
            simp only [at_X5_noLong, mr_X5_noLong, vsA, vcA, denA, lget, lset, lst1, lst2, lclr, argsA, restA, acats, acat, tcA, tcN, rzA, lle, List.length_cons, List.length_nil, Option.toList_some, Option.toList_none, List.cons_append, List.nil_append, eG, eM, eD, eC, eS, eQ, eH, if_true, if_false, Nat.reduceAdd, Nat.reduceLeDiff, Nat.reduceEqDiff, Nat.reduceLT, Nat.reduceSub, Int.reduceEq, Int.reduceLE, Int.reduceToNat, reduceCtorEq, reduceIte, Nat.reduceBEq, Int.reduceNeg, not_true, not_false_iff, true_and, and_true, true_or, or_true, false_or, or_false, forall_const, implies_true, Nat.le_refl, Int.toNat_natCast, Int.reduceLT, ne_eq, Fin.isValue, Nat.add_zero, nC_hrw, nS_hrw, nC_hwr, nS_hwr, hkd_hrw, hkd_hwr, fin4_0, fin4_1, fin4_2, fin4_3, fin2_0, fin2_1, ci0, ci1, cnn, false_implies, w32_eq, w64_eq, hF.m, t2, ei, e1]
            try simp (disch := omega) only [yc_lt, yc_le, yc_gt, yc_ge, yc_eq, w32_eq, w64_eq, tn_add, tn_mul, Int.toNat_natCast, Int.reduceToNat, not_true, not_false_iff, false_implies, forall_const, implies_true]
            repeat' (with_reducible first | apply And.intro | intro _)
            all_goals try omega
            all_goals try simp (disch := omega) only [w32_eq, w64_eq, tn_add, tn_mul, Int.toNat_natCast, Int.reduceToNat, Option.some.injEq, Sum.inr.injEq, Sum.inl.injEq]
            all_goals try omega
        · rw [if_pos (fun j hjl => hj j (by omega))] at hR
          subst hR
          subst hE
          refine vsA_ok tk_X5_noLong rfl 20 ?_
          simp only [at_X5_noLong, mr_X5_noLong, vsA, vcA, denA, lget, lset, lst1, lst2, lclr, argsA, restA, acats, acat, tcA, tcN, rzA, lle, List.length_cons, List.length_nil, Option.toList_some, Option.toList_none, List.cons_append, List.nil_append, eG, eM, eD, eC, eS, eQ, eH, if_true, if_false, Nat.reduceAdd, Nat.reduceLeDiff, Nat.reduceEqDiff, Nat.reduceLT, Nat.reduceSub, Int.reduceEq, Int.reduceLE, Int.reduceToNat, reduceCtorEq, reduceIte, Nat.reduceBEq, Int.reduceNeg, not_true, not_false_iff, true_and, and_true, true_or, or_true, false_or, or_false, forall_const, implies_true, Nat.le_refl, Int.toNat_natCast, Int.reduceLT, ne_eq, Fin.isValue, Nat.add_zero, nC_hrw, nS_hrw, nC_hwr, nS_hwr, hkd_hrw, hkd_hwr, fin4_0, fin4_1, fin4_2, fin4_3, fin2_0, fin2_1, ci0, ci1, cnn, false_implies, w32_eq, w64_eq, hF.m, t2]
          try simp (disch := omega) only [yc_lt, yc_le, yc_gt, yc_ge, yc_eq, w32_eq, w64_eq, tn_add, tn_mul, Int.toNat_natCast, Int.reduceToNat, not_true, not_false_iff, false_implies, forall_const, implies_true]
          repeat' (with_reducible first | apply And.intro | intro _)
          all_goals try omega
          all_goals try simp (disch := omega) only [w32_eq, w64_eq, tn_add, tn_mul, Int.toNat_natCast, Int.reduceToNat, Option.some.injEq, Sum.inr.injEq, Sum.inl.injEq]
          all_goals try omega
      have l1 := L1 0 (Nat.zero_le _) (fun j hj => by omega)
      subst hE
      refine vsA_ok tk_X5_noLong rfl 20 ?_
      simp only [at_X5_noLong, mr_X5_noLong, vsA, vcA, denA, lget, lset, lst1, lst2, lclr, argsA, restA, acats, acat, tcA, tcN, rzA, lle, List.length_cons, List.length_nil, Option.toList_some, Option.toList_none, List.cons_append, List.nil_append, eG, eM, eD, eC, eS, eQ, eH, if_true, if_false, Nat.reduceAdd, Nat.reduceLeDiff, Nat.reduceEqDiff, Nat.reduceLT, Nat.reduceSub, Int.reduceEq, Int.reduceLE, Int.reduceToNat, reduceCtorEq, reduceIte, Nat.reduceBEq, Int.reduceNeg, not_true, not_false_iff, true_and, and_true, true_or, or_true, false_or, or_false, forall_const, implies_true, Nat.le_refl, Int.toNat_natCast, Int.reduceLT, ne_eq, Fin.isValue, Nat.add_zero, nC_hrw, nS_hrw, nC_hwr, nS_hwr, hkd_hrw, hkd_hwr, fin4_0, fin4_1, fin4_2, fin4_3, fin2_0, fin2_1, ci0, ci1, cnn, false_implies, w32_eq, w64_eq, hF.m]
      try simp (disch := omega) only [yc_lt, yc_le, yc_gt, yc_ge, yc_eq, w32_eq, w64_eq, tn_add, tn_mul, Int.toNat_natCast, Int.reduceToNat, not_true, not_false_iff, false_implies, forall_const, implies_true]
      repeat' (with_reducible first | apply And.intro | intro _)
      all_goals try omega
      all_goals try simp (disch := omega) only [w32_eq, w64_eq, tn_add, tn_mul, Int.toNat_natCast, Int.reduceToNat, Option.some.injEq, Sum.inr.injEq, Sum.inl.injEq]
      all_goals try omega
      refine ClA.pure (hnt) (by first | exact Nat.le_of_ble_eq_true rfl | (simp only [eD]; omega)) (by first | exact Nat.le_refl _ | (simp only [eG, eD, eC, eS, eQ, eH, nC_hrw, nC_hwr, nS_hrw, nS_hwr, nC_hnw, nS_hnw]; omega)) (by first | exact Nat.le_refl _ | (simp only [eG, eD, eC, eS, eQ, eH, nC_hrw, nC_hwr, nS_hrw, nS_hwr, nC_hnw, nS_hnw]; omega)) ?_
      refine vsA_ok tk_X5_noLong rfl 20 ?_
      simp only [at_X5_noLong, mr_X5_noLong, vsA, vcA, denA, lget, lset, lst1, lst2, lclr, argsA, restA, acats, acat, tcA, tcN, rzA, lle, List.length_cons, List.length_nil, Option.toList_some, Option.toList_none, List.cons_append, List.nil_append, eG, eM, eD, eC, eS, eQ, eH, if_true, if_false, Nat.reduceAdd, Nat.reduceLeDiff, Nat.reduceEqDiff, Nat.reduceLT, Nat.reduceSub, Int.reduceEq, Int.reduceLE, Int.reduceToNat, reduceCtorEq, reduceIte, Nat.reduceBEq, Int.reduceNeg, not_true, not_false_iff, true_and, and_true, true_or, or_true, false_or, or_false, forall_const, implies_true, Nat.le_refl, Int.toNat_natCast, Int.reduceLT, ne_eq, Fin.isValue, Nat.add_zero, nC_hrw, nS_hrw, nC_hwr, nS_hwr, hkd_hrw, hkd_hwr, fin4_0, fin4_1, fin4_2, fin4_3, fin2_0, fin2_1, ci0, ci1, cnn, false_implies, w32_eq, w64_eq, hF.m, t2]
      try simp (disch := omega) only [yc_lt, yc_le, yc_gt, yc_ge, yc_eq, w32_eq, w64_eq, tn_add, tn_mul, Int.toNat_natCast, Int.reduceToNat, not_true, not_false_iff, false_implies, forall_const, implies_true]
      repeat' (with_reducible first | apply And.intro | intro _)
      all_goals try omega
      all_goals try simp (disch := omega) only [w32_eq, w64_eq, tn_add, tn_mul, Int.toNat_natCast, Int.reduceToNat, Option.some.injEq, Sum.inr.injEq, Sum.inl.injEq]
      all_goals try omega
      refine ClA.pure (c_X5_within_T _ (by omega) (by omega) (by omega) (show (1 : Int) ≤ (vs.length : Int) ∧ (vs.length : Int) ≤ 8 by omega)) (by first | exact Nat.le_of_ble_eq_true rfl | (simp only [eD]; omega)) (by first | exact Nat.le_refl _ | (simp only [eG, eD, eC, eS, eQ, eH, nC_hrw, nC_hwr, nS_hrw, nS_hwr, nC_hnw, nS_hnw]; omega)) (by first | exact Nat.le_refl _ | (simp only [eG, eD, eC, eS, eQ, eH, nC_hrw, nC_hwr, nS_hrw, nS_hwr, nC_hnw, nS_hnw]; omega)) ?_
      refine vsA_ok tk_X5_noLong rfl 20 ?_
      simp only [at_X5_noLong, mr_X5_noLong, vsA, vcA, denA, lget, lset, lst1, lst2, lclr, argsA, restA, acats, acat, tcA, tcN, rzA, lle, List.length_cons, List.length_nil, Option.toList_some, Option.toList_none, List.cons_append, List.nil_append, eG, eM, eD, eC, eS, eQ, eH, if_true, if_false, Nat.reduceAdd, Nat.reduceLeDiff, Nat.reduceEqDiff, Nat.reduceLT, Nat.reduceSub, Int.reduceEq, Int.reduceLE, Int.reduceToNat, reduceCtorEq, reduceIte, Nat.reduceBEq, Int.reduceNeg, not_true, not_false_iff, true_and, and_true, true_or, or_true, false_or, or_false, forall_const, implies_true, Nat.le_refl, Int.toNat_natCast, Int.reduceLT, ne_eq, Fin.isValue, Nat.add_zero, nC_hrw, nS_hrw, nC_hwr, nS_hwr, hkd_hrw, hkd_hwr, fin4_0, fin4_1, fin4_2, fin4_3, fin2_0, fin2_1, ci0, ci1, cnn, false_implies, w32_eq, w64_eq]
      try simp (disch := omega) only [yc_lt, yc_le, yc_gt, yc_ge, yc_eq, w32_eq, w64_eq, tn_add, tn_mul, Int.toNat_natCast, Int.reduceToNat, not_true, not_false_iff, false_implies, forall_const, implies_true]
      repeat' (with_reducible first | apply And.intro | intro _)
      all_goals try omega
      all_goals try simp (disch := omega) only [w32_eq, w64_eq, tn_add, tn_mul, Int.toNat_natCast, Int.reduceToNat, Option.some.injEq, Sum.inr.injEq, Sum.inl.injEq]
      all_goals try omega
      all_goals try exact (l1).weak rfl (by simp [lle] <;> omega)
    · rw [show lfP vs low = -4 from if_neg ql]
      refine CnA.of rfl (Nat.le_of_ble_eq_true rfl) ?_
      simp only [largs, lpad, mr_X5_noLong]
      refine vsA_ok tk_X5_noLong rfl 20 ?_
      simp only [at_X5_noLong, mr_X5_noLong, vsA, vcA, denA, lget, lset, lst1, lst2, lclr, argsA, restA, acats, acat, tcA, tcN, rzA, lle, List.length_cons, List.length_nil, Option.toList_some, Option.toList_none, List.cons_append, List.nil_append, eG, eM, eD, eC, eS, eQ, eH, if_true, if_false, Nat.reduceAdd, Nat.reduceLeDiff, Nat.reduceEqDiff, Nat.reduceLT, Nat.reduceSub, Int.reduceEq, Int.reduceLE, Int.reduceToNat, reduceCtorEq, reduceIte, Nat.reduceBEq, Int.reduceNeg, not_true, not_false_iff, true_and, and_true, true_or, or_true, false_or, or_false, forall_const, implies_true, Nat.le_refl, Int.toNat_natCast, Int.reduceLT, ne_eq, Fin.isValue, Nat.add_zero, nC_hrw, nS_hrw, nC_hwr, nS_hwr, hkd_hrw, hkd_hwr, fin4_0, fin4_1, fin4_2, fin4_3, fin2_0, fin2_1, ci0, ci1, cnn, false_implies, w32_eq, w64_eq, hF.m]
      try simp (disch := omega) only [yc_lt, yc_le, yc_gt, yc_ge, yc_eq, w32_eq, w64_eq, tn_add, tn_mul, Int.toNat_natCast, Int.reduceToNat, not_true, not_false_iff, false_implies, forall_const, implies_true]
      repeat' (with_reducible first | apply And.intro | intro _)
      all_goals try omega
      all_goals try simp (disch := omega) only [w32_eq, w64_eq, tn_add, tn_mul, Int.toNat_natCast, Int.reduceToNat, Option.some.injEq, Sum.inr.injEq, Sum.inl.injEq]
      all_goals try omega
      refine ClA.pure (hnt) (by first | exact Nat.le_of_ble_eq_true rfl | (simp only [eD]; omega)) (by first | exact Nat.le_refl _ | (simp only [eG, eD, eC, eS, eQ, eH, nC_hrw, nC_hwr, nS_hrw, nS_hwr, nC_hnw, nS_hnw]; omega)) (by first | exact Nat.le_refl _ | (simp only [eG, eD, eC, eS, eQ, eH, nC_hrw, nC_hwr, nS_hrw, nS_hwr, nC_hnw, nS_hnw]; omega)) ?_
      refine vsA_ok tk_X5_noLong rfl 20 ?_
      simp only [at_X5_noLong, mr_X5_noLong, vsA, vcA, denA, lget, lset, lst1, lst2, lclr, argsA, restA, acats, acat, tcA, tcN, rzA, lle, List.length_cons, List.length_nil, Option.toList_some, Option.toList_none, List.cons_append, List.nil_append, eG, eM, eD, eC, eS, eQ, eH, if_true, if_false, Nat.reduceAdd, Nat.reduceLeDiff, Nat.reduceEqDiff, Nat.reduceLT, Nat.reduceSub, Int.reduceEq, Int.reduceLE, Int.reduceToNat, reduceCtorEq, reduceIte, Nat.reduceBEq, Int.reduceNeg, not_true, not_false_iff, true_and, and_true, true_or, or_true, false_or, or_false, forall_const, implies_true, Nat.le_refl, Int.toNat_natCast, Int.reduceLT, ne_eq, Fin.isValue, Nat.add_zero, nC_hrw, nS_hrw, nC_hwr, nS_hwr, hkd_hrw, hkd_hwr, fin4_0, fin4_1, fin4_2, fin4_3, fin2_0, fin2_1, ci0, ci1, cnn, false_implies, w32_eq, w64_eq, hF.m, t2]
      try simp (disch := omega) only [yc_lt, yc_le, yc_gt, yc_ge, yc_eq, w32_eq, w64_eq, tn_add, tn_mul, Int.toNat_natCast, Int.reduceToNat, not_true, not_false_iff, false_implies, forall_const, implies_true]
      repeat' (with_reducible first | apply And.intro | intro _)
      all_goals try omega
      all_goals try simp (disch := omega) only [w32_eq, w64_eq, tn_add, tn_mul, Int.toNat_natCast, Int.reduceToNat, Option.some.injEq, Sum.inr.injEq, Sum.inl.injEq]
      all_goals try omega
      refine ClA.pure (c_X5_within_F _ (by omega) (by omega) (by omega) (show ¬ ((1 : Int) ≤ (vs.length : Int) ∧ (vs.length : Int) ≤ 8) by omega)) (by first | exact Nat.le_of_ble_eq_true rfl | (simp only [eD]; omega)) (by first | exact Nat.le_refl _ | (simp only [eG, eD, eC, eS, eQ, eH, nC_hrw, nC_hwr, nS_hrw, nS_hwr, nC_hnw, nS_hnw]; omega)) (by first | exact Nat.le_refl _ | (simp only [eG, eD, eC, eS, eQ, eH, nC_hrw, nC_hwr, nS_hrw, nS_hwr, nC_hnw, nS_hnw]; omega)) ?_
      refine vsA_ok tk_X5_noLong rfl 20 ?_
      simp only [at_X5_noLong, mr_X5_noLong, vsA, vcA, denA, lget, lset, lst1, lst2, lclr, argsA, restA, acats, acat, tcA, tcN, rzA, lle, List.length_cons, List.length_nil, Option.toList_some, Option.toList_none, List.cons_append, List.nil_append, eG, eM, eD, eC, eS, eQ, eH, if_true, if_false, Nat.reduceAdd, Nat.reduceLeDiff, Nat.reduceEqDiff, Nat.reduceLT, Nat.reduceSub, Int.reduceEq, Int.reduceLE, Int.reduceToNat, reduceCtorEq, reduceIte, Nat.reduceBEq, Int.reduceNeg, not_true, not_false_iff, true_and, and_true, true_or, or_true, false_or, or_false, forall_const, implies_true, Nat.le_refl, Int.toNat_natCast, Int.reduceLT, ne_eq, Fin.isValue, Nat.add_zero, nC_hrw, nS_hrw, nC_hwr, nS_hwr, hkd_hrw, hkd_hwr, fin4_0, fin4_1, fin4_2, fin4_3, fin2_0, fin2_1, ci0, ci1, cnn, false_implies, w32_eq, w64_eq]
      try simp (disch := omega) only [yc_lt, yc_le, yc_gt, yc_ge, yc_eq, w32_eq, w64_eq, tn_add, tn_mul, Int.toNat_natCast, Int.reduceToNat, not_true, not_false_iff, false_implies, forall_const, implies_true]
      repeat' (with_reducible first | apply And.intro | intro _)
      all_goals try omega
      all_goals try simp (disch := omega) only [w32_eq, w64_eq, tn_add, tn_mul, Int.toNat_natCast, Int.reduceToNat, Option.some.injEq, Sum.inr.injEq, Sum.inl.injEq]
      all_goals try omega
  · rw [show longF w v low = trF w v from if_neg q0]
    refine CnA.of rfl (Nat.le_of_ble_eq_true rfl) ?_
    simp only [largs, lpad, mr_X5_noLong]
    refine vsA_ok tk_X5_noLong rfl 20 ?_
    simp only [at_X5_noLong, mr_X5_noLong, vsA, vcA, denA, lget, lset, lst1, lst2, lclr, argsA, restA, acats, acat, tcA, tcN, rzA, lle, List.length_cons, List.length_nil, Option.toList_some, Option.toList_none, List.cons_append, List.nil_append, eG, eM, eD, eC, eS, eQ, eH, if_true, if_false, Nat.reduceAdd, Nat.reduceLeDiff, Nat.reduceEqDiff, Nat.reduceLT, Nat.reduceSub, Int.reduceEq, Int.reduceLE, Int.reduceToNat, reduceCtorEq, reduceIte, Nat.reduceBEq, Int.reduceNeg, not_true, not_false_iff, true_and, and_true, true_or, or_true, false_or, or_false, forall_const, implies_true, Nat.le_refl, Int.toNat_natCast, Int.reduceLT, ne_eq, Fin.isValue, Nat.add_zero, nC_hrw, nS_hrw, nC_hwr, nS_hwr, hkd_hrw, hkd_hwr, fin4_0, fin4_1, fin4_2, fin4_3, fin2_0, fin2_1, ci0, ci1, cnn, false_implies, w32_eq, w64_eq, hF.m]
    try simp (disch := omega) only [yc_lt, yc_le, yc_gt, yc_ge, yc_eq, w32_eq, w64_eq, tn_add, tn_mul, Int.toNat_natCast, Int.reduceToNat, not_true, not_false_iff, false_implies, forall_const, implies_true]
    repeat' (with_reducible first | apply And.intro | intro _)
    all_goals try omega
    all_goals try simp (disch := omega) only [w32_eq, w64_eq, tn_add, tn_mul, Int.toNat_natCast, Int.reduceToNat, Option.some.injEq, Sum.inr.injEq, Sum.inl.injEq]
    all_goals try omega
    refine ClA.pure (c_X5_noTray hF hM hW v hv) (by first | exact Nat.le_of_ble_eq_true rfl | (simp only [eD]; omega)) (by first | exact Nat.le_refl _ | (simp only [eG, eD, eC, eS, eQ, eH, nC_hrw, nC_hwr, nS_hrw, nS_hwr, nC_hnw, nS_hnw]; omega)) (by first | exact Nat.le_refl _ | (simp only [eG, eD, eC, eS, eQ, eH, nC_hrw, nC_hwr, nS_hrw, nS_hwr, nC_hnw, nS_hnw]; omega)) ?_
    refine vsA_ok tk_X5_noLong rfl 20 ?_
    simp only [at_X5_noLong, mr_X5_noLong, vsA, vcA, denA, lget, lset, lst1, lst2, lclr, argsA, restA, acats, acat, tcA, tcN, rzA, lle, List.length_cons, List.length_nil, Option.toList_some, Option.toList_none, List.cons_append, List.nil_append, eG, eM, eD, eC, eS, eQ, eH, if_true, if_false, Nat.reduceAdd, Nat.reduceLeDiff, Nat.reduceEqDiff, Nat.reduceLT, Nat.reduceSub, Int.reduceEq, Int.reduceLE, Int.reduceToNat, reduceCtorEq, reduceIte, Nat.reduceBEq, Int.reduceNeg, not_true, not_false_iff, true_and, and_true, true_or, or_true, false_or, or_false, forall_const, implies_true, Nat.le_refl, Int.toNat_natCast, Int.reduceLT, ne_eq, Fin.isValue, Nat.add_zero, nC_hrw, nS_hrw, nC_hwr, nS_hwr, hkd_hrw, hkd_hwr, fin4_0, fin4_1, fin4_2, fin4_3, fin2_0, fin2_1, ci0, ci1, cnn, false_implies, w32_eq, w64_eq]
    try simp (disch := omega) only [yc_lt, yc_le, yc_gt, yc_ge, yc_eq, w32_eq, w64_eq, tn_add, tn_mul, Int.toNat_natCast, Int.reduceToNat, not_true, not_false_iff, false_implies, forall_const, implies_true]
    repeat' (with_reducible first | apply And.intro | intro _)
    all_goals try omega
    all_goals try simp (disch := omega) only [w32_eq, w64_eq, tn_add, tn_mul, Int.toNat_natCast, Int.reduceToNat, Option.some.injEq, Sum.inr.injEq, Sum.inl.injEq]
    all_goals try omega
end
