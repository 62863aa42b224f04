/-! MASKS; THE SYSTEM: the rest of a state's deeds -/
set_option maxRecDepth 100000
/-- the numbers below n of which something is said, as bits -/
def mskP (c : Nat → Bool) : Nat → Nat
  | 0 => 0
  | n + 1 => mskP c n ||| if c n then 2 ^ n else 0
theorem mskP_lt (c : Nat → Bool) : ∀ n, mskP c n < 2 ^ n
  | 0 => Nat.zero_lt_one
  | n + 1 => by
    have h1 := mskP_lt c n
    have h2 : 2 ^ n < 2 ^ (n + 1) := Nat.pow_lt_pow_right (by decide) (by omega)
    unfold mskP
    refine Nat.or_lt_two_pow (by omega) ?_
    split
    · exact h2
    · exact Nat.lt_of_le_of_lt (Nat.zero_le _) h2
theorem mskP_bit (c : Nat → Bool) (i : Nat) : ∀ n, (mskP c n).testBit i = (decide (i < n) && c i)
  | 0 => by simp [mskP]
  | n + 1 => by
    unfold mskP
    rw [Nat.testBit_or, mskP_bit c i n]
    by_cases e : i = n
    · subst e
      cases h : c i <;> simp [h]
    · have h1 : (if c n = true then 2 ^ n else 0).testBit i = false := by
        split
        · exact Nat.testBit_two_pow_of_ne (by omega)
        · simp
      rw [h1, Bool.or_false]
      congr 1
      simp
      omega
theorem zor_0 {k : Nat} (hk : k < 2147483648) : zor (k : Int) 0 = (k : Int) := by
  have := zor_nat (a := k) (b := 0) hk (by decide)
  rw [Nat.or_zero] at this
  exact this
theorem zor_1 {k i : Nat} (hk : k < 2147483648) (hi : i < 31) : zor (k : Int) (zshl 1 (i : Int)) = ((k ||| 2 ^ i : Nat) : Int) := by
  rw [zshl_one hi]
  exact zor_nat hk (Nat.pow_lt_pow_right (by decide) hi)
theorem mskP_6 {c : Nat → Bool} {n : Nat} (hn : n ≤ 6) : mskP c n < 64 := by
  have h1 := mskP_lt c n
  have h2 : 2 ^ n ≤ 2 ^ 6 := Nat.pow_le_pow_right (by decide) hn
  omega
theorem mskP_t {c : Nat → Bool} {n : Nat} (h : c n = true) : mskP c (n + 1) = mskP c n ||| 2 ^ n := by
  show _ ||| _ = _
  rw [if_pos h]
theorem mskP_f {c : Nat → Bool} {n : Nat} (h : c n = false) : mskP c (n + 1) = mskP c n := by
  show _ ||| _ = _
  rw [if_neg (by rw [h]; simp), Nat.or_zero]
/-- which letters there are -/
abbrev kdS (W : List Nat) : Nat := mskP (fun x => decide (0 < W.count x)) 6
section
variable {G : GT} {h : AH} {a S : Nat} {s : SP} {st : S3} {N : Int}
theorem c_X2_kinds (hW : WSL h a S s st) (hO : OKS s N st) : CnA G mX2_kinds 5 0 0 [.inr (.inr ((a : Int)))] h (fun v h1 => v = some (.inl (((kdS (wrdS s st) : Nat) : Int))) ∧ FrP (fun b _ => sW a S b) h h1) := by
  refine CnA.of rfl (Nat.le_of_ble_eq_true rfl) ?_
  simp only [largs, lpad, mr_X2_kinds]
  have h5 := hO.2.2.2.2
  generalize hE : ((G, mX2_kinds, _, _, _, _, h) : EV) = E
  have L1 : ∀ i, i ≤ 6 → ∀ h1, FrP (fun b _ => sW a S b) h h1 → WSL h1 a S s st →
      ExA E 4 [some (.inr (.inr ((a : Int)))), some (.inl (((mskP (fun x => decide (0 < (wrdS s st).count x)) i : Nat) : Int))), some (.inl ((i : Int)))] [] h1 := by
    refine lpI 6 fun i hi ih h1 hF hW1 => ?_
    have c0 := hF.2.1
    have hk6 := mskP_6 (c := fun x => decide (0 < (wrdS s st).count x)) hi
    by_cases hi6 : i < 6
    · by_cases hc : 0 < (wrdS s st).count i
      · have nx := ih hi6
        rw [mskP_t (by simpa using hc)] at nx
        generalize mskP (fun x => decide (0 < (wrdS s st).count x)) i = k at *
        subst hE
        refine vsA_ok tk_X2_kinds rfl 20 ?_
        simp only [at_X2_kinds, mr_X2_kinds, vsA, vcA, denA, lget, lset, lst1, lst2, lclr, argsA, restA, acats, acat, tcA, tcN, rzA, lle, List.length_cons, List.length_nil, Option.toList_some, Option.toList_none, List.cons_append, List.nil_append, eG, eM, eD, eC, eS, eQ, eH, if_true, if_false, Nat.reduceAdd, Nat.reduceLeDiff, Nat.reduceEqDiff, Nat.reduceLT, Nat.reduceSub, Int.reduceEq, Int.reduceLE, Int.reduceToNat, reduceCtorEq, reduceIte, Nat.reduceBEq, Int.reduceNeg, not_true, not_false_iff, true_and, and_true, true_or, or_true, false_or, or_false, forall_const, implies_true, Nat.le_refl, Int.toNat_natCast, Int.reduceLT, ne_eq, Fin.isValue, Nat.add_zero, nC_hrw, nS_hrw, nC_hwr, nS_hwr, hkd_hrw, hkd_hwr, fin4_0, fin4_1, fin4_2, fin4_3, fin2_0, fin2_1, ci0, ci1, cnn, false_implies, w32_eq, w64_eq, hW1.1.q]
        try simp (disch := omega) only [yc_lt, yc_le, yc_gt, yc_ge, yc_eq, w32_eq, w64_eq, tn_add, tn_mul, Int.toNat_natCast, Int.reduceToNat, not_true, not_false_iff, false_implies, forall_const, implies_true]
        repeat' (with_reducible first | apply And.intro | intro _)
        all_goals try omega
        all_goals try simp (disch := omega) only [w32_eq, w64_eq, tn_add, tn_mul, Int.toNat_natCast, Int.reduceToNat, Option.some.injEq, Sum.inr.injEq, Sum.inl.injEq]
        all_goals try omega
        refine ClA.of (c_X2_manyOf (x := i) hW1.1 (Nat.le_trans h5 (by decide)) hi6) (by first | exact Nat.le_of_ble_eq_true rfl | (simp only [eD]; omega)) (by first | exact Nat.le_refl _ | (simp only [eG, eD, eC, eS, eQ, eH, nC_hrw, nC_hwr, nS_hrw, nS_hwr, nC_hnw, nS_hnw]; omega)) (by first | exact Nat.le_refl _ | (simp only [eG, eD, eC, eS, eQ, eH, nC_hrw, nC_hwr, nS_hrw, nS_hwr, nC_hnw, nS_hnw]; omega)) ?_
        rintro _ h2 ⟨rfl, hO2⟩ hm1 hm2
        have nx := nx h2 (hF.tr (OutA.fr hO2 hm1 hm2)) (hW1.outS hO2)
        have hcl : (wrdS s st).count i ≤ 1000000000000 := Nat.le_trans List.count_le_length h5
        rw [show List.count i (wrd (sB s) (sS s) st.1) = (wrdS s st).count i from rfl]
        generalize (wrdS s st).count i = cc at *
        refine vsA_ok tk_X2_kinds rfl 2 ?_
        simp only [at_X2_kinds, mr_X2_kinds, vsA, vcA, denA, lget, lset, lst1, lst2, lclr, argsA, restA, acats, acat, tcA, tcN, rzA, lle, List.length_cons, List.length_nil, Option.toList_some, Option.toList_none, List.cons_append, List.nil_append, eG, eM, eD, eC, eS, eQ, eH, if_true, if_false, Nat.reduceAdd, Nat.reduceLeDiff, Nat.reduceEqDiff, Nat.reduceLT, Nat.reduceSub, Int.reduceEq, Int.reduceLE, Int.reduceToNat, reduceCtorEq, reduceIte, Nat.reduceBEq, Int.reduceNeg, not_true, not_false_iff, true_and, and_true, true_or, or_true, false_or, or_false, forall_const, implies_true, Nat.le_refl, Int.toNat_natCast, Int.reduceLT, ne_eq, Fin.isValue, Nat.add_zero, nC_hrw, nS_hrw, nC_hwr, nS_hwr, hkd_hrw, hkd_hwr, fin4_0, fin4_1, fin4_2, fin4_3, fin2_0, fin2_1, ci0, ci1, cnn, false_implies, w32_eq, w64_eq]
        try simp (disch := omega) only [yc_lt, yc_le, yc_gt, yc_ge, yc_eq, w32_eq, w64_eq, tn_add, tn_mul, Int.toNat_natCast, Int.reduceToNat, not_true, not_false_iff, false_implies, forall_const, implies_true]
        repeat' (with_reducible first | apply And.intro | intro _)
        all_goals try omega
        all_goals try simp (disch := omega) only [w32_eq, w64_eq, tn_add, tn_mul, Int.toNat_natCast, Int.reduceToNat, Option.some.injEq, Sum.inr.injEq, Sum.inl.injEq]
        all_goals try omega
        refine vsA_ok tk_X2_kinds rfl 3 ?_
        simp only [at_X2_kinds, mr_X2_kinds, vsA, vcA, denA, lget, lset, lst1, lst2, lclr, argsA, restA, acats, acat, tcA, tcN, rzA, lle, List.length_cons, List.length_nil, Option.toList_some, Option.toList_none, List.cons_append, List.nil_append, eG, eM, eD, eC, eS, eQ, eH, if_true, if_false, Nat.reduceAdd, Nat.reduceLeDiff, Nat.reduceEqDiff, Nat.reduceLT, Nat.reduceSub, Int.reduceEq, Int.reduceLE, Int.reduceToNat, reduceCtorEq, reduceIte, Nat.reduceBEq, Int.reduceNeg, not_true, not_false_iff, true_and, and_true, true_or, or_true, false_or, or_false, forall_const, implies_true, Nat.le_refl, Int.toNat_natCast, Int.reduceLT, ne_eq, Fin.isValue, Nat.add_zero, nC_hrw, nS_hrw, nC_hwr, nS_hwr, hkd_hrw, hkd_hwr, fin4_0, fin4_1, fin4_2, fin4_3, fin2_0, fin2_1, ci0, ci1, cnn, false_implies, w32_eq, w64_eq]
        try simp (disch := omega) only [yc_lt, yc_le, yc_gt, yc_ge, yc_eq, w32_eq, w64_eq, tn_add, tn_mul, Int.toNat_natCast, Int.reduceToNat, not_true, not_false_iff, false_implies, forall_const, implies_true]
        repeat' (with_reducible first | apply And.intro | intro _)
        all_goals try omega
        all_goals try simp (disch := omega) only [w32_eq, w64_eq, tn_add, tn_mul, Int.toNat_natCast, Int.reduceToNat, Option.some.injEq, Sum.inr.injEq, Sum.inl.injEq]
        all_goals try omega
        refine vsA_ok tk_X2_kinds rfl 20 ?_
        simp only [at_X2_kinds, mr_X2_kinds, vsA, vcA, denA, lget, lset, lst1, lst2, lclr, argsA, restA, acats, acat, tcA, tcN, rzA, lle, List.length_cons, List.length_nil, Option.toList_some, Option.toList_none, List.cons_append, List.nil_append, eG, eM, eD, eC, eS, eQ, eH, if_true, if_false, Nat.reduceAdd, Nat.reduceLeDiff, Nat.reduceEqDiff, Nat.reduceLT, Nat.reduceSub, Int.reduceEq, Int.reduceLE, Int.reduceToNat, reduceCtorEq, reduceIte, Nat.reduceBEq, Int.reduceNeg, not_true, not_false_iff, true_and, and_true, true_or, or_true, false_or, or_false, forall_const, implies_true, Nat.le_refl, Int.toNat_natCast, Int.reduceLT, ne_eq, Fin.isValue, Nat.add_zero, nC_hrw, nS_hrw, nC_hwr, nS_hwr, hkd_hrw, hkd_hwr, fin4_0, fin4_1, fin4_2, fin4_3, fin2_0, fin2_1, ci0, ci1, cnn, false_implies, w32_eq, w64_eq]
        try simp (disch := omega) only [yc_lt, yc_le, yc_gt, yc_ge, yc_eq, w32_eq, w64_eq, tn_add, tn_mul, Int.toNat_natCast, Int.reduceToNat, not_true, not_false_iff, false_implies, forall_const, implies_true, zor_1]
        repeat' (with_reducible first | apply And.intro | intro _)
        all_goals try omega
        all_goals try simp (disch := omega) only [w32_eq, w64_eq, tn_add, tn_mul, Int.toNat_natCast, Int.reduceToNat, Option.some.injEq, Sum.inr.injEq, Sum.inl.injEq, zor_1]
        all_goals try omega
        all_goals try exact (nx).weak rfl (by simp [lle] <;> omega)
      · have nx := ih hi6
        rw [mskP_f (by simpa using hc)] at nx
        generalize mskP (fun x => decide (0 < (wrdS s st).count x)) i = k at *
        subst hE
        refine vsA_ok tk_X2_kinds rfl 20 ?_
        simp only [at_X2_kinds, mr_X2_kinds, vsA, vcA, denA, lget, lset, lst1, lst2, lclr, argsA, restA, acats, acat, tcA, tcN, rzA, lle, List.length_cons, List.length_nil, Option.toList_some, Option.toList_none, List.cons_append, List.nil_append, eG, eM, eD, eC, eS, eQ, eH, if_true, if_false, Nat.reduceAdd, Nat.reduceLeDiff, Nat.reduceEqDiff, Nat.reduceLT, Nat.reduceSub, Int.reduceEq, Int.reduceLE, Int.reduceToNat, reduceCtorEq, reduceIte, Nat.reduceBEq, Int.reduceNeg, not_true, not_false_iff, true_and, and_true, true_or, or_true, false_or, or_false, forall_const, implies_true, Nat.le_refl, Int.toNat_natCast, Int.reduceLT, ne_eq, Fin.isValue, Nat.add_zero, nC_hrw, nS_hrw, nC_hwr, nS_hwr, hkd_hrw, hkd_hwr, fin4_0, fin4_1, fin4_2, fin4_3, fin2_0, fin2_1, ci0, ci1, cnn, false_implies, w32_eq, w64_eq, hW1.1.q]
        try simp (disch := omega) only [yc_lt, yc_le, yc_gt, yc_ge, yc_eq, w32_eq, w64_eq, tn_add, tn_mul, Int.toNat_natCast, Int.reduceToNat, not_true, not_false_iff, false_implies, forall_const, implies_true]
        repeat' (with_reducible first | apply And.intro | intro _)
        all_goals try omega
        all_goals try simp (disch := omega) only [w32_eq, w64_eq, tn_add, tn_mul, Int.toNat_natCast, Int.reduceToNat, Option.some.injEq, Sum.inr.injEq, Sum.inl.injEq]
        all_goals try omega
        refine ClA.of (c_X2_manyOf (x := i) hW1.1 (Nat.le_trans h5 (by decide)) hi6) (by first | exact Nat.le_of_ble_eq_true rfl | (simp only [eD]; omega)) (by first | exact Nat.le_refl _ | (simp only [eG, eD, eC, eS, eQ, eH, nC_hrw, nC_hwr, nS_hrw, nS_hwr, nC_hnw, nS_hnw]; omega)) (by first | exact Nat.le_refl _ | (simp only [eG, eD, eC, eS, eQ, eH, nC_hrw, nC_hwr, nS_hrw, nS_hwr, nC_hnw, nS_hnw]; omega)) ?_
        rintro _ h2 ⟨rfl, hO2⟩ hm1 hm2
        have nx := nx h2 (hF.tr (OutA.fr hO2 hm1 hm2)) (hW1.outS hO2)
        rw [show List.count i (wrd (sB s) (sS s) st.1) = (wrdS s st).count i from rfl]
        generalize (wrdS s st).count i = cc at *
        have hcc : cc = 0 := by omega
        subst hcc
        refine vsA_ok tk_X2_kinds rfl 2 ?_
        simp only [at_X2_kinds, mr_X2_kinds, vsA, vcA, denA, lget, lset, lst1, lst2, lclr, argsA, restA, acats, acat, tcA, tcN, rzA, lle, List.length_cons, List.length_nil, Option.toList_some, Option.toList_none, List.cons_append, List.nil_append, eG, eM, eD, eC, eS, eQ, eH, if_true, if_false, Nat.reduceAdd, Nat.reduceLeDiff, Nat.reduceEqDiff, Nat.reduceLT, Nat.reduceSub, Int.reduceEq, Int.reduceLE, Int.reduceToNat, reduceCtorEq, reduceIte, Nat.reduceBEq, Int.reduceNeg, not_true, not_false_iff, true_and, and_true, true_or, or_true, false_or, or_false, forall_const, implies_true, Nat.le_refl, Int.toNat_natCast, Int.reduceLT, ne_eq, Fin.isValue, Nat.add_zero, nC_hrw, nS_hrw, nC_hwr, nS_hwr, hkd_hrw, hkd_hwr, fin4_0, fin4_1, fin4_2, fin4_3, fin2_0, fin2_1, ci0, ci1, cnn, false_implies, w32_eq, w64_eq]
        try simp (disch := omega) only [yc_lt, yc_le, yc_gt, yc_ge, yc_eq, w32_eq, w64_eq, tn_add, tn_mul, Int.toNat_natCast, Int.reduceToNat, not_true, not_false_iff, false_implies, forall_const, implies_true]
        repeat' (with_reducible first | apply And.intro | intro _)
        all_goals try omega
        all_goals try simp (disch := omega) only [w32_eq, w64_eq, tn_add, tn_mul, Int.toNat_natCast, Int.reduceToNat, Option.some.injEq, Sum.inr.injEq, Sum.inl.injEq]
        all_goals try omega
        refine vsA_ok tk_X2_kinds rfl 20 ?_
        simp only [at_X2_kinds, mr_X2_kinds, vsA, vcA, denA, lget, lset, lst1, lst2, lclr, argsA, restA, acats, acat, tcA, tcN, rzA, lle, List.length_cons, List.length_nil, Option.toList_some, Option.toList_none, List.cons_append, List.nil_append, eG, eM, eD, eC, eS, eQ, eH, if_true, if_false, Nat.reduceAdd, Nat.reduceLeDiff, Nat.reduceEqDiff, Nat.reduceLT, Nat.reduceSub, Int.reduceEq, Int.reduceLE, Int.reduceToNat, reduceCtorEq, reduceIte, Nat.reduceBEq, Int.reduceNeg, not_true, not_false_iff, true_and, and_true, true_or, or_true, false_or, or_false, forall_const, implies_true, Nat.le_refl, Int.toNat_natCast, Int.reduceLT, ne_eq, Fin.isValue, Nat.add_zero, nC_hrw, nS_hrw, nC_hwr, nS_hwr, hkd_hrw, hkd_hwr, fin4_0, fin4_1, fin4_2, fin4_3, fin2_0, fin2_1, ci0, ci1, cnn, false_implies, w32_eq, w64_eq]
        try simp (disch := omega) only [yc_lt, yc_le, yc_gt, yc_ge, yc_eq, w32_eq, w64_eq, tn_add, tn_mul, Int.toNat_natCast, Int.reduceToNat, not_true, not_false_iff, false_implies, forall_const, implies_true, zor_0]
        repeat' (with_reducible first | apply And.intro | intro _)
        all_goals try omega
        all_goals try simp (disch := omega) only [w32_eq, w64_eq, tn_add, tn_mul, Int.toNat_natCast, Int.reduceToNat, Option.some.injEq, Sum.inr.injEq, Sum.inl.injEq, zor_0]
        all_goals try omega
        all_goals try exact (nx).weak rfl (by simp [lle] <;> omega)
    · have hi7 : i = 6 := by omega
      subst hi7
      subst hE
      refine vsA_ok tk_X2_kinds rfl 20 ?_
      simp only [at_X2_kinds, mr_X2_kinds, vsA, vcA, denA, lget, lset, lst1, lst2, lclr, argsA, restA, acats, acat, tcA, tcN, rzA, lle, List.length_cons, List.length_nil, Option.toList_some, Option.toList_none, List.cons_append, List.nil_append, eG, eM, eD, eC, eS, eQ, eH, if_true, if_false, Nat.reduceAdd, Nat.reduceLeDiff, Nat.reduceEqDiff, Nat.reduceLT, Nat.reduceSub, Int.reduceEq, Int.reduceLE, Int.reduceToNat, reduceCtorEq, reduceIte, Nat.reduceBEq, Int.reduceNeg, not_true, not_false_iff, true_and, and_true, true_or, or_true, false_or, or_false, forall_const, implies_true, Nat.le_refl, Int.toNat_natCast, Int.reduceLT, ne_eq, Fin.isValue, Nat.add_zero, nC_hrw, nS_hrw, nC_hwr, nS_hwr, hkd_hrw, hkd_hwr, fin4_0, fin4_1, fin4_2, fin4_3, fin2_0, fin2_1, ci0, ci1, cnn, false_implies, w32_eq, w64_eq, c0]
      try simp (disch := omega) only [yc_lt, yc_le, yc_gt, yc_ge, yc_eq, w32_eq, w64_eq, tn_add, tn_mul, Int.toNat_natCast, Int.reduceToNat, not_true, not_false_iff, false_implies, forall_const, implies_true]
      repeat' (with_reducible first | apply And.intro | intro _)
      all_goals try omega
      all_goals try simp (disch := omega) only [w32_eq, w64_eq, tn_add, tn_mul, Int.toNat_natCast, Int.reduceToNat, Option.some.injEq, Sum.inr.injEq, Sum.inl.injEq]
      all_goals try omega
      all_goals exact hF
  have l1 := L1 0 (by omega) h FrP.rf hW
  rw [show mskP (fun x => decide (0 < (wrdS s st).count x)) 0 = 0 from rfl] at l1
  subst hE
  refine vsA_ok tk_X2_kinds rfl 20 ?_
  simp only [at_X2_kinds, mr_X2_kinds, vsA, vcA, denA, lget, lset, lst1, lst2, lclr, argsA, restA, acats, acat, tcA, tcN, rzA, lle, List.length_cons, List.length_nil, Option.toList_some, Option.toList_none, List.cons_append, List.nil_append, eG, eM, eD, eC, eS, eQ, eH, if_true, if_false, Nat.reduceAdd, Nat.reduceLeDiff, Nat.reduceEqDiff, Nat.reduceLT, Nat.reduceSub, Int.reduceEq, Int.reduceLE, Int.reduceToNat, reduceCtorEq, reduceIte, Nat.reduceBEq, Int.reduceNeg, not_true, not_false_iff, true_and, and_true, true_or, or_true, false_or, or_false, forall_const, implies_true, Nat.le_refl, Int.toNat_natCast, Int.reduceLT, ne_eq, Fin.isValue, Nat.add_zero, nC_hrw, nS_hrw, nC_hwr, nS_hwr, hkd_hrw, hkd_hwr, fin4_0, fin4_1, fin4_2, fin4_3, fin2_0, fin2_1, ci0, ci1, cnn, false_implies, w32_eq, w64_eq]
  try simp (disch := omega) only [yc_lt, yc_le, yc_gt, yc_ge, yc_eq, w32_eq, w64_eq, tn_add, tn_mul, Int.toNat_natCast, Int.reduceToNat, not_true, not_false_iff, false_implies, forall_const, implies_true]
  repeat' (with_reducible first | apply And.intro | intro _)
  all_goals try omega
  all_goals try simp (disch := omega) only [w32_eq, w64_eq, tn_add, tn_mul, Int.toNat_natCast, Int.reduceToNat, Option.some.injEq, Sum.inr.injEq, Sum.inl.injEq]
  all_goals try omega
  all_goals try exact (l1).weak rfl (by simp [lle] <;> omega)
theorem OutA.nn {A : Nat → Prop} {h h1 : AH} (x : OutA A h h1) : nN h1 = nN h := x.2.1
theorem c_X2_does {v : Int} (hW : WSL h a S s st) (hO : OKS s N st) (hN : N < 2147483648) (hv : toldS s st v = 0) :
    CnA G mX2_does 905 0 0 [.inr (.inr ((a : Int))), .inl (v)] h (fun r h1 => r = none ∧ WSL h1 a S s (goS s st v) ∧ OutA (sD a S) h h1) := by
  refine CnA.of rfl (Nat.le_of_ble_eq_true rfl) ?_
  simp only [largs, lpad, mr_X2_does]
  have hq := hW.1.q
  have hs := hW.1.sz
  have hpi : pkS s st = -1 ∨ 0 ≤ pkS s st ∧ pkS s st < 3 := by
    have := pkd_in (sT s) hs.2.2.2.1 (sP s) (sL s) (wdW st.2.1 st.2.2 (wrdS s st))
    unfold pkS
    omega
  have hv19 : 0 ≤ v ∧ v ≤ 19 := by
    unfold toldS at hv
    split at hv
    · omega
    · split at hv <;> omega
  by_cases h10 : 10 ≤ v
  · have hg : goS s st v = (st.1, st.2.1, v - 10) := by unfold goS; rw [if_pos h10]
    rw [hg]
    have ho : OutA (fun b => b = a ∨ b = a + 1) h (hwr h a 5 (v - 10)) := OutA.wr (Or.inl rfl) _
    have na : a + 1 ≠ a := by omega
    have hw := hW.re (st1 := (st.1, st.2.1, v - 10)) ho (by rw [hdt_hwr, if_pos rfl, fup_n _ _ (by decide)]) (by rw [hdt_hwr, if_pos rfl, fup_n _ _ (by decide)]) (by rw [hdt_hwr, if_pos rfl, fup_n _ _ (by decide)]) (by rw [hdt_hwr, if_pos rfl, fup_n _ _ (by decide)]) hs.1 hW.1.1.2.2.2.2.1
      (by rw [hdt_hwr, if_pos rfl, fup_n _ _ (by decide)]; exact hq.2.2.2.2.2.2.2.2.1) (fun k hk => by rw [hdt_hwr, if_neg na]; exact (hW.1.table hk).1) (by rw [hdt_hwr, if_pos rfl, fup_n _ _ (by decide)]; exact hq.2.2.2.2.2.2.2.2.2.1) (by rw [hdt_hwr, if_pos rfl, fup_s])
    have ho2 : OutA (sD a S) h (hwr h a 5 (v - 10)) := ho.mono fun b hb => by rcases hb with hb | hb; exact Or.inl hb; exact Or.inr (Or.inl hb)
    refine vsA_ok tk_X2_does rfl 20 ?_
    simp only [at_X2_does, mr_X2_does, vsA, vcA, denA, lget, lset, lst1, lst2, lclr, argsA, restA, acats, acat, tcA, tcN, rzA, lle, List.length_cons, List.length_nil, Option.toList_some, Option.toList_none, List.cons_append, List.nil_append, eG, eM, eD, eC, eS, eQ, eH, if_true, if_false, Nat.reduceAdd, Nat.reduceLeDiff, Nat.reduceEqDiff, Nat.reduceLT, Nat.reduceSub, Int.reduceEq, Int.reduceLE, Int.reduceToNat, reduceCtorEq, reduceIte, Nat.reduceBEq, Int.reduceNeg, not_true, not_false_iff, true_and, and_true, true_or, or_true, false_or, or_false, forall_const, implies_true, Nat.le_refl, Int.toNat_natCast, Int.reduceLT, ne_eq, Fin.isValue, Nat.add_zero, nC_hrw, nS_hrw, nC_hwr, nS_hwr, hkd_hrw, hkd_hwr, fin4_0, fin4_1, fin4_2, fin4_3, fin2_0, fin2_1, ci0, ci1, cnn, false_implies, w32_eq, w64_eq, hq]
    try simp (disch := omega) only [yc_lt, yc_le, yc_gt, yc_ge, yc_eq, w32_eq, w64_eq, tn_add, tn_mul, Int.toNat_natCast, Int.reduceToNat, not_true, not_false_iff, false_implies, forall_const, implies_true]
    repeat' (with_reducible first | apply And.intro | intro _)
    all_goals try omega
    all_goals try simp (disch := omega) only [w32_eq, w64_eq, tn_add, tn_mul, Int.toNat_natCast, Int.reduceToNat, Option.some.injEq, Sum.inr.injEq, Sum.inl.injEq]
    all_goals try omega
    all_goals first | exact hw | exact ho2
  · have hg : goS s st v = byG st (byS s st v) := by unfold goS; rw [if_neg h10]
    rw [hg]
    have hw : whyS s st v = 0 := by
      unfold toldS at hv
      split at hv
      · exact hv
      · split at hv
        · omega
        · omega
    have hbt : byS s st v = -1 ∨ 0 ≤ byS s st v ∧ byS s st v < 3 ∧ st.1.length < 60 := by
      have hb : byS s st v = -1 ∨ 0 ≤ byS s st v ∧ byS s st v < 3 := by
        unfold whyS at hw
        split at hw
        · unfold byS
          split <;> omega
        · omega
      rcases hb with hb | hb
      · exact Or.inl hb
      · refine Or.inr ⟨hb.1, hb.2, ?_⟩
        unfold whyS at hw
        split at hw
        · unfold whyB at hw
          rw [if_neg (by omega)] at hw
          split at hw <;> omega
        · omega
    by_cases hv0 : v = 0
    · have hby : byS s st v = pkS s st := by unfold byS; rw [if_pos hv0]
      rw [hby] at hbt ⊢
      refine vsA_ok tk_X2_does rfl 20 ?_
      simp only [at_X2_does, mr_X2_does, vsA, vcA, denA, lget, lset, lst1, lst2, lclr, argsA, restA, acats, acat, tcA, tcN, rzA, lle, List.length_cons, List.length_nil, Option.toList_some, Option.toList_none, List.cons_append, List.nil_append, eG, eM, eD, eC, eS, eQ, eH, if_true, if_false, Nat.reduceAdd, Nat.reduceLeDiff, Nat.reduceEqDiff, Nat.reduceLT, Nat.reduceSub, Int.reduceEq, Int.reduceLE, Int.reduceToNat, reduceCtorEq, reduceIte, Nat.reduceBEq, Int.reduceNeg, not_true, not_false_iff, true_and, and_true, true_or, or_true, false_or, or_false, forall_const, implies_true, Nat.le_refl, Int.toNat_natCast, Int.reduceLT, ne_eq, Fin.isValue, Nat.add_zero, nC_hrw, nS_hrw, nC_hwr, nS_hwr, hkd_hrw, hkd_hwr, fin4_0, fin4_1, fin4_2, fin4_3, fin2_0, fin2_1, ci0, ci1, cnn, false_implies, w32_eq, w64_eq, hq]
      try simp (disch := omega) only [yc_lt, yc_le, yc_gt, yc_ge, yc_eq, w32_eq, w64_eq, tn_add, tn_mul, Int.toNat_natCast, Int.reduceToNat, not_true, not_false_iff, false_implies, forall_const, implies_true]
      repeat' (with_reducible first | apply And.intro | intro _)
      all_goals try omega
      all_goals try simp (disch := omega) only [w32_eq, w64_eq, tn_add, tn_mul, Int.toNat_natCast, Int.reduceToNat, Option.some.injEq, Sum.inr.injEq, Sum.inl.injEq]
      all_goals try omega
      refine ClA.of (c_X2_picked hW hO hN) (by first | exact Nat.le_of_ble_eq_true rfl | (simp only [eD]; omega)) (by first | exact Nat.le_refl _ | (simp only [eG, eD, eC, eS, eQ, eH, nC_hrw, nC_hwr, nS_hrw, nS_hwr, nC_hnw, nS_hnw]; omega)) (by first | exact Nat.le_refl _ | (simp only [eG, eD, eC, eS, eQ, eH, nC_hrw, nC_hwr, nS_hrw, nS_hwr, nC_hnw, nS_hnw]; omega)) ?_
      rintro _ h1 ⟨rfl, hO1⟩ hn1 hn2
      have hW1 := hW.outS hO1
      refine vsA_ok tk_X2_does rfl 20 ?_
      simp only [at_X2_does, mr_X2_does, vsA, vcA, denA, lget, lset, lst1, lst2, lclr, argsA, restA, acats, acat, tcA, tcN, rzA, lle, List.length_cons, List.length_nil, Option.toList_some, Option.toList_none, List.cons_append, List.nil_append, eG, eM, eD, eC, eS, eQ, eH, if_true, if_false, Nat.reduceAdd, Nat.reduceLeDiff, Nat.reduceEqDiff, Nat.reduceLT, Nat.reduceSub, Int.reduceEq, Int.reduceLE, Int.reduceToNat, reduceCtorEq, reduceIte, Nat.reduceBEq, Int.reduceNeg, not_true, not_false_iff, true_and, and_true, true_or, or_true, false_or, or_false, forall_const, implies_true, Nat.le_refl, Int.toNat_natCast, Int.reduceLT, ne_eq, Fin.isValue, Nat.add_zero, nC_hrw, nS_hrw, nC_hwr, nS_hwr, hkd_hrw, hkd_hwr, fin4_0, fin4_1, fin4_2, fin4_3, fin2_0, fin2_1, ci0, ci1, cnn, false_implies, w32_eq, w64_eq, hW1.1.q]
      try simp (disch := omega) only [yc_lt, yc_le, yc_gt, yc_ge, yc_eq, w32_eq, w64_eq, tn_add, tn_mul, Int.toNat_natCast, Int.reduceToNat, not_true, not_false_iff, false_implies, forall_const, implies_true]
      repeat' (with_reducible first | apply And.intro | intro _)
      all_goals try omega
      all_goals try simp (disch := omega) only [w32_eq, w64_eq, tn_add, tn_mul, Int.toNat_natCast, Int.reduceToNat, Option.some.injEq, Sum.inr.injEq, Sum.inl.injEq]
      all_goals try omega
      refine ClA.of (c_X2_goes hW1 hbt) (by first | exact Nat.le_of_ble_eq_true rfl | (simp only [eD]; omega)) (by first | exact Nat.le_refl _ | (simp only [eG, eD, eC, eS, eQ, eH, nC_hrw, nC_hwr, nS_hrw, nS_hwr, nC_hnw, nS_hnw]; omega)) (by first | exact Nat.le_refl _ | (simp only [eG, eD, eC, eS, eQ, eH, nC_hrw, nC_hwr, nS_hrw, nS_hwr, nC_hnw, nS_hnw]; omega)) ?_
      rintro _ h2 ⟨rfl, hW2, hO2⟩ hm1 hm2
      have ho : OutA (sD a S) h h2 := (hO1.mono fun b => sW_sD).tr (hO2.mono fun b hb => by rcases hb with hb | hb; exact Or.inl hb; exact Or.inr (Or.inl hb))
      refine vsA_ok tk_X2_does rfl 20 ?_
      simp only [at_X2_does, mr_X2_does, vsA, vcA, denA, lget, lset, lst1, lst2, lclr, argsA, restA, acats, acat, tcA, tcN, rzA, lle, List.length_cons, List.length_nil, Option.toList_some, Option.toList_none, List.cons_append, List.nil_append, eG, eM, eD, eC, eS, eQ, eH, if_true, if_false, Nat.reduceAdd, Nat.reduceLeDiff, Nat.reduceEqDiff, Nat.reduceLT, Nat.reduceSub, Int.reduceEq, Int.reduceLE, Int.reduceToNat, reduceCtorEq, reduceIte, Nat.reduceBEq, Int.reduceNeg, not_true, not_false_iff, true_and, and_true, true_or, or_true, false_or, or_false, forall_const, implies_true, Nat.le_refl, Int.toNat_natCast, Int.reduceLT, ne_eq, Fin.isValue, Nat.add_zero, nC_hrw, nS_hrw, nC_hwr, nS_hwr, hkd_hrw, hkd_hwr, fin4_0, fin4_1, fin4_2, fin4_3, fin2_0, fin2_1, ci0, ci1, cnn, false_implies, w32_eq, w64_eq]
      try simp (disch := omega) only [yc_lt, yc_le, yc_gt, yc_ge, yc_eq, w32_eq, w64_eq, tn_add, tn_mul, Int.toNat_natCast, Int.reduceToNat, not_true, not_false_iff, false_implies, forall_const, implies_true]
      repeat' (with_reducible first | apply And.intro | intro _)
      all_goals try omega
      all_goals try simp (disch := omega) only [w32_eq, w64_eq, tn_add, tn_mul, Int.toNat_natCast, Int.reduceToNat, Option.some.injEq, Sum.inr.injEq, Sum.inl.injEq]
      all_goals try omega
      all_goals first | exact hW2 | exact ho
    · have hby : byS s st v = v - 1 := by unfold byS; rw [if_neg hv0]
      rw [hby] at hbt ⊢
      refine vsA_ok tk_X2_does rfl 20 ?_
      simp only [at_X2_does, mr_X2_does, vsA, vcA, denA, lget, lset, lst1, lst2, lclr, argsA, restA, acats, acat, tcA, tcN, rzA, lle, List.length_cons, List.length_nil, Option.toList_some, Option.toList_none, List.cons_append, List.nil_append, eG, eM, eD, eC, eS, eQ, eH, if_true, if_false, Nat.reduceAdd, Nat.reduceLeDiff, Nat.reduceEqDiff, Nat.reduceLT, Nat.reduceSub, Int.reduceEq, Int.reduceLE, Int.reduceToNat, reduceCtorEq, reduceIte, Nat.reduceBEq, Int.reduceNeg, not_true, not_false_iff, true_and, and_true, true_or, or_true, false_or, or_false, forall_const, implies_true, Nat.le_refl, Int.toNat_natCast, Int.reduceLT, ne_eq, Fin.isValue, Nat.add_zero, nC_hrw, nS_hrw, nC_hwr, nS_hwr, hkd_hrw, hkd_hwr, fin4_0, fin4_1, fin4_2, fin4_3, fin2_0, fin2_1, ci0, ci1, cnn, false_implies, w32_eq, w64_eq, hq]
      try simp (disch := omega) only [yc_lt, yc_le, yc_gt, yc_ge, yc_eq, w32_eq, w64_eq, tn_add, tn_mul, Int.toNat_natCast, Int.reduceToNat, not_true, not_false_iff, false_implies, forall_const, implies_true]
      repeat' (with_reducible first | apply And.intro | intro _)
      all_goals try omega
      all_goals try simp (disch := omega) only [w32_eq, w64_eq, tn_add, tn_mul, Int.toNat_natCast, Int.reduceToNat, Option.some.injEq, Sum.inr.injEq, Sum.inl.injEq]
      all_goals try omega
      refine ClA.of (c_X2_goes hW hbt) (by first | exact Nat.le_of_ble_eq_true rfl | (simp only [eD]; omega)) (by first | exact Nat.le_refl _ | (simp only [eG, eD, eC, eS, eQ, eH, nC_hrw, nC_hwr, nS_hrw, nS_hwr, nC_hnw, nS_hnw]; omega)) (by first | exact Nat.le_refl _ | (simp only [eG, eD, eC, eS, eQ, eH, nC_hrw, nC_hwr, nS_hrw, nS_hwr, nC_hnw, nS_hnw]; omega)) ?_
      rintro _ h2 ⟨rfl, hW2, hO2⟩ hm1 hm2
      have ho : OutA (sD a S) h h2 := hO2.mono fun b hb => by rcases hb with hb | hb; exact Or.inl hb; exact Or.inr (Or.inl hb)
      refine vsA_ok tk_X2_does rfl 20 ?_
      simp only [at_X2_does, mr_X2_does, vsA, vcA, denA, lget, lset, lst1, lst2, lclr, argsA, restA, acats, acat, tcA, tcN, rzA, lle, List.length_cons, List.length_nil, Option.toList_some, Option.toList_none, List.cons_append, List.nil_append, eG, eM, eD, eC, eS, eQ, eH, if_true, if_false, Nat.reduceAdd, Nat.reduceLeDiff, Nat.reduceEqDiff, Nat.reduceLT, Nat.reduceSub, Int.reduceEq, Int.reduceLE, Int.reduceToNat, reduceCtorEq, reduceIte, Nat.reduceBEq, Int.reduceNeg, not_true, not_false_iff, true_and, and_true, true_or, or_true, false_or, or_false, forall_const, implies_true, Nat.le_refl, Int.toNat_natCast, Int.reduceLT, ne_eq, Fin.isValue, Nat.add_zero, nC_hrw, nS_hrw, nC_hwr, nS_hwr, hkd_hrw, hkd_hwr, fin4_0, fin4_1, fin4_2, fin4_3, fin2_0, fin2_1, ci0, ci1, cnn, false_implies, w32_eq, w64_eq]
      try simp (disch := omega) only [yc_lt, yc_le, yc_gt, yc_ge, yc_eq, w32_eq, w64_eq, tn_add, tn_mul, Int.toNat_natCast, Int.reduceToNat, not_true, not_false_iff, false_implies, forall_const, implies_true]
      repeat' (with_reducible first | apply And.intro | intro _)
      all_goals try omega
      all_goals try simp (disch := omega) only [w32_eq, w64_eq, tn_add, tn_mul, Int.toNat_natCast, Int.reduceToNat, Option.some.injEq, Sum.inr.injEq, Sum.inl.injEq]
      all_goals try omega
      all_goals first | exact hW2 | exact ho
end
/-- be(o): what stands in another is taken over -/
theorem c_X2_be {G : GT} {h : AH} {a b : Nat} {tbl : List Nat} {nights moon : Int} (ha : StK h a) (hb : StC h b tbl nights moon) (hab : b ≠ a ∧ b ≠ a + 1 ∧ b + 1 ≠ a ∧ b + 1 ≠ a + 1) :
    CnA G mX2_be 2 0 0 [.inr (.inr ((a : Int))), .inr (.inr ((b : Int)))] h (fun v h1 => v = some (.inr (.inr ((a : Int)))) ∧ StC h1 a tbl nights moon ∧ OutA (fun c => c = a ∨ c = a + 1) h h1) := by
  refine CnA.of rfl (Nat.le_of_ble_eq_true rfl) ?_
  simp only [largs, lpad, mr_X2_be]
  obtain ⟨k0, k1, k2, k3, k4, k5, k6, k7⟩ := ha
  obtain ⟨⟨g0, g1, g2, g3, g4, g5, g6, g7⟩, hl, h3, h1, ht, hn, hm⟩ := hb
  obtain ⟨n1, n2, n3, n4⟩ := hab
  have na : a ≠ a + 1 := by omega
  have na' : a + 1 ≠ a := by omega
  have e0 : ∀ f, hdt (hrw h (a + 1) f) a = hdt h a := fun f => hdt_hrw_n _ _ na
  have eb : ∀ f, hdt (hrw h (a + 1) f) b = hdt h b := fun f => hdt_hrw_n _ _ n2
  have eb2 : ∀ g j v, hdt (hwr g a j v) b = hdt g b := fun g j v => by rw [hdt_hwr, if_neg n1]
  have ho : OutA (fun c => c = a ∨ c = a + 1) h (hwr (hwr (hwr (hrw h (a + 1) (cpyA (hdt h (b + 1)) (hdt h (a + 1)) 0 0 60)) a 3 tbl.length) a 4 nights) a 5 moon) :=
    (((OutA.row (Or.inr rfl) _).tr (OutA.wr (Or.inl rfl) _)).tr (OutA.wr (Or.inl rfl) _)).tr (OutA.wr (Or.inl rfl) _)
  refine vsA_ok tk_X2_be rfl 60 ?_
  simp only [at_X2_be, mr_X2_be, vsA, vcA, denA, lget, lset, lst1, lst2, lclr, argsA, restA, acats, acat, tcA, tcN, rzA, lle, List.length_cons, List.length_nil, Option.toList_some, Option.toList_none, List.cons_append, List.nil_append, eG, eM, eD, eC, eS, eQ, eH, if_true, if_false, Nat.reduceAdd, Nat.reduceLeDiff, Nat.reduceEqDiff, Nat.reduceLT, Nat.reduceSub, Int.reduceEq, Int.reduceLE, Int.reduceToNat, reduceCtorEq, reduceIte, Nat.reduceBEq, Int.reduceNeg, not_true, not_false_iff, true_and, and_true, true_or, or_true, false_or, or_false, forall_const, implies_true, Nat.le_refl, Int.toNat_natCast, Int.reduceLT, ne_eq, Fin.isValue, Nat.add_zero, nC_hrw, nS_hrw, nC_hwr, nS_hwr, hkd_hrw, hkd_hwr, fin4_0, fin4_1, fin4_2, fin4_3, fin2_0, fin2_1, ci0, ci1, cnn, false_implies, w32_eq, w64_eq, k0, k1, k5, g0, g1, g5, e0, eb, eb2, h3, hn, hm]
  try simp (disch := omega) only [yc_lt, yc_le, yc_gt, yc_ge, yc_eq, w32_eq, w64_eq, tn_add, tn_mul, Int.toNat_natCast, Int.reduceToNat, not_true, not_false_iff, false_implies, forall_const, implies_true]
  repeat' (with_reducible first | apply And.intro | intro _)
  all_goals try omega
  all_goals try simp (disch := omega) only [w32_eq, w64_eq, tn_add, tn_mul, Int.toNat_natCast, Int.reduceToNat, Option.some.injEq, Sum.inr.injEq, Sum.inl.injEq]
  all_goals try omega
  · have hh : ∀ j, j ≠ 3 → j ≠ 4 → j ≠ 5 → hdt (hwr (hwr (hwr (hrw h (a + 1) (cpyA (hdt h (b + 1)) (hdt h (a + 1)) 0 0 60)) a 3 tbl.length) a 4 nights) a 5 moon) a j = hdt h a j := fun j q3 q4 q5 => by
      rw [hdt_hwr, if_pos rfl, fup_n _ _ q5, hdt_hwr, if_pos rfl, fup_n _ _ q4, hdt_hwr, if_pos rfl, fup_n _ _ q3, e0]
    refine ⟨⟨k0, ?_, ?_, ?_, ?_, k5, k6, k7⟩, hl, ?_, fun k hk => ?_, ht, ?_, ?_⟩
    · rw [hh 0 (by decide) (by decide) (by decide)]; exact k1
    · rw [hh 1 (by decide) (by decide) (by decide)]; exact k2
    · rw [hh 2 (by decide) (by decide) (by decide)]; exact k3
    · rw [hh 6 (by decide) (by decide) (by decide)]; exact k4
    · rw [hdt_hwr, if_pos rfl, fup_n _ _ (by decide), hdt_hwr, if_pos rfl, fup_n _ _ (by decide), hdt_hwr, if_pos rfl, fup_s]
    · rw [hdt_hwr, if_neg na', hdt_hwr, if_neg na', hdt_hwr, if_neg na', hdt_hrw_s]
      unfold cpyA
      rw [if_pos (by omega), Nat.sub_zero, Nat.zero_add]
      exact h1 k hk
    · rw [hdt_hwr, if_pos rfl, fup_n _ _ (by decide), hdt_hwr, if_pos rfl, fup_s]
    · rw [hdt_hwr, if_pos rfl, fup_s]
  all_goals exact ho
