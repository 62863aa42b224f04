/-! THE REFERENCE: how many of each letter, night by night -/
set_option maxRecDepth 100000
/-- sums below n -/
def smN (f : Nat → Nat) : Nat → Nat
  | 0 => 0
  | n + 1 => smN f n + f n
/-- how many of each letter a night on -/
def nxV (bec : Nat → Nat → List Nat) (t : Nat) (v : Nat → Nat) : Nat → Nat := fun d => smN (fun c => v c * (bec t c).count d) 6
def lnV (v : Nat → Nat) : Nat := smN v 6
def cntW (W : List Nat) : Nat → Nat := fun c => W.count c
/-- letters as bits -/
def orL (l : List Nat) (m : Nat) : Nat := l.foldl (fun m d => m ||| 2 ^ d) m
theorem orL_lt : ∀ (l : List Nat) (m : Nat), (∀ d ∈ l, d < 6) → m < 64 → orL l m < 64
  | [], m, _, h => h
  | d :: l, m, hl, h => orL_lt l (m ||| 2 ^ d) (fun x hx => hl x (List.mem_cons_of_mem _ hx)) (Nat.or_lt_two_pow (n := 6) h (Nat.pow_lt_pow_right (by decide) (hl d List.mem_cons_self)))
theorem orL_take (l : List Nat) (m : Nat) {i : Nat} (hi : i < l.length) : orL (l.take (i + 1)) m = orL (l.take i) m ||| 2 ^ (l.getD i 0) := by
  unfold orL
  rw [List.take_add_one, List.getElem?_eq_getElem hi, List.foldl_append]
  simp [hi]
theorem orL_or : ∀ (l : List Nat) (m : Nat), orL l m = m ||| orL l 0
  | [], m => by simp [orL]
  | d :: l, m => by
    have h1 := orL_or l (m ||| 2 ^ d)
    have h2 := orL_or l (0 ||| 2 ^ d)
    show orL l (m ||| 2 ^ d) = m ||| orL l (0 ||| 2 ^ d)
    rw [h1, h2, Nat.zero_or, Nat.or_assoc]
/-- kinds of letters behind a night by a table -/
def kndT (bec : Nat → Nat → List Nat) (t s : Nat) : Nat → Nat
  | 0 => 0
  | n + 1 => kndT bec t s n ||| if s.testBit n then orL (bec t n) 0 else 0
theorem kndT_t {bec : Nat → Nat → List Nat} {t s n : Nat} (h : s.testBit n = true) : kndT bec t s (n + 1) = orL (bec t n) (kndT bec t s n) := by
  rw [orL_or]
  show _ ||| _ = _
  rw [if_pos h]
theorem kndT_f {bec : Nat → Nat → List Nat} {t s n : Nat} (h : s.testBit n = false) : kndT bec t s (n + 1) = kndT bec t s n := by
  show _ ||| _ = _
  rw [if_neg (by rw [h]; simp), Nat.or_zero]
theorem kndT_lt {bec : Nat → Nat → List Nat} {t s : Nat} (hb : ∀ c, c < 6 → ∀ d ∈ bec t c, d < 6) : ∀ n, n ≤ 6 → kndT bec t s n < 64
  | 0, _ => by show 0 < 64; decide
  | n + 1, hn => by
    have ih := kndT_lt (s := s) hb n (by omega)
    cases h : s.testBit n with
    | true => rw [kndT_t h]; exact orL_lt _ _ (hb n (by omega)) ih
    | false => rw [kndT_f h]; exact ih
theorem c_X5_isIn {G : GT} (h : AH) {s k : Nat} (hs : s < 2147483648) (hk : k < 32) : CnA G mX5_isIn 1 0 0 [.inr (.inl ((s : Int))), .inl ((k : Int))] h (fun v h1 => v = some (.inl (if s.testBit k then 1 else 0)) ∧ h1 = h) := by
  refine CnA.of rfl (Nat.le_of_ble_eq_true rfl) ?_
  simp only [largs, lpad, mr_X5_isIn]
  have e := ybit (a := s) (k := k) hs (by omega)
  refine vsA_ok tk_X5_isIn rfl 2 ?_
  simp only [at_X5_isIn, mr_X5_isIn, vsA, vcA, denA, lget, lset, lst1, lst2, lclr, argsA, restA, acats, acat, tcA, tcN, rzA, lle, List.length_cons, List.length_nil, Option.toList_some, Option.toList_none, List.cons_append, List.nil_append, eG, eM, eD, eC, eS, eQ, eH, if_true, if_false, Nat.reduceAdd, Nat.reduceLeDiff, Nat.reduceEqDiff, Nat.reduceLT, Nat.reduceSub, Int.reduceEq, Int.reduceLE, Int.reduceToNat, reduceCtorEq, reduceIte, Nat.reduceBEq, Int.reduceNeg, not_true, not_false_iff, true_and, and_true, true_or, or_true, false_or, or_false, forall_const, implies_true, Nat.le_refl, Int.toNat_natCast, Int.reduceLT, ne_eq, Fin.isValue, Nat.add_zero, nC_hrw, nS_hrw, nC_hwr, nS_hwr, hkd_hrw, hkd_hwr, fin4_0, fin4_1, fin4_2, fin4_3, fin2_0, fin2_1, ci0, ci1, cnn, false_implies, w32_eq, w64_eq]
  try simp (disch := omega) only [yc_lt, yc_le, yc_gt, yc_ge, yc_eq, w32_eq, w64_eq, tn_add, tn_mul, Int.toNat_natCast, Int.reduceToNat, not_true, not_false_iff, false_implies, forall_const, implies_true]
  repeat' (with_reducible first | apply And.intro | intro _)
  all_goals try omega
  all_goals try simp (disch := omega) only [w32_eq, w64_eq, tn_add, tn_mul, Int.toNat_natCast, Int.reduceToNat, Option.some.injEq, Sum.inr.injEq, Sum.inl.injEq]
  all_goals try omega
  generalize yshr (s : Int) (k : Int) = z at *
  refine vsA_ok tk_X5_isIn rfl 1 ?_
  simp only [at_X5_isIn, mr_X5_isIn, vsA, vcA, denA, lget, lset, lst1, lst2, lclr, argsA, restA, acats, acat, tcA, tcN, rzA, lle, List.length_cons, List.length_nil, Option.toList_some, Option.toList_none, List.cons_append, List.nil_append, eG, eM, eD, eC, eS, eQ, eH, if_true, if_false, Nat.reduceAdd, Nat.reduceLeDiff, Nat.reduceEqDiff, Nat.reduceLT, Nat.reduceSub, Int.reduceEq, Int.reduceLE, Int.reduceToNat, reduceCtorEq, reduceIte, Nat.reduceBEq, Int.reduceNeg, not_true, not_false_iff, true_and, and_true, true_or, or_true, false_or, or_false, forall_const, implies_true, Nat.le_refl, Int.toNat_natCast, Int.reduceLT, ne_eq, Fin.isValue, Nat.add_zero, nC_hrw, nS_hrw, nC_hwr, nS_hwr, hkd_hrw, hkd_hwr, fin4_0, fin4_1, fin4_2, fin4_3, fin2_0, fin2_1, ci0, ci1, cnn, false_implies, w32_eq, w64_eq]
  try simp (disch := omega) only [yc_lt, yc_le, yc_gt, yc_ge, yc_eq, w32_eq, w64_eq, tn_add, tn_mul, Int.toNat_natCast, Int.reduceToNat, not_true, not_false_iff, false_implies, forall_const, implies_true]
  repeat' (with_reducible first | apply And.intro | intro _)
  all_goals try omega
  all_goals try simp (disch := omega) only [w32_eq, w64_eq, tn_add, tn_mul, Int.toNat_natCast, Int.reduceToNat, Option.some.injEq, Sum.inr.injEq, Sum.inl.injEq]
  all_goals try omega
  rw [e]
  cases q : s.testBit k with
  | true =>
    rw [if_pos rfl]
    refine vsA_ok tk_X5_isIn rfl 10 ?_
    simp only [at_X5_isIn, mr_X5_isIn, vsA, vcA, denA, lget, lset, lst1, lst2, lclr, argsA, restA, acats, acat, tcA, tcN, rzA, lle, List.length_cons, List.length_nil, Option.toList_some, Option.toList_none, List.cons_append, List.nil_append, eG, eM, eD, eC, eS, eQ, eH, if_true, if_false, Nat.reduceAdd, Nat.reduceLeDiff, Nat.reduceEqDiff, Nat.reduceLT, Nat.reduceSub, Int.reduceEq, Int.reduceLE, Int.reduceToNat, reduceCtorEq, reduceIte, Nat.reduceBEq, Int.reduceNeg, not_true, not_false_iff, true_and, and_true, true_or, or_true, false_or, or_false, forall_const, implies_true, Nat.le_refl, Int.toNat_natCast, Int.reduceLT, ne_eq, Fin.isValue, Nat.add_zero, nC_hrw, nS_hrw, nC_hwr, nS_hwr, hkd_hrw, hkd_hwr, fin4_0, fin4_1, fin4_2, fin4_3, fin2_0, fin2_1, ci0, ci1, cnn, false_implies, w32_eq, w64_eq]
    try simp (disch := omega) only [yc_lt, yc_le, yc_gt, yc_ge, yc_eq, w32_eq, w64_eq, tn_add, tn_mul, Int.toNat_natCast, Int.reduceToNat, not_true, not_false_iff, false_implies, forall_const, implies_true]
    repeat' (with_reducible first | apply And.intro | intro _)
    all_goals try omega
    all_goals try simp (disch := omega) only [w32_eq, w64_eq, tn_add, tn_mul, Int.toNat_natCast, Int.reduceToNat, Option.some.injEq, Sum.inr.injEq, Sum.inl.injEq]
    all_goals try omega
  | false =>
    rw [if_neg (by simp)]
    refine vsA_ok tk_X5_isIn rfl 10 ?_
    simp only [at_X5_isIn, mr_X5_isIn, vsA, vcA, denA, lget, lset, lst1, lst2, lclr, argsA, restA, acats, acat, tcA, tcN, rzA, lle, List.length_cons, List.length_nil, Option.toList_some, Option.toList_none, List.cons_append, List.nil_append, eG, eM, eD, eC, eS, eQ, eH, if_true, if_false, Nat.reduceAdd, Nat.reduceLeDiff, Nat.reduceEqDiff, Nat.reduceLT, Nat.reduceSub, Int.reduceEq, Int.reduceLE, Int.reduceToNat, reduceCtorEq, reduceIte, Nat.reduceBEq, Int.reduceNeg, not_true, not_false_iff, true_and, and_true, true_or, or_true, false_or, or_false, forall_const, implies_true, Nat.le_refl, Int.toNat_natCast, Int.reduceLT, ne_eq, Fin.isValue, Nat.add_zero, nC_hrw, nS_hrw, nC_hwr, nS_hwr, hkd_hrw, hkd_hwr, fin4_0, fin4_1, fin4_2, fin4_3, fin2_0, fin2_1, ci0, ci1, cnn, false_implies, w32_eq, w64_eq]
    try simp (disch := omega) only [yc_lt, yc_le, yc_gt, yc_ge, yc_eq, w32_eq, w64_eq, tn_add, tn_mul, Int.toNat_natCast, Int.reduceToNat, not_true, not_false_iff, false_implies, forall_const, implies_true]
    repeat' (with_reducible first | apply And.intro | intro _)
    all_goals try omega
    all_goals try simp (disch := omega) only [w32_eq, w64_eq, tn_add, tn_mul, Int.toNat_natCast, Int.reduceToNat, Option.some.injEq, Sum.inr.injEq, Sum.inl.injEq]
    all_goals try omega
section
variable {G : GT} {h : AH} {T : Nat} {bec : Nat → Nat → List Nat} {std tbl : List Nat} {nights moon : Int}
theorem c_X5_laysMany (hF : FxA h) (hA : AllC (hdt h 125) T bec std tbl nights moon) (hL : (wrd bec std tbl).length ≤ 1000000000000) :
    CnA G mX5_laysMany 5 0 0 [.inr (.inr (124))] h (fun v h1 => v = none ∧ FrM [131, 141] [] h h1 ∧ ∀ c, c < 6 → hdt h1 141 c = ((cntW (wrd bec std tbl) c : Nat) : Int)) := by
  refine CnA.of rfl (Nat.le_of_ble_eq_true rfl) ?_
  simp only [largs, lpad, mr_X5_laysMany]
  generalize hE : ((G, mX5_laysMany, _, _, _, _, h) : EV) = E
  have L1 : ∀ i, i ≤ 6 → ∀ h1, FrM [131, 141] [] h h1 → (∀ c, c < i → hdt h1 141 c = ((cntW (wrd bec std tbl) c : Nat) : Int)) → ExA E 2 [some (.inr (.inr (124))), some (.inl ((i : Int)))] [] h1 := by
    refine lpI 6 fun i hi ih h1 hx hr => ?_
    have hF1 := hF.frm hx (by decide +kernel)
    have c1 := hx.2.1
    have eA : hdt h1 125 = hdt h 125 := FrM.c hx (by decide) (by decide)
    by_cases hi6 : i < 6
    · have ih := ih hi6
      subst hE
      refine vsA_ok tk_X5_laysMany rfl 20 ?_
      simp only [at_X5_laysMany, mr_X5_laysMany, vsA, vcA, denA, lget, lset, lst1, lst2, lclr, argsA, restA, acats, acat, tcA, tcN, rzA, lle, List.length_cons, List.length_nil, Option.toList_some, Option.toList_none, List.cons_append, List.nil_append, eG, eM, eD, eC, eS, eQ, eH, if_true, if_false, Nat.reduceAdd, Nat.reduceLeDiff, Nat.reduceEqDiff, Nat.reduceLT, Nat.reduceSub, Int.reduceEq, Int.reduceLE, Int.reduceToNat, reduceCtorEq, reduceIte, Nat.reduceBEq, Int.reduceNeg, not_true, not_false_iff, true_and, and_true, true_or, or_true, false_or, or_false, forall_const, implies_true, Nat.le_refl, Int.toNat_natCast, Int.reduceLT, ne_eq, Fin.isValue, Nat.add_zero, nC_hrw, nS_hrw, nC_hwr, nS_hwr, hkd_hrw, hkd_hwr, fin4_0, fin4_1, fin4_2, fin4_3, fin2_0, fin2_1, ci0, ci1, cnn, false_implies, w32_eq, w64_eq, hF1.m]
      try simp (disch := omega) only [yc_lt, yc_le, yc_gt, yc_ge, yc_eq, w32_eq, w64_eq, tn_add, tn_mul, Int.toNat_natCast, Int.reduceToNat, not_true, not_false_iff, false_implies, forall_const, implies_true]
      repeat' (with_reducible first | apply And.intro | intro _)
      all_goals try omega
      all_goals try simp (disch := omega) only [w32_eq, w64_eq, tn_add, tn_mul, Int.toNat_natCast, Int.reduceToNat, Option.some.injEq, Sum.inr.injEq, Sum.inl.injEq]
      all_goals try omega
      refine ClA.of (c_X5_laysOf hF1 (by rw [eA]; exact hA) hi6) (by first | exact Nat.le_of_ble_eq_true rfl | (simp only [eD]; omega)) (by first | exact Nat.le_refl _ | (simp only [eG, eD, eC, eS, eQ, eH, nC_hrw, nC_hwr, nS_hrw, nS_hwr, nC_hnw, nS_hnw]; omega)) (by first | exact Nat.le_refl _ | (simp only [eG, eD, eC, eS, eQ, eH, nC_hrw, nC_hwr, nS_hrw, nS_hwr, nC_hnw, nS_hnw]; omega)) ?_
      rintro _ h2 ⟨rfl, f, rfl, hf⟩ - -
      have hx2 : FrM [131, 141] [] h (hrw h1 131 f) := hx.rc (by decide) f
      have hF2 := hF.frm hx2 (by decide +kernel)
      have eA2 : hdt (hrw h1 131 f) 125 = hdt h 125 := by rw [hdt_hrw_n _ _ (by decide)]; exact eA
      refine vsA_ok tk_X5_laysMany rfl 20 ?_
      simp only [at_X5_laysMany, mr_X5_laysMany, vsA, vcA, denA, lget, lset, lst1, lst2, lclr, argsA, restA, acats, acat, tcA, tcN, rzA, lle, List.length_cons, List.length_nil, Option.toList_some, Option.toList_none, List.cons_append, List.nil_append, eG, eM, eD, eC, eS, eQ, eH, if_true, if_false, Nat.reduceAdd, Nat.reduceLeDiff, Nat.reduceEqDiff, Nat.reduceLT, Nat.reduceSub, Int.reduceEq, Int.reduceLE, Int.reduceToNat, reduceCtorEq, reduceIte, Nat.reduceBEq, Int.reduceNeg, not_true, not_false_iff, true_and, and_true, true_or, or_true, false_or, or_false, forall_const, implies_true, Nat.le_refl, Int.toNat_natCast, Int.reduceLT, ne_eq, Fin.isValue, Nat.add_zero, nC_hrw, nS_hrw, nC_hwr, nS_hwr, hkd_hrw, hkd_hwr, fin4_0, fin4_1, fin4_2, fin4_3, fin2_0, fin2_1, ci0, ci1, cnn, false_implies, w32_eq, w64_eq, hF2.m]
      try simp (disch := omega) only [yc_lt, yc_le, yc_gt, yc_ge, yc_eq, w32_eq, w64_eq, tn_add, tn_mul, Int.toNat_natCast, Int.reduceToNat, not_true, not_false_iff, false_implies, forall_const, implies_true]
      repeat' (with_reducible first | apply And.intro | intro _)
      all_goals try omega
      all_goals try simp (disch := omega) only [w32_eq, w64_eq, tn_add, tn_mul, Int.toNat_natCast, Int.reduceToNat, Option.some.injEq, Sum.inr.injEq, Sum.inl.injEq]
      all_goals try omega
      refine ClA.pure (c_X5_sumOf hF2 (by rw [eA2]; exact hA) (Or.inr rfl) (w := swt endC bec (ctW i) tbl) (fun c hc => by rw [hdt_hrw_s]; exact hf.zero c hc)) (by first | exact Nat.le_of_ble_eq_true rfl | (simp only [eD]; omega)) (by first | exact Nat.le_refl _ | (simp only [eG, eD, eC, eS, eQ, eH, nC_hrw, nC_hwr, nS_hrw, nS_hwr, nC_hnw, nS_hnw]; omega)) (by first | exact Nat.le_refl _ | (simp only [eG, eD, eC, eS, eQ, eH, nC_hrw, nC_hwr, nS_hrw, nS_hwr, nC_hnw, nS_hnw]; omega)) ?_
      rw [row_cnt hL]
      have nx := ih (hwr (hrw h1 131 f) 141 i (((wrd bec std tbl).count i : Nat) : Int)) (hx2.wc (by decide) _ _) (fun c hc => by
        rw [hdt_hwr, if_pos rfl]
        by_cases e : c = i
        · rw [e, fup_s]
          rfl
        · rw [fup_n _ _ e, hdt_hrw_n _ _ (by decide)]
          exact hr c (by omega))
      refine vsA_ok tk_X5_laysMany rfl 20 ?_
      simp only [at_X5_laysMany, mr_X5_laysMany, vsA, vcA, denA, lget, lset, lst1, lst2, lclr, argsA, restA, acats, acat, tcA, tcN, rzA, lle, List.length_cons, List.length_nil, Option.toList_some, Option.toList_none, List.cons_append, List.nil_append, eG, eM, eD, eC, eS, eQ, eH, if_true, if_false, Nat.reduceAdd, Nat.reduceLeDiff, Nat.reduceEqDiff, Nat.reduceLT, Nat.reduceSub, Int.reduceEq, Int.reduceLE, Int.reduceToNat, reduceCtorEq, reduceIte, Nat.reduceBEq, Int.reduceNeg, not_true, not_false_iff, true_and, and_true, true_or, or_true, false_or, or_false, forall_const, implies_true, Nat.le_refl, Int.toNat_natCast, Int.reduceLT, ne_eq, Fin.isValue, Nat.add_zero, nC_hrw, nS_hrw, nC_hwr, nS_hwr, hkd_hrw, hkd_hwr, fin4_0, fin4_1, fin4_2, fin4_3, fin2_0, fin2_1, ci0, ci1, cnn, false_implies, w32_eq, w64_eq, hF2.m]
      try simp (disch := omega) only [yc_lt, yc_le, yc_gt, yc_ge, yc_eq, w32_eq, w64_eq, tn_add, tn_mul, Int.toNat_natCast, Int.reduceToNat, not_true, not_false_iff, false_implies, forall_const, implies_true]
      repeat' (with_reducible first | apply And.intro | intro _)
      all_goals try omega
      all_goals try simp (disch := omega) only [w32_eq, w64_eq, tn_add, tn_mul, Int.toNat_natCast, Int.reduceToNat, Option.some.injEq, Sum.inr.injEq, Sum.inl.injEq]
      all_goals try omega
      all_goals try exact (nx).weak rfl (by simp [lle] <;> omega)
    · subst hE
      refine vsA_ok tk_X5_laysMany rfl 20 ?_
      simp only [at_X5_laysMany, mr_X5_laysMany, vsA, vcA, denA, lget, lset, lst1, lst2, lclr, argsA, restA, acats, acat, tcA, tcN, rzA, lle, List.length_cons, List.length_nil, Option.toList_some, Option.toList_none, List.cons_append, List.nil_append, eG, eM, eD, eC, eS, eQ, eH, if_true, if_false, Nat.reduceAdd, Nat.reduceLeDiff, Nat.reduceEqDiff, Nat.reduceLT, Nat.reduceSub, Int.reduceEq, Int.reduceLE, Int.reduceToNat, reduceCtorEq, reduceIte, Nat.reduceBEq, Int.reduceNeg, not_true, not_false_iff, true_and, and_true, true_or, or_true, false_or, or_false, forall_const, implies_true, Nat.le_refl, Int.toNat_natCast, Int.reduceLT, ne_eq, Fin.isValue, Nat.add_zero, nC_hrw, nS_hrw, nC_hwr, nS_hwr, hkd_hrw, hkd_hwr, fin4_0, fin4_1, fin4_2, fin4_3, fin2_0, fin2_1, ci0, ci1, cnn, false_implies, w32_eq, w64_eq, c1]
      try simp (disch := omega) only [yc_lt, yc_le, yc_gt, yc_ge, yc_eq, w32_eq, w64_eq, tn_add, tn_mul, Int.toNat_natCast, Int.reduceToNat, not_true, not_false_iff, false_implies, forall_const, implies_true]
      repeat' (with_reducible first | apply And.intro | intro _)
      all_goals try omega
      all_goals try simp (disch := omega) only [w32_eq, w64_eq, tn_add, tn_mul, Int.toNat_natCast, Int.reduceToNat, Option.some.injEq, Sum.inr.injEq, Sum.inl.injEq]
      all_goals try omega
      all_goals first | exact hx | exact hr _ (by omega) | exact fun c hc => hr c (by omega)
  have l1 := L1 0 (by omega) h FrP.rf (fun c hc => by omega)
  subst hE
  refine vsA_ok tk_X5_laysMany rfl 20 ?_
  simp only [at_X5_laysMany, mr_X5_laysMany, vsA, vcA, denA, lget, lset, lst1, lst2, lclr, argsA, restA, acats, acat, tcA, tcN, rzA, lle, List.length_cons, List.length_nil, Option.toList_some, Option.toList_none, List.cons_append, List.nil_append, eG, eM, eD, eC, eS, eQ, eH, if_true, if_false, Nat.reduceAdd, Nat.reduceLeDiff, Nat.reduceEqDiff, Nat.reduceLT, Nat.reduceSub, Int.reduceEq, Int.reduceLE, Int.reduceToNat, reduceCtorEq, reduceIte, Nat.reduceBEq, Int.reduceNeg, not_true, not_false_iff, true_and, and_true, true_or, or_true, false_or, or_false, forall_const, implies_true, Nat.le_refl, Int.toNat_natCast, Int.reduceLT, ne_eq, Fin.isValue, Nat.add_zero, nC_hrw, nS_hrw, nC_hwr, nS_hwr, hkd_hrw, hkd_hwr, fin4_0, fin4_1, fin4_2, fin4_3, fin2_0, fin2_1, ci0, ci1, cnn, false_implies, w32_eq, w64_eq]
  try simp (disch := omega) only [yc_lt, yc_le, yc_gt, yc_ge, yc_eq, w32_eq, w64_eq, tn_add, tn_mul, Int.toNat_natCast, Int.reduceToNat, not_true, not_false_iff, false_implies, forall_const, implies_true]
  repeat' (with_reducible first | apply And.intro | intro _)
  all_goals try omega
  all_goals try simp (disch := omega) only [w32_eq, w64_eq, tn_add, tn_mul, Int.toNat_natCast, Int.reduceToNat, Option.some.injEq, Sum.inr.injEq, Sum.inl.injEq]
  all_goals try omega
  all_goals try exact (l1).weak rfl (by simp [lle] <;> omega)
theorem c_X5_goesMany (hF : FxA h) (hA : AllC (hdt h 125) T bec std tbl nights moon) {g t : Nat} {v : Nat → Nat} (hg : g < 13) (ht : t < 3) (hv : ∀ c, c < 6 → hdt h 141 (6 * g + c) = ((v c : Nat) : Int)) :
    CnA G mX5_goesMany 2 0 0 [.inr (.inr (124)), .inl ((g : Int)), .inl ((t : Int))] h (fun r h1 => r = none ∧ ∃ f, h1 = hrw h 141 f ∧ (∀ d, d < 6 → f (6 * (g + 1) + d) = ((nxV bec t v d : Nat) : Int)) ∧ ∀ j, j < 6 * (g + 1) ∨ 6 * (g + 1) + 6 ≤ j → f j = hdt h 141 j) := by
  refine CnA.of rfl (Nat.le_of_ble_eq_true rfl) ?_
  simp only [largs, lpad, mr_X5_goesMany]
  have hFr : ∀ f, FxA (hrw h 141 f) := fun f => hF.hrw (by decide +kernel) f
  have hAr : ∀ f, AllC (hdt (hrw h 141 f) 125) T bec std tbl nights moon := fun f => by rw [hdt_hrw_n _ _ (by decide)]; exact hA
  generalize hE : ((G, mX5_goesMany, _, _, _, _, h) : EV) = E
  have L2 : ∀ c, c ≤ 6 → ∀ f : Nat → Int, (∀ d, d < 6 → f (6 * (g + 1) + d) = ((smN (fun c => v c * (bec t c).count d) c : Nat) : Int)) → (∀ j, j < 6 * (g + 1) ∨ 6 * (g + 1) + 6 ≤ j → f j = hdt h 141 j) →
      ExA E 36 [some (.inr (.inr (124))), some (.inl ((g : Int))), some (.inl ((t : Int))), some (.inl ((6 * ((g : Int) + 1)))), some (.inl ((c : Int))), none] [] (hrw h 141 f) := by
    refine lpI 6 fun c hc ih f hf1 hf2 => ?_
    by_cases hc6 : c < 6
    · have ih := ih hc6
      have hB := hA.b4 ht hc6
      have L3 : ∀ i, i ≤ (bec t c).length → ∀ f : Nat → Int, (∀ d, d < 6 → f (6 * (g + 1) + d) = ((smN (fun c => v c * (bec t c).count d) c + v c * ((bec t c).take i).count d : Nat) : Int)) → (∀ j, j < 6 * (g + 1) ∨ 6 * (g + 1) + 6 ≤ j → f j = hdt h 141 j) →
          ExA E 46 [some (.inr (.inr (124))), some (.inl ((g : Int))), some (.inl ((t : Int))), some (.inl ((6 * ((g : Int) + 1)))), some (.inl ((c : Int))), some (.inl ((i : Int)))] [] (hrw h 141 f) := by
        refine lpI _ fun i hi ih3 f hf1 hf2 => ?_
        by_cases hil : i < (bec t c).length
        · have hd6 := hB.2 _ (getD_mem hil)
          have hvc : f (6 * g + c) = ((v c : Nat) : Int) := by rw [hf2 _ (by omega)]; exact hv c hc6
          have hfd := hf1 _ hd6
          have nx := ih3 hil (fup f (6 * (g + 1) + (bec t c).getD i 0) (f (6 * (g + 1) + (bec t c).getD i 0) + f (6 * g + c))) (fun d hd => by
            rw [List.take_add_one, List.getElem?_eq_getElem hil, List.count_append]
            have e0 : (bec t c).getD i 0 = (bec t c)[i] := by simp [hil]
            by_cases e : d = (bec t c).getD i 0
            · rw [e, fup_s, hfd, hvc, e0]
              simp [Nat.mul_add]
              omega
            · rw [fup_n _ _ (by omega), hf1 d hd]
              have e1 : ((some (bec t c)[i]).toList).count d = 0 := by
                rw [Option.toList_some, List.count_eq_zero]
                intro q
                have := List.mem_singleton.mp q
                exact e (this.trans e0.symm)
              rw [e1, Nat.add_zero]) (fun j hj => by rw [fup_n _ _ (by omega)]; exact hf2 j hj)
          have hbo := c_X5_becomeOf (G := G) (hFr f) (hAr f) ht hc6 hil
          have ed : (6 * ((g : Int) + 1) + (((bec t c).getD i 0 : Nat) : Int)).toNat = 6 * (g + 1) + (bec t c).getD i 0 := by omega
          have eg : (6 * (g : Int) + (c : Int)).toNat = 6 * g + c := by omega
          generalize (bec t c).getD i 0 = d at *
          subst hE
          refine vsA_ok tk_X5_goesMany rfl 20 ?_
          simp only [at_X5_goesMany, mr_X5_goesMany, vsA, vcA, denA, lget, lset, lst1, lst2, lclr, argsA, restA, acats, acat, tcA, tcN, rzA, lle, List.length_cons, List.length_nil, Option.toList_some, Option.toList_none, List.cons_append, List.nil_append, eG, eM, eD, eC, eS, eQ, eH, if_true, if_false, Nat.reduceAdd, Nat.reduceLeDiff, Nat.reduceEqDiff, Nat.reduceLT, Nat.reduceSub, Int.reduceEq, Int.reduceLE, Int.reduceToNat, reduceCtorEq, reduceIte, Nat.reduceBEq, Int.reduceNeg, not_true, not_false_iff, true_and, and_true, true_or, or_true, false_or, or_false, forall_const, implies_true, Nat.le_refl, Int.toNat_natCast, Int.reduceLT, ne_eq, Fin.isValue, Nat.add_zero, nC_hrw, nS_hrw, nC_hwr, nS_hwr, hkd_hrw, hkd_hwr, fin4_0, fin4_1, fin4_2, fin4_3, fin2_0, fin2_1, ci0, ci1, cnn, false_implies, w32_eq, w64_eq, (hFr f).m]
          try simp (disch := omega) only [yc_lt, yc_le, yc_gt, yc_ge, yc_eq, w32_eq, w64_eq, tn_add, tn_mul, Int.toNat_natCast, Int.reduceToNat, not_true, not_false_iff, false_implies, forall_const, implies_true]
          repeat' (with_reducible first | apply And.intro | intro _)
          all_goals try omega
          all_goals try simp (disch := omega) only [w32_eq, w64_eq, tn_add, tn_mul, Int.toNat_natCast, Int.reduceToNat, Option.some.injEq, Sum.inr.injEq, Sum.inl.injEq]
          all_goals try omega
          refine ClA.pure (c_X5_becomeMany (hFr f) (hAr f) ht hc6) (by first | exact Nat.le_of_ble_eq_true rfl | (simp only [eD]; omega)) (by first | exact Nat.le_refl _ | (simp only [eG, eD, eC, eS, eQ, eH, nC_hrw, nC_hwr, nS_hrw, nS_hwr, nC_hnw, nS_hnw]; omega)) (by first | exact Nat.le_refl _ | (simp only [eG, eD, eC, eS, eQ, eH, nC_hrw, nC_hwr, nS_hrw, nS_hwr, nC_hnw, nS_hnw]; omega)) ?_
          refine vsA_ok tk_X5_goesMany rfl 20 ?_
          simp only [at_X5_goesMany, mr_X5_goesMany, vsA, vcA, denA, lget, lset, lst1, lst2, lclr, argsA, restA, acats, acat, tcA, tcN, rzA, lle, List.length_cons, List.length_nil, Option.toList_some, Option.toList_none, List.cons_append, List.nil_append, eG, eM, eD, eC, eS, eQ, eH, if_true, if_false, Nat.reduceAdd, Nat.reduceLeDiff, Nat.reduceEqDiff, Nat.reduceLT, Nat.reduceSub, Int.reduceEq, Int.reduceLE, Int.reduceToNat, reduceCtorEq, reduceIte, Nat.reduceBEq, Int.reduceNeg, not_true, not_false_iff, true_and, and_true, true_or, or_true, false_or, or_false, forall_const, implies_true, Nat.le_refl, Int.toNat_natCast, Int.reduceLT, ne_eq, Fin.isValue, Nat.add_zero, nC_hrw, nS_hrw, nC_hwr, nS_hwr, hkd_hrw, hkd_hwr, fin4_0, fin4_1, fin4_2, fin4_3, fin2_0, fin2_1, ci0, ci1, cnn, false_implies, w32_eq, w64_eq, (hFr f).m]
          try simp (disch := omega) only [yc_lt, yc_le, yc_gt, yc_ge, yc_eq, w32_eq, w64_eq, tn_add, tn_mul, Int.toNat_natCast, Int.reduceToNat, not_true, not_false_iff, false_implies, forall_const, implies_true]
          repeat' (with_reducible first | apply And.intro | intro _)
          all_goals try omega
          all_goals try simp (disch := omega) only [w32_eq, w64_eq, tn_add, tn_mul, Int.toNat_natCast, Int.reduceToNat, Option.some.injEq, Sum.inr.injEq, Sum.inl.injEq]
          all_goals try omega
          refine ClA.pure (hbo) (by first | exact Nat.le_of_ble_eq_true rfl | (simp only [eD]; omega)) (by first | exact Nat.le_refl _ | (simp only [eG, eD, eC, eS, eQ, eH, nC_hrw, nC_hwr, nS_hrw, nS_hwr, nC_hnw, nS_hnw]; omega)) (by first | exact Nat.le_refl _ | (simp only [eG, eD, eC, eS, eQ, eH, nC_hrw, nC_hwr, nS_hrw, nS_hwr, nC_hnw, nS_hnw]; omega)) ?_
          refine vsA_ok tk_X5_goesMany rfl 30 ?_
          simp only [at_X5_goesMany, mr_X5_goesMany, vsA, vcA, denA, lget, lset, lst1, lst2, lclr, argsA, restA, acats, acat, tcA, tcN, rzA, lle, List.length_cons, List.length_nil, Option.toList_some, Option.toList_none, List.cons_append, List.nil_append, eG, eM, eD, eC, eS, eQ, eH, if_true, if_false, Nat.reduceAdd, Nat.reduceLeDiff, Nat.reduceEqDiff, Nat.reduceLT, Nat.reduceSub, Int.reduceEq, Int.reduceLE, Int.reduceToNat, reduceCtorEq, reduceIte, Nat.reduceBEq, Int.reduceNeg, not_true, not_false_iff, true_and, and_true, true_or, or_true, false_or, or_false, forall_const, implies_true, Nat.le_refl, Int.toNat_natCast, Int.reduceLT, ne_eq, Fin.isValue, Nat.add_zero, nC_hrw, nS_hrw, nC_hwr, nS_hwr, hkd_hrw, hkd_hwr, fin4_0, fin4_1, fin4_2, fin4_3, fin2_0, fin2_1, ci0, ci1, cnn, false_implies, w32_eq, w64_eq, (hFr f).m]
          try simp (disch := omega) only [yc_lt, yc_le, yc_gt, yc_ge, yc_eq, w32_eq, w64_eq, tn_add, tn_mul, Int.toNat_natCast, Int.reduceToNat, not_true, not_false_iff, false_implies, forall_const, implies_true, hdt_hrw_s, ed, eg, hwr_hrw]
          repeat' (with_reducible first | apply And.intro | intro _)
          all_goals try omega
          all_goals try simp (disch := omega) only [w32_eq, w64_eq, tn_add, tn_mul, Int.toNat_natCast, Int.reduceToNat, Option.some.injEq, Sum.inr.injEq, Sum.inl.injEq, hdt_hrw_s, ed, eg, hwr_hrw]
          all_goals try omega
          all_goals try exact (nx).weak rfl (by simp [lle] <;> omega)
        · have nx := ih f (fun d hd => by
            have := hf1 d hd
            rw [List.take_of_length_le (by omega)] at this
            exact this) hf2
          subst hE
          refine vsA_ok tk_X5_goesMany rfl 20 ?_
          simp only [at_X5_goesMany, mr_X5_goesMany, vsA, vcA, denA, lget, lset, lst1, lst2, lclr, argsA, restA, acats, acat, tcA, tcN, rzA, lle, List.length_cons, List.length_nil, Option.toList_some, Option.toList_none, List.cons_append, List.nil_append, eG, eM, eD, eC, eS, eQ, eH, if_true, if_false, Nat.reduceAdd, Nat.reduceLeDiff, Nat.reduceEqDiff, Nat.reduceLT, Nat.reduceSub, Int.reduceEq, Int.reduceLE, Int.reduceToNat, reduceCtorEq, reduceIte, Nat.reduceBEq, Int.reduceNeg, not_true, not_false_iff, true_and, and_true, true_or, or_true, false_or, or_false, forall_const, implies_true, Nat.le_refl, Int.toNat_natCast, Int.reduceLT, ne_eq, Fin.isValue, Nat.add_zero, nC_hrw, nS_hrw, nC_hwr, nS_hwr, hkd_hrw, hkd_hwr, fin4_0, fin4_1, fin4_2, fin4_3, fin2_0, fin2_1, ci0, ci1, cnn, false_implies, w32_eq, w64_eq, (hFr f).m]
          try simp (disch := omega) only [yc_lt, yc_le, yc_gt, yc_ge, yc_eq, w32_eq, w64_eq, tn_add, tn_mul, Int.toNat_natCast, Int.reduceToNat, not_true, not_false_iff, false_implies, forall_const, implies_true]
          repeat' (with_reducible first | apply And.intro | intro _)
          all_goals try omega
          all_goals try simp (disch := omega) only [w32_eq, w64_eq, tn_add, tn_mul, Int.toNat_natCast, Int.reduceToNat, Option.some.injEq, Sum.inr.injEq, Sum.inl.injEq]
          all_goals try omega
          refine ClA.pure (c_X5_becomeMany (hFr f) (hAr f) ht hc6) (by first | exact Nat.le_of_ble_eq_true rfl | (simp only [eD]; omega)) (by first | exact Nat.le_refl _ | (simp only [eG, eD, eC, eS, eQ, eH, nC_hrw, nC_hwr, nS_hrw, nS_hwr, nC_hnw, nS_hnw]; omega)) (by first | exact Nat.le_refl _ | (simp only [eG, eD, eC, eS, eQ, eH, nC_hrw, nC_hwr, nS_hrw, nS_hwr, nC_hnw, nS_hnw]; omega)) ?_
          refine vsA_ok tk_X5_goesMany rfl 20 ?_
          simp only [at_X5_goesMany, mr_X5_goesMany, vsA, vcA, denA, lget, lset, lst1, lst2, lclr, argsA, restA, acats, acat, tcA, tcN, rzA, lle, List.length_cons, List.length_nil, Option.toList_some, Option.toList_none, List.cons_append, List.nil_append, eG, eM, eD, eC, eS, eQ, eH, if_true, if_false, Nat.reduceAdd, Nat.reduceLeDiff, Nat.reduceEqDiff, Nat.reduceLT, Nat.reduceSub, Int.reduceEq, Int.reduceLE, Int.reduceToNat, reduceCtorEq, reduceIte, Nat.reduceBEq, Int.reduceNeg, not_true, not_false_iff, true_and, and_true, true_or, or_true, false_or, or_false, forall_const, implies_true, Nat.le_refl, Int.toNat_natCast, Int.reduceLT, ne_eq, Fin.isValue, Nat.add_zero, nC_hrw, nS_hrw, nC_hwr, nS_hwr, hkd_hrw, hkd_hwr, fin4_0, fin4_1, fin4_2, fin4_3, fin2_0, fin2_1, ci0, ci1, cnn, false_implies, w32_eq, w64_eq]
          try simp (disch := omega) only [yc_lt, yc_le, yc_gt, yc_ge, yc_eq, w32_eq, w64_eq, tn_add, tn_mul, Int.toNat_natCast, Int.reduceToNat, not_true, not_false_iff, false_implies, forall_const, implies_true]
          repeat' (with_reducible first | apply And.intro | intro _)
          all_goals try omega
          all_goals try simp (disch := omega) only [w32_eq, w64_eq, tn_add, tn_mul, Int.toNat_natCast, Int.reduceToNat, Option.some.injEq, Sum.inr.injEq, Sum.inl.injEq]
          all_goals try omega
          all_goals try exact (nx).weak rfl (by simp [lle] <;> omega)
      have nx := L3 0 (Nat.zero_le _) f (fun d hd => by simpa using hf1 d hd) hf2
      subst hE
      refine vsA_ok tk_X5_goesMany rfl 20 ?_
      simp only [at_X5_goesMany, mr_X5_goesMany, vsA, vcA, denA, lget, lset, lst1, lst2, lclr, argsA, restA, acats, acat, tcA, tcN, rzA, lle, List.length_cons, List.length_nil, Option.toList_some, Option.toList_none, List.cons_append, List.nil_append, eG, eM, eD, eC, eS, eQ, eH, if_true, if_false, Nat.reduceAdd, Nat.reduceLeDiff, Nat.reduceEqDiff, Nat.reduceLT, Nat.reduceSub, Int.reduceEq, Int.reduceLE, Int.reduceToNat, reduceCtorEq, reduceIte, Nat.reduceBEq, Int.reduceNeg, not_true, not_false_iff, true_and, and_true, true_or, or_true, false_or, or_false, forall_const, implies_true, Nat.le_refl, Int.toNat_natCast, Int.reduceLT, ne_eq, Fin.isValue, Nat.add_zero, nC_hrw, nS_hrw, nC_hwr, nS_hwr, hkd_hrw, hkd_hwr, fin4_0, fin4_1, fin4_2, fin4_3, fin2_0, fin2_1, ci0, ci1, cnn, false_implies, w32_eq, w64_eq]
      try simp (disch := omega) only [yc_lt, yc_le, yc_gt, yc_ge, yc_eq, w32_eq, w64_eq, tn_add, tn_mul, Int.toNat_natCast, Int.reduceToNat, not_true, not_false_iff, false_implies, forall_const, implies_true]
      repeat' (with_reducible first | apply And.intro | intro _)
      all_goals try omega
      all_goals try simp (disch := omega) only [w32_eq, w64_eq, tn_add, tn_mul, Int.toNat_natCast, Int.reduceToNat, Option.some.injEq, Sum.inr.injEq, Sum.inl.injEq]
      all_goals try omega
      all_goals try exact (nx).weak rfl (by simp [lle] <;> omega)
    · have hc7 : c = 6 := by omega
      subst hc7
      subst hE
      refine vsA_ok tk_X5_goesMany rfl 20 ?_
      simp only [at_X5_goesMany, mr_X5_goesMany, vsA, vcA, denA, lget, lset, lst1, lst2, lclr, argsA, restA, acats, acat, tcA, tcN, rzA, lle, List.length_cons, List.length_nil, Option.toList_some, Option.toList_none, List.cons_append, List.nil_append, eG, eM, eD, eC, eS, eQ, eH, if_true, if_false, Nat.reduceAdd, Nat.reduceLeDiff, Nat.reduceEqDiff, Nat.reduceLT, Nat.reduceSub, Int.reduceEq, Int.reduceLE, Int.reduceToNat, reduceCtorEq, reduceIte, Nat.reduceBEq, Int.reduceNeg, not_true, not_false_iff, true_and, and_true, true_or, or_true, false_or, or_false, forall_const, implies_true, Nat.le_refl, Int.toNat_natCast, Int.reduceLT, ne_eq, Fin.isValue, Nat.add_zero, nC_hrw, nS_hrw, nC_hwr, nS_hwr, hkd_hrw, hkd_hwr, fin4_0, fin4_1, fin4_2, fin4_3, fin2_0, fin2_1, ci0, ci1, cnn, false_implies, w32_eq, w64_eq]
      try simp (disch := omega) only [yc_lt, yc_le, yc_gt, yc_ge, yc_eq, w32_eq, w64_eq, tn_add, tn_mul, Int.toNat_natCast, Int.reduceToNat, not_true, not_false_iff, false_implies, forall_const, implies_true]
      repeat' (with_reducible first | apply And.intro | intro _)
      all_goals try omega
      all_goals try simp (disch := omega) only [w32_eq, w64_eq, tn_add, tn_mul, Int.toNat_natCast, Int.reduceToNat, Option.some.injEq, Sum.inr.injEq, Sum.inl.injEq]
      all_goals try omega
      exact ⟨f, rfl, hf1, hf2⟩
  have L1 : ∀ c, c ≤ 6 → ∀ f : Nat → Int, (∀ d, d < c → f (6 * (g + 1) + d) = 0) → (∀ j, j < 6 * (g + 1) ∨ 6 * (g + 1) + 6 ≤ j → f j = hdt h 141 j) →
      ExA E 10 [some (.inr (.inr (124))), some (.inl ((g : Int))), some (.inl ((t : Int))), some (.inl ((6 * ((g : Int) + 1)))), some (.inl ((c : Int))), none] [] (hrw h 141 f) := by
    refine lpI 6 fun c hc ih f hf1 hf2 => ?_
    by_cases hc6 : c < 6
    · have nx := ih hc6 (fup f (6 * (g + 1) + c) 0) (fun d hd => by
        by_cases e : d = c
        · rw [e, fup_s]
        · rw [fup_n _ _ (by omega)]
          exact hf1 d (by omega)) (fun j hj => by rw [fup_n _ _ (by omega)]; exact hf2 j hj)
      subst hE
      refine vsA_ok tk_X5_goesMany rfl 20 ?_
      simp only [at_X5_goesMany, mr_X5_goesMany, vsA, vcA, denA, lget, lset, lst1, lst2, lclr, argsA, restA, acats, acat, tcA, tcN, rzA, lle, List.length_cons, List.length_nil, Option.toList_some, Option.toList_none, List.cons_append, List.nil_append, eG, eM, eD, eC, eS, eQ, eH, if_true, if_false, Nat.reduceAdd, Nat.reduceLeDiff, Nat.reduceEqDiff, Nat.reduceLT, Nat.reduceSub, Int.reduceEq, Int.reduceLE, Int.reduceToNat, reduceCtorEq, reduceIte, Nat.reduceBEq, Int.reduceNeg, not_true, not_false_iff, true_and, and_true, true_or, or_true, false_or, or_false, forall_const, implies_true, Nat.le_refl, Int.toNat_natCast, Int.reduceLT, ne_eq, Fin.isValue, Nat.add_zero, nC_hrw, nS_hrw, nC_hwr, nS_hwr, hkd_hrw, hkd_hwr, fin4_0, fin4_1, fin4_2, fin4_3, fin2_0, fin2_1, ci0, ci1, cnn, false_implies, w32_eq, w64_eq, (hFr f).m]
      try simp (disch := omega) only [yc_lt, yc_le, yc_gt, yc_ge, yc_eq, w32_eq, w64_eq, tn_add, tn_mul, Int.toNat_natCast, Int.reduceToNat, not_true, not_false_iff, false_implies, forall_const, implies_true, hwr_hrw]
      repeat' (with_reducible first | apply And.intro | intro _)
      all_goals try omega
      all_goals try simp (disch := omega) only [w32_eq, w64_eq, tn_add, tn_mul, Int.toNat_natCast, Int.reduceToNat, Option.some.injEq, Sum.inr.injEq, Sum.inl.injEq, hwr_hrw]
      all_goals try omega
      all_goals try exact (nx).weak rfl (by simp [lle] <;> omega)
    · have nx := L2 0 (by omega) f (fun d hd => hf1 d (by omega)) hf2
      subst hE
      refine vsA_ok tk_X5_goesMany rfl 4 ?_
      simp only [at_X5_goesMany, mr_X5_goesMany, vsA, vcA, denA, lget, lset, lst1, lst2, lclr, argsA, restA, acats, acat, tcA, tcN, rzA, lle, List.length_cons, List.length_nil, Option.toList_some, Option.toList_none, List.cons_append, List.nil_append, eG, eM, eD, eC, eS, eQ, eH, if_true, if_false, Nat.reduceAdd, Nat.reduceLeDiff, Nat.reduceEqDiff, Nat.reduceLT, Nat.reduceSub, Int.reduceEq, Int.reduceLE, Int.reduceToNat, reduceCtorEq, reduceIte, Nat.reduceBEq, Int.reduceNeg, not_true, not_false_iff, true_and, and_true, true_or, or_true, false_or, or_false, forall_const, implies_true, Nat.le_refl, Int.toNat_natCast, Int.reduceLT, ne_eq, Fin.isValue, Nat.add_zero, nC_hrw, nS_hrw, nC_hwr, nS_hwr, hkd_hrw, hkd_hwr, fin4_0, fin4_1, fin4_2, fin4_3, fin2_0, fin2_1, ci0, ci1, cnn, false_implies, w32_eq, w64_eq]
      try simp (disch := omega) only [yc_lt, yc_le, yc_gt, yc_ge, yc_eq, w32_eq, w64_eq, tn_add, tn_mul, Int.toNat_natCast, Int.reduceToNat, not_true, not_false_iff, false_implies, forall_const, implies_true]
      repeat' (with_reducible first | apply And.intro | intro _)
      all_goals try omega
      all_goals try simp (disch := omega) only [w32_eq, w64_eq, tn_add, tn_mul, Int.toNat_natCast, Int.reduceToNat, Option.some.injEq, Sum.inr.injEq, Sum.inl.injEq]
      all_goals try omega
      all_goals try exact (nx).weak rfl (by simp [lle] <;> omega)
  have l1 := L1 0 (by omega) (hdt h 141) (fun d hd => by omega) (fun j hj => rfl)
  rw [hrw_self] at l1
  subst hE
  refine vsA_ok tk_X5_goesMany rfl 20 ?_
  simp only [at_X5_goesMany, mr_X5_goesMany, vsA, vcA, denA, lget, lset, lst1, lst2, lclr, argsA, restA, acats, acat, tcA, tcN, rzA, lle, List.length_cons, List.length_nil, Option.toList_some, Option.toList_none, List.cons_append, List.nil_append, eG, eM, eD, eC, eS, eQ, eH, if_true, if_false, Nat.reduceAdd, Nat.reduceLeDiff, Nat.reduceEqDiff, Nat.reduceLT, Nat.reduceSub, Int.reduceEq, Int.reduceLE, Int.reduceToNat, reduceCtorEq, reduceIte, Nat.reduceBEq, Int.reduceNeg, not_true, not_false_iff, true_and, and_true, true_or, or_true, false_or, or_false, forall_const, implies_true, Nat.le_refl, Int.toNat_natCast, Int.reduceLT, ne_eq, Fin.isValue, Nat.add_zero, nC_hrw, nS_hrw, nC_hwr, nS_hwr, hkd_hrw, hkd_hwr, fin4_0, fin4_1, fin4_2, fin4_3, fin2_0, fin2_1, ci0, ci1, cnn, false_implies, w32_eq, w64_eq]
  try simp (disch := omega) only [yc_lt, yc_le, yc_gt, yc_ge, yc_eq, w32_eq, w64_eq, tn_add, tn_mul, Int.toNat_natCast, Int.reduceToNat, not_true, not_false_iff, false_implies, forall_const, implies_true]
  repeat' (with_reducible first | apply And.intro | intro _)
  all_goals try omega
  all_goals try simp (disch := omega) only [w32_eq, w64_eq, tn_add, tn_mul, Int.toNat_natCast, Int.reduceToNat, Option.some.injEq, Sum.inr.injEq, Sum.inl.injEq]
  all_goals try omega
  all_goals try exact (l1).weak rfl (by simp [lle] <;> omega)
theorem c_X5_longIn (hF : FxA h) {g : Nat} {v : Nat → Nat} (hg : g < 14) (hv : ∀ c, c < 6 → hdt h 141 (6 * g + c) = ((v c : Nat) : Int)) :
    CnA G mX5_longIn 1 0 0 [.inr (.inr (124)), .inl ((g : Int))] h (fun r h1 => r = some (.inr (.inl (((lnV v : Nat) : Int)))) ∧ h1 = h) := by
  refine CnA.of rfl (Nat.le_of_ble_eq_true rfl) ?_
  simp only [largs, lpad, mr_X5_longIn]
  generalize hE : ((G, mX5_longIn, _, _, _, _, h) : EV) = E
  have L1 : ∀ c, c ≤ 6 → ExA E 5 [some (.inr (.inr (124))), some (.inl ((g : Int))), some (.inr (.inl (((smN v c : Nat) : Int)))), none, some (.inl ((c : Int)))] [] h := by
    refine lpI 6 fun c hc ih => ?_
    by_cases hc6 : c < 6
    · have nx := ih hc6
      have e1 := hv c hc6
      have nx' : ExA E 5 [some (.inr (.inr (124))), some (.inl ((g : Int))), some (.inr (.inl (((smN v c + v c : Nat) : Int)))), none, some (.inl (((c + 1 : Nat) : Int)))] [] h := nx
      subst hE
      refine vsA_ok tk_X5_longIn rfl 20 ?_
      simp only [at_X5_longIn, mr_X5_longIn, vsA, vcA, denA, lget, lset, lst1, lst2, lclr, argsA, restA, acats, acat, tcA, tcN, rzA, lle, List.length_cons, List.length_nil, Option.toList_some, Option.toList_none, List.cons_append, List.nil_append, eG, eM, eD, eC, eS, eQ, eH, if_true, if_false, Nat.reduceAdd, Nat.reduceLeDiff, Nat.reduceEqDiff, Nat.reduceLT, Nat.reduceSub, Int.reduceEq, Int.reduceLE, Int.reduceToNat, reduceCtorEq, reduceIte, Nat.reduceBEq, Int.reduceNeg, not_true, not_false_iff, true_and, and_true, true_or, or_true, false_or, or_false, forall_const, implies_true, Nat.le_refl, Int.toNat_natCast, Int.reduceLT, ne_eq, Fin.isValue, Nat.add_zero, nC_hrw, nS_hrw, nC_hwr, nS_hwr, hkd_hrw, hkd_hwr, fin4_0, fin4_1, fin4_2, fin4_3, fin2_0, fin2_1, ci0, ci1, cnn, false_implies, w32_eq, w64_eq, hF.m]
      try simp (disch := omega) only [yc_lt, yc_le, yc_gt, yc_ge, yc_eq, w32_eq, w64_eq, tn_add, tn_mul, Int.toNat_natCast, Int.reduceToNat, not_true, not_false_iff, false_implies, forall_const, implies_true, e1]
      repeat' (with_reducible first | apply And.intro | intro _)
      all_goals try omega
      all_goals try simp (disch := omega) only [w32_eq, w64_eq, tn_add, tn_mul, Int.toNat_natCast, Int.reduceToNat, Option.some.injEq, Sum.inr.injEq, Sum.inl.injEq, e1]
      all_goals try omega
      all_goals try exact (nx').weak rfl (by simp [lle] <;> omega)
    · have hc7 : c = 6 := by omega
      subst hc7
      subst hE
      refine vsA_ok tk_X5_longIn rfl 20 ?_
      simp only [at_X5_longIn, mr_X5_longIn, vsA, vcA, denA, lget, lset, lst1, lst2, lclr, argsA, restA, acats, acat, tcA, tcN, rzA, lle, List.length_cons, List.length_nil, Option.toList_some, Option.toList_none, List.cons_append, List.nil_append, eG, eM, eD, eC, eS, eQ, eH, if_true, if_false, Nat.reduceAdd, Nat.reduceLeDiff, Nat.reduceEqDiff, Nat.reduceLT, Nat.reduceSub, Int.reduceEq, Int.reduceLE, Int.reduceToNat, reduceCtorEq, reduceIte, Nat.reduceBEq, Int.reduceNeg, not_true, not_false_iff, true_and, and_true, true_or, or_true, false_or, or_false, forall_const, implies_true, Nat.le_refl, Int.toNat_natCast, Int.reduceLT, ne_eq, Fin.isValue, Nat.add_zero, nC_hrw, nS_hrw, nC_hwr, nS_hwr, hkd_hrw, hkd_hwr, fin4_0, fin4_1, fin4_2, fin4_3, fin2_0, fin2_1, ci0, ci1, cnn, false_implies, w32_eq, w64_eq]
      try simp (disch := omega) only [yc_lt, yc_le, yc_gt, yc_ge, yc_eq, w32_eq, w64_eq, tn_add, tn_mul, Int.toNat_natCast, Int.reduceToNat, not_true, not_false_iff, false_implies, forall_const, implies_true]
      repeat' (with_reducible first | apply And.intro | intro _)
      all_goals try omega
      all_goals try simp (disch := omega) only [w32_eq, w64_eq, tn_add, tn_mul, Int.toNat_natCast, Int.reduceToNat, Option.some.injEq, Sum.inr.injEq, Sum.inl.injEq]
      all_goals try omega
      all_goals rfl
  have l1 := L1 0 (by omega)
  rw [show smN v 0 = 0 from rfl] at l1
  subst hE
  refine vsA_ok tk_X5_longIn rfl 20 ?_
  simp only [at_X5_longIn, mr_X5_longIn, vsA, vcA, denA, lget, lset, lst1, lst2, lclr, argsA, restA, acats, acat, tcA, tcN, rzA, lle, List.length_cons, List.length_nil, Option.toList_some, Option.toList_none, List.cons_append, List.nil_append, eG, eM, eD, eC, eS, eQ, eH, if_true, if_false, Nat.reduceAdd, Nat.reduceLeDiff, Nat.reduceEqDiff, Nat.reduceLT, Nat.reduceSub, Int.reduceEq, Int.reduceLE, Int.reduceToNat, reduceCtorEq, reduceIte, Nat.reduceBEq, Int.reduceNeg, not_true, not_false_iff, true_and, and_true, true_or, or_true, false_or, or_false, forall_const, implies_true, Nat.le_refl, Int.toNat_natCast, Int.reduceLT, ne_eq, Fin.isValue, Nat.add_zero, nC_hrw, nS_hrw, nC_hwr, nS_hwr, hkd_hrw, hkd_hwr, fin4_0, fin4_1, fin4_2, fin4_3, fin2_0, fin2_1, ci0, ci1, cnn, false_implies, w32_eq, w64_eq]
  try simp (disch := omega) only [yc_lt, yc_le, yc_gt, yc_ge, yc_eq, w32_eq, w64_eq, tn_add, tn_mul, Int.toNat_natCast, Int.reduceToNat, not_true, not_false_iff, false_implies, forall_const, implies_true]
  repeat' (with_reducible first | apply And.intro | intro _)
  all_goals try omega
  all_goals try simp (disch := omega) only [w32_eq, w64_eq, tn_add, tn_mul, Int.toNat_natCast, Int.reduceToNat, Option.some.injEq, Sum.inr.injEq, Sum.inl.injEq]
  all_goals try omega
  all_goals try exact (l1).weak rfl (by simp [lle] <;> omega)
theorem c_X5_kindsTo (hF : FxA h) (hA : AllC (hdt h 125) T bec std tbl nights moon) {t s : Nat} (ht : t < 3) (hs : s < 64) :
    CnA G mX5_kindsTo 2 0 0 [.inr (.inr (124)), .inl ((s : Int)), .inl ((t : Int))] h (fun r h1 => r = some (.inl (((kndT bec t s 6 : Nat) : Int))) ∧ h1 = h) := by
  refine CnA.of rfl (Nat.le_of_ble_eq_true rfl) ?_
  simp only [largs, lpad, mr_X5_kindsTo]
  have hb6 : ∀ c, c < 6 → ∀ d ∈ bec t c, d < 6 := fun c hc => (hA.b4 ht hc).2
  generalize hE : ((G, mX5_kindsTo, _, _, _, _, h) : EV) = E
  have L1 : ∀ c, c ≤ 6 → ExA E 5 [some (.inr (.inr (124))), some (.inl ((s : Int))), some (.inl ((t : Int))), some (.inl (((kndT bec t s c : Nat) : Int))), some (.inl ((c : Int))), none] [] h := by
    refine lpI 6 fun c hc ih => ?_
    have hk6 := kndT_lt (s := s) hb6 c hc
    by_cases hc6 : c < 6
    · have ih := ih hc6
      have h4 := (hA.b4 ht hc6).1
      have L2 : s.testBit c = true → ∀ i, i ≤ (bec t c).length → ExA E 15 [some (.inr (.inr (124))), some (.inl ((s : Int))), some (.inl ((t : Int))), some (.inl (((orL ((bec t c).take i) (kndT bec t s c) : Nat) : Int))), some (.inl ((c : Int))), some (.inl ((i : Int)))] [] h := by
        intro hbit
        refine lpI _ fun i hi ih2 => ?_
        have hk := orL_lt ((bec t c).take i) (kndT bec t s c) (fun d hd => hb6 c hc6 d (List.mem_of_mem_take hd)) hk6
        by_cases hil : i < (bec t c).length
        · have nx := ih2 hil
          rw [orL_take _ _ hil] at nx
          have hd6 := hb6 c hc6 _ (getD_mem hil)
          have hbo := c_X5_becomeOf (G := G) hF hA ht hc6 hil
          generalize orL ((bec t c).take i) (kndT bec t s c) = k at *
          generalize (bec t c).getD i 0 = d at *
          have hii := c_X5_isIn (G := G) h (s := s) (k := c) (by omega) (by omega)
          rw [if_pos hbit] at hii
          subst hE
          refine vsA_ok tk_X5_kindsTo rfl 20 ?_
          simp only [at_X5_kindsTo, mr_X5_kindsTo, vsA, vcA, denA, lget, lset, lst1, lst2, lclr, argsA, restA, acats, acat, tcA, tcN, rzA, lle, List.length_cons, List.length_nil, Option.toList_some, Option.toList_none, List.cons_append, List.nil_append, eG, eM, eD, eC, eS, eQ, eH, if_true, if_false, Nat.reduceAdd, Nat.reduceLeDiff, Nat.reduceEqDiff, Nat.reduceLT, Nat.reduceSub, Int.reduceEq, Int.reduceLE, Int.reduceToNat, reduceCtorEq, reduceIte, Nat.reduceBEq, Int.reduceNeg, not_true, not_false_iff, true_and, and_true, true_or, or_true, false_or, or_false, forall_const, implies_true, Nat.le_refl, Int.toNat_natCast, Int.reduceLT, ne_eq, Fin.isValue, Nat.add_zero, nC_hrw, nS_hrw, nC_hwr, nS_hwr, hkd_hrw, hkd_hwr, fin4_0, fin4_1, fin4_2, fin4_3, fin2_0, fin2_1, ci0, ci1, cnn, false_implies, w32_eq, w64_eq, hF.m]
          try simp (disch := omega) only [yc_lt, yc_le, yc_gt, yc_ge, yc_eq, w32_eq, w64_eq, tn_add, tn_mul, Int.toNat_natCast, Int.reduceToNat, not_true, not_false_iff, false_implies, forall_const, implies_true]
          repeat' (with_reducible first | apply And.intro | intro _)
          all_goals try omega
          all_goals try simp (disch := omega) only [w32_eq, w64_eq, tn_add, tn_mul, Int.toNat_natCast, Int.reduceToNat, Option.some.injEq, Sum.inr.injEq, Sum.inl.injEq]
          all_goals try omega
          refine ClA.pure (c_X5_becomeMany hF hA ht hc6) (by first | exact Nat.le_of_ble_eq_true rfl | (simp only [eD]; omega)) (by first | exact Nat.le_refl _ | (simp only [eG, eD, eC, eS, eQ, eH, nC_hrw, nC_hwr, nS_hrw, nS_hwr, nC_hnw, nS_hnw]; omega)) (by first | exact Nat.le_refl _ | (simp only [eG, eD, eC, eS, eQ, eH, nC_hrw, nC_hwr, nS_hrw, nS_hwr, nC_hnw, nS_hnw]; omega)) ?_
          refine vsA_ok tk_X5_kindsTo rfl 20 ?_
          simp only [at_X5_kindsTo, mr_X5_kindsTo, vsA, vcA, denA, lget, lset, lst1, lst2, lclr, argsA, restA, acats, acat, tcA, tcN, rzA, lle, List.length_cons, List.length_nil, Option.toList_some, Option.toList_none, List.cons_append, List.nil_append, eG, eM, eD, eC, eS, eQ, eH, if_true, if_false, Nat.reduceAdd, Nat.reduceLeDiff, Nat.reduceEqDiff, Nat.reduceLT, Nat.reduceSub, Int.reduceEq, Int.reduceLE, Int.reduceToNat, reduceCtorEq, reduceIte, Nat.reduceBEq, Int.reduceNeg, not_true, not_false_iff, true_and, and_true, true_or, or_true, false_or, or_false, forall_const, implies_true, Nat.le_refl, Int.toNat_natCast, Int.reduceLT, ne_eq, Fin.isValue, Nat.add_zero, nC_hrw, nS_hrw, nC_hwr, nS_hwr, hkd_hrw, hkd_hwr, fin4_0, fin4_1, fin4_2, fin4_3, fin2_0, fin2_1, ci0, ci1, cnn, false_implies, w32_eq, w64_eq, hF.m]
          try simp (disch := omega) only [yc_lt, yc_le, yc_gt, yc_ge, yc_eq, w32_eq, w64_eq, tn_add, tn_mul, Int.toNat_natCast, Int.reduceToNat, not_true, not_false_iff, false_implies, forall_const, implies_true]
          repeat' (with_reducible first | apply And.intro | intro _)
          all_goals try omega
          all_goals try simp (disch := omega) only [w32_eq, w64_eq, tn_add, tn_mul, Int.toNat_natCast, Int.reduceToNat, Option.some.injEq, Sum.inr.injEq, Sum.inl.injEq]
          all_goals try omega
          refine ClA.pure (hii) (by first | exact Nat.le_of_ble_eq_true rfl | (simp only [eD]; omega)) (by first | exact Nat.le_refl _ | (simp only [eG, eD, eC, eS, eQ, eH, nC_hrw, nC_hwr, nS_hrw, nS_hwr, nC_hnw, nS_hnw]; omega)) (by first | exact Nat.le_refl _ | (simp only [eG, eD, eC, eS, eQ, eH, nC_hrw, nC_hwr, nS_hrw, nS_hwr, nC_hnw, nS_hnw]; omega)) ?_
          refine vsA_ok tk_X5_kindsTo rfl 20 ?_
          simp only [at_X5_kindsTo, mr_X5_kindsTo, vsA, vcA, denA, lget, lset, lst1, lst2, lclr, argsA, restA, acats, acat, tcA, tcN, rzA, lle, List.length_cons, List.length_nil, Option.toList_some, Option.toList_none, List.cons_append, List.nil_append, eG, eM, eD, eC, eS, eQ, eH, if_true, if_false, Nat.reduceAdd, Nat.reduceLeDiff, Nat.reduceEqDiff, Nat.reduceLT, Nat.reduceSub, Int.reduceEq, Int.reduceLE, Int.reduceToNat, reduceCtorEq, reduceIte, Nat.reduceBEq, Int.reduceNeg, not_true, not_false_iff, true_and, and_true, true_or, or_true, false_or, or_false, forall_const, implies_true, Nat.le_refl, Int.toNat_natCast, Int.reduceLT, ne_eq, Fin.isValue, Nat.add_zero, nC_hrw, nS_hrw, nC_hwr, nS_hwr, hkd_hrw, hkd_hwr, fin4_0, fin4_1, fin4_2, fin4_3, fin2_0, fin2_1, ci0, ci1, cnn, false_implies, w32_eq, w64_eq, hF.m]
          try simp (disch := omega) only [yc_lt, yc_le, yc_gt, yc_ge, yc_eq, w32_eq, w64_eq, tn_add, tn_mul, Int.toNat_natCast, Int.reduceToNat, not_true, not_false_iff, false_implies, forall_const, implies_true]
          repeat' (with_reducible first | apply And.intro | intro _)
          all_goals try omega
          all_goals try simp (disch := omega) only [w32_eq, w64_eq, tn_add, tn_mul, Int.toNat_natCast, Int.reduceToNat, Option.some.injEq, Sum.inr.injEq, Sum.inl.injEq]
          all_goals try omega
          refine ClA.pure (hbo) (by first | exact Nat.le_of_ble_eq_true rfl | (simp only [eD]; omega)) (by first | exact Nat.le_refl _ | (simp only [eG, eD, eC, eS, eQ, eH, nC_hrw, nC_hwr, nS_hrw, nS_hwr, nC_hnw, nS_hnw]; omega)) (by first | exact Nat.le_refl _ | (simp only [eG, eD, eC, eS, eQ, eH, nC_hrw, nC_hwr, nS_hrw, nS_hwr, nC_hnw, nS_hnw]; omega)) ?_
          refine vsA_ok tk_X5_kindsTo rfl 0 ?_
          simp only [at_X5_kindsTo, mr_X5_kindsTo, vsA, vcA, denA, lget, lset, lst1, lst2, lclr, argsA, restA, acats, acat, tcA, tcN, rzA, lle, List.length_cons, List.length_nil, Option.toList_some, Option.toList_none, List.cons_append, List.nil_append, eG, eM, eD, eC, eS, eQ, eH, if_true, if_false, Nat.reduceAdd, Nat.reduceLeDiff, Nat.reduceEqDiff, Nat.reduceLT, Nat.reduceSub, Int.reduceEq, Int.reduceLE, Int.reduceToNat, reduceCtorEq, reduceIte, Nat.reduceBEq, Int.reduceNeg, not_true, not_false_iff, true_and, and_true, true_or, or_true, false_or, or_false, forall_const, implies_true, Nat.le_refl, Int.toNat_natCast, Int.reduceLT, ne_eq, Fin.isValue, Nat.add_zero, nC_hrw, nS_hrw, nC_hwr, nS_hwr, hkd_hrw, hkd_hwr, fin4_0, fin4_1, fin4_2, fin4_3, fin2_0, fin2_1, ci0, ci1, cnn, false_implies, w32_eq, w64_eq]
          try simp (disch := omega) only [yc_lt, yc_le, yc_gt, yc_ge, yc_eq, w32_eq, w64_eq, tn_add, tn_mul, Int.toNat_natCast, Int.reduceToNat, not_true, not_false_iff, false_implies, forall_const, implies_true]
          repeat' (with_reducible first | apply And.intro | intro _)
          all_goals try omega
          all_goals try simp (disch := omega) only [w32_eq, w64_eq, tn_add, tn_mul, Int.toNat_natCast, Int.reduceToNat, Option.some.injEq, Sum.inr.injEq, Sum.inl.injEq]
          all_goals try omega
          refine vsA_ok tk_X5_kindsTo rfl 20 ?_
          simp only [at_X5_kindsTo, mr_X5_kindsTo, vsA, vcA, denA, lget, lset, lst1, lst2, lclr, argsA, restA, acats, acat, tcA, tcN, rzA, lle, List.length_cons, List.length_nil, Option.toList_some, Option.toList_none, List.cons_append, List.nil_append, eG, eM, eD, eC, eS, eQ, eH, if_true, if_false, Nat.reduceAdd, Nat.reduceLeDiff, Nat.reduceEqDiff, Nat.reduceLT, Nat.reduceSub, Int.reduceEq, Int.reduceLE, Int.reduceToNat, reduceCtorEq, reduceIte, Nat.reduceBEq, Int.reduceNeg, not_true, not_false_iff, true_and, and_true, true_or, or_true, false_or, or_false, forall_const, implies_true, Nat.le_refl, Int.toNat_natCast, Int.reduceLT, ne_eq, Fin.isValue, Nat.add_zero, nC_hrw, nS_hrw, nC_hwr, nS_hwr, hkd_hrw, hkd_hwr, fin4_0, fin4_1, fin4_2, fin4_3, fin2_0, fin2_1, ci0, ci1, cnn, false_implies, w32_eq, w64_eq]
          try simp (disch := omega) only [yc_lt, yc_le, yc_gt, yc_ge, yc_eq, w32_eq, w64_eq, tn_add, tn_mul, Int.toNat_natCast, Int.reduceToNat, not_true, not_false_iff, false_implies, forall_const, implies_true, zor_1]
          repeat' (with_reducible first | apply And.intro | intro _)
          all_goals try omega
          all_goals try simp (disch := omega) only [w32_eq, w64_eq, tn_add, tn_mul, Int.toNat_natCast, Int.reduceToNat, Option.some.injEq, Sum.inr.injEq, Sum.inl.injEq, zor_1]
          all_goals try omega
          all_goals try exact (nx).weak rfl (by simp [lle] <;> omega)
        · rw [List.take_of_length_le (by omega), ← kndT_t hbit]
          subst hE
          refine vsA_ok tk_X5_kindsTo rfl 20 ?_
          simp only [at_X5_kindsTo, mr_X5_kindsTo, vsA, vcA, denA, lget, lset, lst1, lst2, lclr, argsA, restA, acats, acat, tcA, tcN, rzA, lle, List.length_cons, List.length_nil, Option.toList_some, Option.toList_none, List.cons_append, List.nil_append, eG, eM, eD, eC, eS, eQ, eH, if_true, if_false, Nat.reduceAdd, Nat.reduceLeDiff, Nat.reduceEqDiff, Nat.reduceLT, Nat.reduceSub, Int.reduceEq, Int.reduceLE, Int.reduceToNat, reduceCtorEq, reduceIte, Nat.reduceBEq, Int.reduceNeg, not_true, not_false_iff, true_and, and_true, true_or, or_true, false_or, or_false, forall_const, implies_true, Nat.le_refl, Int.toNat_natCast, Int.reduceLT, ne_eq, Fin.isValue, Nat.add_zero, nC_hrw, nS_hrw, nC_hwr, nS_hwr, hkd_hrw, hkd_hwr, fin4_0, fin4_1, fin4_2, fin4_3, fin2_0, fin2_1, ci0, ci1, cnn, false_implies, w32_eq, w64_eq, hF.m]
          try simp (disch := omega) only [yc_lt, yc_le, yc_gt, yc_ge, yc_eq, w32_eq, w64_eq, tn_add, tn_mul, Int.toNat_natCast, Int.reduceToNat, not_true, not_false_iff, false_implies, forall_const, implies_true]
          repeat' (with_reducible first | apply And.intro | intro _)
          all_goals try omega
          all_goals try simp (disch := omega) only [w32_eq, w64_eq, tn_add, tn_mul, Int.toNat_natCast, Int.reduceToNat, Option.some.injEq, Sum.inr.injEq, Sum.inl.injEq]
          all_goals try omega
          refine ClA.pure (c_X5_becomeMany hF hA ht hc6) (by first | exact Nat.le_of_ble_eq_true rfl | (simp only [eD]; omega)) (by first | exact Nat.le_refl _ | (simp only [eG, eD, eC, eS, eQ, eH, nC_hrw, nC_hwr, nS_hrw, nS_hwr, nC_hnw, nS_hnw]; omega)) (by first | exact Nat.le_refl _ | (simp only [eG, eD, eC, eS, eQ, eH, nC_hrw, nC_hwr, nS_hrw, nS_hwr, nC_hnw, nS_hnw]; omega)) ?_
          refine vsA_ok tk_X5_kindsTo rfl 20 ?_
          simp only [at_X5_kindsTo, mr_X5_kindsTo, vsA, vcA, denA, lget, lset, lst1, lst2, lclr, argsA, restA, acats, acat, tcA, tcN, rzA, lle, List.length_cons, List.length_nil, Option.toList_some, Option.toList_none, List.cons_append, List.nil_append, eG, eM, eD, eC, eS, eQ, eH, if_true, if_false, Nat.reduceAdd, Nat.reduceLeDiff, Nat.reduceEqDiff, Nat.reduceLT, Nat.reduceSub, Int.reduceEq, Int.reduceLE, Int.reduceToNat, reduceCtorEq, reduceIte, Nat.reduceBEq, Int.reduceNeg, not_true, not_false_iff, true_and, and_true, true_or, or_true, false_or, or_false, forall_const, implies_true, Nat.le_refl, Int.toNat_natCast, Int.reduceLT, ne_eq, Fin.isValue, Nat.add_zero, nC_hrw, nS_hrw, nC_hwr, nS_hwr, hkd_hrw, hkd_hwr, fin4_0, fin4_1, fin4_2, fin4_3, fin2_0, fin2_1, ci0, ci1, cnn, false_implies, w32_eq, w64_eq]
          try simp (disch := omega) only [yc_lt, yc_le, yc_gt, yc_ge, yc_eq, w32_eq, w64_eq, tn_add, tn_mul, Int.toNat_natCast, Int.reduceToNat, not_true, not_false_iff, false_implies, forall_const, implies_true]
          repeat' (with_reducible first | apply And.intro | intro _)
          all_goals try omega
          all_goals try simp (disch := omega) only [w32_eq, w64_eq, tn_add, tn_mul, Int.toNat_natCast, Int.reduceToNat, Option.some.injEq, Sum.inr.injEq, Sum.inl.injEq]
          all_goals try omega
          all_goals try exact (ih).weak rfl (by simp [lle] <;> omega)
      cases hbit : s.testBit c with
      | true =>
        have nx := L2 hbit 0 (Nat.zero_le _)
        rw [List.take_zero, show orL [] (kndT bec t s c) = kndT bec t s c from rfl] at nx
        subst hE
        refine vsA_ok tk_X5_kindsTo rfl 20 ?_
        simp only [at_X5_kindsTo, mr_X5_kindsTo, vsA, vcA, denA, lget, lset, lst1, lst2, lclr, argsA, restA, acats, acat, tcA, tcN, rzA, lle, List.length_cons, List.length_nil, Option.toList_some, Option.toList_none, List.cons_append, List.nil_append, eG, eM, eD, eC, eS, eQ, eH, if_true, if_false, Nat.reduceAdd, Nat.reduceLeDiff, Nat.reduceEqDiff, Nat.reduceLT, Nat.reduceSub, Int.reduceEq, Int.reduceLE, Int.reduceToNat, reduceCtorEq, reduceIte, Nat.reduceBEq, Int.reduceNeg, not_true, not_false_iff, true_and, and_true, true_or, or_true, false_or, or_false, forall_const, implies_true, Nat.le_refl, Int.toNat_natCast, Int.reduceLT, ne_eq, Fin.isValue, Nat.add_zero, nC_hrw, nS_hrw, nC_hwr, nS_hwr, hkd_hrw, hkd_hwr, fin4_0, fin4_1, fin4_2, fin4_3, fin2_0, fin2_1, ci0, ci1, cnn, false_implies, w32_eq, w64_eq]
        try simp (disch := omega) only [yc_lt, yc_le, yc_gt, yc_ge, yc_eq, w32_eq, w64_eq, tn_add, tn_mul, Int.toNat_natCast, Int.reduceToNat, not_true, not_false_iff, false_implies, forall_const, implies_true]
        repeat' (with_reducible first | apply And.intro | intro _)
        all_goals try omega
        all_goals try simp (disch := omega) only [w32_eq, w64_eq, tn_add, tn_mul, Int.toNat_natCast, Int.reduceToNat, Option.some.injEq, Sum.inr.injEq, Sum.inl.injEq]
        all_goals try omega
        all_goals try exact (nx).weak rfl (by simp [lle] <;> omega)
      | false =>
        rw [kndT_f hbit] at ih
        have hii := c_X5_isIn (G := G) h (s := s) (k := c) (by omega) (by omega)
        rw [if_neg (by rw [hbit]; simp)] at hii
        have nx : ExA E 15 [some (.inr (.inr (124))), some (.inl ((s : Int))), some (.inl ((t : Int))), some (.inl (((kndT bec t s c : Nat) : Int))), some (.inl ((c : Int))), some (.inl (0))] [] h := by
          by_cases h0 : 0 < (bec t c).length
          · subst hE
            refine vsA_ok tk_X5_kindsTo rfl 20 ?_
            simp only [at_X5_kindsTo, mr_X5_kindsTo, vsA, vcA, denA, lget, lset, lst1, lst2, lclr, argsA, restA, acats, acat, tcA, tcN, rzA, lle, List.length_cons, List.length_nil, Option.toList_some, Option.toList_none, List.cons_append, List.nil_append, eG, eM, eD, eC, eS, eQ, eH, if_true, if_false, Nat.reduceAdd, Nat.reduceLeDiff, Nat.reduceEqDiff, Nat.reduceLT, Nat.reduceSub, Int.reduceEq, Int.reduceLE, Int.reduceToNat, reduceCtorEq, reduceIte, Nat.reduceBEq, Int.reduceNeg, not_true, not_false_iff, true_and, and_true, true_or, or_true, false_or, or_false, forall_const, implies_true, Nat.le_refl, Int.toNat_natCast, Int.reduceLT, ne_eq, Fin.isValue, Nat.add_zero, nC_hrw, nS_hrw, nC_hwr, nS_hwr, hkd_hrw, hkd_hwr, fin4_0, fin4_1, fin4_2, fin4_3, fin2_0, fin2_1, ci0, ci1, cnn, false_implies, w32_eq, w64_eq, hF.m]
            try simp (disch := omega) only [yc_lt, yc_le, yc_gt, yc_ge, yc_eq, w32_eq, w64_eq, tn_add, tn_mul, Int.toNat_natCast, Int.reduceToNat, not_true, not_false_iff, false_implies, forall_const, implies_true]
            repeat' (with_reducible first | apply And.intro | intro _)
            all_goals try omega
            all_goals try simp (disch := omega) only [w32_eq, w64_eq, tn_add, tn_mul, Int.toNat_natCast, Int.reduceToNat, Option.some.injEq, Sum.inr.injEq, Sum.inl.injEq]
            all_goals try omega
            refine ClA.pure (c_X5_becomeMany hF hA ht hc6) (by first | exact Nat.le_of_ble_eq_true rfl | (simp only [eD]; omega)) (by first | exact Nat.le_refl _ | (simp only [eG, eD, eC, eS, eQ, eH, nC_hrw, nC_hwr, nS_hrw, nS_hwr, nC_hnw, nS_hnw]; omega)) (by first | exact Nat.le_refl _ | (simp only [eG, eD, eC, eS, eQ, eH, nC_hrw, nC_hwr, nS_hrw, nS_hwr, nC_hnw, nS_hnw]; omega)) ?_
            refine vsA_ok tk_X5_kindsTo rfl 20 ?_
            simp only [at_X5_kindsTo, mr_X5_kindsTo, vsA, vcA, denA, lget, lset, lst1, lst2, lclr, argsA, restA, acats, acat, tcA, tcN, rzA, lle, List.length_cons, List.length_nil, Option.toList_some, Option.toList_none, List.cons_append, List.nil_append, eG, eM, eD, eC, eS, eQ, eH, if_true, if_false, Nat.reduceAdd, Nat.reduceLeDiff, Nat.reduceEqDiff, Nat.reduceLT, Nat.reduceSub, Int.reduceEq, Int.reduceLE, Int.reduceToNat, reduceCtorEq, reduceIte, Nat.reduceBEq, Int.reduceNeg, not_true, not_false_iff, true_and, and_true, true_or, or_true, false_or, or_false, forall_const, implies_true, Nat.le_refl, Int.toNat_natCast, Int.reduceLT, ne_eq, Fin.isValue, Nat.add_zero, nC_hrw, nS_hrw, nC_hwr, nS_hwr, hkd_hrw, hkd_hwr, fin4_0, fin4_1, fin4_2, fin4_3, fin2_0, fin2_1, ci0, ci1, cnn, false_implies, w32_eq, w64_eq, hF.m]
            try simp (disch := omega) only [yc_lt, yc_le, yc_gt, yc_ge, yc_eq, w32_eq, w64_eq, tn_add, tn_mul, Int.toNat_natCast, Int.reduceToNat, not_true, not_false_iff, false_implies, forall_const, implies_true]
            repeat' (with_reducible first | apply And.intro | intro _)
            all_goals try omega
            all_goals try simp (disch := omega) only [w32_eq, w64_eq, tn_add, tn_mul, Int.toNat_natCast, Int.reduceToNat, Option.some.injEq, Sum.inr.injEq, Sum.inl.injEq]
            all_goals try omega
            refine ClA.pure (hii) (by first | exact Nat.le_of_ble_eq_true rfl | (simp only [eD]; omega)) (by first | exact Nat.le_refl _ | (simp only [eG, eD, eC, eS, eQ, eH, nC_hrw, nC_hwr, nS_hrw, nS_hwr, nC_hnw, nS_hnw]; omega)) (by first | exact Nat.le_refl _ | (simp only [eG, eD, eC, eS, eQ, eH, nC_hrw, nC_hwr, nS_hrw, nS_hwr, nC_hnw, nS_hnw]; omega)) ?_
            refine vsA_ok tk_X5_kindsTo rfl 20 ?_
            simp only [at_X5_kindsTo, mr_X5_kindsTo, vsA, vcA, denA, lget, lset, lst1, lst2, lclr, argsA, restA, acats, acat, tcA, tcN, rzA, lle, List.length_cons, List.length_nil, Option.toList_some, Option.toList_none, List.cons_append, List.nil_append, eG, eM, eD, eC, eS, eQ, eH, if_true, if_false, Nat.reduceAdd, Nat.reduceLeDiff, Nat.reduceEqDiff, Nat.reduceLT, Nat.reduceSub, Int.reduceEq, Int.reduceLE, Int.reduceToNat, reduceCtorEq, reduceIte, Nat.reduceBEq, Int.reduceNeg, not_true, not_false_iff, true_and, and_true, true_or, or_true, false_or, or_false, forall_const, implies_true, Nat.le_refl, Int.toNat_natCast, Int.reduceLT, ne_eq, Fin.isValue, Nat.add_zero, nC_hrw, nS_hrw, nC_hwr, nS_hwr, hkd_hrw, hkd_hwr, fin4_0, fin4_1, fin4_2, fin4_3, fin2_0, fin2_1, ci0, ci1, cnn, false_implies, w32_eq, w64_eq]
            try simp (disch := omega) only [yc_lt, yc_le, yc_gt, yc_ge, yc_eq, w32_eq, w64_eq, tn_add, tn_mul, Int.toNat_natCast, Int.reduceToNat, not_true, not_false_iff, false_implies, forall_const, implies_true]
            repeat' (with_reducible first | apply And.intro | intro _)
            all_goals try omega
            all_goals try simp (disch := omega) only [w32_eq, w64_eq, tn_add, tn_mul, Int.toNat_natCast, Int.reduceToNat, Option.some.injEq, Sum.inr.injEq, Sum.inl.injEq]
            all_goals try omega
            all_goals try exact (ih).weak rfl (by simp [lle] <;> omega)
          · subst hE
            refine vsA_ok tk_X5_kindsTo rfl 20 ?_
            simp only [at_X5_kindsTo, mr_X5_kindsTo, vsA, vcA, denA, lget, lset, lst1, lst2, lclr, argsA, restA, acats, acat, tcA, tcN, rzA, lle, List.length_cons, List.length_nil, Option.toList_some, Option.toList_none, List.cons_append, List.nil_append, eG, eM, eD, eC, eS, eQ, eH, if_true, if_false, Nat.reduceAdd, Nat.reduceLeDiff, Nat.reduceEqDiff, Nat.reduceLT, Nat.reduceSub, Int.reduceEq, Int.reduceLE, Int.reduceToNat, reduceCtorEq, reduceIte, Nat.reduceBEq, Int.reduceNeg, not_true, not_false_iff, true_and, and_true, true_or, or_true, false_or, or_false, forall_const, implies_true, Nat.le_refl, Int.toNat_natCast, Int.reduceLT, ne_eq, Fin.isValue, Nat.add_zero, nC_hrw, nS_hrw, nC_hwr, nS_hwr, hkd_hrw, hkd_hwr, fin4_0, fin4_1, fin4_2, fin4_3, fin2_0, fin2_1, ci0, ci1, cnn, false_implies, w32_eq, w64_eq, hF.m]
            try simp (disch := omega) only [yc_lt, yc_le, yc_gt, yc_ge, yc_eq, w32_eq, w64_eq, tn_add, tn_mul, Int.toNat_natCast, Int.reduceToNat, not_true, not_false_iff, false_implies, forall_const, implies_true]
            repeat' (with_reducible first | apply And.intro | intro _)
            all_goals try omega
            all_goals try simp (disch := omega) only [w32_eq, w64_eq, tn_add, tn_mul, Int.toNat_natCast, Int.reduceToNat, Option.some.injEq, Sum.inr.injEq, Sum.inl.injEq]
            all_goals try omega
            refine ClA.pure (c_X5_becomeMany hF hA ht hc6) (by first | exact Nat.le_of_ble_eq_true rfl | (simp only [eD]; omega)) (by first | exact Nat.le_refl _ | (simp only [eG, eD, eC, eS, eQ, eH, nC_hrw, nC_hwr, nS_hrw, nS_hwr, nC_hnw, nS_hnw]; omega)) (by first | exact Nat.le_refl _ | (simp only [eG, eD, eC, eS, eQ, eH, nC_hrw, nC_hwr, nS_hrw, nS_hwr, nC_hnw, nS_hnw]; omega)) ?_
            refine vsA_ok tk_X5_kindsTo rfl 20 ?_
            simp only [at_X5_kindsTo, mr_X5_kindsTo, vsA, vcA, denA, lget, lset, lst1, lst2, lclr, argsA, restA, acats, acat, tcA, tcN, rzA, lle, List.length_cons, List.length_nil, Option.toList_some, Option.toList_none, List.cons_append, List.nil_append, eG, eM, eD, eC, eS, eQ, eH, if_true, if_false, Nat.reduceAdd, Nat.reduceLeDiff, Nat.reduceEqDiff, Nat.reduceLT, Nat.reduceSub, Int.reduceEq, Int.reduceLE, Int.reduceToNat, reduceCtorEq, reduceIte, Nat.reduceBEq, Int.reduceNeg, not_true, not_false_iff, true_and, and_true, true_or, or_true, false_or, or_false, forall_const, implies_true, Nat.le_refl, Int.toNat_natCast, Int.reduceLT, ne_eq, Fin.isValue, Nat.add_zero, nC_hrw, nS_hrw, nC_hwr, nS_hwr, hkd_hrw, hkd_hwr, fin4_0, fin4_1, fin4_2, fin4_3, fin2_0, fin2_1, ci0, ci1, cnn, false_implies, w32_eq, w64_eq]
            try simp (disch := omega) only [yc_lt, yc_le, yc_gt, yc_ge, yc_eq, w32_eq, w64_eq, tn_add, tn_mul, Int.toNat_natCast, Int.reduceToNat, not_true, not_false_iff, false_implies, forall_const, implies_true]
            repeat' (with_reducible first | apply And.intro | intro _)
            all_goals try omega
            all_goals try simp (disch := omega) only [w32_eq, w64_eq, tn_add, tn_mul, Int.toNat_natCast, Int.reduceToNat, Option.some.injEq, Sum.inr.injEq, Sum.inl.injEq]
            all_goals try omega
            all_goals try exact (ih).weak rfl (by simp [lle] <;> omega)
        subst hE
        refine vsA_ok tk_X5_kindsTo rfl 20 ?_
        simp only [at_X5_kindsTo, mr_X5_kindsTo, vsA, vcA, denA, lget, lset, lst1, lst2, lclr, argsA, restA, acats, acat, tcA, tcN, rzA, lle, List.length_cons, List.length_nil, Option.toList_some, Option.toList_none, List.cons_append, List.nil_append, eG, eM, eD, eC, eS, eQ, eH, if_true, if_false, Nat.reduceAdd, Nat.reduceLeDiff, Nat.reduceEqDiff, Nat.reduceLT, Nat.reduceSub, Int.reduceEq, Int.reduceLE, Int.reduceToNat, reduceCtorEq, reduceIte, Nat.reduceBEq, Int.reduceNeg, not_true, not_false_iff, true_and, and_true, true_or, or_true, false_or, or_false, forall_const, implies_true, Nat.le_refl, Int.toNat_natCast, Int.reduceLT, ne_eq, Fin.isValue, Nat.add_zero, nC_hrw, nS_hrw, nC_hwr, nS_hwr, hkd_hrw, hkd_hwr, fin4_0, fin4_1, fin4_2, fin4_3, fin2_0, fin2_1, ci0, ci1, cnn, false_implies, w32_eq, w64_eq]
        try simp (disch := omega) only [yc_lt, yc_le, yc_gt, yc_ge, yc_eq, w32_eq, w64_eq, tn_add, tn_mul, Int.toNat_natCast, Int.reduceToNat, not_true, not_false_iff, false_implies, forall_const, implies_true]
        repeat' (with_reducible first | apply And.intro | intro _)
        all_goals try omega
        all_goals try simp (disch := omega) only [w32_eq, w64_eq, tn_add, tn_mul, Int.toNat_natCast, Int.reduceToNat, Option.some.injEq, Sum.inr.injEq, Sum.inl.injEq]
        all_goals try omega
        all_goals try exact (nx).weak rfl (by simp [lle] <;> omega)
    · have hc7 : c = 6 := by omega
      subst hc7
      subst hE
      refine vsA_ok tk_X5_kindsTo rfl 20 ?_
      simp only [at_X5_kindsTo, mr_X5_kindsTo, vsA, vcA, denA, lget, lset, lst1, lst2, lclr, argsA, restA, acats, acat, tcA, tcN, rzA, lle, List.length_cons, List.length_nil, Option.toList_some, Option.toList_none, List.cons_append, List.nil_append, eG, eM, eD, eC, eS, eQ, eH, if_true, if_false, Nat.reduceAdd, Nat.reduceLeDiff, Nat.reduceEqDiff, Nat.reduceLT, Nat.reduceSub, Int.reduceEq, Int.reduceLE, Int.reduceToNat, reduceCtorEq, reduceIte, Nat.reduceBEq, Int.reduceNeg, not_true, not_false_iff, true_and, and_true, true_or, or_true, false_or, or_false, forall_const, implies_true, Nat.le_refl, Int.toNat_natCast, Int.reduceLT, ne_eq, Fin.isValue, Nat.add_zero, nC_hrw, nS_hrw, nC_hwr, nS_hwr, hkd_hrw, hkd_hwr, fin4_0, fin4_1, fin4_2, fin4_3, fin2_0, fin2_1, ci0, ci1, cnn, false_implies, w32_eq, w64_eq]
      try simp (disch := omega) only [yc_lt, yc_le, yc_gt, yc_ge, yc_eq, w32_eq, w64_eq, tn_add, tn_mul, Int.toNat_natCast, Int.reduceToNat, not_true, not_false_iff, false_implies, forall_const, implies_true]
      repeat' (with_reducible first | apply And.intro | intro _)
      all_goals try omega
      all_goals try simp (disch := omega) only [w32_eq, w64_eq, tn_add, tn_mul, Int.toNat_natCast, Int.reduceToNat, Option.some.injEq, Sum.inr.injEq, Sum.inl.injEq]
      all_goals try omega
  have l1 := L1 0 (by omega)
  rw [show kndT bec t s 0 = 0 from rfl] at l1
  subst hE
  refine vsA_ok tk_X5_kindsTo rfl 20 ?_
  simp only [at_X5_kindsTo, mr_X5_kindsTo, vsA, vcA, denA, lget, lset, lst1, lst2, lclr, argsA, restA, acats, acat, tcA, tcN, rzA, lle, List.length_cons, List.length_nil, Option.toList_some, Option.toList_none, List.cons_append, List.nil_append, eG, eM, eD, eC, eS, eQ, eH, if_true, if_false, Nat.reduceAdd, Nat.reduceLeDiff, Nat.reduceEqDiff, Nat.reduceLT, Nat.reduceSub, Int.reduceEq, Int.reduceLE, Int.reduceToNat, reduceCtorEq, reduceIte, Nat.reduceBEq, Int.reduceNeg, not_true, not_false_iff, true_and, and_true, true_or, or_true, false_or, or_false, forall_const, implies_true, Nat.le_refl, Int.toNat_natCast, Int.reduceLT, ne_eq, Fin.isValue, Nat.add_zero, nC_hrw, nS_hrw, nC_hwr, nS_hwr, hkd_hrw, hkd_hwr, fin4_0, fin4_1, fin4_2, fin4_3, fin2_0, fin2_1, ci0, ci1, cnn, false_implies, w32_eq, w64_eq]
  try simp (disch := omega) only [yc_lt, yc_le, yc_gt, yc_ge, yc_eq, w32_eq, w64_eq, tn_add, tn_mul, Int.toNat_natCast, Int.reduceToNat, not_true, not_false_iff, false_implies, forall_const, implies_true]
  repeat' (with_reducible first | apply And.intro | intro _)
  all_goals try omega
  all_goals try simp (disch := omega) only [w32_eq, w64_eq, tn_add, tn_mul, Int.toNat_natCast, Int.reduceToNat, Option.some.injEq, Sum.inr.injEq, Sum.inl.injEq]
  all_goals try omega
  all_goals try exact (l1).weak rfl (by simp [lle] <;> omega)
end
