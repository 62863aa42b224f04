/-! THE REFERENCE: told deeds, what is kept beside -/
set_option maxRecDepth 100000
/-- deeds told in a row: how many go, what stands then, why the next can't be -/
def tellS (s : SP) : S3 → List Int → Nat × S3 × Int
  | a, [] => (0, a, 0)
  | a, v :: vs => if toldS s a v = 0 then ((tellS s (goS s a v) vs).1 + 1, (tellS s (goS s a v) vs).2.1, (tellS s (goS s a v) vs).2.2) else (0, a, toldS s a v)
theorem tellS_n (s : SP) (a : S3) : tellS s a [] = (0, a, 0) := rfl
theorem tellS_t {s : SP} {a : S3} {v : Int} (vs : List Int) (q : toldS s a v = 0) : tellS s a (v :: vs) = ((tellS s (goS s a v) vs).1 + 1, (tellS s (goS s a v) vs).2.1, (tellS s (goS s a v) vs).2.2) := if_pos q
theorem tellS_f {s : SP} {a : S3} {v : Int} (vs : List Int) (q : ¬ toldS s a v = 0) : tellS s a (v :: vs) = (0, a, toldS s a v) := if_neg q
theorem tellS_le (s : SP) : ∀ (vs : List Int) (a : S3), (tellS s a vs).1 ≤ vs.length
  | [], _ => Nat.le_refl _
  | v :: vs, a => by
    unfold tellS
    split
    · have := tellS_le s vs (goS s a v)
      simp
      omega
    · simp
theorem tellS_ok {s : SP} (hs : StOK s) : ∀ (vs : List Int) (a : S3) (N : Int), OKS s N a → OKS s (N + ((tellS s a vs).1 : Nat)) (tellS s a vs).2.1
  | [], a, N, h => by simpa [tellS] using h
  | v :: vs, a, N, h => by
    unfold tellS
    split
    next q =>
      have := tellS_ok hs vs (goS s a v) (N + 1) (h.go hs q)
      show OKS s (N + (((tellS s (goS s a v) vs).1 + 1 : Nat) : Int)) (tellS s (goS s a v) vs).2.1
      rw [show N + (((tellS s (goS s a v) vs).1 + 1 : Nat) : Int) = N + 1 + (((tellS s (goS s a v) vs).1 : Nat) : Int) by omega]
      exact this
    next q => simpa using h
section
variable {G : GT} {h : AH} {s : SP} {a : S3} {N v : Int}
theorem c_X5_whyNot (hF : FxA h) (hA : AllS (hdt h 125) s a) (hS : StOK s) (hO : OKS s N a) (hN : N < 2147483648) (hv : In64 v) :
    CnA G mX5_whyNot 8 0 0 [.inr (.inr (124)), .inr (.inl (v))] h (fun r h1 => r = some (.inl (toldS s a v)) ∧ FrM [130, 132, 133] [18, 22] h h1 ∧ (toldS s a v = 0 → v < 10 → hdt h1 124 22 = byS s a v)) := by
  refine CnA.of rfl (Nat.le_of_ble_eq_true rfl) ?_
  simp only [largs, lpad, mr_X5_whyNot]
  obtain ⟨hv1, hv2⟩ := hv
  have hs := hA.1.sz
  refine vsA_ok tk_X5_whyNot rfl 20 ?_
  simp only [at_X5_whyNot, mr_X5_whyNot, vsA, vcA, denA, lget, lset, lst1, lst2, lclr, argsA, restA, acats, acat, tcA, tcN, rzA, lle, List.length_cons, List.length_nil, Option.toList_some, Option.toList_none, List.cons_append, List.nil_append, eG, eM, eD, eC, eS, eQ, eH, if_true, if_false, Nat.reduceAdd, Nat.reduceLeDiff, Nat.reduceEqDiff, Nat.reduceLT, Nat.reduceSub, Int.reduceEq, Int.reduceLE, Int.reduceToNat, reduceCtorEq, reduceIte, Nat.reduceBEq, Int.reduceNeg, not_true, not_false_iff, true_and, and_true, true_or, or_true, false_or, or_false, forall_const, implies_true, Nat.le_refl, Int.toNat_natCast, Int.reduceLT, ne_eq, Fin.isValue, Nat.add_zero, nC_hrw, nS_hrw, nC_hwr, nS_hwr, hkd_hrw, hkd_hwr, fin4_0, fin4_1, fin4_2, fin4_3, fin2_0, fin2_1, ci0, ci1, cnn, false_implies, w32_eq, w64_eq, hF.m]
  try simp (disch := omega) only [yc_lt, yc_le, yc_gt, yc_ge, yc_eq, w32_eq, w64_eq, tn_add, tn_mul, Int.toNat_natCast, Int.reduceToNat, not_true, not_false_iff, false_implies, forall_const, implies_true]
  repeat' (with_reducible first | apply And.intro | intro _)
  all_goals try omega
  all_goals try simp (disch := omega) only [w32_eq, w64_eq, tn_add, tn_mul, Int.toNat_natCast, Int.reduceToNat, Option.some.injEq, Sum.inr.injEq, Sum.inl.injEq]
  all_goals try omega
  by_cases h3 : 0 ≤ v ∧ v ≤ 3
  · rw [show toldS s a v = whyS s a v by unfold toldS; rw [if_pos (by omega)]]
    refine ClA.pure (c_X5_within_T _ (by omega) (by omega) (by omega) h3) (by first | exact Nat.le_of_ble_eq_true rfl | (simp only [eD]; omega)) (by first | exact Nat.le_refl _ | (simp only [eG, eD, eC, eS, eQ, eH, nC_hrw, nC_hwr, nS_hrw, nS_hwr, nC_hnw, nS_hnw]; omega)) (by first | exact Nat.le_refl _ | (simp only [eG, eD, eC, eS, eQ, eH, nC_hrw, nC_hwr, nS_hrw, nS_hwr, nC_hnw, nS_hnw]; omega)) ?_
    refine vsA_ok tk_X5_whyNot rfl 20 ?_
    simp only [at_X5_whyNot, mr_X5_whyNot, vsA, vcA, denA, lget, lset, lst1, lst2, lclr, argsA, restA, acats, acat, tcA, tcN, rzA, lle, List.length_cons, List.length_nil, Option.toList_some, Option.toList_none, List.cons_append, List.nil_append, eG, eM, eD, eC, eS, eQ, eH, if_true, if_false, Nat.reduceAdd, Nat.reduceLeDiff, Nat.reduceEqDiff, Nat.reduceLT, Nat.reduceSub, Int.reduceEq, Int.reduceLE, Int.reduceToNat, reduceCtorEq, reduceIte, Nat.reduceBEq, Int.reduceNeg, not_true, not_false_iff, true_and, and_true, true_or, or_true, false_or, or_false, forall_const, implies_true, Nat.le_refl, Int.toNat_natCast, Int.reduceLT, ne_eq, Fin.isValue, Nat.add_zero, nC_hrw, nS_hrw, nC_hwr, nS_hwr, hkd_hrw, hkd_hwr, fin4_0, fin4_1, fin4_2, fin4_3, fin2_0, fin2_1, ci0, ci1, cnn, false_implies, w32_eq, w64_eq, hF.m]
    try simp (disch := omega) only [yc_lt, yc_le, yc_gt, yc_ge, yc_eq, w32_eq, w64_eq, tn_add, tn_mul, Int.toNat_natCast, Int.reduceToNat, not_true, not_false_iff, false_implies, forall_const, implies_true]
    repeat' (with_reducible first | apply And.intro | intro _)
    all_goals try omega
    all_goals try simp (disch := omega) only [w32_eq, w64_eq, tn_add, tn_mul, Int.toNat_natCast, Int.reduceToNat, Option.some.injEq, Sum.inr.injEq, Sum.inl.injEq]
    all_goals try omega
    refine ClA.of (c_X5_whyNight hF hA hS hO hN ⟨hv1, hv2⟩) (by first | exact Nat.le_of_ble_eq_true rfl | (simp only [eD]; omega)) (by first | exact Nat.le_refl _ | (simp only [eG, eD, eC, eS, eQ, eH, nC_hrw, nC_hwr, nS_hrw, nS_hwr, nC_hnw, nS_hnw]; omega)) (by first | exact Nat.le_refl _ | (simp only [eG, eD, eC, eS, eQ, eH, nC_hrw, nC_hwr, nS_hrw, nS_hwr, nC_hnw, nS_hnw]; omega)) ?_
    rintro _ h1 ⟨rfl, hf, hp⟩ hn1 hn2
    refine vsA_ok tk_X5_whyNot rfl 20 ?_
    simp only [at_X5_whyNot, mr_X5_whyNot, vsA, vcA, denA, lget, lset, lst1, lst2, lclr, argsA, restA, acats, acat, tcA, tcN, rzA, lle, List.length_cons, List.length_nil, Option.toList_some, Option.toList_none, List.cons_append, List.nil_append, eG, eM, eD, eC, eS, eQ, eH, if_true, if_false, Nat.reduceAdd, Nat.reduceLeDiff, Nat.reduceEqDiff, Nat.reduceLT, Nat.reduceSub, Int.reduceEq, Int.reduceLE, Int.reduceToNat, reduceCtorEq, reduceIte, Nat.reduceBEq, Int.reduceNeg, not_true, not_false_iff, true_and, and_true, true_or, or_true, false_or, or_false, forall_const, implies_true, Nat.le_refl, Int.toNat_natCast, Int.reduceLT, ne_eq, Fin.isValue, Nat.add_zero, nC_hrw, nS_hrw, nC_hwr, nS_hwr, hkd_hrw, hkd_hwr, fin4_0, fin4_1, fin4_2, fin4_3, fin2_0, fin2_1, ci0, ci1, cnn, false_implies, w32_eq, w64_eq, hF.m]
    try simp (disch := omega) only [yc_lt, yc_le, yc_gt, yc_ge, yc_eq, w32_eq, w64_eq, tn_add, tn_mul, Int.toNat_natCast, Int.reduceToNat, not_true, not_false_iff, false_implies, forall_const, implies_true]
    repeat' (with_reducible first | apply And.intro | intro _)
    all_goals try omega
    all_goals try simp (disch := omega) only [w32_eq, w64_eq, tn_add, tn_mul, Int.toNat_natCast, Int.reduceToNat, Option.some.injEq, Sum.inr.injEq, Sum.inl.injEq]
    all_goals try omega
    all_goals first | exact hf | exact hp (by assumption) | exact fun q _ => hp q | exact fun _ => hp (by assumption)
  · refine ClA.pure (c_X5_within_F _ (by omega) (by omega) (by omega) h3) (by first | exact Nat.le_of_ble_eq_true rfl | (simp only [eD]; omega)) (by first | exact Nat.le_refl _ | (simp only [eG, eD, eC, eS, eQ, eH, nC_hrw, nC_hwr, nS_hrw, nS_hwr, nC_hnw, nS_hnw]; omega)) (by first | exact Nat.le_refl _ | (simp only [eG, eD, eC, eS, eQ, eH, nC_hrw, nC_hwr, nS_hrw, nS_hwr, nC_hnw, nS_hnw]; omega)) ?_
    by_cases h19 : 10 ≤ v ∧ v ≤ 19
    · rw [show toldS s a v = 0 by unfold toldS; rw [if_neg (by omega), if_pos h19]]
      refine vsA_ok tk_X5_whyNot rfl 20 ?_
      simp only [at_X5_whyNot, mr_X5_whyNot, vsA, vcA, denA, lget, lset, lst1, lst2, lclr, argsA, restA, acats, acat, tcA, tcN, rzA, lle, List.length_cons, List.length_nil, Option.toList_some, Option.toList_none, List.cons_append, List.nil_append, eG, eM, eD, eC, eS, eQ, eH, if_true, if_false, Nat.reduceAdd, Nat.reduceLeDiff, Nat.reduceEqDiff, Nat.reduceLT, Nat.reduceSub, Int.reduceEq, Int.reduceLE, Int.reduceToNat, reduceCtorEq, reduceIte, Nat.reduceBEq, Int.reduceNeg, not_true, not_false_iff, true_and, and_true, true_or, or_true, false_or, or_false, forall_const, implies_true, Nat.le_refl, Int.toNat_natCast, Int.reduceLT, ne_eq, Fin.isValue, Nat.add_zero, nC_hrw, nS_hrw, nC_hwr, nS_hwr, hkd_hrw, hkd_hwr, fin4_0, fin4_1, fin4_2, fin4_3, fin2_0, fin2_1, ci0, ci1, cnn, false_implies, w32_eq, w64_eq, hF.m]
      try simp (disch := omega) only [yc_lt, yc_le, yc_gt, yc_ge, yc_eq, w32_eq, w64_eq, tn_add, tn_mul, Int.toNat_natCast, Int.reduceToNat, not_true, not_false_iff, false_implies, forall_const, implies_true]
      repeat' (with_reducible first | apply And.intro | intro _)
      all_goals try omega
      all_goals try simp (disch := omega) only [w32_eq, w64_eq, tn_add, tn_mul, Int.toNat_natCast, Int.reduceToNat, Option.some.injEq, Sum.inr.injEq, Sum.inl.injEq]
      all_goals try omega
      refine ClA.pure (c_X5_within_T _ (by omega) (by omega) (by omega) h19) (by first | exact Nat.le_of_ble_eq_true rfl | (simp only [eD]; omega)) (by first | exact Nat.le_refl _ | (simp only [eG, eD, eC, eS, eQ, eH, nC_hrw, nC_hwr, nS_hrw, nS_hwr, nC_hnw, nS_hnw]; omega)) (by first | exact Nat.le_refl _ | (simp only [eG, eD, eC, eS, eQ, eH, nC_hrw, nC_hwr, nS_hrw, nS_hwr, nC_hnw, nS_hnw]; omega)) ?_
      refine vsA_ok tk_X5_whyNot rfl 20 ?_
      simp only [at_X5_whyNot, mr_X5_whyNot, vsA, vcA, denA, lget, lset, lst1, lst2, lclr, argsA, restA, acats, acat, tcA, tcN, rzA, lle, List.length_cons, List.length_nil, Option.toList_some, Option.toList_none, List.cons_append, List.nil_append, eG, eM, eD, eC, eS, eQ, eH, if_true, if_false, Nat.reduceAdd, Nat.reduceLeDiff, Nat.reduceEqDiff, Nat.reduceLT, Nat.reduceSub, Int.reduceEq, Int.reduceLE, Int.reduceToNat, reduceCtorEq, reduceIte, Nat.reduceBEq, Int.reduceNeg, not_true, not_false_iff, true_and, and_true, true_or, or_true, false_or, or_false, forall_const, implies_true, Nat.le_refl, Int.toNat_natCast, Int.reduceLT, ne_eq, Fin.isValue, Nat.add_zero, nC_hrw, nS_hrw, nC_hwr, nS_hwr, hkd_hrw, hkd_hwr, fin4_0, fin4_1, fin4_2, fin4_3, fin2_0, fin2_1, ci0, ci1, cnn, false_implies, w32_eq, w64_eq, hF.m]
      try simp (disch := omega) only [yc_lt, yc_le, yc_gt, yc_ge, yc_eq, w32_eq, w64_eq, tn_add, tn_mul, Int.toNat_natCast, Int.reduceToNat, not_true, not_false_iff, false_implies, forall_const, implies_true]
      repeat' (with_reducible first | apply And.intro | intro _)
      all_goals try omega
      all_goals try simp (disch := omega) only [w32_eq, w64_eq, tn_add, tn_mul, Int.toNat_natCast, Int.reduceToNat, Option.some.injEq, Sum.inr.injEq, Sum.inl.injEq]
      all_goals try omega
      all_goals exact FrP.rf
    · rw [show toldS s a v = 1 by
        unfold toldS
        split
        · unfold whyS
          rw [if_neg (by omega)]
        · first | rfl | rw [if_neg h19]]
      refine vsA_ok tk_X5_whyNot rfl 20 ?_
      simp only [at_X5_whyNot, mr_X5_whyNot, vsA, vcA, denA, lget, lset, lst1, lst2, lclr, argsA, restA, acats, acat, tcA, tcN, rzA, lle, List.length_cons, List.length_nil, Option.toList_some, Option.toList_none, List.cons_append, List.nil_append, eG, eM, eD, eC, eS, eQ, eH, if_true, if_false, Nat.reduceAdd, Nat.reduceLeDiff, Nat.reduceEqDiff, Nat.reduceLT, Nat.reduceSub, Int.reduceEq, Int.reduceLE, Int.reduceToNat, reduceCtorEq, reduceIte, Nat.reduceBEq, Int.reduceNeg, not_true, not_false_iff, true_and, and_true, true_or, or_true, false_or, or_false, forall_const, implies_true, Nat.le_refl, Int.toNat_natCast, Int.reduceLT, ne_eq, Fin.isValue, Nat.add_zero, nC_hrw, nS_hrw, nC_hwr, nS_hwr, hkd_hrw, hkd_hwr, fin4_0, fin4_1, fin4_2, fin4_3, fin2_0, fin2_1, ci0, ci1, cnn, false_implies, w32_eq, w64_eq, hF.m]
      try simp (disch := omega) only [yc_lt, yc_le, yc_gt, yc_ge, yc_eq, w32_eq, w64_eq, tn_add, tn_mul, Int.toNat_natCast, Int.reduceToNat, not_true, not_false_iff, false_implies, forall_const, implies_true]
      repeat' (with_reducible first | apply And.intro | intro _)
      all_goals try omega
      all_goals try simp (disch := omega) only [w32_eq, w64_eq, tn_add, tn_mul, Int.toNat_natCast, Int.reduceToNat, Option.some.injEq, Sum.inr.injEq, Sum.inl.injEq]
      all_goals try omega
      refine ClA.pure (c_X5_within_F _ (by omega) (by omega) (by omega) h19) (by first | exact Nat.le_of_ble_eq_true rfl | (simp only [eD]; omega)) (by first | exact Nat.le_refl _ | (simp only [eG, eD, eC, eS, eQ, eH, nC_hrw, nC_hwr, nS_hrw, nS_hwr, nC_hnw, nS_hnw]; omega)) (by first | exact Nat.le_refl _ | (simp only [eG, eD, eC, eS, eQ, eH, nC_hrw, nC_hwr, nS_hrw, nS_hwr, nC_hnw, nS_hnw]; omega)) ?_
      refine vsA_ok tk_X5_whyNot rfl 20 ?_
      simp only [at_X5_whyNot, mr_X5_whyNot, vsA, vcA, denA, lget, lset, lst1, lst2, lclr, argsA, restA, acats, acat, tcA, tcN, rzA, lle, List.length_cons, List.length_nil, Option.toList_some, Option.toList_none, List.cons_append, List.nil_append, eG, eM, eD, eC, eS, eQ, eH, if_true, if_false, Nat.reduceAdd, Nat.reduceLeDiff, Nat.reduceEqDiff, Nat.reduceLT, Nat.reduceSub, Int.reduceEq, Int.reduceLE, Int.reduceToNat, reduceCtorEq, reduceIte, Nat.reduceBEq, Int.reduceNeg, not_true, not_false_iff, true_and, and_true, true_or, or_true, false_or, or_false, forall_const, implies_true, Nat.le_refl, Int.toNat_natCast, Int.reduceLT, ne_eq, Fin.isValue, Nat.add_zero, nC_hrw, nS_hrw, nC_hwr, nS_hwr, hkd_hrw, hkd_hwr, fin4_0, fin4_1, fin4_2, fin4_3, fin2_0, fin2_1, ci0, ci1, cnn, false_implies, w32_eq, w64_eq, hF.m]
      try simp (disch := omega) only [yc_lt, yc_le, yc_gt, yc_ge, yc_eq, w32_eq, w64_eq, tn_add, tn_mul, Int.toNat_natCast, Int.reduceToNat, not_true, not_false_iff, false_implies, forall_const, implies_true]
      repeat' (with_reducible first | apply And.intro | intro _)
      all_goals try omega
      all_goals try simp (disch := omega) only [w32_eq, w64_eq, tn_add, tn_mul, Int.toNat_natCast, Int.reduceToNat, Option.some.injEq, Sum.inr.injEq, Sum.inl.injEq]
      all_goals try omega
      all_goals exact FrP.rf
theorem by_ok (hs : StOK s) (h60 : a.1.length ≤ 60) (hv : toldS s a v = 0) (h10 : v < 10) : (0 ≤ v ∧ v ≤ 19) ∧ (byS s a v = -1 ∨ 0 ≤ byS s a v ∧ byS s a v < 3 ∧ a.1.length < 60) := by
  have hpi : pkS s a = -1 ∨ 0 ≤ pkS s a ∧ pkS s a < 3 := by
    have := pkd_in (sT s) hs.1.1 (sP s) (sL s) (wdW a.2.1 a.2.2 (wrdS s a))
    have := hs.1.2.1
    unfold pkS
    omega
  have h3 := hs.1.2.1
  unfold toldS at hv
  split at hv
  · refine ⟨by omega, ?_⟩
    unfold whyS at hv
    split at hv
    · have hb : byS s a v = -1 ∨ 0 ≤ byS s a v ∧ byS s a v < 3 := by
        unfold byS
        split <;> omega
      rcases hb with hb | hb
      · exact Or.inl hb
      · refine Or.inr ⟨hb.1, hb.2, ?_⟩
        unfold whyB at hv
        rw [if_neg (by omega)] at hv
        split at hv <;> omega
    · omega
  · split at hv <;> omega
theorem c_X5_does (hF : FxA h) (hA : AllS (hdt h 125) s a) (hS : StOK s) (hv : toldS s a v = 0) (hp : v < 10 → hdt h 124 22 = byS s a v) :
    CnA G mX5_does 2 0 0 [.inr (.inr (124)), .inl (v)] h (fun r h1 => r = none ∧ FrD h h1 ∧ hdt h1 124 = hdt h 124 ∧ AllS (hdt h1 125) s (goS s a v)) := by
  refine CnA.of rfl (Nat.le_of_ble_eq_true rfl) ?_
  simp only [largs, lpad, mr_X5_does]
  have hq := hA.1.q
  by_cases h10 : 10 ≤ v
  · have h19 : v ≤ 19 := by
      unfold toldS at hv
      rw [if_neg (by omega)] at hv
      split at hv <;> omega
    rw [show goS s a v = (a.1, a.2.1, v - 10) by unfold goS; rw [if_pos h10]]
    have g1 : dA 125 111 := Or.inr (Or.inr ⟨rfl, by omega⟩)
    have ho : FrD h (hwr h 125 111 (v - 10)) := FrP.rf.wr g1 _
    have hw : AllS (hdt (hwr h 125 111 (v - 10)) 125) s (a.1, a.2.1, v - 10) := by
      rw [hdt_hwr, if_pos rfl]
      refine hA.re (fun j hj => ?_) hA.1.2.1 hA.1.2.2.1 ?_ ?_ ?_ fun k hk => ?_
      · rw [fup_n _ _ (by omega)]
      · rw [fup_s]
      · rw [fup_n _ _ (by omega)]; exact hq.2.2.2.1
      · rw [fup_n _ _ (by omega)]; exact hq.2.2.2.2
      · rw [fup_n _ _ (by omega)]; exact hA.1.by hk
    refine vsA_ok tk_X5_does rfl 20 ?_
    simp only [at_X5_does, mr_X5_does, vsA, vcA, denA, lget, lset, lst1, lst2, lclr, argsA, restA, acats, acat, tcA, tcN, rzA, lle, List.length_cons, List.length_nil, Option.toList_some, Option.toList_none, List.cons_append, List.nil_append, eG, eM, eD, eC, eS, eQ, eH, if_true, if_false, Nat.reduceAdd, Nat.reduceLeDiff, Nat.reduceEqDiff, Nat.reduceLT, Nat.reduceSub, Int.reduceEq, Int.reduceLE, Int.reduceToNat, reduceCtorEq, reduceIte, Nat.reduceBEq, Int.reduceNeg, not_true, not_false_iff, true_and, and_true, true_or, or_true, false_or, or_false, forall_const, implies_true, Nat.le_refl, Int.toNat_natCast, Int.reduceLT, ne_eq, Fin.isValue, Nat.add_zero, nC_hrw, nS_hrw, nC_hwr, nS_hwr, hkd_hrw, hkd_hwr, fin4_0, fin4_1, fin4_2, fin4_3, fin2_0, fin2_1, ci0, ci1, cnn, false_implies, w32_eq, w64_eq, hF.m]
    try simp (disch := omega) only [yc_lt, yc_le, yc_gt, yc_ge, yc_eq, w32_eq, w64_eq, tn_add, tn_mul, Int.toNat_natCast, Int.reduceToNat, not_true, not_false_iff, false_implies, forall_const, implies_true]
    repeat' (with_reducible first | apply And.intro | intro _)
    all_goals try omega
    all_goals try simp (disch := omega) only [w32_eq, w64_eq, tn_add, tn_mul, Int.toNat_natCast, Int.reduceToNat, Option.some.injEq, Sum.inr.injEq, Sum.inl.injEq]
    all_goals try omega
    all_goals first | exact ho | exact hw | exact hdt_hrw_n _ _ (by decide)
  · obtain ⟨h19, hb⟩ := by_ok hS hA.1.2.1 hv (by omega)
    rw [show goS s a v = byG a (byS s a v) by unfold goS; rw [if_neg h10]]
    refine vsA_ok tk_X5_does rfl 20 ?_
    simp only [at_X5_does, mr_X5_does, vsA, vcA, denA, lget, lset, lst1, lst2, lclr, argsA, restA, acats, acat, tcA, tcN, rzA, lle, List.length_cons, List.length_nil, Option.toList_some, Option.toList_none, List.cons_append, List.nil_append, eG, eM, eD, eC, eS, eQ, eH, if_true, if_false, Nat.reduceAdd, Nat.reduceLeDiff, Nat.reduceEqDiff, Nat.reduceLT, Nat.reduceSub, Int.reduceEq, Int.reduceLE, Int.reduceToNat, reduceCtorEq, reduceIte, Nat.reduceBEq, Int.reduceNeg, not_true, not_false_iff, true_and, and_true, true_or, or_true, false_or, or_false, forall_const, implies_true, Nat.le_refl, Int.toNat_natCast, Int.reduceLT, ne_eq, Fin.isValue, Nat.add_zero, nC_hrw, nS_hrw, nC_hwr, nS_hwr, hkd_hrw, hkd_hwr, fin4_0, fin4_1, fin4_2, fin4_3, fin2_0, fin2_1, ci0, ci1, cnn, false_implies, w32_eq, w64_eq, hF.m]
    try simp (disch := omega) only [yc_lt, yc_le, yc_gt, yc_ge, yc_eq, w32_eq, w64_eq, tn_add, tn_mul, Int.toNat_natCast, Int.reduceToNat, not_true, not_false_iff, false_implies, forall_const, implies_true]
    repeat' (with_reducible first | apply And.intro | intro _)
    all_goals try omega
    all_goals try simp (disch := omega) only [w32_eq, w64_eq, tn_add, tn_mul, Int.toNat_natCast, Int.reduceToNat, Option.some.injEq, Sum.inr.injEq, Sum.inl.injEq]
    all_goals try omega
    refine ClA.of (c_X5_goesNight hF hA (hp (by omega)) hb) (by first | exact Nat.le_of_ble_eq_true rfl | (simp only [eD]; omega)) (by first | exact Nat.le_refl _ | (simp only [eG, eD, eC, eS, eQ, eH, nC_hrw, nC_hwr, nS_hrw, nS_hwr, nC_hnw, nS_hnw]; omega)) (by first | exact Nat.le_refl _ | (simp only [eG, eD, eC, eS, eQ, eH, nC_hrw, nC_hwr, nS_hrw, nS_hwr, nC_hnw, nS_hnw]; omega)) ?_
    rintro _ h1 ⟨rfl, hf, h24, hw⟩ hn1 hn2
    refine vsA_ok tk_X5_does rfl 20 ?_
    simp only [at_X5_does, mr_X5_does, vsA, vcA, denA, lget, lset, lst1, lst2, lclr, argsA, restA, acats, acat, tcA, tcN, rzA, lle, List.length_cons, List.length_nil, Option.toList_some, Option.toList_none, List.cons_append, List.nil_append, eG, eM, eD, eC, eS, eQ, eH, if_true, if_false, Nat.reduceAdd, Nat.reduceLeDiff, Nat.reduceEqDiff, Nat.reduceLT, Nat.reduceSub, Int.reduceEq, Int.reduceLE, Int.reduceToNat, reduceCtorEq, reduceIte, Nat.reduceBEq, Int.reduceNeg, not_true, not_false_iff, true_and, and_true, true_or, or_true, false_or, or_false, forall_const, implies_true, Nat.le_refl, Int.toNat_natCast, Int.reduceLT, ne_eq, Fin.isValue, Nat.add_zero, nC_hrw, nS_hrw, nC_hwr, nS_hwr, hkd_hrw, hkd_hwr, fin4_0, fin4_1, fin4_2, fin4_3, fin2_0, fin2_1, ci0, ci1, cnn, false_implies, w32_eq, w64_eq, hF.m]
    try simp (disch := omega) only [yc_lt, yc_le, yc_gt, yc_ge, yc_eq, w32_eq, w64_eq, tn_add, tn_mul, Int.toNat_natCast, Int.reduceToNat, not_true, not_false_iff, false_implies, forall_const, implies_true]
    repeat' (with_reducible first | apply And.intro | intro _)
    all_goals try omega
    all_goals try simp (disch := omega) only [w32_eq, w64_eq, tn_add, tn_mul, Int.toNat_natCast, Int.reduceToNat, Option.some.injEq, Sum.inr.injEq, Sum.inl.injEq]
    all_goals try omega
    all_goals first | exact hf | exact hw | exact h24
/-- a tray of the reference -/
def TrM (h : AH) (t : Nat) (vs : List Int) : Prop := vs.length ≤ 40 ∧ hdt h 151 t = (vs.length : Int) ∧ (∀ i, i < vs.length → hdt h 152 (40 * t + i) = vs.getD i 0) ∧ ∀ x ∈ vs, In64 x
theorem drop_consI {l : List Int} {k : Nat} (hk : k < l.length) : l.drop k = l.getD k 0 :: l.drop (k + 1) := by
  rw [List.drop_eq_getElem_cons hk]
  simp [hk]
theorem getD_memI {l : List Int} {k : Nat} (hk : k < l.length) : l.getD k 0 ∈ l := by
  simp [hk]
theorem c_X5_tells {t : Nat} {vs : List Int} (hF : FxA h) (hA : AllS (hdt h 125) s a) (hS : StOK s) (hO : OKS s N a) (hN : N < 2147480000) (ht : t < 4) (hT : TrM h t vs) :
    CnA G mX5_tells 9 0 0 [.inr (.inr (124)), .inl ((t : Int))] h (fun r h1 => r = some (.inl ((((tellS s a vs).1 : Nat) : Int))) ∧ FrD h h1 ∧ AllS (hdt h1 125) s (tellS s a vs).2.1 ∧ hdt h1 124 23 = (tellS s a vs).2.2) := by
  refine CnA.of rfl (Nat.le_of_ble_eq_true rfl) ?_
  simp only [largs, lpad, mr_X5_tells]
  obtain ⟨hl, hm, hd, h64⟩ := hT
  generalize hE : ((G, mX5_tells, _, _, _, _, h) : EV) = E
  have L1 : ∀ k, k ≤ vs.length → ∀ h1 b, FrD h h1 → AllS (hdt h1 125) s b → OKS s (N + (k : Nat)) b → hdt h1 124 23 = 0 → (k + (tellS s b (vs.drop k)).1, (tellS s b (vs.drop k)).2) = ((tellS s a vs).1, (tellS s a vs).2) →
      ExA E 7 [some (.inr (.inr (124))), some (.inl ((t : Int))), some (.inl ((k : Int)))] [] h1 := by
    refine lpI _ fun k hk ih h1 b hf hA1 hO1 h23 hte => ?_
    have hF1 := hF.frd hf
    have c0 := hf.2.1
    have e151 : hdt h1 151 = hdt h 151 := FrD.c hf (by decide) (by decide) (by decide)
    have e152 : hdt h1 152 = hdt h 152 := FrD.c hf (by decide) (by decide) (by decide)
    obtain ⟨te1, te2⟩ := Prod.mk.inj hte
    by_cases hkl : k < vs.length
    · have hdk := hd k hkl
      have hvk := h64 _ (getD_memI hkl)
      have ei : (40 * (t : Int) + (k : Int)).toNat = 40 * t + k := by omega
      rw [drop_consI hkl] at te1 te2
      have ih := ih hkl
      generalize vs.getD k 0 = v at *
      by_cases hto : toldS s b v = 0
      · rw [tellS_t _ hto] at te1 te2
        have nx := ih
        obtain ⟨h19, -⟩ : (v < 20) ∧ True := by
          refine ⟨?_, trivial⟩
          unfold toldS at hto
          split at hto
          · omega
          · split at hto <;> omega
        have hv0 : 0 ≤ v := by
          unfold toldS at hto
          split at hto
          · omega
          · split at hto <;> omega
        subst hE
        refine vsA_ok tk_X5_tells rfl 30 ?_
        simp only [at_X5_tells, mr_X5_tells, vsA, vcA, denA, lget, lset, lst1, lst2, lclr, argsA, restA, acats, acat, tcA, tcN, rzA, lle, List.length_cons, List.length_nil, Option.toList_some, Option.toList_none, List.cons_append, List.nil_append, eG, eM, eD, eC, eS, eQ, eH, if_true, if_false, Nat.reduceAdd, Nat.reduceLeDiff, Nat.reduceEqDiff, Nat.reduceLT, Nat.reduceSub, Int.reduceEq, Int.reduceLE, Int.reduceToNat, reduceCtorEq, reduceIte, Nat.reduceBEq, Int.reduceNeg, not_true, not_false_iff, true_and, and_true, true_or, or_true, false_or, or_false, forall_const, implies_true, Nat.le_refl, Int.toNat_natCast, Int.reduceLT, ne_eq, Fin.isValue, Nat.add_zero, nC_hrw, nS_hrw, nC_hwr, nS_hwr, hkd_hrw, hkd_hwr, fin4_0, fin4_1, fin4_2, fin4_3, fin2_0, fin2_1, ci0, ci1, cnn, false_implies, w32_eq, w64_eq, hF1.m, e151, e152, hm, ei, hdk]
        try simp (disch := omega) only [yc_lt, yc_le, yc_gt, yc_ge, yc_eq, w32_eq, w64_eq, tn_add, tn_mul, Int.toNat_natCast, Int.reduceToNat, not_true, not_false_iff, false_implies, forall_const, implies_true]
        repeat' (with_reducible first | apply And.intro | intro _)
        all_goals try omega
        all_goals try simp (disch := omega) only [w32_eq, w64_eq, tn_add, tn_mul, Int.toNat_natCast, Int.reduceToNat, Option.some.injEq, Sum.inr.injEq, Sum.inl.injEq]
        all_goals try omega
        refine ClA.of (c_X5_whyNot hF1 hA1 hS hO1 (by omega) hvk) (by first | exact Nat.le_of_ble_eq_true rfl | (simp only [eD]; omega)) (by first | exact Nat.le_refl _ | (simp only [eG, eD, eC, eS, eQ, eH, nC_hrw, nC_hwr, nS_hrw, nS_hwr, nC_hnw, nS_hnw]; omega)) (by first | exact Nat.le_refl _ | (simp only [eG, eD, eC, eS, eQ, eH, nC_hrw, nC_hwr, nS_hrw, nS_hwr, nC_hnw, nS_hnw]; omega)) ?_
        rintro _ h2 ⟨rfl, hf2, hp2⟩ - -
        have hfd2 : FrD h h2 := hf.tr (hf2.d (by decide) (by decide))
        have hfd3 : FrD h (hwr h2 124 23 (toldS s b v)) := hfd2.wr (Or.inr (Or.inl ⟨rfl, by decide⟩)) _
        have hF2 := hF.frd hfd2
        have hF3 := hF.frd hfd3
        have c2 := hfd2.2.1
        have e152' : hdt (hwr h2 124 23 (toldS s b v)) 152 = hdt h 152 := FrD.c hfd3 (by decide) (by decide) (by decide)
        have e23 : hdt (hwr h2 124 23 (toldS s b v)) 124 23 = toldS s b v := by rw [hdt_hwr, if_pos rfl, fup_s]
        have e22 : v < 10 → hdt (hwr h2 124 23 (toldS s b v)) 124 22 = byS s b v := fun q => by rw [hdt_hwr, if_pos rfl, fup_n _ _ (by decide)]; exact hp2 hto q
        have hA3 : AllS (hdt (hwr h2 124 23 (toldS s b v)) 125) s b := by
          rw [hdt_hwr, if_neg (by decide), FrM.c hf2 (by decide) (by decide)]
          exact hA1
        rw [hto] at hfd3 hF3 e152' e23 e22 hA3 ⊢
        refine vsA_ok tk_X5_tells rfl 40 ?_
        simp only [at_X5_tells, mr_X5_tells, vsA, vcA, denA, lget, lset, lst1, lst2, lclr, argsA, restA, acats, acat, tcA, tcN, rzA, lle, List.length_cons, List.length_nil, Option.toList_some, Option.toList_none, List.cons_append, List.nil_append, eG, eM, eD, eC, eS, eQ, eH, if_true, if_false, Nat.reduceAdd, Nat.reduceLeDiff, Nat.reduceEqDiff, Nat.reduceLT, Nat.reduceSub, Int.reduceEq, Int.reduceLE, Int.reduceToNat, reduceCtorEq, reduceIte, Nat.reduceBEq, Int.reduceNeg, not_true, not_false_iff, true_and, and_true, true_or, or_true, false_or, or_false, forall_const, implies_true, Nat.le_refl, Int.toNat_natCast, Int.reduceLT, ne_eq, Fin.isValue, Nat.add_zero, nC_hrw, nS_hrw, nC_hwr, nS_hwr, hkd_hrw, hkd_hwr, fin4_0, fin4_1, fin4_2, fin4_3, fin2_0, fin2_1, ci0, ci1, cnn, false_implies, w32_eq, w64_eq, hF2.m, hF3.m, e152', e23, hto, ei, hdk]
        try simp (disch := omega) only [yc_lt, yc_le, yc_gt, yc_ge, yc_eq, w32_eq, w64_eq, tn_add, tn_mul, Int.toNat_natCast, Int.reduceToNat, not_true, not_false_iff, false_implies, forall_const, implies_true]
        repeat' (with_reducible first | apply And.intro | intro _)
        all_goals try omega
        all_goals try simp (disch := omega) only [w32_eq, w64_eq, tn_add, tn_mul, Int.toNat_natCast, Int.reduceToNat, Option.some.injEq, Sum.inr.injEq, Sum.inl.injEq]
        all_goals try omega
        refine ClA.of (c_X5_does hF3 hA3 hS hto e22) (by first | exact Nat.le_of_ble_eq_true rfl | (simp only [eD]; omega)) (by first | exact Nat.le_refl _ | (simp only [eG, eD, eC, eS, eQ, eH, nC_hrw, nC_hwr, nS_hrw, nS_hwr, nC_hnw, nS_hnw]; omega)) (by first | exact Nat.le_refl _ | (simp only [eG, eD, eC, eS, eQ, eH, nC_hrw, nC_hwr, nS_hrw, nS_hwr, nC_hnw, nS_hnw]; omega)) ?_
        rintro _ h4 ⟨rfl, hf4, h24, hA4⟩ - -
        have hfd4 := hfd3.tr hf4
        have e23' : hdt h4 124 23 = 0 := by rw [h24]; exact e23
        have nx := ih h4 (goS s b v) hfd4 hA4 (by
          have := hO1.go hS hto
          rw [show N + ((k + 1 : Nat) : Int) = N + (k : Nat) + 1 by omega]
          exact this) e23' (by
          rw [← te1, ← te2]
          congr 1
          omega)
        refine vsA_ok tk_X5_tells rfl 40 ?_
        simp only [at_X5_tells, mr_X5_tells, vsA, vcA, denA, lget, lset, lst1, lst2, lclr, argsA, restA, acats, acat, tcA, tcN, rzA, lle, List.length_cons, List.length_nil, Option.toList_some, Option.toList_none, List.cons_append, List.nil_append, eG, eM, eD, eC, eS, eQ, eH, if_true, if_false, Nat.reduceAdd, Nat.reduceLeDiff, Nat.reduceEqDiff, Nat.reduceLT, Nat.reduceSub, Int.reduceEq, Int.reduceLE, Int.reduceToNat, reduceCtorEq, reduceIte, Nat.reduceBEq, Int.reduceNeg, not_true, not_false_iff, true_and, and_true, true_or, or_true, false_or, or_false, forall_const, implies_true, Nat.le_refl, Int.toNat_natCast, Int.reduceLT, ne_eq, Fin.isValue, Nat.add_zero, nC_hrw, nS_hrw, nC_hwr, nS_hwr, hkd_hrw, hkd_hwr, fin4_0, fin4_1, fin4_2, fin4_3, fin2_0, fin2_1, ci0, ci1, cnn, false_implies, w32_eq, w64_eq]
        try simp (disch := omega) only [yc_lt, yc_le, yc_gt, yc_ge, yc_eq, w32_eq, w64_eq, tn_add, tn_mul, Int.toNat_natCast, Int.reduceToNat, not_true, not_false_iff, false_implies, forall_const, implies_true]
        repeat' (with_reducible first | apply And.intro | intro _)
        all_goals try omega
        all_goals try simp (disch := omega) only [w32_eq, w64_eq, tn_add, tn_mul, Int.toNat_natCast, Int.reduceToNat, Option.some.injEq, Sum.inr.injEq, Sum.inl.injEq]
        all_goals try omega
        all_goals try exact (nx).weak rfl (by simp [lle] <;> omega)
      · rw [tellS_f _ hto] at te1 te2
        rw [← te1, ← te2] at hE
        subst hE
        refine vsA_ok tk_X5_tells rfl 30 ?_
        simp only [at_X5_tells, mr_X5_tells, vsA, vcA, denA, lget, lset, lst1, lst2, lclr, argsA, restA, acats, acat, tcA, tcN, rzA, lle, List.length_cons, List.length_nil, Option.toList_some, Option.toList_none, List.cons_append, List.nil_append, eG, eM, eD, eC, eS, eQ, eH, if_true, if_false, Nat.reduceAdd, Nat.reduceLeDiff, Nat.reduceEqDiff, Nat.reduceLT, Nat.reduceSub, Int.reduceEq, Int.reduceLE, Int.reduceToNat, reduceCtorEq, reduceIte, Nat.reduceBEq, Int.reduceNeg, not_true, not_false_iff, true_and, and_true, true_or, or_true, false_or, or_false, forall_const, implies_true, Nat.le_refl, Int.toNat_natCast, Int.reduceLT, ne_eq, Fin.isValue, Nat.add_zero, nC_hrw, nS_hrw, nC_hwr, nS_hwr, hkd_hrw, hkd_hwr, fin4_0, fin4_1, fin4_2, fin4_3, fin2_0, fin2_1, ci0, ci1, cnn, false_implies, w32_eq, w64_eq, hF1.m, e151, e152, hm, ei, hdk]
        try simp (disch := omega) only [yc_lt, yc_le, yc_gt, yc_ge, yc_eq, w32_eq, w64_eq, tn_add, tn_mul, Int.toNat_natCast, Int.reduceToNat, not_true, not_false_iff, false_implies, forall_const, implies_true]
        repeat' (with_reducible first | apply And.intro | intro _)
        all_goals try omega
        all_goals try simp (disch := omega) only [w32_eq, w64_eq, tn_add, tn_mul, Int.toNat_natCast, Int.reduceToNat, Option.some.injEq, Sum.inr.injEq, Sum.inl.injEq]
        all_goals try omega
        refine ClA.of (c_X5_whyNot hF1 hA1 hS hO1 (by omega) hvk) (by first | exact Nat.le_of_ble_eq_true rfl | (simp only [eD]; omega)) (by first | exact Nat.le_refl _ | (simp only [eG, eD, eC, eS, eQ, eH, nC_hrw, nC_hwr, nS_hrw, nS_hwr, nC_hnw, nS_hnw]; omega)) (by first | exact Nat.le_refl _ | (simp only [eG, eD, eC, eS, eQ, eH, nC_hrw, nC_hwr, nS_hrw, nS_hwr, nC_hnw, nS_hnw]; omega)) ?_
        rintro _ h2 ⟨rfl, hf2, hp2⟩ - -
        have hfd2 : FrD h h2 := hf.tr (hf2.d (by decide) (by decide))
        have hfd3 : FrD h (hwr h2 124 23 (toldS s b v)) := hfd2.wr (Or.inr (Or.inl ⟨rfl, by decide⟩)) _
        have hF2 := hF.frd hfd2
        have hF3 := hF.frd hfd3
        have c2 := hfd2.2.1
        have e23 : hdt (hwr h2 124 23 (toldS s b v)) 124 23 = toldS s b v := by rw [hdt_hwr, if_pos rfl, fup_s]
        have hA3 : AllS (hdt (hwr h2 124 23 (toldS s b v)) 125) s b := by
          rw [hdt_hwr, if_neg (by decide), FrM.c hf2 (by decide) (by decide)]
          exact hA1
        have hr3 : 0 ≤ toldS s b v ∧ toldS s b v ≤ 3 := by
          unfold toldS whyS whyB
          repeat' split
          all_goals omega
        refine vsA_ok tk_X5_tells rfl 40 ?_
        simp only [at_X5_tells, mr_X5_tells, vsA, vcA, denA, lget, lset, lst1, lst2, lclr, argsA, restA, acats, acat, tcA, tcN, rzA, lle, List.length_cons, List.length_nil, Option.toList_some, Option.toList_none, List.cons_append, List.nil_append, eG, eM, eD, eC, eS, eQ, eH, if_true, if_false, Nat.reduceAdd, Nat.reduceLeDiff, Nat.reduceEqDiff, Nat.reduceLT, Nat.reduceSub, Int.reduceEq, Int.reduceLE, Int.reduceToNat, reduceCtorEq, reduceIte, Nat.reduceBEq, Int.reduceNeg, not_true, not_false_iff, true_and, and_true, true_or, or_true, false_or, or_false, forall_const, implies_true, Nat.le_refl, Int.toNat_natCast, Int.reduceLT, ne_eq, Fin.isValue, Nat.add_zero, nC_hrw, nS_hrw, nC_hwr, nS_hwr, hkd_hrw, hkd_hwr, fin4_0, fin4_1, fin4_2, fin4_3, fin2_0, fin2_1, ci0, ci1, cnn, false_implies, w32_eq, w64_eq, hF2.m, hF3.m, e23, c2]
        try simp (disch := omega) only [yc_lt, yc_le, yc_gt, yc_ge, yc_eq, w32_eq, w64_eq, tn_add, tn_mul, Int.toNat_natCast, Int.reduceToNat, not_true, not_false_iff, false_implies, forall_const, implies_true]
        repeat' (with_reducible first | apply And.intro | intro _)
        all_goals try omega
        all_goals try simp (disch := omega) only [w32_eq, w64_eq, tn_add, tn_mul, Int.toNat_natCast, Int.reduceToNat, Option.some.injEq, Sum.inr.injEq, Sum.inl.injEq]
        all_goals try omega
        all_goals first | exact hfd3 | exact hA3 | exact e23
    · have hkl2 : k = vs.length := by omega
      subst hkl2
      rw [List.drop_length, tellS_n] at te1 te2
      have te1 : vs.length + 0 = (tellS s a vs).1 := te1
      have te2 : (b, (0 : Int)) = (tellS s a vs).2 := te2
      rw [← te1, ← te2] at hE
      subst hE
      refine vsA_ok tk_X5_tells rfl 30 ?_
      simp only [at_X5_tells, mr_X5_tells, vsA, vcA, denA, lget, lset, lst1, lst2, lclr, argsA, restA, acats, acat, tcA, tcN, rzA, lle, List.length_cons, List.length_nil, Option.toList_some, Option.toList_none, List.cons_append, List.nil_append, eG, eM, eD, eC, eS, eQ, eH, if_true, if_false, Nat.reduceAdd, Nat.reduceLeDiff, Nat.reduceEqDiff, Nat.reduceLT, Nat.reduceSub, Int.reduceEq, Int.reduceLE, Int.reduceToNat, reduceCtorEq, reduceIte, Nat.reduceBEq, Int.reduceNeg, not_true, not_false_iff, true_and, and_true, true_or, or_true, false_or, or_false, forall_const, implies_true, Nat.le_refl, Int.toNat_natCast, Int.reduceLT, ne_eq, Fin.isValue, Nat.add_zero, nC_hrw, nS_hrw, nC_hwr, nS_hwr, hkd_hrw, hkd_hwr, fin4_0, fin4_1, fin4_2, fin4_3, fin2_0, fin2_1, ci0, ci1, cnn, false_implies, w32_eq, w64_eq, hF1.m, e151, hm, c0]
      try simp (disch := omega) only [yc_lt, yc_le, yc_gt, yc_ge, yc_eq, w32_eq, w64_eq, tn_add, tn_mul, Int.toNat_natCast, Int.reduceToNat, not_true, not_false_iff, false_implies, forall_const, implies_true]
      repeat' (with_reducible first | apply And.intro | intro _)
      all_goals try omega
      all_goals try simp (disch := omega) only [w32_eq, w64_eq, tn_add, tn_mul, Int.toNat_natCast, Int.reduceToNat, Option.some.injEq, Sum.inr.injEq, Sum.inl.injEq]
      all_goals try omega
      all_goals first | exact hf | exact hA1 | exact h23
  have hf0 : FrD h (hwr h 124 23 0) := FrP.rf.wr (Or.inr (Or.inl ⟨rfl, by decide⟩)) _
  have l1 := L1 0 (Nat.zero_le _) (hwr h 124 23 0) a hf0 (by rw [hdt_hwr, if_neg (by decide)]; exact hA) (by simpa using hO) (by rw [hdt_hwr, if_pos rfl, fup_s]) (by simp)
  subst hE
  refine vsA_ok tk_X5_tells rfl 10 ?_
  simp only [at_X5_tells, mr_X5_tells, vsA, vcA, denA, lget, lset, lst1, lst2, lclr, argsA, restA, acats, acat, tcA, tcN, rzA, lle, List.length_cons, List.length_nil, Option.toList_some, Option.toList_none, List.cons_append, List.nil_append, eG, eM, eD, eC, eS, eQ, eH, if_true, if_false, Nat.reduceAdd, Nat.reduceLeDiff, Nat.reduceEqDiff, Nat.reduceLT, Nat.reduceSub, Int.reduceEq, Int.reduceLE, Int.reduceToNat, reduceCtorEq, reduceIte, Nat.reduceBEq, Int.reduceNeg, not_true, not_false_iff, true_and, and_true, true_or, or_true, false_or, or_false, forall_const, implies_true, Nat.le_refl, Int.toNat_natCast, Int.reduceLT, ne_eq, Fin.isValue, Nat.add_zero, nC_hrw, nS_hrw, nC_hwr, nS_hwr, hkd_hrw, hkd_hwr, fin4_0, fin4_1, fin4_2, fin4_3, fin2_0, fin2_1, ci0, ci1, cnn, false_implies, w32_eq, w64_eq, hF.m]
  try simp (disch := omega) only [yc_lt, yc_le, yc_gt, yc_ge, yc_eq, w32_eq, w64_eq, tn_add, tn_mul, Int.toNat_natCast, Int.reduceToNat, not_true, not_false_iff, false_implies, forall_const, implies_true]
  repeat' (with_reducible first | apply And.intro | intro _)
  all_goals try omega
  all_goals try simp (disch := omega) only [w32_eq, w64_eq, tn_add, tn_mul, Int.toNat_natCast, Int.reduceToNat, Option.some.injEq, Sum.inr.injEq, Sum.inl.injEq]
  all_goals try omega
  all_goals try exact (l1).weak rfl (by simp [lle] <;> omega)
end
