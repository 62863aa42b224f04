/-! THE REFERENCE: what is picked; nights -/
set_option maxRecDepth 100000
/-- the row of numbers holds a street with its laws, and what stands -/
def AllS (f : Nat → Int) (s : SP) (a : S3) : Prop := AllC f (sT s) (sB s) (sS s) a.1 a.2.1 a.2.2 ∧ LawC f 0 (sP s) ∧ LawC f 1 (sL s)
theorem AllS.lt {f : Nat → Int} {s : SP} {a : S3} (h : AllS f s a) : ∀ d ∈ wrdS s a, d < 6 := h.1.lt
theorem tmod_nn {a b : Nat} : (a : Int).tmod (b : Int) = ((a % b : Nat) : Int) := (Int.ofNat_tmod a b).symm
/-- Java's remainder -/
theorem tmod_cases (v : Int) (T : Nat) (hT : 1 ≤ T) : (0 ≤ v % (T : Int) ∧ v % (T : Int) < T) ∧ (v.tmod (T : Int) = v % (T : Int) - T ∧ v < 0 ∧ v % (T : Int) ≠ 0 ∨ v.tmod (T : Int) = v % (T : Int) ∧ (0 ≤ v ∨ v % (T : Int) = 0)) := by
  have e1 := Int.emod_nonneg v (b := (T : Int)) (by omega)
  have e2 := Int.emod_lt_of_pos v (show (0 : Int) < (T : Int) by omega)
  have e3 := Int.tmod_eq_emod (a := v) (b := (T : Int))
  have e7 : (T : Int) ∣ v ↔ v % (T : Int) = 0 := Int.dvd_iff_emod_eq_zero
  refine ⟨⟨e1, e2⟩, ?_⟩
  by_cases q1 : 0 ≤ v
  · rw [if_pos (Or.inl q1)] at e3
    exact Or.inr ⟨by omega, Or.inl q1⟩
  · by_cases q2 : (T : Int) ∣ v
    · rw [if_pos (Or.inr q2)] at e3
      exact Or.inr ⟨by omega, Or.inr (e7.mp q2)⟩
    · rw [if_neg (by rintro (q | q); exact q1 q; exact q2 q)] at e3
      exact Or.inl ⟨by omega, by omega, fun q => q2 (e7.mpr q)⟩
theorem frW_if (W : List Nat) : (if 0 < W.length then ((W.getD 0 0 : Nat) : Int) else 6) = ((frW W : Nat) : Int) := by
  unfold frW
  by_cases q : W.length = 0
  · rw [if_pos q, if_neg (by omega)]
    rfl
  · rw [if_neg q, if_pos (by omega)]
/-- from the laws on -/
theorem pn_Z {G : GT} {h : AH} {s : SP} {a : S3} {N : Int} (hF : FxA h) (hA : AllS (hdt h 125) s a) (hS : StOK s) (hO : OKS s N a) (hN : N < 2147483648) (h2 : AH) (n : Int) (hf : FrM [130, 132, 133] [18] h h2) (hw : ∀ k, k < 5 → hdt h2 133 k = wdW a.2.1 a.2.2 (wrdS s a) k) :
    ExA (G, mX5_pickedNow, 6, 0, 0, fun v h1 => v = some (.inl (pkS s a)) ∧ FrM [130, 132, 133] [18] h h1, h) 78 [some (.inr (.inr (124))), some (.inr (.inl (n))), none, none] [] h2 := by
  obtain ⟨h1, h22, h3, h4, h5⟩ := hO
  have hs := hA.1.sz
  have hlt := hA.lt
  have hfr := frW_in hlt
  have hbk := bkW_in hlt
  have hwo : WdOK (wdW a.2.1 a.2.2 (wrdS s a)) := wdW_ok hlt (by omega) h4
  generalize hE : ((G, mX5_pickedNow, _, _, _, _, h) : EV) = E
  have hF2 := hF.frm hf (by decide +kernel)
  have eA : hdt h2 125 = hdt h 125 := FrM.c hf (by decide) (by decide)
  have hA2 : AllS (hdt h2 125) s a := by rw [eA]; exact hA
  have hpk : ∀ h3, FrM [130, 132, 133] [18] h h3 → (∀ k, k < 5 → hdt h3 133 k = wdW a.2.1 a.2.2 (wrdS s a) k) → (pkS s a = pkd0 (sT s) (sP s) (wdW a.2.1 a.2.2 (wrdS s a))) → ExA E 100 [some (.inr (.inr (124))), some (.inr (.inl (n))), none, none] [] h3 := by
    intro h3 hf3 hw3 he
    have hF3 := hF.frm hf3 (by decide +kernel)
    have eA3 : hdt h3 125 = hdt h 125 := FrM.c hf3 (by decide) (by decide)
    have hA3 : AllS (hdt h3 125) s a := by rw [eA3]; exact hA
    have c0 := hf3.2.1
    rw [he] at hE
    have hL0 := hA3.2.1
    cases hpp : sP s with
    | none =>
      rw [hpp] at hL0
      have e0 : hdt h3 125 105 = 0 := hL0
      rw [hpp] at hE
      subst hE
      refine vsA_ok tk_X5_pickedNow rfl 30 ?_
      simp only [at_X5_pickedNow, mr_X5_pickedNow, vsA, vcA, denA, lget, lset, lst1, lst2, lclr, argsA, restA, acats, acat, tcA, tcN, rzA, lle, List.length_cons, List.length_nil, Option.toList_some, Option.toList_none, List.cons_append, List.nil_append, eG, eM, eD, eC, eS, eQ, eH, if_true, if_false, Nat.reduceAdd, Nat.reduceLeDiff, Nat.reduceEqDiff, Nat.reduceLT, Nat.reduceSub, Int.reduceEq, Int.reduceLE, Int.reduceToNat, reduceCtorEq, reduceIte, Nat.reduceBEq, Int.reduceNeg, not_true, not_false_iff, true_and, and_true, true_or, or_true, false_or, or_false, forall_const, implies_true, Nat.le_refl, Int.toNat_natCast, Int.reduceLT, ne_eq, Fin.isValue, Nat.add_zero, nC_hrw, nS_hrw, nC_hwr, nS_hwr, hkd_hrw, hkd_hwr, fin4_0, fin4_1, fin4_2, fin4_3, fin2_0, fin2_1, ci0, ci1, cnn, false_implies, w32_eq, w64_eq, hF3.m, e0, c0]
      try simp (disch := omega) only [yc_lt, yc_le, yc_gt, yc_ge, yc_eq, w32_eq, w64_eq, tn_add, tn_mul, Int.toNat_natCast, Int.reduceToNat, not_true, not_false_iff, false_implies, forall_const, implies_true]
      repeat' (with_reducible first | apply And.intro | intro _)
      all_goals try omega
      all_goals try simp (disch := omega) only [w32_eq, w64_eq, tn_add, tn_mul, Int.toNat_natCast, Int.reduceToNat, Option.some.injEq, Sum.inr.injEq, Sum.inl.injEq]
      all_goals try omega
      all_goals first | rfl | exact hf3
    | some q =>
      obtain ⟨d, hd, hP, hlen⟩ := hS.2.1 q hpp
      rw [hpp] at hL0
      have hL00 := hL0
      obtain ⟨e0, fr, e1, e2, e3, e4⟩ := hL0
      have e0' : hdt h3 125 105 = 1 := e0
      have hrg := (LawP.rng hwo d false q.1 q.2 hP).1
      have htc := tmod_cases (q.2 (wdW a.2.1 a.2.2 (wrdS s a))) (sT s) hs.2.2.2.1
      have hgo : pkd0 (sT s) (some q) (wdW a.2.1 a.2.2 (wrdS s a)) = q.2 (wdW a.2.1 a.2.2 (wrdS s a)) % (sT s : Int) := rfl
      rw [hpp, hgo] at hE
      subst hE
      refine vsA_ok tk_X5_pickedNow rfl 30 ?_
      simp only [at_X5_pickedNow, mr_X5_pickedNow, vsA, vcA, denA, lget, lset, lst1, lst2, lclr, argsA, restA, acats, acat, tcA, tcN, rzA, lle, List.length_cons, List.length_nil, Option.toList_some, Option.toList_none, List.cons_append, List.nil_append, eG, eM, eD, eC, eS, eQ, eH, if_true, if_false, Nat.reduceAdd, Nat.reduceLeDiff, Nat.reduceEqDiff, Nat.reduceLT, Nat.reduceSub, Int.reduceEq, Int.reduceLE, Int.reduceToNat, reduceCtorEq, reduceIte, Nat.reduceBEq, Int.reduceNeg, not_true, not_false_iff, true_and, and_true, true_or, or_true, false_or, or_false, forall_const, implies_true, Nat.le_refl, Int.toNat_natCast, Int.reduceLT, ne_eq, Fin.isValue, Nat.add_zero, nC_hrw, nS_hrw, nC_hwr, nS_hwr, hkd_hrw, hkd_hwr, fin4_0, fin4_1, fin4_2, fin4_3, fin2_0, fin2_1, ci0, ci1, cnn, false_implies, w32_eq, w64_eq, hF3.m, e0']
      try simp (disch := omega) only [yc_lt, yc_le, yc_gt, yc_ge, yc_eq, w32_eq, w64_eq, tn_add, tn_mul, Int.toNat_natCast, Int.reduceToNat, not_true, not_false_iff, false_implies, forall_const, implies_true]
      repeat' (with_reducible first | apply And.intro | intro _)
      all_goals try omega
      all_goals try simp (disch := omega) only [w32_eq, w64_eq, tn_add, tn_mul, Int.toNat_natCast, Int.reduceToNat, Option.some.injEq, Sum.inr.injEq, Sum.inl.injEq]
      all_goals try omega
      refine ClA.of (c_X5_reckons hF3 (l := 0) (by decide) hL00 hP hw3 hwo) (by first | exact Nat.le_of_ble_eq_true rfl | (simp only [eD]; omega)) (by first | exact Nat.le_refl _ | (simp only [eG, eD, eC, eS, eQ, eH, nC_hrw, nC_hwr, nS_hrw, nS_hwr, nC_hnw, nS_hnw]; omega)) (by first | exact Nat.le_refl _ | (simp only [eG, eD, eC, eS, eQ, eH, nC_hrw, nC_hwr, nS_hrw, nS_hwr, nC_hnw, nS_hnw]; omega)) ?_
      rintro _ h4 ⟨rfl, f, rfl⟩ - -
      have hf4 : FrM [130, 132, 133] [18] h (hrw h3 132 f) := FrM.rc hf3 (by decide) f
      have hF4 := hF.frm hf4 (by decide +kernel)
      have hq1 : hdt (hrw h3 132 f) 125 1 = (sT s : Int) := by rw [hdt_hrw_n _ _ (by decide)]; exact hA3.1.q.1
      refine vsA_ok tk_X5_pickedNow rfl 30 ?_
      simp only [at_X5_pickedNow, mr_X5_pickedNow, vsA, vcA, denA, lget, lset, lst1, lst2, lclr, argsA, restA, acats, acat, tcA, tcN, rzA, lle, List.length_cons, List.length_nil, Option.toList_some, Option.toList_none, List.cons_append, List.nil_append, eG, eM, eD, eC, eS, eQ, eH, if_true, if_false, Nat.reduceAdd, Nat.reduceLeDiff, Nat.reduceEqDiff, Nat.reduceLT, Nat.reduceSub, Int.reduceEq, Int.reduceLE, Int.reduceToNat, reduceCtorEq, reduceIte, Nat.reduceBEq, Int.reduceNeg, not_true, not_false_iff, true_and, and_true, true_or, or_true, false_or, or_false, forall_const, implies_true, Nat.le_refl, Int.toNat_natCast, Int.reduceLT, ne_eq, Fin.isValue, Nat.add_zero, nC_hrw, nS_hrw, nC_hwr, nS_hwr, hkd_hrw, hkd_hwr, fin4_0, fin4_1, fin4_2, fin4_3, fin2_0, fin2_1, ci0, ci1, cnn, false_implies, w32_eq, w64_eq, hF4.m, hq1, c0]
      try simp (disch := omega) only [yc_lt, yc_le, yc_gt, yc_ge, yc_eq, w32_eq, w64_eq, tn_add, tn_mul, Int.toNat_natCast, Int.reduceToNat, not_true, not_false_iff, false_implies, forall_const, implies_true]
      repeat' (with_reducible first | apply And.intro | intro _)
      all_goals try omega
      all_goals try simp (disch := omega) only [w32_eq, w64_eq, tn_add, tn_mul, Int.toNat_natCast, Int.reduceToNat, Option.some.injEq, Sum.inr.injEq, Sum.inl.injEq]
      all_goals try omega
      all_goals exact hf4
  have hL1 := hA2.2.2
  have c0 := hf.2.1
  cases hll : sL s with
  | none =>
    have he : pkS s a = pkd0 (sT s) (sP s) (wdW a.2.1 a.2.2 (wrdS s a)) := by unfold pkS pkd; rw [hll]
    have nx := hpk h2 hf hw he
    rw [hll] at hL1
    have e0 : hdt h2 125 106 = 0 := hL1
    subst hE
    refine vsA_ok tk_X5_pickedNow rfl 5 ?_
    simp only [at_X5_pickedNow, mr_X5_pickedNow, vsA, vcA, denA, lget, lset, lst1, lst2, lclr, argsA, restA, acats, acat, tcA, tcN, rzA, lle, List.length_cons, List.length_nil, Option.toList_some, Option.toList_none, List.cons_append, List.nil_append, eG, eM, eD, eC, eS, eQ, eH, if_true, if_false, Nat.reduceAdd, Nat.reduceLeDiff, Nat.reduceEqDiff, Nat.reduceLT, Nat.reduceSub, Int.reduceEq, Int.reduceLE, Int.reduceToNat, reduceCtorEq, reduceIte, Nat.reduceBEq, Int.reduceNeg, not_true, not_false_iff, true_and, and_true, true_or, or_true, false_or, or_false, forall_const, implies_true, Nat.le_refl, Int.toNat_natCast, Int.reduceLT, ne_eq, Fin.isValue, Nat.add_zero, nC_hrw, nS_hrw, nC_hwr, nS_hwr, hkd_hrw, hkd_hwr, fin4_0, fin4_1, fin4_2, fin4_3, fin2_0, fin2_1, ci0, ci1, cnn, false_implies, w32_eq, w64_eq, hF2.m, e0]
    try simp (disch := omega) only [yc_lt, yc_le, yc_gt, yc_ge, yc_eq, w32_eq, w64_eq, tn_add, tn_mul, Int.toNat_natCast, Int.reduceToNat, not_true, not_false_iff, false_implies, forall_const, implies_true]
    repeat' (with_reducible first | apply And.intro | intro _)
    all_goals try omega
    all_goals try simp (disch := omega) only [w32_eq, w64_eq, tn_add, tn_mul, Int.toNat_natCast, Int.reduceToNat, Option.some.injEq, Sum.inr.injEq, Sum.inl.injEq]
    all_goals try omega
    all_goals try exact (nx).weak rfl (by simp [lle] <;> omega)
  | some q =>
    obtain ⟨d, hd, hP, hlen⟩ := hS.2.2 q hll
    rw [hll] at hL1
    have hL11 := hL1
    obtain ⟨e0, fr, e1, e2, e3, e4⟩ := hL1
    have e0' : hdt h2 125 106 = 1 := e0
    have hrg := (LawP.rng hwo d true q.1 q.2 hP).1
    have he : pkS s a = if q.2 (wdW a.2.1 a.2.2 (wrdS s a)) = 1 then -1 else pkd0 (sT s) (sP s) (wdW a.2.1 a.2.2 (wrdS s a)) := by unfold pkS pkd; rw [hll]
    have nx := fun f hh => hpk (hrw h2 132 f) (FrM.rc hf (by decide) f) (fun k hk => by rw [hdt_hrw_n _ _ (by decide)]; exact hw k hk) (by rw [he, if_neg hh])
    rw [he] at hE
    subst hE
    refine vsA_ok tk_X5_pickedNow rfl 10 ?_
    simp only [at_X5_pickedNow, mr_X5_pickedNow, vsA, vcA, denA, lget, lset, lst1, lst2, lclr, argsA, restA, acats, acat, tcA, tcN, rzA, lle, List.length_cons, List.length_nil, Option.toList_some, Option.toList_none, List.cons_append, List.nil_append, eG, eM, eD, eC, eS, eQ, eH, if_true, if_false, Nat.reduceAdd, Nat.reduceLeDiff, Nat.reduceEqDiff, Nat.reduceLT, Nat.reduceSub, Int.reduceEq, Int.reduceLE, Int.reduceToNat, reduceCtorEq, reduceIte, Nat.reduceBEq, Int.reduceNeg, not_true, not_false_iff, true_and, and_true, true_or, or_true, false_or, or_false, forall_const, implies_true, Nat.le_refl, Int.toNat_natCast, Int.reduceLT, ne_eq, Fin.isValue, Nat.add_zero, nC_hrw, nS_hrw, nC_hwr, nS_hwr, hkd_hrw, hkd_hwr, fin4_0, fin4_1, fin4_2, fin4_3, fin2_0, fin2_1, ci0, ci1, cnn, false_implies, w32_eq, w64_eq, hF2.m, e0']
    try simp (disch := omega) only [yc_lt, yc_le, yc_gt, yc_ge, yc_eq, w32_eq, w64_eq, tn_add, tn_mul, Int.toNat_natCast, Int.reduceToNat, not_true, not_false_iff, false_implies, forall_const, implies_true]
    repeat' (with_reducible first | apply And.intro | intro _)
    all_goals try omega
    all_goals try simp (disch := omega) only [w32_eq, w64_eq, tn_add, tn_mul, Int.toNat_natCast, Int.reduceToNat, Option.some.injEq, Sum.inr.injEq, Sum.inl.injEq]
    all_goals try omega
    refine ClA.of (c_X5_reckons hF2 (l := 1) (by decide) hL11 hP hw hwo) (by first | exact Nat.le_of_ble_eq_true rfl | (simp only [eD]; omega)) (by first | exact Nat.le_refl _ | (simp only [eG, eD, eC, eS, eQ, eH, nC_hrw, nC_hwr, nS_hrw, nS_hwr, nC_hnw, nS_hnw]; omega)) (by first | exact Nat.le_refl _ | (simp only [eG, eD, eC, eS, eQ, eH, nC_hrw, nC_hwr, nS_hrw, nS_hwr, nC_hnw, nS_hnw]; omega)) ?_
    rintro _ h4 ⟨rfl, f, rfl⟩ - -
    by_cases hq1 : q.2 (wdW a.2.1 a.2.2 (wrdS s a)) = 1
    · rw [if_pos hq1]
      refine vsA_ok tk_X5_pickedNow rfl 4 ?_
      simp only [at_X5_pickedNow, mr_X5_pickedNow, vsA, vcA, denA, lget, lset, lst1, lst2, lclr, argsA, restA, acats, acat, tcA, tcN, rzA, lle, List.length_cons, List.length_nil, Option.toList_some, Option.toList_none, List.cons_append, List.nil_append, eG, eM, eD, eC, eS, eQ, eH, if_true, if_false, Nat.reduceAdd, Nat.reduceLeDiff, Nat.reduceEqDiff, Nat.reduceLT, Nat.reduceSub, Int.reduceEq, Int.reduceLE, Int.reduceToNat, reduceCtorEq, reduceIte, Nat.reduceBEq, Int.reduceNeg, not_true, not_false_iff, true_and, and_true, true_or, or_true, false_or, or_false, forall_const, implies_true, Nat.le_refl, Int.toNat_natCast, Int.reduceLT, ne_eq, Fin.isValue, Nat.add_zero, nC_hrw, nS_hrw, nC_hwr, nS_hwr, hkd_hrw, hkd_hwr, fin4_0, fin4_1, fin4_2, fin4_3, fin2_0, fin2_1, ci0, ci1, cnn, false_implies, w32_eq, w64_eq, c0]
      try simp (disch := omega) only [yc_lt, yc_le, yc_gt, yc_ge, yc_eq, w32_eq, w64_eq, tn_add, tn_mul, Int.toNat_natCast, Int.reduceToNat, not_true, not_false_iff, false_implies, forall_const, implies_true]
      repeat' (with_reducible first | apply And.intro | intro _)
      all_goals try omega
      all_goals try simp (disch := omega) only [w32_eq, w64_eq, tn_add, tn_mul, Int.toNat_natCast, Int.reduceToNat, Option.some.injEq, Sum.inr.injEq, Sum.inl.injEq]
      all_goals try omega
      all_goals exact FrM.rc hf (by decide) f
    · have nx := nx f hq1
      rw [if_neg hq1] at nx
      rw [if_neg hq1]
      refine vsA_ok tk_X5_pickedNow rfl 1 ?_
      simp only [at_X5_pickedNow, mr_X5_pickedNow, vsA, vcA, denA, lget, lset, lst1, lst2, lclr, argsA, restA, acats, acat, tcA, tcN, rzA, lle, List.length_cons, List.length_nil, Option.toList_some, Option.toList_none, List.cons_append, List.nil_append, eG, eM, eD, eC, eS, eQ, eH, if_true, if_false, Nat.reduceAdd, Nat.reduceLeDiff, Nat.reduceEqDiff, Nat.reduceLT, Nat.reduceSub, Int.reduceEq, Int.reduceLE, Int.reduceToNat, reduceCtorEq, reduceIte, Nat.reduceBEq, Int.reduceNeg, not_true, not_false_iff, true_and, and_true, true_or, or_true, false_or, or_false, forall_const, implies_true, Nat.le_refl, Int.toNat_natCast, Int.reduceLT, ne_eq, Fin.isValue, Nat.add_zero, nC_hrw, nS_hrw, nC_hwr, nS_hwr, hkd_hrw, hkd_hwr, fin4_0, fin4_1, fin4_2, fin4_3, fin2_0, fin2_1, ci0, ci1, cnn, false_implies, w32_eq, w64_eq, c0]
      try simp (disch := omega) only [yc_lt, yc_le, yc_gt, yc_ge, yc_eq, w32_eq, w64_eq, tn_add, tn_mul, Int.toNat_natCast, Int.reduceToNat, not_true, not_false_iff, false_implies, forall_const, implies_true]
      repeat' (with_reducible first | apply And.intro | intro _)
      all_goals try omega
      all_goals try simp (disch := omega) only [w32_eq, w64_eq, tn_add, tn_mul, Int.toNat_natCast, Int.reduceToNat, Option.some.injEq, Sum.inr.injEq, Sum.inl.injEq]
      all_goals try omega
      all_goals try exact (nx).weak rfl (by simp [lle] <;> omega)
theorem c_X5_pickedNow {G : GT} {h : AH} {s : SP} {a : S3} {N : Int} (hF : FxA h) (hA : AllS (hdt h 125) s a) (hS : StOK s) (hO : OKS s N a) (hN : N < 2147483648) :
    CnA G mX5_pickedNow 6 0 0 [.inr (.inr (124))] h (fun v h1 => v = some (.inl (pkS s a)) ∧ FrM [130, 132, 133] [18] h h1) := by
  refine CnA.of rfl (Nat.le_of_ble_eq_true rfl) ?_
  simp only [largs, lpad, mr_X5_pickedNow]
  have Z := pn_Z (G := G) hF hA hS hO hN
  obtain ⟨h1, h2, h3, h4, h5⟩ := hO
  have hs := hA.1.sz
  have hlt := hA.lt
  have hfr := frW_in hlt
  have hbk := bkW_in hlt
  have hwo : WdOK (wdW a.2.1 a.2.2 (wrdS s a)) := wdW_ok hlt (by omega) h4
  have h5' : (wrd (sB s) (sS s) a.1).length ≤ 1000000000000 := h5
  have e10 : (((wrd (sB s) (sS s) a.1).length : Nat) : Int).tmod 10 = (((wrd (sB s) (sS s) a.1).length % 10 : Nat) : Int) := tmod_nn (b := 10)
  have hq := hA.1.q
  generalize hE : ((G, mX5_pickedNow, _, _, _, _, h) : EV) = E at Z ⊢
  generalize hW : wrd (sB s) (sS s) a.1 = W at *
  have hWW : wrdS s a = W := hW
  rw [hWW] at Z
  have Y4 : ∀ g, FrM [130, 132, 133] [18] h g → (∀ k, k < 4 → hdt g 133 k = wdW a.2.1 a.2.2 W k) → ExA E 66 [some (.inr (.inr (124))), some (.inr (.inl (((W.length : Nat) : Int)))), none, none] [] g := by
    intro g hf hw
    have hFg := hF.frm hf (by decide +kernel)
    have z := Z (hwr g 133 4 ((W.length % 10 : Nat) : Int)) ((W.length : Nat) : Int) (FrM.wc hf (by decide) _ _) (fun k hk => by
      rw [hdt_hwr, if_pos rfl]
      by_cases e : k = 4
      · subst e
        rw [fup_s]
        rfl
      · rw [fup_n _ _ e]
        exact hw k (by omega))
    subst hE
    refine vsA_ok tk_X5_pickedNow rfl 7 ?_
    simp only [at_X5_pickedNow, mr_X5_pickedNow, vsA, vcA, denA, lget, lset, lst1, lst2, lclr, argsA, restA, acats, acat, tcA, tcN, rzA, lle, List.length_cons, List.length_nil, Option.toList_some, Option.toList_none, List.cons_append, List.nil_append, eG, eM, eD, eC, eS, eQ, eH, if_true, if_false, Nat.reduceAdd, Nat.reduceLeDiff, Nat.reduceEqDiff, Nat.reduceLT, Nat.reduceSub, Int.reduceEq, Int.reduceLE, Int.reduceToNat, reduceCtorEq, reduceIte, Nat.reduceBEq, Int.reduceNeg, not_true, not_false_iff, true_and, and_true, true_or, or_true, false_or, or_false, forall_const, implies_true, Nat.le_refl, Int.toNat_natCast, Int.reduceLT, ne_eq, Fin.isValue, Nat.add_zero, nC_hrw, nS_hrw, nC_hwr, nS_hwr, hkd_hrw, hkd_hwr, fin4_0, fin4_1, fin4_2, fin4_3, fin2_0, fin2_1, ci0, ci1, cnn, false_implies, w32_eq, w64_eq, hFg.m]
    try simp (disch := omega) only [yc_lt, yc_le, yc_gt, yc_ge, yc_eq, w32_eq, w64_eq, tn_add, tn_mul, Int.toNat_natCast, Int.reduceToNat, not_true, not_false_iff, false_implies, forall_const, implies_true, e10]
    repeat' (with_reducible first | apply And.intro | intro _)
    all_goals try omega
    all_goals try simp (disch := omega) only [w32_eq, w64_eq, tn_add, tn_mul, Int.toNat_natCast, Int.reduceToNat, Option.some.injEq, Sum.inr.injEq, Sum.inl.injEq, e10]
    all_goals try omega
    all_goals try exact (z).weak rfl (by simp [lle] <;> omega)
  have Y3 : ∀ g f, FrM [130, 132, 133] [18] h g → hdt g 130 = f → RowR (sB s) a.1 lnW f → (∀ k, k < 3 → hdt g 133 k = wdW a.2.1 a.2.2 W k) → ExA E 42 [some (.inr (.inr (124))), some (.inr (.inl (((W.length : Nat) : Int)))), none, none] [] g := by
    intro g f hf e130 hrow hw
    have c0 := hf.2.1
    have hFg := hF.frm hf (by decide +kernel)
    have eA : hdt g 125 = hdt h 125 := FrM.c hf (by decide) (by decide)
    have nx : ∀ g2, FrM [130, 132, 133] [18] h g2 → hdt g2 133 = hdt g 133 → ExA E 66 [some (.inr (.inr (124))), some (.inr (.inl (((W.length : Nat) : Int)))), none, none] [] (hwr g2 133 3 ((bkW W : Nat) : Int)) := fun g2 hf2 e2 => Y4 _ (FrM.wc hf2 (by decide) _ _) (fun k hk => by
      rw [hdt_hwr, if_pos rfl, e2]
      by_cases e : k = 3
      · subst e
        rw [fup_s]
        rfl
      · rw [fup_n _ _ e]
        exact hw k (by omega))
    by_cases q0 : W.length = 0
    · have z := nx g hf rfl
      have ebk : ((bkW W : Nat) : Int) = 6 := by unfold bkW; rw [if_pos q0]; rfl
      rw [ebk] at z
      subst hE
      refine vsA_ok tk_X5_pickedNow rfl 9 ?_
      simp only [at_X5_pickedNow, mr_X5_pickedNow, vsA, vcA, denA, lget, lset, lst1, lst2, lclr, argsA, restA, acats, acat, tcA, tcN, rzA, lle, List.length_cons, List.length_nil, Option.toList_some, Option.toList_none, List.cons_append, List.nil_append, eG, eM, eD, eC, eS, eQ, eH, if_true, if_false, Nat.reduceAdd, Nat.reduceLeDiff, Nat.reduceEqDiff, Nat.reduceLT, Nat.reduceSub, Int.reduceEq, Int.reduceLE, Int.reduceToNat, reduceCtorEq, reduceIte, Nat.reduceBEq, Int.reduceNeg, not_true, not_false_iff, true_and, and_true, true_or, or_true, false_or, or_false, forall_const, implies_true, Nat.le_refl, Int.toNat_natCast, Int.reduceLT, ne_eq, Fin.isValue, Nat.add_zero, nC_hrw, nS_hrw, nC_hwr, nS_hwr, hkd_hrw, hkd_hwr, fin4_0, fin4_1, fin4_2, fin4_3, fin2_0, fin2_1, ci0, ci1, cnn, false_implies, w32_eq, w64_eq, hFg.m]
      try simp (disch := omega) only [yc_lt, yc_le, yc_gt, yc_ge, yc_eq, w32_eq, w64_eq, tn_add, tn_mul, Int.toNat_natCast, Int.reduceToNat, not_true, not_false_iff, false_implies, forall_const, implies_true]
      repeat' (with_reducible first | apply And.intro | intro _)
      all_goals try omega
      all_goals try simp (disch := omega) only [w32_eq, w64_eq, tn_add, tn_mul, Int.toNat_natCast, Int.reduceToNat, Option.some.injEq, Sum.inr.injEq, Sum.inl.injEq]
      all_goals try omega
      all_goals try exact (z).weak rfl (by simp [lle] <;> omega)
    · have e1 : ((W.length : Nat) : Int) - 1 = ((W.length - 1 : Nat) : Int) := by omega
      have ebk : ((bkW W : Nat) : Int) = ((W.getD (W.length - 1) 0 : Nat) : Int) := by unfold bkW; rw [if_neg q0]
      subst hE
      refine vsA_ok tk_X5_pickedNow rfl 12 ?_
      simp only [at_X5_pickedNow, mr_X5_pickedNow, vsA, vcA, denA, lget, lset, lst1, lst2, lclr, argsA, restA, acats, acat, tcA, tcN, rzA, lle, List.length_cons, List.length_nil, Option.toList_some, Option.toList_none, List.cons_append, List.nil_append, eG, eM, eD, eC, eS, eQ, eH, if_true, if_false, Nat.reduceAdd, Nat.reduceLeDiff, Nat.reduceEqDiff, Nat.reduceLT, Nat.reduceSub, Int.reduceEq, Int.reduceLE, Int.reduceToNat, reduceCtorEq, reduceIte, Nat.reduceBEq, Int.reduceNeg, not_true, not_false_iff, true_and, and_true, true_or, or_true, false_or, or_false, forall_const, implies_true, Nat.le_refl, Int.toNat_natCast, Int.reduceLT, ne_eq, Fin.isValue, Nat.add_zero, nC_hrw, nS_hrw, nC_hwr, nS_hwr, hkd_hrw, hkd_hwr, fin4_0, fin4_1, fin4_2, fin4_3, fin2_0, fin2_1, ci0, ci1, cnn, false_implies, w32_eq, w64_eq, hFg.m]
      try simp (disch := omega) only [yc_lt, yc_le, yc_gt, yc_ge, yc_eq, w32_eq, w64_eq, tn_add, tn_mul, Int.toNat_natCast, Int.reduceToNat, not_true, not_false_iff, false_implies, forall_const, implies_true, e1]
      repeat' (with_reducible first | apply And.intro | intro _)
      all_goals try omega
      all_goals try simp (disch := omega) only [w32_eq, w64_eq, tn_add, tn_mul, Int.toNat_natCast, Int.reduceToNat, Option.some.injEq, Sum.inr.injEq, Sum.inl.injEq, e1]
      all_goals try omega
      refine ClA.of (c_X5_letterAt (T := sT s) (bec := sB s) (std := sS s) (tbl := a.1) (nights := a.2.1) (moon := a.2.2) hFg (by rw [eA]; exact hA.1) (by rw [hW]; exact h5') (p := W.length - 1) (by omega) (by rw [e130]; exact hrow)) (by first | exact Nat.le_of_ble_eq_true rfl | (simp only [eD]; omega)) (by first | exact Nat.le_refl _ | (simp only [eG, eD, eC, eS, eQ, eH, nC_hrw, nC_hwr, nS_hrw, nS_hwr, nC_hnw, nS_hnw]; omega)) (by first | exact Nat.le_refl _ | (simp only [eG, eD, eC, eS, eQ, eH, nC_hrw, nC_hwr, nS_hrw, nS_hwr, nC_hnw, nS_hnw]; omega)) ?_
      rintro _ g3 ⟨rfl, z2, rfl⟩ - -
      rw [hW, if_pos (by omega), ← ebk]
      have hf3 : FrM [130, 132, 133] [18] h (hwr g 124 18 z2) := FrM.wf hf (by decide) _
      have z := nx _ hf3 (by rw [hdt_hwr, if_neg (by decide)])
      have hFg3 := hF.frm hf3 (by decide +kernel)
      refine vsA_ok tk_X5_pickedNow rfl 0 ?_
      simp only [at_X5_pickedNow, mr_X5_pickedNow, vsA, vcA, denA, lget, lset, lst1, lst2, lclr, argsA, restA, acats, acat, tcA, tcN, rzA, lle, List.length_cons, List.length_nil, Option.toList_some, Option.toList_none, List.cons_append, List.nil_append, eG, eM, eD, eC, eS, eQ, eH, if_true, if_false, Nat.reduceAdd, Nat.reduceLeDiff, Nat.reduceEqDiff, Nat.reduceLT, Nat.reduceSub, Int.reduceEq, Int.reduceLE, Int.reduceToNat, reduceCtorEq, reduceIte, Nat.reduceBEq, Int.reduceNeg, not_true, not_false_iff, true_and, and_true, true_or, or_true, false_or, or_false, forall_const, implies_true, Nat.le_refl, Int.toNat_natCast, Int.reduceLT, ne_eq, Fin.isValue, Nat.add_zero, nC_hrw, nS_hrw, nC_hwr, nS_hwr, hkd_hrw, hkd_hwr, fin4_0, fin4_1, fin4_2, fin4_3, fin2_0, fin2_1, ci0, ci1, cnn, false_implies, w32_eq, w64_eq, hFg3.m]
      try simp (disch := omega) only [yc_lt, yc_le, yc_gt, yc_ge, yc_eq, w32_eq, w64_eq, tn_add, tn_mul, Int.toNat_natCast, Int.reduceToNat, not_true, not_false_iff, false_implies, forall_const, implies_true]
      repeat' (with_reducible first | apply And.intro | intro _)
      all_goals try omega
      all_goals try simp (disch := omega) only [w32_eq, w64_eq, tn_add, tn_mul, Int.toNat_natCast, Int.reduceToNat, Option.some.injEq, Sum.inr.injEq, Sum.inl.injEq]
      all_goals try omega
      all_goals try exact (z).weak rfl (by simp [lle] <;> omega)
  subst hE
  refine vsA_ok tk_X5_pickedNow rfl 10 ?_
  simp only [at_X5_pickedNow, mr_X5_pickedNow, vsA, vcA, denA, lget, lset, lst1, lst2, lclr, argsA, restA, acats, acat, tcA, tcN, rzA, lle, List.length_cons, List.length_nil, Option.toList_some, Option.toList_none, List.cons_append, List.nil_append, eG, eM, eD, eC, eS, eQ, eH, if_true, if_false, Nat.reduceAdd, Nat.reduceLeDiff, Nat.reduceEqDiff, Nat.reduceLT, Nat.reduceSub, Int.reduceEq, Int.reduceLE, Int.reduceToNat, reduceCtorEq, reduceIte, Nat.reduceBEq, Int.reduceNeg, not_true, not_false_iff, true_and, and_true, true_or, or_true, false_or, or_false, forall_const, implies_true, Nat.le_refl, Int.toNat_natCast, Int.reduceLT, ne_eq, Fin.isValue, Nat.add_zero, nC_hrw, nS_hrw, nC_hwr, nS_hwr, hkd_hrw, hkd_hwr, fin4_0, fin4_1, fin4_2, fin4_3, fin2_0, fin2_1, ci0, ci1, cnn, false_implies, w32_eq, w64_eq, hF.m]
  try simp (disch := omega) only [yc_lt, yc_le, yc_gt, yc_ge, yc_eq, w32_eq, w64_eq, tn_add, tn_mul, Int.toNat_natCast, Int.reduceToNat, not_true, not_false_iff, false_implies, forall_const, implies_true]
  repeat' (with_reducible first | apply And.intro | intro _)
  all_goals try omega
  all_goals try simp (disch := omega) only [w32_eq, w64_eq, tn_add, tn_mul, Int.toNat_natCast, Int.reduceToNat, Option.some.injEq, Sum.inr.injEq, Sum.inl.injEq]
  all_goals try omega
  refine ClA.of (c_X5_lengthNow hF hA.1 (by rw [hW]; exact h5')) (by first | exact Nat.le_of_ble_eq_true rfl | (simp only [eD]; omega)) (by first | exact Nat.le_refl _ | (simp only [eG, eD, eC, eS, eQ, eH, nC_hrw, nC_hwr, nS_hrw, nS_hwr, nC_hnw, nS_hnw]; omega)) (by first | exact Nat.le_refl _ | (simp only [eG, eD, eC, eS, eQ, eH, nC_hrw, nC_hwr, nS_hrw, nS_hwr, nC_hnw, nS_hnw]; omega)) ?_
  rintro _ g1 ⟨rfl, f, rfl, hf⟩ - -
  rw [hW]
  have hf1 : FrM [130, 132, 133] [18] h (hrw h 130 f) := (by repeat' (first | exact FrP.rf | assumption | refine FrM.wc ?_ (by decide) _ _ | refine FrM.wf ?_ (by decide) _ | refine FrM.rc ?_ (by decide) _))
  have hF1 := hF.frm hf1 (by decide +kernel)
  have eA : hdt (hrw h 130 f) 125 = hdt h 125 := hdt_hrw_n _ _ (by decide)
  have e130 : hdt (hrw h 130 f) 130 = f := hdt_hrw_s _ _ _
  generalize hrw h 130 f = g1 at *
  refine vsA_ok tk_X5_pickedNow rfl 8 ?_
  simp only [at_X5_pickedNow, mr_X5_pickedNow, vsA, vcA, denA, lget, lset, lst1, lst2, lclr, argsA, restA, acats, acat, tcA, tcN, rzA, lle, List.length_cons, List.length_nil, Option.toList_some, Option.toList_none, List.cons_append, List.nil_append, eG, eM, eD, eC, eS, eQ, eH, if_true, if_false, Nat.reduceAdd, Nat.reduceLeDiff, Nat.reduceEqDiff, Nat.reduceLT, Nat.reduceSub, Int.reduceEq, Int.reduceLE, Int.reduceToNat, reduceCtorEq, reduceIte, Nat.reduceBEq, Int.reduceNeg, not_true, not_false_iff, true_and, and_true, true_or, or_true, false_or, or_false, forall_const, implies_true, Nat.le_refl, Int.toNat_natCast, Int.reduceLT, ne_eq, Fin.isValue, Nat.add_zero, nC_hrw, nS_hrw, nC_hwr, nS_hwr, hkd_hrw, hkd_hwr, fin4_0, fin4_1, fin4_2, fin4_3, fin2_0, fin2_1, ci0, ci1, cnn, false_implies, w32_eq, w64_eq, hF1.m, eA, hq.2.2.2.1, hq.2.2.1]
  try simp (disch := omega) only [yc_lt, yc_le, yc_gt, yc_ge, yc_eq, w32_eq, w64_eq, tn_add, tn_mul, Int.toNat_natCast, Int.reduceToNat, not_true, not_false_iff, false_implies, forall_const, implies_true]
  repeat' (with_reducible first | apply And.intro | intro _)
  all_goals try omega
  all_goals try simp (disch := omega) only [w32_eq, w64_eq, tn_add, tn_mul, Int.toNat_natCast, Int.reduceToNat, Option.some.injEq, Sum.inr.injEq, Sum.inl.injEq]
  all_goals try omega
  have hf2 : FrM [130, 132, 133] [18] h (hwr g1 133 0 a.2.1) := FrM.wc hf1 (by decide) _ _
  have hF2 := hF.frm hf2 (by decide +kernel)
  have eA2 : hdt (hwr g1 133 0 a.2.1) 125 = hdt h 125 := by rw [hdt_hwr, if_neg (by decide)]; exact eA
  refine vsA_ok tk_X5_pickedNow rfl 7 ?_
  simp only [at_X5_pickedNow, mr_X5_pickedNow, vsA, vcA, denA, lget, lset, lst1, lst2, lclr, argsA, restA, acats, acat, tcA, tcN, rzA, lle, List.length_cons, List.length_nil, Option.toList_some, Option.toList_none, List.cons_append, List.nil_append, eG, eM, eD, eC, eS, eQ, eH, if_true, if_false, Nat.reduceAdd, Nat.reduceLeDiff, Nat.reduceEqDiff, Nat.reduceLT, Nat.reduceSub, Int.reduceEq, Int.reduceLE, Int.reduceToNat, reduceCtorEq, reduceIte, Nat.reduceBEq, Int.reduceNeg, not_true, not_false_iff, true_and, and_true, true_or, or_true, false_or, or_false, forall_const, implies_true, Nat.le_refl, Int.toNat_natCast, Int.reduceLT, ne_eq, Fin.isValue, Nat.add_zero, nC_hrw, nS_hrw, nC_hwr, nS_hwr, hkd_hrw, hkd_hwr, fin4_0, fin4_1, fin4_2, fin4_3, fin2_0, fin2_1, ci0, ci1, cnn, false_implies, w32_eq, w64_eq, hF2.m, eA2, hq.2.2.2.1, hq.2.2.1]
  try simp (disch := omega) only [yc_lt, yc_le, yc_gt, yc_ge, yc_eq, w32_eq, w64_eq, tn_add, tn_mul, Int.toNat_natCast, Int.reduceToNat, not_true, not_false_iff, false_implies, forall_const, implies_true]
  repeat' (with_reducible first | apply And.intro | intro _)
  all_goals try omega
  all_goals try simp (disch := omega) only [w32_eq, w64_eq, tn_add, tn_mul, Int.toNat_natCast, Int.reduceToNat, Option.some.injEq, Sum.inr.injEq, Sum.inl.injEq]
  all_goals try omega
  have hf3 : FrM [130, 132, 133] [18] h (hwr (hwr g1 133 0 a.2.1) 133 1 a.2.2) := FrM.wc hf2 (by decide) _ _
  have hF3 := hF.frm hf3 (by decide +kernel)
  have eA3 : hdt (hwr (hwr g1 133 0 a.2.1) 133 1 a.2.2) 125 = hdt h 125 := by rw [hdt_hwr, if_neg (by decide)]; exact eA2
  have e30 : hdt (hwr (hwr g1 133 0 a.2.1) 133 1 a.2.2) 130 = f := by rw [hdt_hwr, if_neg (by decide), hdt_hwr, if_neg (by decide)]; exact e130
  have hw3 : hdt (hwr (hwr g1 133 0 a.2.1) 133 1 a.2.2) 133 0 = a.2.1 ∧ hdt (hwr (hwr g1 133 0 a.2.1) 133 1 a.2.2) 133 1 = a.2.2 := by
    constructor
    · rw [hdt_hwr, if_pos rfl, fup_n _ _ (by decide), hdt_hwr, if_pos rfl, fup_s]
    · rw [hdt_hwr, if_pos rfl, fup_s]
  generalize hwr (hwr g1 133 0 a.2.1) 133 1 a.2.2 = g3 at *
  have c3 := hf3.2.1
  refine vsA_ok tk_X5_pickedNow rfl 8 ?_
  simp only [at_X5_pickedNow, mr_X5_pickedNow, vsA, vcA, denA, lget, lset, lst1, lst2, lclr, argsA, restA, acats, acat, tcA, tcN, rzA, lle, List.length_cons, List.length_nil, Option.toList_some, Option.toList_none, List.cons_append, List.nil_append, eG, eM, eD, eC, eS, eQ, eH, if_true, if_false, Nat.reduceAdd, Nat.reduceLeDiff, Nat.reduceEqDiff, Nat.reduceLT, Nat.reduceSub, Int.reduceEq, Int.reduceLE, Int.reduceToNat, reduceCtorEq, reduceIte, Nat.reduceBEq, Int.reduceNeg, not_true, not_false_iff, true_and, and_true, true_or, or_true, false_or, or_false, forall_const, implies_true, Nat.le_refl, Int.toNat_natCast, Int.reduceLT, ne_eq, Fin.isValue, Nat.add_zero, nC_hrw, nS_hrw, nC_hwr, nS_hwr, hkd_hrw, hkd_hwr, fin4_0, fin4_1, fin4_2, fin4_3, fin2_0, fin2_1, ci0, ci1, cnn, false_implies, w32_eq, w64_eq, hF3.m]
  try simp (disch := omega) only [yc_lt, yc_le, yc_gt, yc_ge, yc_eq, w32_eq, w64_eq, tn_add, tn_mul, Int.toNat_natCast, Int.reduceToNat, not_true, not_false_iff, false_implies, forall_const, implies_true]
  repeat' (with_reducible first | apply And.intro | intro _)
  all_goals try omega
  all_goals try simp (disch := omega) only [w32_eq, w64_eq, tn_add, tn_mul, Int.toNat_natCast, Int.reduceToNat, Option.some.injEq, Sum.inr.injEq, Sum.inl.injEq]
  all_goals try omega
  refine ClA.of (c_X5_letterAt (T := sT s) (bec := sB s) (std := sS s) (tbl := a.1) (nights := a.2.1) (moon := a.2.2) hF3 (by rw [eA3]; exact hA.1) (by rw [hW]; exact h5') (p := 0) (by decide) (by rw [e30]; exact hf)) (by first | exact Nat.le_of_ble_eq_true rfl | (simp only [eD]; omega)) (by first | exact Nat.le_refl _ | (simp only [eG, eD, eC, eS, eQ, eH, nC_hrw, nC_hwr, nS_hrw, nS_hwr, nC_hnw, nS_hnw]; omega)) (by first | exact Nat.le_refl _ | (simp only [eG, eD, eC, eS, eQ, eH, nC_hrw, nC_hwr, nS_hrw, nS_hwr, nC_hnw, nS_hnw]; omega)) ?_
  rintro _ g2 ⟨rfl, z, rfl⟩ - -
  have efr := frW_if W
  rw [hW, efr]
  have hf4 : FrM [130, 132, 133] [18] h (hwr g3 124 18 z) := FrM.wf hf3 (by decide) _
  have hF4 := hF.frm hf4 (by decide +kernel)
  have y := Y3 (hwr (hwr g3 124 18 z) 133 2 ((frW W : Nat) : Int)) f (FrM.wc hf4 (by decide) _ _) (by rw [hdt_hwr, if_neg (by decide), hdt_hwr, if_neg (by decide)]; exact e30) hf (fun k hk => by
    rw [hdt_hwr, if_pos rfl]
    rcases (by omega : k = 0 ∨ k = 1 ∨ k = 2) with rfl | rfl | rfl
    · rw [fup_n _ _ (by decide), hdt_hwr, if_neg (by decide)]; exact hw3.1
    · rw [fup_n _ _ (by decide), hdt_hwr, if_neg (by decide)]; exact hw3.2
    · rw [fup_s]; rfl)
  refine vsA_ok tk_X5_pickedNow rfl 0 ?_
  simp only [at_X5_pickedNow, mr_X5_pickedNow, vsA, vcA, denA, lget, lset, lst1, lst2, lclr, argsA, restA, acats, acat, tcA, tcN, rzA, lle, List.length_cons, List.length_nil, Option.toList_some, Option.toList_none, List.cons_append, List.nil_append, eG, eM, eD, eC, eS, eQ, eH, if_true, if_false, Nat.reduceAdd, Nat.reduceLeDiff, Nat.reduceEqDiff, Nat.reduceLT, Nat.reduceSub, Int.reduceEq, Int.reduceLE, Int.reduceToNat, reduceCtorEq, reduceIte, Nat.reduceBEq, Int.reduceNeg, not_true, not_false_iff, true_and, and_true, true_or, or_true, false_or, or_false, forall_const, implies_true, Nat.le_refl, Int.toNat_natCast, Int.reduceLT, ne_eq, Fin.isValue, Nat.add_zero, nC_hrw, nS_hrw, nC_hwr, nS_hwr, hkd_hrw, hkd_hwr, fin4_0, fin4_1, fin4_2, fin4_3, fin2_0, fin2_1, ci0, ci1, cnn, false_implies, w32_eq, w64_eq, hF4.m]
  try simp (disch := omega) only [yc_lt, yc_le, yc_gt, yc_ge, yc_eq, w32_eq, w64_eq, tn_add, tn_mul, Int.toNat_natCast, Int.reduceToNat, not_true, not_false_iff, false_implies, forall_const, implies_true]
  repeat' (with_reducible first | apply And.intro | intro _)
  all_goals try omega
  all_goals try simp (disch := omega) only [w32_eq, w64_eq, tn_add, tn_mul, Int.toNat_natCast, Int.reduceToNat, Option.some.injEq, Sum.inr.injEq, Sum.inl.injEq]
  all_goals try omega
  all_goals try exact (y).weak rfl (by simp [lle] <;> omega)
