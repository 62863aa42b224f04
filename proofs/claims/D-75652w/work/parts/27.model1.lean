/-! THE REFERENCE: its row of numbers; lengths, counts, places -/
set_option maxRecDepth 100000
/-- the row of numbers: street, tables of nights, nights, moon -/
def AllC (f : Nat → Int) (T : Nat) (bec : Nat → Nat → List Nat) (std tbl : List Nat) (nights moon : Int) : Prop :=
  BecOK T bec std ∧ tbl.length ≤ 60 ∧ (∀ t ∈ tbl, t < 3) ∧ (f 1 = (T : Int) ∧ f 2 = (std.length : Int) ∧ f 111 = moon ∧ f 112 = nights ∧ f 113 = (tbl.length : Int)) ∧
  (∀ i, i < std.length → f (3 + i) = ((std.getD i 0 : Nat) : Int)) ∧ (∀ t c, t < 3 → c < 6 → f (15 + 5 * (6 * t + c)) = ((bec t c).length : Int)) ∧
  (∀ t c i, t < 3 → c < 6 → i < (bec t c).length → f (15 + 5 * (6 * t + c) + 1 + i) = (((bec t c).getD i 0 : Nat) : Int)) ∧ ∀ k, k < tbl.length → f (145 + k) = ((tbl.getD k 0 : Nat) : Int)
abbrev endC : Nat := 9223372036854775807
section
variable {f : Nat → Int} {T : Nat} {bec : Nat → Nat → List Nat} {std tbl : List Nat} {nights moon : Int}
theorem AllC.q (hA : AllC f T bec std tbl nights moon) : f 1 = (T : Int) ∧ f 2 = (std.length : Int) ∧ f 111 = moon ∧ f 112 = nights ∧ f 113 = (tbl.length : Int) := hA.2.2.2.1
theorem AllC.sz (hA : AllC f T bec std tbl nights moon) : tbl.length ≤ 60 ∧ 1 ≤ std.length ∧ std.length ≤ 12 ∧ 1 ≤ T ∧ T ≤ 3 := ⟨hA.2.1, hA.1.2.2.1.1, hA.1.2.2.1.2.1, hA.1.1, hA.1.2.1⟩
theorem AllC.sd (hA : AllC f T bec std tbl nights moon) {i : Nat} (hi : i < std.length) : f (3 + i) = ((std.getD i 0 : Nat) : Int) := hA.2.2.2.2.1 i hi
theorem AllC.std6 (hA : AllC f T bec std tbl nights moon) {i : Nat} (hi : i < std.length) : std.getD i 0 < 6 := hA.1.2.2.1.2.2 _ (getD_mem hi)
theorem AllC.bm (hA : AllC f T bec std tbl nights moon) {t c : Nat} (ht : t < 3) (hc : c < 6) : f (15 + 5 * (6 * t + c)) = ((bec t c).length : Int) := hA.2.2.2.2.2.1 t c ht hc
theorem AllC.bo (hA : AllC f T bec std tbl nights moon) {t c i : Nat} (ht : t < 3) (hc : c < 6) (hi : i < (bec t c).length) : f (15 + 5 * (6 * t + c) + 1 + i) = (((bec t c).getD i 0 : Nat) : Int) := hA.2.2.2.2.2.2.1 t c i ht hc hi
theorem AllC.by (hA : AllC f T bec std tbl nights moon) {k : Nat} (hk : k < tbl.length) : f (145 + k) = ((tbl.getD k 0 : Nat) : Int) := hA.2.2.2.2.2.2.2 k hk
theorem AllC.t3 (hA : AllC f T bec std tbl nights moon) {k : Nat} (hk : k < tbl.length) : tbl.getD k 0 < 3 := hA.2.2.1 _ (getD_mem hk)
theorem AllC.b4 (hA : AllC f T bec std tbl nights moon) {t c : Nat} (ht : t < 3) (hc : c < 6) : (bec t c).length ≤ 4 ∧ ∀ d ∈ bec t c, d < 6 := hA.1.2.2.2 t c ht hc
theorem AllC.b6 (hA : AllC f T bec std tbl nights moon) {t c i : Nat} (ht : t < 3) (hc : c < 6) (hi : i < (bec t c).length) : (bec t c).getD i 0 < 6 := (hA.b4 ht hc).2 _ (getD_mem hi)
theorem AllC.lt (hA : AllC f T bec std tbl nights moon) : ∀ d ∈ wrd bec std tbl, d < 6 :=
  wrd_lt (fun t c ht hc => (hA.b4 ht hc).2) (fun c hc => hA.1.2.2.1.2.2 c hc) hA.2.2.1
end
theorem c_X5_within {G : GT} (v lo hi : Int) (h : AH) : CnA G mX5_within 1 0 0 [.inr (.inl (v)), .inr (.inl (lo)), .inr (.inl (hi))] h (fun r h1 => r = some (.inl (if w64 lo ≤ w64 v ∧ w64 v ≤ w64 hi then 1 else 0)) ∧ h1 = h) := by
  refine CnA.of rfl (Nat.le_of_ble_eq_true rfl) ?_
  simp only [largs, lpad, mr_X5_within]
  refine vsA_ok tk_X5_within rfl 40 ?_
  simp only [at_X5_within, mr_X5_within, vsA, vcA, denA, lget, lset, lst1, lst2, lclr, argsA, restA, acats, acat, tcA, tcN, rzA, lle, List.length_cons, List.length_nil, Option.toList_some, Option.toList_none, List.cons_append, List.nil_append, eG, eM, eD, eC, eS, eQ, eH, if_true, if_false, Nat.reduceAdd, Nat.reduceLeDiff, Nat.reduceEqDiff, Nat.reduceLT, Nat.reduceSub, Int.reduceEq, Int.reduceLE, Int.reduceToNat, reduceCtorEq, reduceIte, Nat.reduceBEq, Int.reduceNeg, not_true, not_false_iff, true_and, and_true, true_or, or_true, false_or, or_false, forall_const, implies_true, Nat.le_refl, Int.toNat_natCast, Int.reduceLT, ne_eq, Fin.isValue, Nat.add_zero, nC_hrw, nS_hrw, nC_hwr, nS_hwr, hkd_hrw, hkd_hwr, fin4_0, fin4_1, fin4_2, fin4_3, fin2_0, fin2_1, ci0, ci1, cnn, false_implies, w32_eq, w64_eq]
  simp only [yc_lt, yc_le, yc_gt, yc_ge, yc_eq]
  refine ⟨fun q => ?_, fun q => ⟨fun q2 => ?_, fun q2 => ?_⟩⟩
  · rw [if_neg (by omega)]
  · rw [if_neg (by omega)]
  · rw [if_pos (by omega)]
theorem c_X5_isLetter {G : GT} (v : Int) (h : AH) (h1 : -9223372036854775808 ≤ v) (h2 : v < 9223372036854775808) : CnA G mX5_isLetter 2 0 0 [.inr (.inl (v))] h (fun r h1 => r = some (.inl (if 0 ≤ v ∧ v ≤ 5 then 1 else 0)) ∧ h1 = h) := by
  refine CnA.of rfl (Nat.le_of_ble_eq_true rfl) ?_
  simp only [largs, lpad, mr_X5_isLetter]
  refine vsA_ok tk_X5_isLetter rfl 40 ?_
  simp only [at_X5_isLetter, mr_X5_isLetter, vsA, vcA, denA, lget, lset, lst1, lst2, lclr, argsA, restA, acats, acat, tcA, tcN, rzA, lle, List.length_cons, List.length_nil, Option.toList_some, Option.toList_none, List.cons_append, List.nil_append, eG, eM, eD, eC, eS, eQ, eH, if_true, if_false, Nat.reduceAdd, Nat.reduceLeDiff, Nat.reduceEqDiff, Nat.reduceLT, Nat.reduceSub, Int.reduceEq, Int.reduceLE, Int.reduceToNat, reduceCtorEq, reduceIte, Nat.reduceBEq, Int.reduceNeg, not_true, not_false_iff, true_and, and_true, true_or, or_true, false_or, or_false, forall_const, implies_true, Nat.le_refl, Int.toNat_natCast, Int.reduceLT, ne_eq, Fin.isValue, Nat.add_zero, nC_hrw, nS_hrw, nC_hwr, nS_hwr, hkd_hrw, hkd_hwr, fin4_0, fin4_1, fin4_2, fin4_3, fin2_0, fin2_1, ci0, ci1, cnn, false_implies, w32_eq, w64_eq]
  try simp (disch := omega) only [yc_lt, yc_le, yc_gt, yc_ge, yc_eq, w32_eq, w64_eq, tn_add, tn_mul, Int.toNat_natCast, Int.reduceToNat, not_true, not_false_iff, false_implies, forall_const, implies_true]
  repeat' (with_reducible first | apply And.intro | intro _)
  all_goals try omega
  all_goals try simp (disch := omega) only [w32_eq, w64_eq, tn_add, tn_mul, Int.toNat_natCast, Int.reduceToNat, Option.some.injEq, Sum.inr.injEq, Sum.inl.injEq]
  all_goals try omega
  refine ClA.pure (c_X5_within _ _ _ _) (by first | exact Nat.le_of_ble_eq_true rfl | (simp only [eD]; omega)) (by first | exact Nat.le_refl _ | (simp only [eG, eD, eC, eS, eQ, eH, nC_hrw, nC_hwr, nS_hrw, nS_hwr, nC_hnw, nS_hnw]; omega)) (by first | exact Nat.le_refl _ | (simp only [eG, eD, eC, eS, eQ, eH, nC_hrw, nC_hwr, nS_hrw, nS_hwr, nC_hnw, nS_hnw]; omega)) ?_
  refine vsA_ok tk_X5_isLetter rfl 40 ?_
  simp only [at_X5_isLetter, mr_X5_isLetter, vsA, vcA, denA, lget, lset, lst1, lst2, lclr, argsA, restA, acats, acat, tcA, tcN, rzA, lle, List.length_cons, List.length_nil, Option.toList_some, Option.toList_none, List.cons_append, List.nil_append, eG, eM, eD, eC, eS, eQ, eH, if_true, if_false, Nat.reduceAdd, Nat.reduceLeDiff, Nat.reduceEqDiff, Nat.reduceLT, Nat.reduceSub, Int.reduceEq, Int.reduceLE, Int.reduceToNat, reduceCtorEq, reduceIte, Nat.reduceBEq, Int.reduceNeg, not_true, not_false_iff, true_and, and_true, true_or, or_true, false_or, or_false, forall_const, implies_true, Nat.le_refl, Int.toNat_natCast, Int.reduceLT, ne_eq, Fin.isValue, Nat.add_zero, nC_hrw, nS_hrw, nC_hwr, nS_hwr, hkd_hrw, hkd_hwr, fin4_0, fin4_1, fin4_2, fin4_3, fin2_0, fin2_1, ci0, ci1, cnn, false_implies, w32_eq, w64_eq]
  try simp (disch := omega) only [yc_lt, yc_le, yc_gt, yc_ge, yc_eq, w32_eq, w64_eq, tn_add, tn_mul, Int.toNat_natCast, Int.reduceToNat, not_true, not_false_iff, false_implies, forall_const, implies_true]
  repeat' (with_reducible first | apply And.intro | intro _)
  all_goals try omega
  all_goals try simp (disch := omega) only [w32_eq, w64_eq, tn_add, tn_mul, Int.toNat_natCast, Int.reduceToNat, Option.some.injEq, Sum.inr.injEq, Sum.inl.injEq]
  all_goals try omega
theorem c_X5_isTable {G : GT} {h : AH} {T : Nat} {bec : Nat → Nat → List Nat} {std tbl : List Nat} {nights moon : Int} (hF : FxA h) (hA : AllC (hdt h 125) T bec std tbl nights moon) (t : Int) (h1 : -2147483648 ≤ t) (h2 : t < 2147483648) : CnA G mX5_isTable 2 0 0 [.inr (.inr (124)), .inl (t)] h (fun r h1 => r = some (.inl (if 0 ≤ t ∧ t < (T : Int) then 1 else 0)) ∧ h1 = h) := by
  refine CnA.of rfl (Nat.le_of_ble_eq_true rfl) ?_
  simp only [largs, lpad, mr_X5_isTable]
  have hs := hA.sz
  refine vsA_ok tk_X5_isTable rfl 40 ?_
  simp only [at_X5_isTable, mr_X5_isTable, vsA, vcA, denA, lget, lset, lst1, lst2, lclr, argsA, restA, acats, acat, tcA, tcN, rzA, lle, List.length_cons, List.length_nil, Option.toList_some, Option.toList_none, List.cons_append, List.nil_append, eG, eM, eD, eC, eS, eQ, eH, if_true, if_false, Nat.reduceAdd, Nat.reduceLeDiff, Nat.reduceEqDiff, Nat.reduceLT, Nat.reduceSub, Int.reduceEq, Int.reduceLE, Int.reduceToNat, reduceCtorEq, reduceIte, Nat.reduceBEq, Int.reduceNeg, not_true, not_false_iff, true_and, and_true, true_or, or_true, false_or, or_false, forall_const, implies_true, Nat.le_refl, Int.toNat_natCast, Int.reduceLT, ne_eq, Fin.isValue, Nat.add_zero, nC_hrw, nS_hrw, nC_hwr, nS_hwr, hkd_hrw, hkd_hwr, fin4_0, fin4_1, fin4_2, fin4_3, fin2_0, fin2_1, ci0, ci1, cnn, false_implies, w32_eq, w64_eq, hF.m, hA.q]
  try simp (disch := omega) only [yc_lt, yc_le, yc_gt, yc_ge, yc_eq, w32_eq, w64_eq, tn_add, tn_mul, Int.toNat_natCast, Int.reduceToNat, not_true, not_false_iff, false_implies, forall_const, implies_true]
  repeat' (with_reducible first | apply And.intro | intro _)
  all_goals try omega
  all_goals try simp (disch := omega) only [w32_eq, w64_eq, tn_add, tn_mul, Int.toNat_natCast, Int.reduceToNat, Option.some.injEq, Sum.inr.injEq, Sum.inl.injEq]
  all_goals try omega
  refine ClA.pure (c_X5_within _ _ _ _) (by first | exact Nat.le_of_ble_eq_true rfl | (simp only [eD]; omega)) (by first | exact Nat.le_refl _ | (simp only [eG, eD, eC, eS, eQ, eH, nC_hrw, nC_hwr, nS_hrw, nS_hwr, nC_hnw, nS_hnw]; omega)) (by first | exact Nat.le_refl _ | (simp only [eG, eD, eC, eS, eQ, eH, nC_hrw, nC_hwr, nS_hrw, nS_hwr, nC_hnw, nS_hnw]; omega)) ?_
  refine vsA_ok tk_X5_isTable rfl 40 ?_
  simp only [at_X5_isTable, mr_X5_isTable, vsA, vcA, denA, lget, lset, lst1, lst2, lclr, argsA, restA, acats, acat, tcA, tcN, rzA, lle, List.length_cons, List.length_nil, Option.toList_some, Option.toList_none, List.cons_append, List.nil_append, eG, eM, eD, eC, eS, eQ, eH, if_true, if_false, Nat.reduceAdd, Nat.reduceLeDiff, Nat.reduceEqDiff, Nat.reduceLT, Nat.reduceSub, Int.reduceEq, Int.reduceLE, Int.reduceToNat, reduceCtorEq, reduceIte, Nat.reduceBEq, Int.reduceNeg, not_true, not_false_iff, true_and, and_true, true_or, or_true, false_or, or_false, forall_const, implies_true, Nat.le_refl, Int.toNat_natCast, Int.reduceLT, ne_eq, Fin.isValue, Nat.add_zero, nC_hrw, nS_hrw, nC_hwr, nS_hwr, hkd_hrw, hkd_hwr, fin4_0, fin4_1, fin4_2, fin4_3, fin2_0, fin2_1, ci0, ci1, cnn, false_implies, w32_eq, w64_eq]
  try simp (disch := omega) only [yc_lt, yc_le, yc_gt, yc_ge, yc_eq, w32_eq, w64_eq, tn_add, tn_mul, Int.toNat_natCast, Int.reduceToNat, not_true, not_false_iff, false_implies, forall_const, implies_true]
  repeat' (with_reducible first | apply And.intro | intro _)
  all_goals try omega
  all_goals try simp (disch := omega) only [w32_eq, w64_eq, tn_add, tn_mul, Int.toNat_natCast, Int.reduceToNat, Option.some.injEq, Sum.inr.injEq, Sum.inl.injEq]
  all_goals try omega
theorem c_X5_becomeMany {G : GT} {h : AH} {T : Nat} {bec : Nat → Nat → List Nat} {std tbl : List Nat} {nights moon : Int} (hF : FxA h) (hA : AllC (hdt h 125) T bec std tbl nights moon) {t c : Nat} (ht : t < 3) (hc : c < 6) : CnA G mX5_becomeMany 1 0 0 [.inr (.inr (124)), .inl ((t : Int)), .inl ((c : Int))] h (fun v h1 => v = some (.inl (((bec t c).length : Int))) ∧ h1 = h) := by
  refine CnA.of rfl (Nat.le_of_ble_eq_true rfl) ?_
  simp only [largs, lpad, mr_X5_becomeMany]
  refine vsA_ok tk_X5_becomeMany rfl 40 ?_
  simp only [at_X5_becomeMany, mr_X5_becomeMany, vsA, vcA, denA, lget, lset, lst1, lst2, lclr, argsA, restA, acats, acat, tcA, tcN, rzA, lle, List.length_cons, List.length_nil, Option.toList_some, Option.toList_none, List.cons_append, List.nil_append, eG, eM, eD, eC, eS, eQ, eH, if_true, if_false, Nat.reduceAdd, Nat.reduceLeDiff, Nat.reduceEqDiff, Nat.reduceLT, Nat.reduceSub, Int.reduceEq, Int.reduceLE, Int.reduceToNat, reduceCtorEq, reduceIte, Nat.reduceBEq, Int.reduceNeg, not_true, not_false_iff, true_and, and_true, true_or, or_true, false_or, or_false, forall_const, implies_true, Nat.le_refl, Int.toNat_natCast, Int.reduceLT, ne_eq, Fin.isValue, Nat.add_zero, nC_hrw, nS_hrw, nC_hwr, nS_hwr, hkd_hrw, hkd_hwr, fin4_0, fin4_1, fin4_2, fin4_3, fin2_0, fin2_1, ci0, ci1, cnn, false_implies, w32_eq, w64_eq, hF.m]
  try simp (disch := omega) only [yc_lt, yc_le, yc_gt, yc_ge, yc_eq, w32_eq, w64_eq, tn_add, tn_mul, Int.toNat_natCast, Int.reduceToNat, not_true, not_false_iff, false_implies, forall_const, implies_true, hA.bm ht hc]
  repeat' (with_reducible first | apply And.intro | intro _)
  all_goals try omega
  all_goals try simp (disch := omega) only [w32_eq, w64_eq, tn_add, tn_mul, Int.toNat_natCast, Int.reduceToNat, Option.some.injEq, Sum.inr.injEq, Sum.inl.injEq, hA.bm ht hc]
  all_goals try omega
theorem c_X5_becomeOf {G : GT} {h : AH} {T : Nat} {bec : Nat → Nat → List Nat} {std tbl : List Nat} {nights moon : Int} (hF : FxA h) (hA : AllC (hdt h 125) T bec std tbl nights moon) {t c i : Nat} (ht : t < 3) (hc : c < 6) (hi : i < (bec t c).length) : CnA G mX5_becomeOf 1 0 0 [.inr (.inr (124)), .inl ((t : Int)), .inl ((c : Int)), .inl ((i : Int))] h (fun v h1 => v = some (.inl (((((bec t c).getD i 0 : Nat)) : Int))) ∧ h1 = h) := by
  refine CnA.of rfl (Nat.le_of_ble_eq_true rfl) ?_
  simp only [largs, lpad, mr_X5_becomeOf]
  have h4 := (hA.b4 ht hc).1
  refine vsA_ok tk_X5_becomeOf rfl 40 ?_
  simp only [at_X5_becomeOf, mr_X5_becomeOf, vsA, vcA, denA, lget, lset, lst1, lst2, lclr, argsA, restA, acats, acat, tcA, tcN, rzA, lle, List.length_cons, List.length_nil, Option.toList_some, Option.toList_none, List.cons_append, List.nil_append, eG, eM, eD, eC, eS, eQ, eH, if_true, if_false, Nat.reduceAdd, Nat.reduceLeDiff, Nat.reduceEqDiff, Nat.reduceLT, Nat.reduceSub, Int.reduceEq, Int.reduceLE, Int.reduceToNat, reduceCtorEq, reduceIte, Nat.reduceBEq, Int.reduceNeg, not_true, not_false_iff, true_and, and_true, true_or, or_true, false_or, or_false, forall_const, implies_true, Nat.le_refl, Int.toNat_natCast, Int.reduceLT, ne_eq, Fin.isValue, Nat.add_zero, nC_hrw, nS_hrw, nC_hwr, nS_hwr, hkd_hrw, hkd_hwr, fin4_0, fin4_1, fin4_2, fin4_3, fin2_0, fin2_1, ci0, ci1, cnn, false_implies, w32_eq, w64_eq, hF.m]
  try simp (disch := omega) only [yc_lt, yc_le, yc_gt, yc_ge, yc_eq, w32_eq, w64_eq, tn_add, tn_mul, Int.toNat_natCast, Int.reduceToNat, not_true, not_false_iff, false_implies, forall_const, implies_true, hA.bo ht hc hi]
  repeat' (with_reducible first | apply And.intro | intro _)
  all_goals try omega
  all_goals try simp (disch := omega) only [w32_eq, w64_eq, tn_add, tn_mul, Int.toNat_natCast, Int.reduceToNat, Option.some.injEq, Sum.inr.injEq, Sum.inl.injEq, hA.bo ht hc hi]
  all_goals try omega
theorem c_X5_plus {G : GT} (a b : Nat) (h : AH) (ha : a ≤ endC) (hb : b ≤ endC) : CnA G mX5_plus 1 0 0 [.inr (.inl ((a : Int))), .inr (.inl ((b : Int)))] h (fun r h1 => r = some (.inr (.inl (((min endC (a + b) : Nat) : Int)))) ∧ h1 = h) := by
  refine CnA.of rfl (Nat.le_of_ble_eq_true rfl) ?_
  simp only [largs, lpad, mr_X5_plus]
  have he : endC = 9223372036854775807 := rfl
  refine vsA_ok tk_X5_plus rfl 40 ?_
  simp only [at_X5_plus, mr_X5_plus, vsA, vcA, denA, lget, lset, lst1, lst2, lclr, argsA, restA, acats, acat, tcA, tcN, rzA, lle, List.length_cons, List.length_nil, Option.toList_some, Option.toList_none, List.cons_append, List.nil_append, eG, eM, eD, eC, eS, eQ, eH, if_true, if_false, Nat.reduceAdd, Nat.reduceLeDiff, Nat.reduceEqDiff, Nat.reduceLT, Nat.reduceSub, Int.reduceEq, Int.reduceLE, Int.reduceToNat, reduceCtorEq, reduceIte, Nat.reduceBEq, Int.reduceNeg, not_true, not_false_iff, true_and, and_true, true_or, or_true, false_or, or_false, forall_const, implies_true, Nat.le_refl, Int.toNat_natCast, Int.reduceLT, ne_eq, Fin.isValue, Nat.add_zero, nC_hrw, nS_hrw, nC_hwr, nS_hwr, hkd_hrw, hkd_hwr, fin4_0, fin4_1, fin4_2, fin4_3, fin2_0, fin2_1, ci0, ci1, cnn, false_implies, w32_eq, w64_eq]
  try simp (disch := omega) only [yc_lt, yc_le, yc_gt, yc_ge, yc_eq, w32_eq, w64_eq, tn_add, tn_mul, Int.toNat_natCast, Int.reduceToNat, not_true, not_false_iff, false_implies, forall_const, implies_true]
  repeat' (with_reducible first | apply And.intro | intro _)
  all_goals try omega
  all_goals try simp (disch := omega) only [w32_eq, w64_eq, tn_add, tn_mul, Int.toNat_natCast, Int.reduceToNat, Option.some.injEq, Sum.inr.injEq, Sum.inl.injEq]
  all_goals try omega
theorem sum_swtB {B : Nat} {bec : Nat → Nat → List Nat} {std tbl : List Nat} (g : Nat → Nat) (hg : ∀ c, g c ≤ B) (hl : wsm g (wrd bec std tbl) ≤ B) : (std.map (swt B bec g tbl)).sum = wsm g (wrd bec std tbl) := by
  have e : std.map (swt B bec g tbl) = std.map fun d => min B (wsm g (exl bec tbl d)) := List.map_congr_left fun d _ => swt_eq B bec g hg tbl d
  rw [e]
  unfold wrd at hl ⊢
  rw [wsm_flatMap] at hl ⊢
  have key : ∀ l : List Nat, (l.map fun d => wsm g (exl bec tbl d)).sum ≤ B → (l.map fun d => min B (wsm g (exl bec tbl d))).sum = (l.map fun d => wsm g (exl bec tbl d)).sum := by
    intro l
    induction l with
    | nil => intro _; rfl
    | cons x t ih =>
      intro h
      simp only [List.map_cons, List.sum_cons] at h ⊢
      have := ih (by omega)
      omega
  exact key std hl
/-- lays sums of what each letter counts, back to the first night -/
theorem c_X5_laysBack {G : GT} {h : AH} {T : Nat} {bec : Nat → Nat → List Nat} {std tbl : List Nat} {nights moon : Int} (hF : FxA h) (hA : AllC (hdt h 125) T bec std tbl nights moon) {r : Nat} (hr : r = 130 ∨ r = 131) {g : Nat → Nat} (hg : ∀ c, g c ≤ endC) (hrow : ∀ c, c < 6 → hdt h r (6 * tbl.length + c) = ((g c : Nat) : Int)) :
    CnA G mX5_laysBack 3 0 0 [.inr (.inr (124)), .inr (.inr ((r : Int)))] h (fun v h1 => v = none ∧ ∃ f, h1 = hrw h r f ∧ ∀ k c, k ≤ tbl.length → c < 6 → f (6 * k + c) = ((swt endC bec g (tbl.drop k) c : Nat) : Int)) := by
  refine CnA.of rfl (Nat.le_of_ble_eq_true rfl) ?_
  simp only [largs, lpad, mr_X5_laysBack]
  have kr : hkd h r = (101, 366) := by rcases hr with rfl | rfl <;> simp only [hF.m]
  have n5 : 125 ≠ r := by omega
  have he : endC = 9223372036854775807 := rfl
  have hs := hA.sz
  have hFr : ∀ f, FxA (hrw h r f) := fun f => hF.hrw (by rcases hr with rfl | rfl <;> decide +kernel) f
  have hAr : ∀ f, AllC (hdt (hrw h r f) 125) T bec std tbl nights moon := fun f => by rw [hdt_hrw_n _ _ n5]; exact hA
  generalize hE : ((G, mX5_laysBack, _, _, _, _, h) : EV) = E
  have L3 : ∀ n, n ≤ tbl.length → ∀ f, (∀ k c, n ≤ k → k ≤ tbl.length → c < 6 → f (6 * k + c) = ((swt endC bec g (tbl.drop k) c : Nat) : Int)) →
      ExA E 10 [some (.inr (.inr (124))), some (.inr (.inr ((r : Int)))), some (.inl ((n : Int) - 1)), none, none, none, none, none] [] (hrw h r f) := by
    refine lpD _ fun n hn ih f hf => ?_
    cases n with
    | zero =>
      subst hE
      refine vsA_ok tk_X5_laysBack rfl 2 ?_
      simp only [at_X5_laysBack, mr_X5_laysBack, vsA, vcA, denA, lget, lset, lst1, lst2, lclr, argsA, restA, acats, acat, tcA, tcN, rzA, lle, List.length_cons, List.length_nil, Option.toList_some, Option.toList_none, List.cons_append, List.nil_append, eG, eM, eD, eC, eS, eQ, eH, if_true, if_false, Nat.reduceAdd, Nat.reduceLeDiff, Nat.reduceEqDiff, Nat.reduceLT, Nat.reduceSub, Int.reduceEq, Int.reduceLE, Int.reduceToNat, reduceCtorEq, reduceIte, Nat.reduceBEq, Int.reduceNeg, not_true, not_false_iff, true_and, and_true, true_or, or_true, false_or, or_false, forall_const, implies_true, Nat.le_refl, Int.toNat_natCast, Int.reduceLT, ne_eq, Fin.isValue, Nat.add_zero, nC_hrw, nS_hrw, nC_hwr, nS_hwr, hkd_hrw, hkd_hwr, fin4_0, fin4_1, fin4_2, fin4_3, fin2_0, fin2_1, ci0, ci1, cnn, false_implies, w32_eq, w64_eq]
      try simp (disch := omega) only [yc_lt, yc_le, yc_gt, yc_ge, yc_eq, w32_eq, w64_eq, tn_add, tn_mul, Int.toNat_natCast, Int.reduceToNat, not_true, not_false_iff, false_implies, forall_const, implies_true]
      repeat' (with_reducible first | apply And.intro | intro _)
      all_goals try omega
      all_goals try simp (disch := omega) only [w32_eq, w64_eq, tn_add, tn_mul, Int.toNat_natCast, Int.reduceToNat, Option.some.injEq, Sum.inr.injEq, Sum.inl.injEq]
      all_goals try omega
      · exact ⟨f, rfl, fun k c hk hc => hf k c (Nat.zero_le _) hk hc⟩
    | succ n =>
      have htk := hA.t3 (k := n) (by omega)
      have L2 : ∀ c, c ≤ 6 → ∀ f, (∀ k d, n < k → k ≤ tbl.length → d < 6 → f (6 * k + d) = ((swt endC bec g (tbl.drop k) d : Nat) : Int)) → (∀ d, d < c → f (6 * n + d) = ((swt endC bec g (tbl.drop n) d : Nat) : Int)) →
          ExA E 28 [some (.inr (.inr (124))), some (.inr (.inr ((r : Int)))), some (.inl ((n : Int))), some (.inl (((tbl.getD n 0 : Nat) : Int))), some (.inl ((c : Int))), none, none, none] [] (hrw h r f) := by
        refine lpI 6 fun c hc ihc f hf1 hf2 => ?_
        by_cases hc6 : c < 6
        · have hB := hA.b4 htk hc6
          have L1 : ∀ i, i ≤ (bec (tbl.getD n 0) c).length → ExA E 41 [some (.inr (.inr (124))), some (.inr (.inr ((r : Int)))), some (.inl ((n : Int))), some (.inl (((tbl.getD n 0 : Nat) : Int))), some (.inl ((c : Int))), some (.inr (.inl (((min endC (((bec (tbl.getD n 0) c).take i).map (swt endC bec g (tbl.drop (n + 1)))).sum : Nat) : Int)))), none, some (.inl ((i : Int)))] [] (hrw h r f) := by
            refine lpI _ fun i hi ih1 => ?_
            have nxt := ihc hc6 (fup f (6 * n + c) ((swt endC bec g (tbl.drop n) c : Nat) : Int)) (fun k d h1 h2 h3 => by
              rw [fup_n _ _ (by omega)]
              exact hf1 k d h1 h2 h3) (fun d hd => by
              by_cases e : d = c
              · rw [e, fup_s]
              · rw [fup_n _ _ (by omega)]
                exact hf2 d (by omega))
            have e0 : swt endC bec g (tbl.drop n) c = min endC ((bec (tbl.getD n 0) c).map (swt endC bec g (tbl.drop (n + 1)))).sum := by
              rw [drop_cons (show n < tbl.length by omega)]
              rfl
            have hsw := fun d => swt_le endC bec g hg (tbl.drop (n + 1)) d
            by_cases hil : i < (bec (tbl.getD n 0) c).length
            · have nx := ih1 hil
              have hd6 := hB.2 _ (getD_mem hil)
              rw [take_sum _ _ hil] at nx
              have hfd := hf1 (n + 1) _ (Nat.lt_succ_self n) (by omega) hd6
              have hsd := hsw ((bec (tbl.getD n 0) c).getD i 0)
              subst hE
              refine vsA_ok tk_X5_laysBack rfl 20 ?_
              simp only [at_X5_laysBack, mr_X5_laysBack, vsA, vcA, denA, lget, lset, lst1, lst2, lclr, argsA, restA, acats, acat, tcA, tcN, rzA, lle, List.length_cons, List.length_nil, Option.toList_some, Option.toList_none, List.cons_append, List.nil_append, eG, eM, eD, eC, eS, eQ, eH, if_true, if_false, Nat.reduceAdd, Nat.reduceLeDiff, Nat.reduceEqDiff, Nat.reduceLT, Nat.reduceSub, Int.reduceEq, Int.reduceLE, Int.reduceToNat, reduceCtorEq, reduceIte, Nat.reduceBEq, Int.reduceNeg, not_true, not_false_iff, true_and, and_true, true_or, or_true, false_or, or_false, forall_const, implies_true, Nat.le_refl, Int.toNat_natCast, Int.reduceLT, ne_eq, Fin.isValue, Nat.add_zero, nC_hrw, nS_hrw, nC_hwr, nS_hwr, hkd_hrw, hkd_hwr, fin4_0, fin4_1, fin4_2, fin4_3, fin2_0, fin2_1, ci0, ci1, cnn, false_implies, w32_eq, w64_eq, (hFr f).m]
              try simp (disch := omega) only [yc_lt, yc_le, yc_gt, yc_ge, yc_eq, w32_eq, w64_eq, tn_add, tn_mul, Int.toNat_natCast, Int.reduceToNat, not_true, not_false_iff, false_implies, forall_const, implies_true]
              repeat' (with_reducible first | apply And.intro | intro _)
              all_goals try omega
              all_goals try simp (disch := omega) only [w32_eq, w64_eq, tn_add, tn_mul, Int.toNat_natCast, Int.reduceToNat, Option.some.injEq, Sum.inr.injEq, Sum.inl.injEq]
              all_goals try omega
              refine ClA.pure (c_X5_becomeMany (hFr f) (hAr f) htk hc6) (by first | exact Nat.le_of_ble_eq_true rfl | (simp only [eD]; omega)) (by first | exact Nat.le_refl _ | (simp only [eG, eD, eC, eS, eQ, eH, nC_hrw, nC_hwr, nS_hrw, nS_hwr, nC_hnw, nS_hnw]; omega)) (by first | exact Nat.le_refl _ | (simp only [eG, eD, eC, eS, eQ, eH, nC_hrw, nC_hwr, nS_hrw, nS_hwr, nC_hnw, nS_hnw]; omega)) ?_
              refine vsA_ok tk_X5_laysBack rfl 20 ?_
              simp only [at_X5_laysBack, mr_X5_laysBack, vsA, vcA, denA, lget, lset, lst1, lst2, lclr, argsA, restA, acats, acat, tcA, tcN, rzA, lle, List.length_cons, List.length_nil, Option.toList_some, Option.toList_none, List.cons_append, List.nil_append, eG, eM, eD, eC, eS, eQ, eH, if_true, if_false, Nat.reduceAdd, Nat.reduceLeDiff, Nat.reduceEqDiff, Nat.reduceLT, Nat.reduceSub, Int.reduceEq, Int.reduceLE, Int.reduceToNat, reduceCtorEq, reduceIte, Nat.reduceBEq, Int.reduceNeg, not_true, not_false_iff, true_and, and_true, true_or, or_true, false_or, or_false, forall_const, implies_true, Nat.le_refl, Int.toNat_natCast, Int.reduceLT, ne_eq, Fin.isValue, Nat.add_zero, nC_hrw, nS_hrw, nC_hwr, nS_hwr, hkd_hrw, hkd_hwr, fin4_0, fin4_1, fin4_2, fin4_3, fin2_0, fin2_1, ci0, ci1, cnn, false_implies, w32_eq, w64_eq, (hFr f).m]
              try simp (disch := omega) only [yc_lt, yc_le, yc_gt, yc_ge, yc_eq, w32_eq, w64_eq, tn_add, tn_mul, Int.toNat_natCast, Int.reduceToNat, not_true, not_false_iff, false_implies, forall_const, implies_true]
              repeat' (with_reducible first | apply And.intro | intro _)
              all_goals try omega
              all_goals try simp (disch := omega) only [w32_eq, w64_eq, tn_add, tn_mul, Int.toNat_natCast, Int.reduceToNat, Option.some.injEq, Sum.inr.injEq, Sum.inl.injEq]
              all_goals try omega
              refine ClA.pure (c_X5_becomeOf (hFr f) (hAr f) htk hc6 hil) (by first | exact Nat.le_of_ble_eq_true rfl | (simp only [eD]; omega)) (by first | exact Nat.le_refl _ | (simp only [eG, eD, eC, eS, eQ, eH, nC_hrw, nC_hwr, nS_hrw, nS_hwr, nC_hnw, nS_hnw]; omega)) (by first | exact Nat.le_refl _ | (simp only [eG, eD, eC, eS, eQ, eH, nC_hrw, nC_hwr, nS_hrw, nS_hwr, nC_hnw, nS_hnw]; omega)) ?_
              refine vsA_ok tk_X5_laysBack rfl 20 ?_
              simp only [at_X5_laysBack, mr_X5_laysBack, vsA, vcA, denA, lget, lset, lst1, lst2, lclr, argsA, restA, acats, acat, tcA, tcN, rzA, lle, List.length_cons, List.length_nil, Option.toList_some, Option.toList_none, List.cons_append, List.nil_append, eG, eM, eD, eC, eS, eQ, eH, if_true, if_false, Nat.reduceAdd, Nat.reduceLeDiff, Nat.reduceEqDiff, Nat.reduceLT, Nat.reduceSub, Int.reduceEq, Int.reduceLE, Int.reduceToNat, reduceCtorEq, reduceIte, Nat.reduceBEq, Int.reduceNeg, not_true, not_false_iff, true_and, and_true, true_or, or_true, false_or, or_false, forall_const, implies_true, Nat.le_refl, Int.toNat_natCast, Int.reduceLT, ne_eq, Fin.isValue, Nat.add_zero, nC_hrw, nS_hrw, nC_hwr, nS_hwr, hkd_hrw, hkd_hwr, fin4_0, fin4_1, fin4_2, fin4_3, fin2_0, fin2_1, ci0, ci1, cnn, false_implies, w32_eq, w64_eq, (hFr f).m, kr]
              try simp (disch := omega) only [yc_lt, yc_le, yc_gt, yc_ge, yc_eq, w32_eq, w64_eq, tn_add, tn_mul, Int.toNat_natCast, Int.reduceToNat, not_true, not_false_iff, false_implies, forall_const, implies_true, hdt_hrw_s, hfd]
              repeat' (with_reducible first | apply And.intro | intro _)
              all_goals try omega
              all_goals try simp (disch := omega) only [w32_eq, w64_eq, tn_add, tn_mul, Int.toNat_natCast, Int.reduceToNat, Option.some.injEq, Sum.inr.injEq, Sum.inl.injEq, hdt_hrw_s, hfd]
              all_goals try omega
              refine ClA.pure (c_X5_plus _ _ _ (Nat.min_le_left _ _) hsd) (by first | exact Nat.le_of_ble_eq_true rfl | (simp only [eD]; omega)) (by first | exact Nat.le_refl _ | (simp only [eG, eD, eC, eS, eQ, eH, nC_hrw, nC_hwr, nS_hrw, nS_hwr, nC_hnw, nS_hnw]; omega)) (by first | exact Nat.le_refl _ | (simp only [eG, eD, eC, eS, eQ, eH, nC_hrw, nC_hwr, nS_hrw, nS_hwr, nC_hnw, nS_hnw]; omega)) ?_
              refine vsA_ok tk_X5_laysBack rfl 20 ?_
              simp only [at_X5_laysBack, mr_X5_laysBack, vsA, vcA, denA, lget, lset, lst1, lst2, lclr, argsA, restA, acats, acat, tcA, tcN, rzA, lle, List.length_cons, List.length_nil, Option.toList_some, Option.toList_none, List.cons_append, List.nil_append, eG, eM, eD, eC, eS, eQ, eH, if_true, if_false, Nat.reduceAdd, Nat.reduceLeDiff, Nat.reduceEqDiff, Nat.reduceLT, Nat.reduceSub, Int.reduceEq, Int.reduceLE, Int.reduceToNat, reduceCtorEq, reduceIte, Nat.reduceBEq, Int.reduceNeg, not_true, not_false_iff, true_and, and_true, true_or, or_true, false_or, or_false, forall_const, implies_true, Nat.le_refl, Int.toNat_natCast, Int.reduceLT, ne_eq, Fin.isValue, Nat.add_zero, nC_hrw, nS_hrw, nC_hwr, nS_hwr, hkd_hrw, hkd_hwr, fin4_0, fin4_1, fin4_2, fin4_3, fin2_0, fin2_1, ci0, ci1, cnn, false_implies, w32_eq, w64_eq]
              try simp (disch := omega) only [yc_lt, yc_le, yc_gt, yc_ge, yc_eq, w32_eq, w64_eq, tn_add, tn_mul, Int.toNat_natCast, Int.reduceToNat, not_true, not_false_iff, false_implies, forall_const, implies_true]
              repeat' (with_reducible first | apply And.intro | intro _)
              all_goals try omega
              all_goals try simp (disch := omega) only [w32_eq, w64_eq, tn_add, tn_mul, Int.toNat_natCast, Int.reduceToNat, Option.some.injEq, Sum.inr.injEq, Sum.inl.injEq]
              all_goals try omega
              · generalize (((bec (tbl.getD n 0) c).take i).map (swt endC bec g (tbl.drop (n + 1)))).sum = s1 at nx ⊢
                generalize swt endC bec g (tbl.drop (n + 1)) ((bec (tbl.getD n 0) c).getD i 0) = s2 at nx ⊢ hsd
                rw [show min endC (min endC s1 + s2) = min endC (s1 + s2) by omega]
                exact (nx).weak rfl (by simp [lle] <;> omega)
            · have hti : (bec (tbl.getD n 0) c).take i = bec (tbl.getD n 0) c := by rw [List.take_of_length_le (by omega)]
              rw [hti, ← e0]
              subst hE
              refine vsA_ok tk_X5_laysBack rfl 20 ?_
              simp only [at_X5_laysBack, mr_X5_laysBack, vsA, vcA, denA, lget, lset, lst1, lst2, lclr, argsA, restA, acats, acat, tcA, tcN, rzA, lle, List.length_cons, List.length_nil, Option.toList_some, Option.toList_none, List.cons_append, List.nil_append, eG, eM, eD, eC, eS, eQ, eH, if_true, if_false, Nat.reduceAdd, Nat.reduceLeDiff, Nat.reduceEqDiff, Nat.reduceLT, Nat.reduceSub, Int.reduceEq, Int.reduceLE, Int.reduceToNat, reduceCtorEq, reduceIte, Nat.reduceBEq, Int.reduceNeg, not_true, not_false_iff, true_and, and_true, true_or, or_true, false_or, or_false, forall_const, implies_true, Nat.le_refl, Int.toNat_natCast, Int.reduceLT, ne_eq, Fin.isValue, Nat.add_zero, nC_hrw, nS_hrw, nC_hwr, nS_hwr, hkd_hrw, hkd_hwr, fin4_0, fin4_1, fin4_2, fin4_3, fin2_0, fin2_1, ci0, ci1, cnn, false_implies, w32_eq, w64_eq, (hFr f).m]
              try simp (disch := omega) only [yc_lt, yc_le, yc_gt, yc_ge, yc_eq, w32_eq, w64_eq, tn_add, tn_mul, Int.toNat_natCast, Int.reduceToNat, not_true, not_false_iff, false_implies, forall_const, implies_true]
              repeat' (with_reducible first | apply And.intro | intro _)
              all_goals try omega
              all_goals try simp (disch := omega) only [w32_eq, w64_eq, tn_add, tn_mul, Int.toNat_natCast, Int.reduceToNat, Option.some.injEq, Sum.inr.injEq, Sum.inl.injEq]
              all_goals try omega
              refine ClA.pure (c_X5_becomeMany (hFr f) (hAr f) htk hc6) (by first | exact Nat.le_of_ble_eq_true rfl | (simp only [eD]; omega)) (by first | exact Nat.le_refl _ | (simp only [eG, eD, eC, eS, eQ, eH, nC_hrw, nC_hwr, nS_hrw, nS_hwr, nC_hnw, nS_hnw]; omega)) (by first | exact Nat.le_refl _ | (simp only [eG, eD, eC, eS, eQ, eH, nC_hrw, nC_hwr, nS_hrw, nS_hwr, nC_hnw, nS_hnw]; omega)) ?_
              refine vsA_ok tk_X5_laysBack rfl 20 ?_
              simp only [at_X5_laysBack, mr_X5_laysBack, vsA, vcA, denA, lget, lset, lst1, lst2, lclr, argsA, restA, acats, acat, tcA, tcN, rzA, lle, List.length_cons, List.length_nil, Option.toList_some, Option.toList_none, List.cons_append, List.nil_append, eG, eM, eD, eC, eS, eQ, eH, if_true, if_false, Nat.reduceAdd, Nat.reduceLeDiff, Nat.reduceEqDiff, Nat.reduceLT, Nat.reduceSub, Int.reduceEq, Int.reduceLE, Int.reduceToNat, reduceCtorEq, reduceIte, Nat.reduceBEq, Int.reduceNeg, not_true, not_false_iff, true_and, and_true, true_or, or_true, false_or, or_false, forall_const, implies_true, Nat.le_refl, Int.toNat_natCast, Int.reduceLT, ne_eq, Fin.isValue, Nat.add_zero, nC_hrw, nS_hrw, nC_hwr, nS_hwr, hkd_hrw, hkd_hwr, fin4_0, fin4_1, fin4_2, fin4_3, fin2_0, fin2_1, ci0, ci1, cnn, false_implies, w32_eq, w64_eq, (hFr f).m, kr]
              try simp (disch := omega) only [yc_lt, yc_le, yc_gt, yc_ge, yc_eq, w32_eq, w64_eq, tn_add, tn_mul, Int.toNat_natCast, Int.reduceToNat, not_true, not_false_iff, false_implies, forall_const, implies_true, hwr_hrw]
              repeat' (with_reducible first | apply And.intro | intro _)
              all_goals try omega
              all_goals try simp (disch := omega) only [w32_eq, w64_eq, tn_add, tn_mul, Int.toNat_natCast, Int.reduceToNat, Option.some.injEq, Sum.inr.injEq, Sum.inl.injEq, hwr_hrw]
              all_goals try omega
              all_goals try exact (nxt).weak rfl (by simp [lle] <;> omega)
          have l1 := L1 0 (Nat.zero_le _)
          subst hE
          refine vsA_ok tk_X5_laysBack rfl 20 ?_
          simp only [at_X5_laysBack, mr_X5_laysBack, vsA, vcA, denA, lget, lset, lst1, lst2, lclr, argsA, restA, acats, acat, tcA, tcN, rzA, lle, List.length_cons, List.length_nil, Option.toList_some, Option.toList_none, List.cons_append, List.nil_append, eG, eM, eD, eC, eS, eQ, eH, if_true, if_false, Nat.reduceAdd, Nat.reduceLeDiff, Nat.reduceEqDiff, Nat.reduceLT, Nat.reduceSub, Int.reduceEq, Int.reduceLE, Int.reduceToNat, reduceCtorEq, reduceIte, Nat.reduceBEq, Int.reduceNeg, not_true, not_false_iff, true_and, and_true, true_or, or_true, false_or, or_false, forall_const, implies_true, Nat.le_refl, Int.toNat_natCast, Int.reduceLT, ne_eq, Fin.isValue, Nat.add_zero, nC_hrw, nS_hrw, nC_hwr, nS_hwr, hkd_hrw, hkd_hwr, fin4_0, fin4_1, fin4_2, fin4_3, fin2_0, fin2_1, ci0, ci1, cnn, false_implies, w32_eq, w64_eq]
          try simp (disch := omega) only [yc_lt, yc_le, yc_gt, yc_ge, yc_eq, w32_eq, w64_eq, tn_add, tn_mul, Int.toNat_natCast, Int.reduceToNat, not_true, not_false_iff, false_implies, forall_const, implies_true]
          repeat' (with_reducible first | apply And.intro | intro _)
          all_goals try omega
          all_goals try simp (disch := omega) only [w32_eq, w64_eq, tn_add, tn_mul, Int.toNat_natCast, Int.reduceToNat, Option.some.injEq, Sum.inr.injEq, Sum.inl.injEq]
          all_goals try omega
          all_goals try exact (l1).weak rfl (by simp [lle] <;> omega)
        · have nxt := ih n rfl f (fun k d h1 h2 h3 => by
            by_cases e : k = n
            · subst e
              exact hf2 d (by omega)
            · exact hf1 k d (by omega) h2 h3)
          subst hE
          refine vsA_ok tk_X5_laysBack rfl 20 ?_
          simp only [at_X5_laysBack, mr_X5_laysBack, vsA, vcA, denA, lget, lset, lst1, lst2, lclr, argsA, restA, acats, acat, tcA, tcN, rzA, lle, List.length_cons, List.length_nil, Option.toList_some, Option.toList_none, List.cons_append, List.nil_append, eG, eM, eD, eC, eS, eQ, eH, if_true, if_false, Nat.reduceAdd, Nat.reduceLeDiff, Nat.reduceEqDiff, Nat.reduceLT, Nat.reduceSub, Int.reduceEq, Int.reduceLE, Int.reduceToNat, reduceCtorEq, reduceIte, Nat.reduceBEq, Int.reduceNeg, not_true, not_false_iff, true_and, and_true, true_or, or_true, false_or, or_false, forall_const, implies_true, Nat.le_refl, Int.toNat_natCast, Int.reduceLT, ne_eq, Fin.isValue, Nat.add_zero, nC_hrw, nS_hrw, nC_hwr, nS_hwr, hkd_hrw, hkd_hwr, fin4_0, fin4_1, fin4_2, fin4_3, fin2_0, fin2_1, ci0, ci1, cnn, false_implies, w32_eq, w64_eq]
          try simp (disch := omega) only [yc_lt, yc_le, yc_gt, yc_ge, yc_eq, w32_eq, w64_eq, tn_add, tn_mul, Int.toNat_natCast, Int.reduceToNat, not_true, not_false_iff, false_implies, forall_const, implies_true]
          repeat' (with_reducible first | apply And.intro | intro _)
          all_goals try omega
          all_goals try simp (disch := omega) only [w32_eq, w64_eq, tn_add, tn_mul, Int.toNat_natCast, Int.reduceToNat, Option.some.injEq, Sum.inr.injEq, Sum.inl.injEq]
          all_goals try omega
          all_goals try exact (nxt).weak rfl (by simp [lle] <;> omega)
      have l2 := L2 0 (by omega) f (fun k d h1 h2 h3 => hf k d (by omega) h2 h3) (fun d hd => by omega)
      subst hE
      refine vsA_ok tk_X5_laysBack rfl 20 ?_
      simp only [at_X5_laysBack, mr_X5_laysBack, vsA, vcA, denA, lget, lset, lst1, lst2, lclr, argsA, restA, acats, acat, tcA, tcN, rzA, lle, List.length_cons, List.length_nil, Option.toList_some, Option.toList_none, List.cons_append, List.nil_append, eG, eM, eD, eC, eS, eQ, eH, if_true, if_false, Nat.reduceAdd, Nat.reduceLeDiff, Nat.reduceEqDiff, Nat.reduceLT, Nat.reduceSub, Int.reduceEq, Int.reduceLE, Int.reduceToNat, reduceCtorEq, reduceIte, Nat.reduceBEq, Int.reduceNeg, not_true, not_false_iff, true_and, and_true, true_or, or_true, false_or, or_false, forall_const, implies_true, Nat.le_refl, Int.toNat_natCast, Int.reduceLT, ne_eq, Fin.isValue, Nat.add_zero, nC_hrw, nS_hrw, nC_hwr, nS_hwr, hkd_hrw, hkd_hwr, fin4_0, fin4_1, fin4_2, fin4_3, fin2_0, fin2_1, ci0, ci1, cnn, false_implies, w32_eq, w64_eq, (hFr f).m]
      try simp (disch := omega) only [yc_lt, yc_le, yc_gt, yc_ge, yc_eq, w32_eq, w64_eq, tn_add, tn_mul, Int.toNat_natCast, Int.reduceToNat, not_true, not_false_iff, false_implies, forall_const, implies_true, (hAr f).by (show n < tbl.length by omega), show ((n + 1 : Nat) : Int) - 1 = (n : Int) by omega]
      repeat' (with_reducible first | apply And.intro | intro _)
      all_goals try omega
      all_goals try simp (disch := omega) only [w32_eq, w64_eq, tn_add, tn_mul, Int.toNat_natCast, Int.reduceToNat, Option.some.injEq, Sum.inr.injEq, Sum.inl.injEq, (hAr f).by (show n < tbl.length by omega), show ((n + 1 : Nat) : Int) - 1 = (n : Int) by omega]
      all_goals try omega
      all_goals try exact (l2).weak rfl (by simp [lle] <;> omega)
  have l3 := L3 tbl.length (Nat.le_refl _) (hdt h r) (fun k c h1 h2 h3 => by
    have : k = tbl.length := by omega
    subst this
    rw [hrow c h3, List.drop_length]
    rfl)
  rw [hrw_self] at l3
  subst hE
  refine vsA_ok tk_X5_laysBack rfl 20 ?_
  simp only [at_X5_laysBack, mr_X5_laysBack, vsA, vcA, denA, lget, lset, lst1, lst2, lclr, argsA, restA, acats, acat, tcA, tcN, rzA, lle, List.length_cons, List.length_nil, Option.toList_some, Option.toList_none, List.cons_append, List.nil_append, eG, eM, eD, eC, eS, eQ, eH, if_true, if_false, Nat.reduceAdd, Nat.reduceLeDiff, Nat.reduceEqDiff, Nat.reduceLT, Nat.reduceSub, Int.reduceEq, Int.reduceLE, Int.reduceToNat, reduceCtorEq, reduceIte, Nat.reduceBEq, Int.reduceNeg, not_true, not_false_iff, true_and, and_true, true_or, or_true, false_or, or_false, forall_const, implies_true, Nat.le_refl, Int.toNat_natCast, Int.reduceLT, ne_eq, Fin.isValue, Nat.add_zero, nC_hrw, nS_hrw, nC_hwr, nS_hwr, hkd_hrw, hkd_hwr, fin4_0, fin4_1, fin4_2, fin4_3, fin2_0, fin2_1, ci0, ci1, cnn, false_implies, w32_eq, w64_eq, hF.m, hA.q]
  try simp (disch := omega) only [yc_lt, yc_le, yc_gt, yc_ge, yc_eq, w32_eq, w64_eq, tn_add, tn_mul, Int.toNat_natCast, Int.reduceToNat, not_true, not_false_iff, false_implies, forall_const, implies_true]
  repeat' (with_reducible first | apply And.intro | intro _)
  all_goals try omega
  all_goals try simp (disch := omega) only [w32_eq, w64_eq, tn_add, tn_mul, Int.toNat_natCast, Int.reduceToNat, Option.some.injEq, Sum.inr.injEq, Sum.inl.injEq]
  all_goals try omega
  all_goals try exact (l3).weak rfl (by simp [lle] <;> omega)
