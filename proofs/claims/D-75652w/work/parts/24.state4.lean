/-! states: edges, lengths by a table, kinds -/
set_option maxRecDepth 100000
def frW (W : List Nat) : Nat := if W.length = 0 then 6 else W.getD 0 0
def bkW (W : List Nat) : Nat := if W.length = 0 then 6 else W.getD (W.length - 1) 0
theorem c_X2_front {G : GT} {h : AH} {a S T : Nat} {bec : Nat → Nat → List Nat} {std tbl : List Nat} {nights moon : Int} (hW : WSt h a S T bec std tbl nights moon) (hL : (wrd bec std tbl).length ≤ 1000000000000) :
    CnA G mX2_front 6 0 0 [.inr (.inr (a : Int))] h (fun v h1 => v = some (.inl ((frW (wrd bec std tbl) : Nat) : Int)) ∧ OutA (sW a S) h h1) := by
  refine CnA.of rfl (Nat.le_of_ble_eq_true rfl) ?_
  simp only [largs, lpad, mr_X2_front]
  have hb : bigC = 4000000000000 := rfl
  refine vsA_ok tk_X2_front rfl 20 ?_
  simp only [at_X2_front, mr_X2_front, vsA, vcA, denA, lget, lset, lst1, lst2, lclr, argsA, restA, acats, acat, tcA, tcN, rzA, lle, List.length_cons, List.length_nil, Option.toList_some, Option.toList_none, List.cons_append, List.nil_append, eG, eM, eD, eC, eS, eQ, eH, if_true, if_false, Nat.reduceAdd, Nat.reduceLeDiff, Nat.reduceEqDiff, Nat.reduceLT, Nat.reduceSub, Int.reduceEq, Int.reduceLE, Int.reduceToNat, reduceCtorEq, reduceIte, Nat.reduceBEq, Int.reduceNeg, not_true, not_false_iff, true_and, and_true, true_or, or_true, false_or, or_false, forall_const, implies_true, Nat.le_refl, Int.toNat_natCast, Int.reduceLT, ne_eq, Fin.isValue, Nat.add_zero, nC_hrw, nS_hrw, nC_hwr, nS_hwr, hkd_hrw, hkd_hwr, fin4_0, fin4_1, fin4_2, fin4_3, fin2_0, fin2_1, ci0, ci1, cnn, false_implies, w32_eq, w64_eq, hW.q]
  repeat (refine And.intro ?_ ?_; · first | omega | assumption | (simp; done))
  refine ClA.of (c_X2_length hW (by omega)) (Nat.le_of_ble_eq_true rfl) (Nat.le_refl _) (Nat.le_refl _) ?_
  rintro _ h1 ⟨rfl, hO⟩ hn1 hn2
  have hW1 := hW.outS hO
  refine vsA_ok tk_X2_front rfl 20 ?_
  simp only [at_X2_front, mr_X2_front, vsA, vcA, denA, lget, lset, lst1, lst2, lclr, argsA, restA, acats, acat, tcA, tcN, rzA, lle, List.length_cons, List.length_nil, Option.toList_some, Option.toList_none, List.cons_append, List.nil_append, eG, eM, eD, eC, eS, eQ, eH, if_true, if_false, Nat.reduceAdd, Nat.reduceLeDiff, Nat.reduceEqDiff, Nat.reduceLT, Nat.reduceSub, Int.reduceEq, Int.reduceLE, Int.reduceToNat, reduceCtorEq, reduceIte, Nat.reduceBEq, Int.reduceNeg, not_true, not_false_iff, true_and, and_true, true_or, or_true, false_or, or_false, forall_const, implies_true, Nat.le_refl, Int.toNat_natCast, Int.reduceLT, ne_eq, Fin.isValue, Nat.add_zero, nC_hrw, nS_hrw, nC_hwr, nS_hwr, hkd_hrw, hkd_hwr, fin4_0, fin4_1, fin4_2, fin4_3, fin2_0, fin2_1, ci0, ci1, cnn, false_implies, w32_eq, w64_eq, hW1.q, hn1, hn2]
  simp only [yc_lt, yc_le, yc_gt, yc_ge, yc_eq]
  simp (disch := omega) only [w64_eq]
  refine ⟨fun q => ?_, fun q => ?_⟩
  · repeat (refine And.intro ?_ ?_; · first | omega | assumption | (simp; done))
    have hp : 0 < (wrd bec std tbl).length := by omega
    refine ClA.of (c_X2_letterAt hW1 hL hp) (Nat.le_of_ble_eq_true rfl) (Nat.le_of_eq hn1) (Nat.le_of_eq hn2) ?_
    rintro _ h2 ⟨rfl, hO2⟩ hm1 hm2
    replace hm1 := hm1.trans hn1
    replace hm2 := hm2.trans hn2
    refine vsA_ok tk_X2_front rfl 20 ?_
    simp only [at_X2_front, mr_X2_front, vsA, vcA, denA, lget, lset, lst1, lst2, lclr, argsA, restA, acats, acat, tcA, tcN, rzA, lle, List.length_cons, List.length_nil, Option.toList_some, Option.toList_none, List.cons_append, List.nil_append, eG, eM, eD, eC, eS, eQ, eH, if_true, if_false, Nat.reduceAdd, Nat.reduceLeDiff, Nat.reduceEqDiff, Nat.reduceLT, Nat.reduceSub, Int.reduceEq, Int.reduceLE, Int.reduceToNat, reduceCtorEq, reduceIte, Nat.reduceBEq, Int.reduceNeg, not_true, not_false_iff, true_and, and_true, true_or, or_true, false_or, or_false, forall_const, implies_true, Nat.le_refl, Int.toNat_natCast, Int.reduceLT, ne_eq, Fin.isValue, Nat.add_zero, nC_hrw, nS_hrw, nC_hwr, nS_hwr, hkd_hrw, hkd_hwr, fin4_0, fin4_1, fin4_2, fin4_3, fin2_0, fin2_1, ci0, ci1, cnn, false_implies, w32_eq, w64_eq, hm1, hm2]
    refine ⟨?_, hO.tr hO2⟩
    unfold frW
    rw [if_neg (by omega)]
  · refine ⟨?_, hO⟩
    unfold frW
    rw [if_pos (by omega)]
    rfl
theorem c_X2_back {G : GT} {h : AH} {a S T : Nat} {bec : Nat → Nat → List Nat} {std tbl : List Nat} {nights moon : Int} (hW : WSt h a S T bec std tbl nights moon) (hL : (wrd bec std tbl).length ≤ 1000000000000) :
    CnA G mX2_back 6 0 0 [.inr (.inr (a : Int))] h (fun v h1 => v = some (.inl ((bkW (wrd bec std tbl) : Nat) : Int)) ∧ OutA (sW a S) h h1) := by
  refine CnA.of rfl (Nat.le_of_ble_eq_true rfl) ?_
  simp only [largs, lpad, mr_X2_back]
  have hb : bigC = 4000000000000 := rfl
  refine vsA_ok tk_X2_back rfl 20 ?_
  simp only [at_X2_back, mr_X2_back, vsA, vcA, denA, lget, lset, lst1, lst2, lclr, argsA, restA, acats, acat, tcA, tcN, rzA, lle, List.length_cons, List.length_nil, Option.toList_some, Option.toList_none, List.cons_append, List.nil_append, eG, eM, eD, eC, eS, eQ, eH, if_true, if_false, Nat.reduceAdd, Nat.reduceLeDiff, Nat.reduceEqDiff, Nat.reduceLT, Nat.reduceSub, Int.reduceEq, Int.reduceLE, Int.reduceToNat, reduceCtorEq, reduceIte, Nat.reduceBEq, Int.reduceNeg, not_true, not_false_iff, true_and, and_true, true_or, or_true, false_or, or_false, forall_const, implies_true, Nat.le_refl, Int.toNat_natCast, Int.reduceLT, ne_eq, Fin.isValue, Nat.add_zero, nC_hrw, nS_hrw, nC_hwr, nS_hwr, hkd_hrw, hkd_hwr, fin4_0, fin4_1, fin4_2, fin4_3, fin2_0, fin2_1, ci0, ci1, cnn, false_implies, w32_eq, w64_eq, hW.q]
  repeat (refine And.intro ?_ ?_; · first | omega | assumption | (simp; done))
  refine ClA.of (c_X2_length hW (by omega)) (Nat.le_of_ble_eq_true rfl) (Nat.le_refl _) (Nat.le_refl _) ?_
  rintro _ h1 ⟨rfl, hO⟩ hn1 hn2
  have hW1 := hW.outS hO
  refine vsA_ok tk_X2_back rfl 20 ?_
  simp only [at_X2_back, mr_X2_back, vsA, vcA, denA, lget, lset, lst1, lst2, lclr, argsA, restA, acats, acat, tcA, tcN, rzA, lle, List.length_cons, List.length_nil, Option.toList_some, Option.toList_none, List.cons_append, List.nil_append, eG, eM, eD, eC, eS, eQ, eH, if_true, if_false, Nat.reduceAdd, Nat.reduceLeDiff, Nat.reduceEqDiff, Nat.reduceLT, Nat.reduceSub, Int.reduceEq, Int.reduceLE, Int.reduceToNat, reduceCtorEq, reduceIte, Nat.reduceBEq, Int.reduceNeg, not_true, not_false_iff, true_and, and_true, true_or, or_true, false_or, or_false, forall_const, implies_true, Nat.le_refl, Int.toNat_natCast, Int.reduceLT, ne_eq, Fin.isValue, Nat.add_zero, nC_hrw, nS_hrw, nC_hwr, nS_hwr, hkd_hrw, hkd_hwr, fin4_0, fin4_1, fin4_2, fin4_3, fin2_0, fin2_1, ci0, ci1, cnn, false_implies, w32_eq, w64_eq, hW1.q, hn1, hn2]
  simp only [yc_lt, yc_le, yc_gt, yc_ge, yc_eq]
  simp (disch := omega) only [w64_eq]
  refine ⟨fun q => ?_, fun q => ?_⟩
  · repeat (refine And.intro ?_ ?_; · first | omega | assumption | (simp; done))
    have hp : (wrd bec std tbl).length - 1 < (wrd bec std tbl).length := by omega
    have e : (((wrd bec std tbl).length : Nat) : Int) - 1 = (((wrd bec std tbl).length - 1 : Nat) : Int) := by omega
    rw [e]
    refine ClA.of (c_X2_letterAt hW1 hL hp) (Nat.le_of_ble_eq_true rfl) (Nat.le_of_eq hn1) (Nat.le_of_eq hn2) ?_
    rintro _ h2 ⟨rfl, hO2⟩ hm1 hm2
    replace hm1 := hm1.trans hn1
    replace hm2 := hm2.trans hn2
    refine vsA_ok tk_X2_back rfl 20 ?_
    simp only [at_X2_back, mr_X2_back, vsA, vcA, denA, lget, lset, lst1, lst2, lclr, argsA, restA, acats, acat, tcA, tcN, rzA, lle, List.length_cons, List.length_nil, Option.toList_some, Option.toList_none, List.cons_append, List.nil_append, eG, eM, eD, eC, eS, eQ, eH, if_true, if_false, Nat.reduceAdd, Nat.reduceLeDiff, Nat.reduceEqDiff, Nat.reduceLT, Nat.reduceSub, Int.reduceEq, Int.reduceLE, Int.reduceToNat, reduceCtorEq, reduceIte, Nat.reduceBEq, Int.reduceNeg, not_true, not_false_iff, true_and, and_true, true_or, or_true, false_or, or_false, forall_const, implies_true, Nat.le_refl, Int.toNat_natCast, Int.reduceLT, ne_eq, Fin.isValue, Nat.add_zero, nC_hrw, nS_hrw, nC_hwr, nS_hwr, hkd_hrw, hkd_hwr, fin4_0, fin4_1, fin4_2, fin4_3, fin2_0, fin2_1, ci0, ci1, cnn, false_implies, w32_eq, w64_eq, hm1, hm2]
    refine ⟨?_, hO.tr hO2⟩
    unfold bkW
    rw [if_neg (by omega)]
  · refine ⟨?_, hO⟩
    unfold bkW
    rw [if_pos (by omega)]
    rfl
/-- counts by letter, summed -/
def sumC (W : List Nat) (f : Nat → Nat) : Nat → Nat
  | 0 => 0
  | n + 1 => sumC W f n + W.count n * f n
theorem sumC_nil (f : Nat → Nat) : ∀ n, sumC [] f n = 0
  | 0 => rfl
  | n + 1 => by simp [sumC, sumC_nil f n]
theorem sumC_cons (x : Nat) (W : List Nat) (f : Nat → Nat) : ∀ n, sumC (x :: W) f n = sumC W f n + if x < n then f x else 0
  | 0 => by simp [sumC]
  | n + 1 => by
    simp only [sumC, sumC_cons x W f n, List.count_cons, beq_iff_eq]
    by_cases e : x = n
    · subst e
      rw [if_neg (by omega), if_pos rfl, if_pos (by omega), Nat.add_mul]
      omega
    · by_cases e2 : x < n
      · rw [if_pos e2, if_neg e, if_pos (by omega)]
        simp only [Nat.add_zero]
        omega
      · rw [if_neg e2, if_neg e, if_neg (by omega)]
        simp only [Nat.add_zero]
theorem sumC_all (W : List Nat) (f : Nat → Nat) (n : Nat) (hW : ∀ d ∈ W, d < n) : sumC W f n = (W.map f).sum := by
  induction W with
  | nil => exact sumC_nil f n
  | cons x t ih =>
    rw [sumC_cons, if_pos (hW x List.mem_cons_self), ih fun d hd => hW d (List.mem_cons_of_mem _ hd)]
    simp only [List.map_cons, List.sum_cons]
    omega
theorem sumC_le (W : List Nat) (f : Nat → Nat) (B : Nat) (hf : ∀ c, f c ≤ B) (n : Nat) : sumC W f n ≤ n * (W.length * B) := by
  induction n with
  | zero => simp [sumC]
  | succ n ih =>
    have h1 : W.count n * f n ≤ W.length * B := Nat.mul_le_mul List.count_le_length (hf n)
    simp only [sumC, Nat.add_mul]
    omega
theorem exl_snoc (bec : Nat → Nat → List Nat) (t : Nat) : ∀ (ts : List Nat) (c : Nat), exl bec (ts ++ [t]) c = (exl bec ts c).flatMap (bec t)
  | [], c => by simp [exl]
  | x :: ts, c => by
    simp only [List.cons_append, exl, List.flatMap_assoc]
    congr 1
    funext d
    exact exl_snoc bec t ts d
theorem wrd_snoc (bec : Nat → Nat → List Nat) (std tbl : List Nat) (t : Nat) : wrd bec std (tbl ++ [t]) = (wrd bec std tbl).flatMap (bec t) := by
  unfold wrd
  rw [List.flatMap_assoc]
  congr 1
  funext d
  exact exl_snoc bec t tbl d
theorem wrd_lt {bec : Nat → Nat → List Nat} {std tbl : List Nat} (hb : ∀ t c, t < 3 → c < 6 → ∀ d ∈ bec t c, d < 6) (hs : ∀ c ∈ std, c < 6) (ht : ∀ t ∈ tbl, t < 3) : ∀ d ∈ wrd bec std tbl, d < 6 := by
  intro d hd
  unfold wrd at hd
  rw [List.mem_flatMap] at hd
  obtain ⟨x, hx, hd⟩ := hd
  exact exl_lt hb tbl ht x (hs x hx) d hd
theorem WSt.lt {h : AH} {a S T : Nat} {bec : Nat → Nat → List Nat} {std tbl : List Nat} {nights moon : Int} (hW : WSt h a S T bec std tbl nights moon) : ∀ d ∈ wrd bec std tbl, d < 6 :=
  wrd_lt (fun t c ht hc => (hW.bec ht hc).2) (fun c hc => hW.2.1.2.1.2.2.1.2.2 c hc) hW.1.2.2.2.2.1
theorem WSt.snoc {h : AH} {a S T : Nat} {bec : Nat → Nat → List Nat} {std tbl : List Nat} {nights moon : Int} (hW : WSt h a S T bec std tbl nights moon) (t : Nat) : sumC (wrd bec std tbl) (fun c => (bec t c).length) 6 = (wrd bec std (tbl ++ [t])).length := by
  rw [sumC_all _ _ _ hW.lt, wrd_snoc, List.length_flatMap]
