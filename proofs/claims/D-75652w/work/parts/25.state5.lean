/-! states: nights by tables -/
set_option maxRecDepth 100000
theorem WSt.nextL {h : AH} {a S T : Nat} {bec : Nat → Nat → List Nat} {std tbl : List Nat} {nights moon : Int} (hW : WSt h a S T bec std tbl nights moon) {t : Nat} (ht : t < 3) : (wrd bec std (tbl ++ [t])).length ≤ 4 * (wrd bec std tbl).length := by
  have h6 := hW.lt
  rw [wrd_snoc]
  generalize wrd bec std tbl = W at h6 ⊢
  induction W with
  | nil => simp
  | cons x l ih =>
    have h1 := (hW.bec ht (h6 x List.mem_cons_self)).1
    have h2 := ih fun d hd => h6 d (List.mem_cons_of_mem _ hd)
    rw [List.flatMap_cons, List.length_append, List.length_cons]
    omega
theorem c_X2_lengthBy {G : GT} {h : AH} {a S T : Nat} {bec : Nat → Nat → List Nat} {std tbl : List Nat} {nights moon : Int} (hW : WSt h a S T bec std tbl nights moon) (hL : (wrd bec std tbl).length ≤ 1000000000000) {t : Nat} (ht : t < 3) :
    CnA G mX2_lengthBy 5 0 0 [.inr (.inr (a : Int)), .inl (t : Int)] h (fun v h1 => v = some (.inr (.inl (((wrd bec std (tbl ++ [t])).length : Nat) : Int))) ∧ OutA (sW a S) h h1) := by
  refine CnA.of rfl (Nat.le_of_ble_eq_true rfl) ?_
  simp only [largs, lpad, mr_X2_lengthBy]
  have hb : bigC = 4000000000000 := rfl
  have e := hW.snoc t
  generalize hE : ((G, mX2_lengthBy, _, _, _, _, h) : EV) = E
  have L1 : ∀ x i h1, i + x = 6 → OutA (sW a S) h h1 → nC h1 = nC h + 0 → nS h1 = nS h + 0 →
      ExA E 5 [some (.inr (.inr (a : Int))), some (.inl (t : Int)), some (.inr (.inl ((sumC (wrd bec std tbl) (fun c => (bec t c).length) i : Nat) : Int))), none, some (.inl (i : Int))] [] h1 := by
    intro x
    induction x with
    | zero =>
      intro i h1 hi hO hn1 hn2
      have hi6 : i = 6 := by omega
      subst hi6
      rw [e]
      subst hE
      refine vsA_ok tk_X2_lengthBy rfl 20 ?_
      simp only [at_X2_lengthBy, mr_X2_lengthBy, vsA, vcA, denA, lget, lset, lst1, lst2, lclr, argsA, restA, acats, acat, tcA, tcN, rzA, lle, List.length_cons, List.length_nil, Option.toList_some, Option.toList_none, List.cons_append, List.nil_append, eG, eM, eD, eC, eS, eQ, eH, if_true, if_false, Nat.reduceAdd, Nat.reduceLeDiff, Nat.reduceEqDiff, Nat.reduceLT, Nat.reduceSub, Int.reduceEq, Int.reduceLE, Int.reduceToNat, reduceCtorEq, reduceIte, Nat.reduceBEq, Int.reduceNeg, not_true, not_false_iff, true_and, and_true, true_or, or_true, false_or, or_false, forall_const, implies_true, Nat.le_refl, Int.toNat_natCast, Int.reduceLT, ne_eq, Fin.isValue, Nat.add_zero, nC_hrw, nS_hrw, nC_hwr, nS_hwr, hkd_hrw, hkd_hwr, fin4_0, fin4_1, fin4_2, fin4_3, fin2_0, fin2_1, ci0, ci1, cnn, false_implies, w32_eq, w64_eq, hn1, hn2]
      simp (disch := omega) only [w32_eq]
      exact ⟨fun _ => hO, fun q => absurd (by omega) q⟩
    | succ x ih =>
      intro i h1 hi hO hn1 hn2
      have hW1 := hW.outS hO
      subst hE
      refine vsA_ok tk_X2_lengthBy rfl 20 ?_
      simp only [at_X2_lengthBy, mr_X2_lengthBy, vsA, vcA, denA, lget, lset, lst1, lst2, lclr, argsA, restA, acats, acat, tcA, tcN, rzA, lle, List.length_cons, List.length_nil, Option.toList_some, Option.toList_none, List.cons_append, List.nil_append, eG, eM, eD, eC, eS, eQ, eH, if_true, if_false, Nat.reduceAdd, Nat.reduceLeDiff, Nat.reduceEqDiff, Nat.reduceLT, Nat.reduceSub, Int.reduceEq, Int.reduceLE, Int.reduceToNat, reduceCtorEq, reduceIte, Nat.reduceBEq, Int.reduceNeg, not_true, not_false_iff, true_and, and_true, true_or, or_true, false_or, or_false, forall_const, implies_true, Nat.le_refl, Int.toNat_natCast, Int.reduceLT, ne_eq, Fin.isValue, Nat.add_zero, nC_hrw, nS_hrw, nC_hwr, nS_hwr, hkd_hrw, hkd_hwr, fin4_0, fin4_1, fin4_2, fin4_3, fin2_0, fin2_1, ci0, ci1, cnn, false_implies, w32_eq, w64_eq, hW1.q]
      simp (disch := omega) only [w32_eq]
      refine ⟨fun q => absurd q (by omega), fun _ => ?_⟩
      repeat (refine And.intro ?_ ?_; · first | omega | assumption | (simp; done))
      refine ClA.of (c_X2_manyOf (x := i) hW1 (by omega) (by omega)) (Nat.le_of_ble_eq_true rfl) (Nat.le_of_eq hn1) (Nat.le_of_eq hn2) ?_
      rintro _ h2 ⟨rfl, hO2⟩ hm1 hm2
      replace hm1 := hm1.trans hn1
      replace hm2 := hm2.trans hn2
      have hW2 := hW1.outS hO2
      have nx := ih (i + 1) h2 (by omega) (hO.tr hO2) hm1 hm2
      refine vsA_ok tk_X2_lengthBy rfl 20 ?_
      simp only [at_X2_lengthBy, mr_X2_lengthBy, vsA, vcA, denA, lget, lset, lst1, lst2, lclr, argsA, restA, acats, acat, tcA, tcN, rzA, lle, List.length_cons, List.length_nil, Option.toList_some, Option.toList_none, List.cons_append, List.nil_append, eG, eM, eD, eC, eS, eQ, eH, if_true, if_false, Nat.reduceAdd, Nat.reduceLeDiff, Nat.reduceEqDiff, Nat.reduceLT, Nat.reduceSub, Int.reduceEq, Int.reduceLE, Int.reduceToNat, reduceCtorEq, reduceIte, Nat.reduceBEq, Int.reduceNeg, not_true, not_false_iff, true_and, and_true, true_or, or_true, false_or, or_false, forall_const, implies_true, Nat.le_refl, Int.toNat_natCast, Int.reduceLT, ne_eq, Fin.isValue, Nat.add_zero, nC_hrw, nS_hrw, nC_hwr, nS_hwr, hkd_hrw, hkd_hwr, fin4_0, fin4_1, fin4_2, fin4_3, fin2_0, fin2_1, ci0, ci1, cnn, false_implies, w32_eq, w64_eq, hW2.q]
      repeat (refine And.intro ?_ ?_; · first | omega | assumption | (simp; done))
      refine ClA.pure (c_X1_manyOf hW2.2.1 ht (c := i) (by omega)) (Nat.le_of_ble_eq_true rfl) (Nat.le_of_eq hm1) (Nat.le_of_eq hm2) ?_
      have h4 := (hW.bec ht (show i < 6 by omega)).1
      refine vsA_ok tk_X2_lengthBy rfl 0 ?_
      simp only [at_X2_lengthBy, mr_X2_lengthBy, vsA, vcA, denA, lget, lset, lst1, lst2, lclr, argsA, restA, acats, acat, tcA, tcN, rzA, lle, List.length_cons, List.length_nil, Option.toList_some, Option.toList_none, List.cons_append, List.nil_append, eG, eM, eD, eC, eS, eQ, eH, if_true, if_false, Nat.reduceAdd, Nat.reduceLeDiff, Nat.reduceEqDiff, Nat.reduceLT, Nat.reduceSub, Int.reduceEq, Int.reduceLE, Int.reduceToNat, reduceCtorEq, reduceIte, Nat.reduceBEq, Int.reduceNeg, not_true, not_false_iff, true_and, and_true, true_or, or_true, false_or, or_false, forall_const, implies_true, Nat.le_refl, Int.toNat_natCast, Int.reduceLT, ne_eq, Fin.isValue, Nat.add_zero, nC_hrw, nS_hrw, nC_hwr, nS_hwr, hkd_hrw, hkd_hwr, fin4_0, fin4_1, fin4_2, fin4_3, fin2_0, fin2_1, ci0, ci1, cnn, false_implies, w32_eq, w64_eq]
      simp (disch := omega) only [w32_eq]
      refine vsA_ok tk_X2_lengthBy rfl 20 ?_
      simp only [at_X2_lengthBy, mr_X2_lengthBy, vsA, vcA, denA, lget, lset, lst1, lst2, lclr, argsA, restA, acats, acat, tcA, tcN, rzA, lle, List.length_cons, List.length_nil, Option.toList_some, Option.toList_none, List.cons_append, List.nil_append, eG, eM, eD, eC, eS, eQ, eH, if_true, if_false, Nat.reduceAdd, Nat.reduceLeDiff, Nat.reduceEqDiff, Nat.reduceLT, Nat.reduceSub, Int.reduceEq, Int.reduceLE, Int.reduceToNat, reduceCtorEq, reduceIte, Nat.reduceBEq, Int.reduceNeg, not_true, not_false_iff, true_and, and_true, true_or, or_true, false_or, or_false, forall_const, implies_true, Nat.le_refl, Int.toNat_natCast, Int.reduceLT, ne_eq, Fin.isValue, Nat.add_zero, nC_hrw, nS_hrw, nC_hwr, nS_hwr, hkd_hrw, hkd_hwr, fin4_0, fin4_1, fin4_2, fin4_3, fin2_0, fin2_1, ci0, ci1, cnn, false_implies, w32_eq, w64_eq]
      rw [sumC] at nx
      generalize sumC (wrd bec std tbl) (fun c => (bec t c).length) i = u at nx ⊢
      rw [← Int.natCast_mul]
      generalize List.count i (wrd bec std tbl) * (bec t i).length = v at nx ⊢
      exact nx.weak rfl (by simp [lle] <;> omega)
  have l1 := L1 6 0 h rfl OutA.rf rfl rfl
  rw [sumC] at l1
  subst hE
  refine vsA_ok tk_X2_lengthBy rfl 20 ?_
  simp only [at_X2_lengthBy, mr_X2_lengthBy, vsA, vcA, denA, lget, lset, lst1, lst2, lclr, argsA, restA, acats, acat, tcA, tcN, rzA, lle, List.length_cons, List.length_nil, Option.toList_some, Option.toList_none, List.cons_append, List.nil_append, eG, eM, eD, eC, eS, eQ, eH, if_true, if_false, Nat.reduceAdd, Nat.reduceLeDiff, Nat.reduceEqDiff, Nat.reduceLT, Nat.reduceSub, Int.reduceEq, Int.reduceLE, Int.reduceToNat, reduceCtorEq, reduceIte, Nat.reduceBEq, Int.reduceNeg, not_true, not_false_iff, true_and, and_true, true_or, or_true, false_or, or_false, forall_const, implies_true, Nat.le_refl, Int.toNat_natCast, Int.reduceLT, ne_eq, Fin.isValue, Nat.add_zero, nC_hrw, nS_hrw, nC_hwr, nS_hwr, hkd_hrw, hkd_hwr, fin4_0, fin4_1, fin4_2, fin4_3, fin2_0, fin2_1, ci0, ci1, cnn, false_implies, w32_eq, w64_eq]
  exact l1
theorem c_X2_whyBy {G : GT} {h : AH} {a S T : Nat} {bec : Nat → Nat → List Nat} {std tbl : List Nat} {nights moon : Int} (hW : WSt h a S T bec std tbl nights moon) (hL : (wrd bec std tbl).length ≤ 1000000000000) {t : Int} (ht : t = -1 ∨ 0 ≤ t ∧ t < 3) :
    CnA G mX2_whyBy 6 0 0 [.inr (.inr (a : Int)), .inl t] h (fun v h1 => v = some (.inl (if t = -1 then 0 else if tbl.length = 60 then 2 else if 1000000000000 < (wrd bec std (tbl ++ [t.toNat])).length then 3 else 0)) ∧ OutA (sW a S) h h1) := by
  refine CnA.of rfl (Nat.le_of_ble_eq_true rfl) ?_
  simp only [largs, lpad, mr_X2_whyBy]
  have hs := hW.sz
  have hx4 := fun n => hW.nextL (t := n)
  refine vsA_ok tk_X2_whyBy rfl 20 ?_
  simp only [at_X2_whyBy, mr_X2_whyBy, vsA, vcA, denA, lget, lset, lst1, lst2, lclr, argsA, restA, acats, acat, tcA, tcN, rzA, lle, List.length_cons, List.length_nil, Option.toList_some, Option.toList_none, List.cons_append, List.nil_append, eG, eM, eD, eC, eS, eQ, eH, if_true, if_false, Nat.reduceAdd, Nat.reduceLeDiff, Nat.reduceEqDiff, Nat.reduceLT, Nat.reduceSub, Int.reduceEq, Int.reduceLE, Int.reduceToNat, reduceCtorEq, reduceIte, Nat.reduceBEq, Int.reduceNeg, not_true, not_false_iff, true_and, and_true, true_or, or_true, false_or, or_false, forall_const, implies_true, Nat.le_refl, Int.toNat_natCast, Int.reduceLT, ne_eq, Fin.isValue, Nat.add_zero, nC_hrw, nS_hrw, nC_hwr, nS_hwr, hkd_hrw, hkd_hwr, fin4_0, fin4_1, fin4_2, fin4_3, fin2_0, fin2_1, ci0, ci1, cnn, false_implies, w32_eq, w64_eq, hW.q]
  simp (disch := omega) only [w32_eq]
  refine ⟨fun q => ?_, fun q => ?_⟩
  · refine ⟨fun q2 => ?_, fun q2 => ?_⟩
    · repeat (refine And.intro ?_ ?_; · first | omega | assumption | (simp; done))
      obtain ⟨n, rfl⟩ : ∃ n : Nat, t = n := ⟨t.toNat, by omega⟩
      refine ClA.of (c_X2_lengthBy hW hL (t := n) (by omega)) (Nat.le_of_ble_eq_true rfl) (Nat.le_refl _) (Nat.le_refl _) ?_
      rintro _ h1 ⟨rfl, hO⟩ hn1 hn2
      refine vsA_ok tk_X2_whyBy rfl 20 ?_
      simp only [at_X2_whyBy, mr_X2_whyBy, vsA, vcA, denA, lget, lset, lst1, lst2, lclr, argsA, restA, acats, acat, tcA, tcN, rzA, lle, List.length_cons, List.length_nil, Option.toList_some, Option.toList_none, List.cons_append, List.nil_append, eG, eM, eD, eC, eS, eQ, eH, if_true, if_false, Nat.reduceAdd, Nat.reduceLeDiff, Nat.reduceEqDiff, Nat.reduceLT, Nat.reduceSub, Int.reduceEq, Int.reduceLE, Int.reduceToNat, reduceCtorEq, reduceIte, Nat.reduceBEq, Int.reduceNeg, not_true, not_false_iff, true_and, and_true, true_or, or_true, false_or, or_false, forall_const, implies_true, Nat.le_refl, Int.toNat_natCast, Int.reduceLT, ne_eq, Fin.isValue, Nat.add_zero, nC_hrw, nS_hrw, nC_hwr, nS_hwr, hkd_hrw, hkd_hwr, fin4_0, fin4_1, fin4_2, fin4_3, fin2_0, fin2_1, ci0, ci1, cnn, false_implies, w32_eq, w64_eq, hn1, hn2]
      simp only [yc_lt, yc_le, yc_gt, yc_ge, yc_eq]
      have hx4 := hx4 n (by omega)
      simp (disch := omega) only [w64_eq]
      refine ⟨fun q3 => ⟨?_, hO⟩, fun q3 => ⟨?_, hO⟩⟩
      · rw [if_neg (by omega), if_neg (by omega)]
      · rw [if_neg (by omega), if_pos (by omega)]
    · refine ⟨?_, OutA.rf⟩
      rw [if_neg q, if_pos (by omega)]
  · refine ⟨?_, OutA.rf⟩
    rw [if_pos (by omega)]
