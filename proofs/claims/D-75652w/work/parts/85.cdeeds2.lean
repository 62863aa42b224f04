/-! THE SYSTEM: calls that do deeds -/
set_option maxRecDepth 100000
theorem kF_st : ∀ a ∈ stL, kF a = (3, 7) ∧ kF (a + 1) = (100, 60) ∧ kF (a + 2) = (101, 366) ∧ kF (a + 3) = (101, 366) ∧ a + 3 < 153 ∧ (a, 0, a + 1) ∈ rFl ∧ (a, 1, a + 2) ∈ rFl ∧ (a, 2, a + 3) ∈ rFl ∧ (a, 6, 0) ∈ rFl := by decide +kernel
theorem FxA.stk {h : AH} (hF : FxA h) {a : Nat} (ha : a ∈ stL) : StK h a := by
  obtain ⟨k0, k1, k2, k3, k4, r0, r1, r2, r3⟩ := kF_st a ha
  refine ⟨by rw [hF.k a (by omega) k0], hF.r r0, hF.r r1, hF.r r2, hF.r r3, hF.k _ (by omega) k1, hF.k _ (by omega) k2, hF.k _ (by omega) k3⟩
theorem rF_15 : ∀ p, p < 10 → (15, p, 16 + 4 * p) ∈ rFl ∧ 16 + 4 * p ∈ stL := by decide +kernel
theorem rF_115 : ∀ p, p < 2 → (115, p, 116 + 4 * p) ∈ rFl ∧ 116 + 4 * p ∈ stL := by decide +kernel
theorem CqC.s6 {h h1 : AH} {w : WD} {S : Nat} {I C : Nat → Nat} (hF : FxA h) (hC : CmC h w S I C) (x : FrS S [8, 9] [] h h1) : CqC h h1 w S I C := CqC.scr hF hC x (by decide) (by decide) (by decide +kernel)
theorem StC.out {h h1 : AH} {a : Nat} {A : Nat → Prop} {tbl : List Nat} {nights moon : Int} (hs : StC h a tbl nights moon) (ho : OutA A h h1) (n0 : ¬ A a) (n1 : ¬ A (a + 1)) : StC h1 a tbl nights moon := hs.keep (ho.1 _) (ho.1 _) (ho.1 _) (ho.1 _) (ho.2.2 _ n0) (ho.2.2 _ n1)
theorem UndH.out {h h1 : AH} {S : Nat} {us : List S3} (hu : UndH h us) (ho : OutA (sD 6 S) h h1) (hS : S = 1 ∨ 153 ≤ S) : UndH h1 us := by
  obtain ⟨u1, p, u2, u3, u4⟩ := hu
  have e0 : hdt h1 0 = hdt h 0 := ho.2.2 0 (fun q => by rcases q with q | q | q | q | q <;> omega)
  refine ⟨by rw [e0]; exact u1, p, u2, by rw [e0]; exact u3, fun i hi => (u4 i hi).out ho (fun q => ?_) (fun q => ?_)⟩
  · unfold undA at q
    rcases q with q | q | q | q | q <;> omega
  · unfold undA at q
    rcases q with q | q | q | q | q <;> omega
theorem CqC.go {h h1 : AH} {w : WD} {S : Nat} {I C : Nat → Nat} {a : S3} (hF : FxA h) (hC : CmC h w S I C) (ho : OutA (sD 6 S) h h1) (hw : WSL h1 6 S (wS w) a) : CqC h h1 (setAU w a (wU w)) S I C := by
  have hS := hC.1.2.2.2.2.1
  have e0 : hdt h1 0 = hdt h 0 := ho.2.2 0 (fun q => by rcases q with q | q | q | q | q <;> omega)
  exact CqC.deed hC hF (hF.d ho hS (by decide) hw.1.1.1) ho.2.1 ho.1 (fun b _ b2 b3 b4 => ho.2.2 b (fun q => by rcases q with q | q | q | q | q <;> omega)) (fun j _ => by rw [e0]) hw.1.1 (hC.2.2.2.1.out ho hS)
theorem pushU_len (us : List S3) (a : S3) (h : us.length ≤ 10) : (pushU us a).length = min 10 (us.length + 1) := by
  unfold pushU
  split
  · rw [List.length_append, List.length_drop, List.length_singleton]; omega
  · rw [List.length_append, List.length_singleton]; omega
theorem pushU_at (us : List S3) (a : S3) {i : Nat} (h : us.length ≤ 10) (hi : i < (pushU us a).length) : (pushU us a).getD i dS3 = if i + 1 = (pushU us a).length then a else if us.length = 10 then us.getD (i + 1) dS3 else us.getD i dS3 := by
  have hl := pushU_len us a h
  rw [hl] at hi ⊢
  unfold pushU
  by_cases q : us.length = 10
  · rw [if_pos q, if_pos q]
    simp only [List.getD_eq_getElem?_getD]
    by_cases e : i + 1 = min 10 (us.length + 1)
    · rw [if_pos e, List.getElem?_append_right (by rw [List.length_drop]; omega), List.length_drop, show i - (us.length - 1) = 0 by omega]
      rfl
    · rw [if_neg e, List.getElem?_append_left (by rw [List.length_drop]; omega), List.getElem?_drop, Nat.add_comm]
  · rw [if_neg q, if_neg q]
    simp only [List.getD_eq_getElem?_getD]
    by_cases e : i + 1 = min 10 (us.length + 1)
    · rw [if_pos e, List.getElem?_append_right (by omega), show i - us.length = 0 by omega]
      rfl
    · rw [if_neg e, List.getElem?_append_left (by omega)]
section
variable {G : GT} {h : AH} {w : WD} {N : Int} {S : Nat} {I C : Nat → Nat}
theorem c_X0_remembers (hF : FxA h) (hC : CmC h w S I C) (hU : (wU w).length ≤ 10) :
    CnA G mX0_remembers 3 0 0 [.inr (.inr (0))] h (fun v h1 => v = none ∧ CqC h h1 (setAU w (wA w) (pushU (wU w) (wA w))) S I C ∧ nC h1 = nC h ∧ nS h1 = nS h) := by
  have hS := hC.1.2.2.2.2.1
  obtain ⟨u1, p, u2, u3, u4⟩ := hC.2.2.2.1
  obtain ⟨r15, hst⟩ := rF_15 p u2
  have e15 := hF.r r15
  have hk := hF.stk hst
  have h6 := hC.2.2.1
  have hbe := c_X2_be (G := G) hk h6 (by omega)
  have em : ((p : Int) + 1).tmod 10 = (((p + 1) % 10 : Nat) : Int) := by
    have := tmod_nn (a := p + 1) (b := 10)
    rw [← this]
    rfl
  refine CnA.of rfl (Nat.le_of_ble_eq_true rfl) ?_
  simp only [largs, lpad, mr_X0_remembers]
  refine vsA_ok tk_X0_remembers rfl 8 ?_
  simp only [at_X0_remembers, mr_X0_remembers, vsA, vcA, denA, lget, lset, lst1, lst2, lclr, argsA, restA, acats, acat, tcA, tcN, rzA, lle, List.length_cons, List.length_nil, Option.toList_some, Option.toList_none, List.cons_append, List.nil_append, eG, eM, eD, eC, eS, eQ, eH, if_true, if_false, Nat.reduceAdd, Nat.reduceLeDiff, Nat.reduceEqDiff, Nat.reduceLT, Nat.reduceSub, Int.reduceEq, Int.reduceLE, Int.reduceToNat, reduceCtorEq, reduceIte, Nat.reduceBEq, Int.reduceNeg, not_true, not_false_iff, true_and, and_true, true_or, or_true, false_or, or_false, forall_const, implies_true, Nat.le_refl, Int.toNat_natCast, Int.reduceLT, ne_eq, Fin.isValue, Nat.add_zero, nC_hrw, nS_hrw, nC_hwr, nS_hwr, hkd_hrw, hkd_hwr, fin4_0, fin4_1, fin4_2, fin4_3, fin2_0, fin2_1, ci0, ci1, cnn, false_implies, w32_eq, w64_eq, hF.s, u3, e15, hk.1]
  try simp (disch := omega) only [yc_lt, yc_le, yc_gt, yc_ge, yc_eq, w32_eq, w64_eq, tn_add, tn_mul, Int.toNat_natCast, Int.reduceToNat, not_true, not_false_iff, false_implies, forall_const, implies_true]
  repeat' (with_reducible first | apply And.intro | intro _)
  all_goals try omega
  all_goals try simp (disch := omega) only [w32_eq, w64_eq, tn_add, tn_mul, Int.toNat_natCast, Int.reduceToNat, Option.some.injEq, Sum.inr.injEq, Sum.inl.injEq]
  all_goals try omega
  refine ClA.of (hbe) (by first | exact Nat.le_of_ble_eq_true rfl | (simp only [eD]; omega)) (by first | exact Nat.le_refl _ | (simp only [eG, eD, eC, eS, eQ, eH, nC_hrw, nC_hwr, nS_hrw, nS_hwr, nC_hnw, nS_hnw]; omega)) (by first | exact Nat.le_refl _ | (simp only [eG, eD, eC, eS, eQ, eH, nC_hrw, nC_hwr, nS_hrw, nS_hwr, nC_hnw, nS_hnw]; omega)) ?_
  rintro _ h1 ⟨rfl, hs1, ho⟩ hn1 hn2
  have hoD : OutA (sD (16 + 4 * p) S) h h1 := ho.mono fun b q => by
    rcases q with q | q
    · exact Or.inl q
    · exact Or.inr (Or.inl q)
  have hF1 := hF.d hoD hS hst hs1.1
  have e0 : hdt h1 0 = hdt h 0 := ho.2.2 0 (by omega)
  have h8 : hdt h1 0 8 = ((wU w).length : Int) := by rw [e0]; exact u1
  have h9 : hdt h1 0 9 = (p : Int) := by rw [e0]; exact u3
  have hF2 : ∀ v, FxA (hwr h1 0 9 v) := fun v => hF1.hwr (by decide +kernel) v
  have h82 : ∀ v, hdt (hwr h1 0 9 v) 0 8 = ((wU w).length : Int) := fun v => by rw [hdt_hwr, if_pos rfl, fup_n _ _ (by decide)]; exact h8
  have hF3 : FxA (hwr (hwr h1 0 9 (((p + 1) % 10 : Nat) : Int)) 0 8 ((min 10 ((wU w).length + 1) : Nat) : Int)) := (hF2 _).hwr (by decide +kernel) _
  have hlen := pushU_len (wU w) (wA w) hU
  have hat := fun i hi => pushU_at (wU w) (wA w) (i := i) hU hi
  have n2 : ∀ b, b ≠ 0 → hdt (hwr (hwr h1 0 9 (((p + 1) % 10 : Nat) : Int)) 0 8 ((min 10 ((wU w).length + 1) : Nat) : Int)) b = hdt h1 b := fun b hb => by rw [hdt_hwr, if_neg hb, hdt_hwr, if_neg hb]
  have hss : ∀ a tbl n m, StC h1 a tbl n m → 6 ≤ a → StC (hwr (hwr h1 0 9 (((p + 1) % 10 : Nat) : Int)) 0 8 ((min 10 ((wU w).length + 1) : Nat) : Int)) a tbl n m := fun a tbl n m hs ha => hs.keep rfl rfl rfl rfl (n2 _ (by omega)) (n2 _ (by omega))
  have hfin : CqC h (hwr (hwr h1 0 9 (((p + 1) % 10 : Nat) : Int)) 0 8 ((min 10 ((wU w).length + 1) : Nat) : Int)) (setAU w (wA w) (pushU (wU w) (wA w))) S I C := by
    refine CqC.deed hC hF hF3 ho.2.1 ho.1 (fun b b1 b2 b3 b4 => ?_) (fun j hj => ?_) ?_ ⟨?_, (p + 1) % 10, by omega, ?_, fun i hi => ?_⟩
    · rw [n2 b b1]
      exact ho.2.2 b (by omega)
    · simp only [List.mem_cons, List.not_mem_nil, or_false] at hj
      rw [hdt_hwr, if_pos rfl, fup_n _ _ (by omega), hdt_hwr, if_pos rfl, fup_n _ _ (by omega), e0]
    · exact hss _ _ _ _ (h6.out ho (by omega) (by omega)) (by omega)
    · rw [hdt_hwr, if_pos rfl, fup_s, hlen]
    · rw [hdt_hwr, if_pos rfl, fup_n _ _ (by decide), hdt_hwr, if_pos rfl, fup_s]
    · rw [hat i hi]
      rw [hlen] at hi ⊢
      by_cases q1 : i + 1 = min 10 ((wU w).length + 1)
      · rw [if_pos q1, show undA ((p + 1) % 10) (min 10 ((wU w).length + 1)) i = 16 + 4 * p by unfold undA; omega]
        exact hss _ _ _ _ hs1 (by omega)
      · rw [if_neg q1]
        by_cases q2 : (wU w).length = 10
        · rw [if_pos q2, show undA ((p + 1) % 10) (min 10 ((wU w).length + 1)) i = undA p (wU w).length (i + 1) by unfold undA; omega]
          have := u4 (i + 1) (by omega)
          refine hss _ _ _ _ (this.out ho ?_ ?_) (by unfold undA; omega)
          · unfold undA; omega
          · unfold undA; omega
        · rw [if_neg q2, show undA ((p + 1) % 10) (min 10 ((wU w).length + 1)) i = undA p (wU w).length i by unfold undA; omega]
          have := u4 i (by omega)
          refine hss _ _ _ _ (this.out ho ?_ ?_) (by unfold undA; omega)
          · unfold undA; omega
          · unfold undA; omega
  have hmin := c_J2_minI (G := G) (h := hwr h1 0 9 (((p + 1) % 10 : Nat) : Int)) 10 (((wU w).length : Int) + 1) ⟨by decide, by decide⟩ ⟨by omega, by omega⟩
  rw [show min (10 : Int) (((wU w).length : Int) + 1) = ((min 10 ((wU w).length + 1) : Nat) : Int) by omega] at hmin
  have hcc : nC h1 = nC h := hn1
  have hcs : nS h1 = nS h := hn2
  refine vsA_ok tk_X0_remembers rfl 6 ?_
  simp only [at_X0_remembers, mr_X0_remembers, vsA, vcA, denA, lget, lset, lst1, lst2, lclr, argsA, restA, acats, acat, tcA, tcN, rzA, lle, List.length_cons, List.length_nil, Option.toList_some, Option.toList_none, List.cons_append, List.nil_append, eG, eM, eD, eC, eS, eQ, eH, if_true, if_false, Nat.reduceAdd, Nat.reduceLeDiff, Nat.reduceEqDiff, Nat.reduceLT, Nat.reduceSub, Int.reduceEq, Int.reduceLE, Int.reduceToNat, reduceCtorEq, reduceIte, Nat.reduceBEq, Int.reduceNeg, not_true, not_false_iff, true_and, and_true, true_or, or_true, false_or, or_false, forall_const, implies_true, Nat.le_refl, Int.toNat_natCast, Int.reduceLT, ne_eq, Fin.isValue, Nat.add_zero, nC_hrw, nS_hrw, nC_hwr, nS_hwr, hkd_hrw, hkd_hwr, fin4_0, fin4_1, fin4_2, fin4_3, fin2_0, fin2_1, ci0, ci1, cnn, false_implies, w32_eq, w64_eq, hF1.s.1.1, h9]
  try simp (disch := omega) only [yc_lt, yc_le, yc_gt, yc_ge, yc_eq, w32_eq, w64_eq, tn_add, tn_mul, Int.toNat_natCast, Int.reduceToNat, not_true, not_false_iff, false_implies, forall_const, implies_true]
  repeat' (with_reducible first | apply And.intro | intro _)
  all_goals try omega
  all_goals try simp (disch := omega) only [w32_eq, w64_eq, tn_add, tn_mul, Int.toNat_natCast, Int.reduceToNat, Option.some.injEq, Sum.inr.injEq, Sum.inl.injEq]
  all_goals try omega
  refine vsA_ok tk_X0_remembers rfl 0 ?_
  simp only [at_X0_remembers, mr_X0_remembers, vsA, vcA, denA, lget, lset, lst1, lst2, lclr, argsA, restA, acats, acat, tcA, tcN, rzA, lle, List.length_cons, List.length_nil, Option.toList_some, Option.toList_none, List.cons_append, List.nil_append, eG, eM, eD, eC, eS, eQ, eH, if_true, if_false, Nat.reduceAdd, Nat.reduceLeDiff, Nat.reduceEqDiff, Nat.reduceLT, Nat.reduceSub, Int.reduceEq, Int.reduceLE, Int.reduceToNat, reduceCtorEq, reduceIte, Nat.reduceBEq, Int.reduceNeg, not_true, not_false_iff, true_and, and_true, true_or, or_true, false_or, or_false, forall_const, implies_true, Nat.le_refl, Int.toNat_natCast, Int.reduceLT, ne_eq, Fin.isValue, Nat.add_zero, nC_hrw, nS_hrw, nC_hwr, nS_hwr, hkd_hrw, hkd_hwr, fin4_0, fin4_1, fin4_2, fin4_3, fin2_0, fin2_1, ci0, ci1, cnn, false_implies, w32_eq, w64_eq]
  try simp (disch := omega) only [yc_lt, yc_le, yc_gt, yc_ge, yc_eq, w32_eq, w64_eq, tn_add, tn_mul, Int.toNat_natCast, Int.reduceToNat, not_true, not_false_iff, false_implies, forall_const, implies_true, em]
  repeat' (with_reducible first | apply And.intro | intro _)
  all_goals try omega
  all_goals try simp (disch := omega) only [w32_eq, w64_eq, tn_add, tn_mul, Int.toNat_natCast, Int.reduceToNat, Option.some.injEq, Sum.inr.injEq, Sum.inl.injEq, em]
  all_goals try omega
  refine vsA_ok tk_X0_remembers rfl 8 ?_
  simp only [at_X0_remembers, mr_X0_remembers, vsA, vcA, denA, lget, lset, lst1, lst2, lclr, argsA, restA, acats, acat, tcA, tcN, rzA, lle, List.length_cons, List.length_nil, Option.toList_some, Option.toList_none, List.cons_append, List.nil_append, eG, eM, eD, eC, eS, eQ, eH, if_true, if_false, Nat.reduceAdd, Nat.reduceLeDiff, Nat.reduceEqDiff, Nat.reduceLT, Nat.reduceSub, Int.reduceEq, Int.reduceLE, Int.reduceToNat, reduceCtorEq, reduceIte, Nat.reduceBEq, Int.reduceNeg, not_true, not_false_iff, true_and, and_true, true_or, or_true, false_or, or_false, forall_const, implies_true, Nat.le_refl, Int.toNat_natCast, Int.reduceLT, ne_eq, Fin.isValue, Nat.add_zero, nC_hrw, nS_hrw, nC_hwr, nS_hwr, hkd_hrw, hkd_hwr, fin4_0, fin4_1, fin4_2, fin4_3, fin2_0, fin2_1, ci0, ci1, cnn, false_implies, w32_eq, w64_eq, hF1.s.1.1, (hF2 (((p + 1) % 10 : Nat) : Int)).s.1.1, h82]
  try simp (disch := omega) only [yc_lt, yc_le, yc_gt, yc_ge, yc_eq, w32_eq, w64_eq, tn_add, tn_mul, Int.toNat_natCast, Int.reduceToNat, not_true, not_false_iff, false_implies, forall_const, implies_true]
  repeat' (with_reducible first | apply And.intro | intro _)
  all_goals try omega
  all_goals try simp (disch := omega) only [w32_eq, w64_eq, tn_add, tn_mul, Int.toNat_natCast, Int.reduceToNat, Option.some.injEq, Sum.inr.injEq, Sum.inl.injEq]
  all_goals try omega
  refine ClA.pure (hmin) (by first | exact Nat.le_of_ble_eq_true rfl | (simp only [eD]; omega)) (by first | exact Nat.le_refl _ | (simp only [eG, eD, eC, eS, eQ, eH, nC_hrw, nC_hwr, nS_hrw, nS_hwr, nC_hnw, nS_hnw]; omega)) (by first | exact Nat.le_refl _ | (simp only [eG, eD, eC, eS, eQ, eH, nC_hrw, nC_hwr, nS_hrw, nS_hwr, nC_hnw, nS_hnw]; omega)) ?_
  refine vsA_ok tk_X0_remembers rfl 3 ?_
  simp only [at_X0_remembers, mr_X0_remembers, vsA, vcA, denA, lget, lset, lst1, lst2, lclr, argsA, restA, acats, acat, tcA, tcN, rzA, lle, List.length_cons, List.length_nil, Option.toList_some, Option.toList_none, List.cons_append, List.nil_append, eG, eM, eD, eC, eS, eQ, eH, if_true, if_false, Nat.reduceAdd, Nat.reduceLeDiff, Nat.reduceEqDiff, Nat.reduceLT, Nat.reduceSub, Int.reduceEq, Int.reduceLE, Int.reduceToNat, reduceCtorEq, reduceIte, Nat.reduceBEq, Int.reduceNeg, not_true, not_false_iff, true_and, and_true, true_or, or_true, false_or, or_false, forall_const, implies_true, Nat.le_refl, Int.toNat_natCast, Int.reduceLT, ne_eq, Fin.isValue, Nat.add_zero, nC_hrw, nS_hrw, nC_hwr, nS_hwr, hkd_hrw, hkd_hwr, fin4_0, fin4_1, fin4_2, fin4_3, fin2_0, fin2_1, ci0, ci1, cnn, false_implies, w32_eq, w64_eq, (hF2 (((p + 1) % 10 : Nat) : Int)).s.1.1, hcc, hcs]
  try simp (disch := omega) only [yc_lt, yc_le, yc_gt, yc_ge, yc_eq, w32_eq, w64_eq, tn_add, tn_mul, Int.toNat_natCast, Int.reduceToNat, not_true, not_false_iff, false_implies, forall_const, implies_true]
  repeat' (with_reducible first | apply And.intro | intro _)
  all_goals try omega
  all_goals try simp (disch := omega) only [w32_eq, w64_eq, tn_add, tn_mul, Int.toNat_natCast, Int.reduceToNat, Option.some.injEq, Sum.inr.injEq, Sum.inl.injEq]
  all_goals try omega
  all_goals first | exact hfin | exact hcc | exact hcs
end
