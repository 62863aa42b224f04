/-! THE REFERENCE: the place of the k-th of a letter -/
set_option maxRecDepth 100000
/-- the K-th x of a row lies at p -/
def isNth (W : List Nat) (x K p : Nat) : Prop := p < W.length ∧ W.getD p 0 = x ∧ (W.take p).count x + 1 = K
theorem cnt_take_lt {W : List Nat} {x p q : Nat} (hp : p < W.length) (hx : W.getD p 0 = x) (hpq : p < q) : (W.take p).count x < (W.take q).count x := by
  have e : W.take q = W.take p ++ ((W.drop p).take (q - p)) := by
    rw [← List.take_add, show p + (q - p) = q by omega]
  rw [e, List.count_append, drop_cons hp, show q - p = (q - p - 1) + 1 by omega, List.take_succ_cons, hx, List.count_cons_self]
  omega
theorem isNth.un {W : List Nat} {x K p q : Nat} (h1 : isNth W x K p) (h2 : isNth W x K q) : p = q := by
  obtain ⟨a1, a2, a3⟩ := h1
  obtain ⟨b1, b2, b3⟩ := h2
  rcases Nat.lt_trichotomy p q with h | h | h
  · have := cnt_take_lt a1 a2 h
    omega
  · exact h
  · have := cnt_take_lt b1 b2 h
    omega
def plcOK (W : List Nat) (c k z : Int) : Prop := if 0 ≤ c ∧ c ≤ 5 then if k < 1 then z = -3 else if (W.count c.toNat : Int) < k then z = -1 else ∃ p : Nat, z = p ∧ isNth W c.toNat k.toNat p else z = -2
theorem plcOK.un {W : List Nat} {c k y z : Int} (h1 : plcOK W c k y) (h2 : plcOK W c k z) : y = z := by
  unfold plcOK at h1 h2
  by_cases q : 0 ≤ c ∧ c ≤ 5
  · rw [if_pos q] at h1 h2
    by_cases q1 : k < 1
    · rw [if_pos q1] at h1 h2
      omega
    · rw [if_neg q1] at h1 h2
      by_cases q2 : (W.count c.toNat : Int) < k
      · rw [if_pos q2] at h1 h2
        omega
      · rw [if_neg q2] at h1 h2
        obtain ⟨p, rfl, hp⟩ := h1
        obtain ⟨p2, rfl, hp2⟩ := h2
        rw [hp.un hp2]
  · rw [if_neg q] at h1 h2
    omega
theorem fm_nth (F : Nat → List Nat) (l : List Nat) {i left p x : Nat} (hi : i < l.length) (h : isNth (F (l.getD i 0)) x left p) : isNth (l.flatMap F) x ((((l.take i).map fun d => (F d).count x).sum) + left) ((((l.take i).map fun d => (F d).length).sum) + p) := by
  obtain ⟨h1, h2, h3⟩ := h
  have hlen := fm_len F l (i := i + 1) (by omega)
  rw [take_sum (fun d => (F d).length) _ hi] at hlen
  refine ⟨by omega, ?_, ?_⟩
  · rw [fm_at F l hi h1]; exact h2
  · rw [fm_take F l hi (Nat.le_of_lt h1), List.count_append, cnt_fm]
    omega
/-- where the walk down the nights to the K-th x stands -/
def InvP (bec : Nat → Nat → List Nat) (std tbl : List Nat) (x K k c left its : Nat) : Prop :=
  (k = 0 ∨ c < 6) ∧ (1 ≤ left ∧ left ≤ (curW bec std tbl k c).count x) ∧ its + (curW bec std tbl k c).length ≤ (wrd bec std tbl).length ∧ ∀ p, isNth (curW bec std tbl k c) x left p → isNth (wrd bec std tbl) x K (its + p)
theorem InvP.next {bec : Nat → Nat → List Nat} {std tbl : List Nat} {x K k c left its : Nat} (hI : InvP bec std tbl x K k c left its) (hk : k ≤ tbl.length) (hd6 : ∀ d ∈ rowL bec std tbl k c, d < 6) {i left2 its2 : Nat} (hi : i < (rowL bec std tbl k c).length)
    (hs : (((rowL bec std tbl k c).take i).map fun d => (exl bec (tbl.drop k) d).count x).sum + left2 = left) (hl : 1 ≤ left2 ∧ left2 ≤ (exl bec (tbl.drop k) ((rowL bec std tbl k c).getD i 0)).count x)
    (hz : its2 = its + (((rowL bec std tbl k c).take i).map fun d => (exl bec (tbl.drop k) d).length).sum) : InvP bec std tbl x K (k + 1) ((rowL bec std tbl k c).getD i 0) left2 its2 := by
  obtain ⟨h1, h2, h3, h4⟩ := hI
  rw [curW_row bec std hk] at h2 h3 h4
  have hlen := fm_len (exl bec (tbl.drop k)) (rowL bec std tbl k c) (i := i + 1) (by omega)
  rw [take_sum (fun d => (exl bec (tbl.drop k) d).length) _ hi] at hlen
  refine ⟨Or.inr (hd6 _ (getD_mem hi)), ?_, ?_, fun p hp => ?_⟩
  · rw [curW_succ]; exact hl
  · rw [curW_succ]; omega
  · rw [curW_succ] at hp
    have := fm_nth (exl bec (tbl.drop k)) (rowL bec std tbl k c) hi hp
    rw [hs] at this
    have := h4 _ this
    rw [← Nat.add_assoc, ← hz] at this
    exact this
theorem InvP.lt {bec : Nat → Nat → List Nat} {std tbl : List Nat} {x K k c left its : Nat} (hI : InvP bec std tbl x K k c left its) (hk : k ≤ tbl.length) {i left2 : Nat} (hi : i ≤ (rowL bec std tbl k c).length)
    (hs : (((rowL bec std tbl k c).take i).map fun d => (exl bec (tbl.drop k) d).count x).sum + left2 = left) (hl : 1 ≤ left2) : i < (rowL bec std tbl k c).length := by
  obtain ⟨h1, h2, h3, h4⟩ := hI
  rw [curW_row bec std hk, cnt_fm] at h2
  rcases Nat.lt_or_ge i (rowL bec std tbl k c).length with q | q
  · exact q
  · rw [List.take_of_length_le q] at hs
    omega
section
variable {G : GT} {h : AH} {w : WD} {N : Int}
theorem c_X5_place (hF : FxA h) (hM : MdC h w) (hW : WOK N w) (c k : Int) (hc : In32 c) (hk : In64 k) :
    CnA G mX5_place 6 0 0 [.inr (.inr (124)), .inl (c), .inr (.inl (k))] h (fun r h1 => ∃ z, r = some (.inr (.inl (z))) ∧ plcOK (wrdS (wS w) (wA w)) c k z ∧ MpC h h1 w) := by
  obtain ⟨x0, hF0, hM0⟩ := thr_0 hF hM
  have hfin : MpC h (hwr h 124 0 0) w := MpC.scr hF hM x0 (by decide) (by decide)
  obtain ⟨hc1, hc2⟩ := hc
  obtain ⟨hk1, hk2⟩ := hk
  have hA : AllC (hdt (hwr h 124 0 0) 125) (sT (wS w)) (sB (wS w)) (sS (wS w)) (wA w).1 (wA w).2.1 (wA w).2.2 := hM0.1.1.1
  have hL : (wrd (sB (wS w)) (sS (wS w)) (wA w).1).length ≤ 1000000000000 := hW.2.1.2.2.2.2
  unfold wrdS
  generalize sB (wS w) = bec at *
  generalize sS (wS w) = std at *
  generalize (wA w).1 = tbl at *
  by_cases qc : 0 ≤ c ∧ c ≤ 5
  · obtain ⟨x, rfl⟩ : ∃ m : Nat, c = m := ⟨c.toNat, by omega⟩
    by_cases qk : k < 1
    · have hp : plcOK (wrd bec std tbl) x k (-3) := by unfold plcOK; rw [if_pos qc, if_pos qk]
      refine CnA.of rfl (Nat.le_of_ble_eq_true rfl) ?_
      simp only [largs, lpad, mr_X5_place]
      refine vsA_ok tk_X5_place rfl 20 ?_
      simp only [at_X5_place, mr_X5_place, vsA, vcA, denA, lget, lset, lst1, lst2, lclr, argsA, restA, acats, acat, tcA, tcN, rzA, lle, List.length_cons, List.length_nil, Option.toList_some, Option.toList_none, List.cons_append, List.nil_append, eG, eM, eD, eC, eS, eQ, eH, if_true, if_false, Nat.reduceAdd, Nat.reduceLeDiff, Nat.reduceEqDiff, Nat.reduceLT, Nat.reduceSub, Int.reduceEq, Int.reduceLE, Int.reduceToNat, reduceCtorEq, reduceIte, Nat.reduceBEq, Int.reduceNeg, not_true, not_false_iff, true_and, and_true, true_or, or_true, false_or, or_false, forall_const, implies_true, Nat.le_refl, Int.toNat_natCast, Int.reduceLT, ne_eq, Fin.isValue, Nat.add_zero, nC_hrw, nS_hrw, nC_hwr, nS_hwr, hkd_hrw, hkd_hwr, fin4_0, fin4_1, fin4_2, fin4_3, fin2_0, fin2_1, ci0, ci1, cnn, false_implies, w32_eq, w64_eq, hF.m, hF0.m]
      try simp (disch := omega) only [yc_lt, yc_le, yc_gt, yc_ge, yc_eq, w32_eq, w64_eq, tn_add, tn_mul, Int.toNat_natCast, Int.reduceToNat, not_true, not_false_iff, false_implies, forall_const, implies_true]
      repeat' (with_reducible first | apply And.intro | intro _)
      all_goals try omega
      all_goals try simp (disch := omega) only [w32_eq, w64_eq, tn_add, tn_mul, Int.toNat_natCast, Int.reduceToNat, Option.some.injEq, Sum.inr.injEq, Sum.inl.injEq]
      all_goals try omega
      refine ClA.pure (c_X5_isLetter (x : Int) _ (by omega) (by omega)) (by first | exact Nat.le_of_ble_eq_true rfl | (simp only [eD]; omega)) (by first | exact Nat.le_refl _ | (simp only [eG, eD, eC, eS, eQ, eH, nC_hrw, nC_hwr, nS_hrw, nS_hwr, nC_hnw, nS_hnw]; omega)) (by first | exact Nat.le_refl _ | (simp only [eG, eD, eC, eS, eQ, eH, nC_hrw, nC_hwr, nS_hrw, nS_hwr, nC_hnw, nS_hnw]; omega)) ?_
      rw [if_pos qc]
      refine vsA_ok tk_X5_place rfl 20 ?_
      simp only [at_X5_place, mr_X5_place, vsA, vcA, denA, lget, lset, lst1, lst2, lclr, argsA, restA, acats, acat, tcA, tcN, rzA, lle, List.length_cons, List.length_nil, Option.toList_some, Option.toList_none, List.cons_append, List.nil_append, eG, eM, eD, eC, eS, eQ, eH, if_true, if_false, Nat.reduceAdd, Nat.reduceLeDiff, Nat.reduceEqDiff, Nat.reduceLT, Nat.reduceSub, Int.reduceEq, Int.reduceLE, Int.reduceToNat, reduceCtorEq, reduceIte, Nat.reduceBEq, Int.reduceNeg, not_true, not_false_iff, true_and, and_true, true_or, or_true, false_or, or_false, forall_const, implies_true, Nat.le_refl, Int.toNat_natCast, Int.reduceLT, ne_eq, Fin.isValue, Nat.add_zero, nC_hrw, nS_hrw, nC_hwr, nS_hwr, hkd_hrw, hkd_hwr, fin4_0, fin4_1, fin4_2, fin4_3, fin2_0, fin2_1, ci0, ci1, cnn, false_implies, w32_eq, w64_eq]
      try simp (disch := omega) only [yc_lt, yc_le, yc_gt, yc_ge, yc_eq, w32_eq, w64_eq, tn_add, tn_mul, Int.toNat_natCast, Int.reduceToNat, not_true, not_false_iff, false_implies, forall_const, implies_true]
      repeat' (with_reducible first | apply And.intro | intro _)
      all_goals try omega
      all_goals try simp (disch := omega) only [w32_eq, w64_eq, tn_add, tn_mul, Int.toNat_natCast, Int.reduceToNat, Option.some.injEq, Sum.inr.injEq, Sum.inl.injEq]
      all_goals try omega
      all_goals exact ⟨_, rfl, hp, hfin⟩
    · obtain ⟨K, rfl⟩ : ∃ m : Nat, k = m := ⟨k.toNat, by omega⟩
      refine CnA.of rfl (Nat.le_of_ble_eq_true rfl) ?_
      simp only [largs, lpad, mr_X5_place]
      refine vsA_ok tk_X5_place rfl 20 ?_
      simp only [at_X5_place, mr_X5_place, vsA, vcA, denA, lget, lset, lst1, lst2, lclr, argsA, restA, acats, acat, tcA, tcN, rzA, lle, List.length_cons, List.length_nil, Option.toList_some, Option.toList_none, List.cons_append, List.nil_append, eG, eM, eD, eC, eS, eQ, eH, if_true, if_false, Nat.reduceAdd, Nat.reduceLeDiff, Nat.reduceEqDiff, Nat.reduceLT, Nat.reduceSub, Int.reduceEq, Int.reduceLE, Int.reduceToNat, reduceCtorEq, reduceIte, Nat.reduceBEq, Int.reduceNeg, not_true, not_false_iff, true_and, and_true, true_or, or_true, false_or, or_false, forall_const, implies_true, Nat.le_refl, Int.toNat_natCast, Int.reduceLT, ne_eq, Fin.isValue, Nat.add_zero, nC_hrw, nS_hrw, nC_hwr, nS_hwr, hkd_hrw, hkd_hwr, fin4_0, fin4_1, fin4_2, fin4_3, fin2_0, fin2_1, ci0, ci1, cnn, false_implies, w32_eq, w64_eq, hF.m, hF0.m]
      try simp (disch := omega) only [yc_lt, yc_le, yc_gt, yc_ge, yc_eq, w32_eq, w64_eq, tn_add, tn_mul, Int.toNat_natCast, Int.reduceToNat, not_true, not_false_iff, false_implies, forall_const, implies_true]
      repeat' (with_reducible first | apply And.intro | intro _)
      all_goals try omega
      all_goals try simp (disch := omega) only [w32_eq, w64_eq, tn_add, tn_mul, Int.toNat_natCast, Int.reduceToNat, Option.some.injEq, Sum.inr.injEq, Sum.inl.injEq]
      all_goals try omega
      refine ClA.pure (c_X5_isLetter (x : Int) _ (by omega) (by omega)) (by first | exact Nat.le_of_ble_eq_true rfl | (simp only [eD]; omega)) (by first | exact Nat.le_refl _ | (simp only [eG, eD, eC, eS, eQ, eH, nC_hrw, nC_hwr, nS_hrw, nS_hwr, nC_hnw, nS_hnw]; omega)) (by first | exact Nat.le_refl _ | (simp only [eG, eD, eC, eS, eQ, eH, nC_hrw, nC_hwr, nS_hrw, nS_hwr, nC_hnw, nS_hnw]; omega)) ?_
      rw [if_pos qc]
      refine vsA_ok tk_X5_place rfl 20 ?_
      simp only [at_X5_place, mr_X5_place, vsA, vcA, denA, lget, lset, lst1, lst2, lclr, argsA, restA, acats, acat, tcA, tcN, rzA, lle, List.length_cons, List.length_nil, Option.toList_some, Option.toList_none, List.cons_append, List.nil_append, eG, eM, eD, eC, eS, eQ, eH, if_true, if_false, Nat.reduceAdd, Nat.reduceLeDiff, Nat.reduceEqDiff, Nat.reduceLT, Nat.reduceSub, Int.reduceEq, Int.reduceLE, Int.reduceToNat, reduceCtorEq, reduceIte, Nat.reduceBEq, Int.reduceNeg, not_true, not_false_iff, true_and, and_true, true_or, or_true, false_or, or_false, forall_const, implies_true, Nat.le_refl, Int.toNat_natCast, Int.reduceLT, ne_eq, Fin.isValue, Nat.add_zero, nC_hrw, nS_hrw, nC_hwr, nS_hwr, hkd_hrw, hkd_hwr, fin4_0, fin4_1, fin4_2, fin4_3, fin2_0, fin2_1, ci0, ci1, cnn, false_implies, w32_eq, w64_eq, hF0.m]
      try simp (disch := omega) only [yc_lt, yc_le, yc_gt, yc_ge, yc_eq, w32_eq, w64_eq, tn_add, tn_mul, Int.toNat_natCast, Int.reduceToNat, not_true, not_false_iff, false_implies, forall_const, implies_true]
      repeat' (with_reducible first | apply And.intro | intro _)
      all_goals try omega
      all_goals try simp (disch := omega) only [w32_eq, w64_eq, tn_add, tn_mul, Int.toNat_natCast, Int.reduceToNat, Option.some.injEq, Sum.inr.injEq, Sum.inl.injEq]
      all_goals try omega
      refine ClA.of (c_X5_laysLong hF0 hA) (by first | exact Nat.le_of_ble_eq_true rfl | (simp only [eD]; omega)) (by first | exact Nat.le_refl _ | (simp only [eG, eD, eC, eS, eQ, eH, nC_hrw, nC_hwr, nS_hrw, nS_hwr, nC_hnw, nS_hnw]; omega)) (by first | exact Nat.le_refl _ | (simp only [eG, eD, eC, eS, eQ, eH, nC_hrw, nC_hwr, nS_hrw, nS_hwr, nC_hnw, nS_hnw]; omega)) ?_
      rintro _ h1 ⟨rfl, f, rfl, hf⟩ - -
      have hx1 : FrM [130] [0] h (hrw (hwr h 124 0 0) 130 f) := (by repeat' (first | exact FrP.rf | assumption | refine FrM.wc ?_ (by decide) _ _ | refine FrM.wf ?_ (by decide) _ | refine FrM.rc ?_ (by decide) _))
      have hF1 := hF.frm hx1 (by decide +kernel)
      have eA1 : hdt (hrw (hwr h 124 0 0) 130 f) 125 = hdt (hwr h 124 0 0) 125 := hdt_hrw_n _ _ (by decide)
      have e130 : hdt (hrw (hwr h 124 0 0) 130 f) 130 = f := hdt_hrw_s _ _ _
      generalize hrw (hwr h 124 0 0) 130 f = h1 at *
      have c1 := hx1.2.1
      refine vsA_ok tk_X5_place rfl 20 ?_
      simp only [at_X5_place, mr_X5_place, vsA, vcA, denA, lget, lset, lst1, lst2, lclr, argsA, restA, acats, acat, tcA, tcN, rzA, lle, List.length_cons, List.length_nil, Option.toList_some, Option.toList_none, List.cons_append, List.nil_append, eG, eM, eD, eC, eS, eQ, eH, if_true, if_false, Nat.reduceAdd, Nat.reduceLeDiff, Nat.reduceEqDiff, Nat.reduceLT, Nat.reduceSub, Int.reduceEq, Int.reduceLE, Int.reduceToNat, reduceCtorEq, reduceIte, Nat.reduceBEq, Int.reduceNeg, not_true, not_false_iff, true_and, and_true, true_or, or_true, false_or, or_false, forall_const, implies_true, Nat.le_refl, Int.toNat_natCast, Int.reduceLT, ne_eq, Fin.isValue, Nat.add_zero, nC_hrw, nS_hrw, nC_hwr, nS_hwr, hkd_hrw, hkd_hwr, fin4_0, fin4_1, fin4_2, fin4_3, fin2_0, fin2_1, ci0, ci1, cnn, false_implies, w32_eq, w64_eq, hF1.m]
      try simp (disch := omega) only [yc_lt, yc_le, yc_gt, yc_ge, yc_eq, w32_eq, w64_eq, tn_add, tn_mul, Int.toNat_natCast, Int.reduceToNat, not_true, not_false_iff, false_implies, forall_const, implies_true]
      repeat' (with_reducible first | apply And.intro | intro _)
      all_goals try omega
      all_goals try simp (disch := omega) only [w32_eq, w64_eq, tn_add, tn_mul, Int.toNat_natCast, Int.reduceToNat, Option.some.injEq, Sum.inr.injEq, Sum.inl.injEq]
      all_goals try omega
      refine ClA.of (c_X5_laysOf hF1 (by rw [eA1]; exact hA) (x := x) (by omega)) (by first | exact Nat.le_of_ble_eq_true rfl | (simp only [eD]; omega)) (by first | exact Nat.le_refl _ | (simp only [eG, eD, eC, eS, eQ, eH, nC_hrw, nC_hwr, nS_hrw, nS_hwr, nC_hnw, nS_hnw]; omega)) (by first | exact Nat.le_refl _ | (simp only [eG, eD, eC, eS, eQ, eH, nC_hrw, nC_hwr, nS_hrw, nS_hwr, nC_hnw, nS_hnw]; omega)) ?_
      rintro _ h2 ⟨rfl, f2, rfl, hf2⟩ - -
      have hx2 : FrM [130, 131] [0] h (hrw h1 131 f2) := FrM.rc (FrM.up hx1 (by decide) (by decide)) (by decide) _
      have hF2 := hF.frm hx2 (by decide +kernel)
      have eA2 : hdt (hrw h1 131 f2) 125 = hdt (hwr h 124 0 0) 125 := (hdt_hrw_n _ _ (by decide)).trans eA1
      have e1302 : hdt (hrw h1 131 f2) 130 = f := (hdt_hrw_n _ _ (by decide)).trans e130
      have e131 : hdt (hrw h1 131 f2) 131 = f2 := hdt_hrw_s _ _ _
      generalize hrw h1 131 f2 = h2 at *
      have c2 := hx2.2.1
      have hfin2 : MpC h h2 w := MpC.scr hF hM hx2 (by decide) (by decide)
      have hA2 : AllC (hdt h2 125) (sT (wS w)) bec std tbl (wA w).2.1 (wA w).2.2 := by rw [eA2]; exact hA
      have hsz := hA2.sz
      have hq2 := hA2.q
      refine vsA_ok tk_X5_place rfl 20 ?_
      simp only [at_X5_place, mr_X5_place, vsA, vcA, denA, lget, lset, lst1, lst2, lclr, argsA, restA, acats, acat, tcA, tcN, rzA, lle, List.length_cons, List.length_nil, Option.toList_some, Option.toList_none, List.cons_append, List.nil_append, eG, eM, eD, eC, eS, eQ, eH, if_true, if_false, Nat.reduceAdd, Nat.reduceLeDiff, Nat.reduceEqDiff, Nat.reduceLT, Nat.reduceSub, Int.reduceEq, Int.reduceLE, Int.reduceToNat, reduceCtorEq, reduceIte, Nat.reduceBEq, Int.reduceNeg, not_true, not_false_iff, true_and, and_true, true_or, or_true, false_or, or_false, forall_const, implies_true, Nat.le_refl, Int.toNat_natCast, Int.reduceLT, ne_eq, Fin.isValue, Nat.add_zero, nC_hrw, nS_hrw, nC_hwr, nS_hwr, hkd_hrw, hkd_hwr, fin4_0, fin4_1, fin4_2, fin4_3, fin2_0, fin2_1, ci0, ci1, cnn, false_implies, w32_eq, w64_eq, hF2.m]
      try simp (disch := omega) only [yc_lt, yc_le, yc_gt, yc_ge, yc_eq, w32_eq, w64_eq, tn_add, tn_mul, Int.toNat_natCast, Int.reduceToNat, not_true, not_false_iff, false_implies, forall_const, implies_true]
      repeat' (with_reducible first | apply And.intro | intro _)
      all_goals try omega
      all_goals try simp (disch := omega) only [w32_eq, w64_eq, tn_add, tn_mul, Int.toNat_natCast, Int.reduceToNat, Option.some.injEq, Sum.inr.injEq, Sum.inl.injEq]
      all_goals try omega
      refine ClA.pure (c_X5_sumOf hF2 hA2 (Or.inr rfl) (w := swt endC bec (ctW x) tbl) (fun c hc => by rw [e131]; exact hf2.zero c hc)) (by first | exact Nat.le_of_ble_eq_true rfl | (simp only [eD]; omega)) (by first | exact Nat.le_refl _ | (simp only [eG, eD, eC, eS, eQ, eH, nC_hrw, nC_hwr, nS_hrw, nS_hwr, nC_hnw, nS_hnw]; omega)) (by first | exact Nat.le_refl _ | (simp only [eG, eD, eC, eS, eQ, eH, nC_hrw, nC_hwr, nS_hrw, nS_hwr, nC_hnw, nS_hnw]; omega)) ?_
      rw [row_cnt hL]
      have hcl : (wrd bec std tbl).count x ≤ 1000000000000 := Nat.le_trans List.count_le_length hL
      by_cases qn : (wrd bec std tbl).count x < K
      · have hp : plcOK (wrd bec std tbl) x K (-1) := by unfold plcOK; rw [if_pos qc, if_neg qk, if_pos (by show (((wrd bec std tbl).count x : Nat) : Int) < K; omega)]
        generalize (wrd bec std tbl).count x = cnt at *
        refine vsA_ok tk_X5_place rfl 20 ?_
        simp only [at_X5_place, mr_X5_place, vsA, vcA, denA, lget, lset, lst1, lst2, lclr, argsA, restA, acats, acat, tcA, tcN, rzA, lle, List.length_cons, List.length_nil, Option.toList_some, Option.toList_none, List.cons_append, List.nil_append, eG, eM, eD, eC, eS, eQ, eH, if_true, if_false, Nat.reduceAdd, Nat.reduceLeDiff, Nat.reduceEqDiff, Nat.reduceLT, Nat.reduceSub, Int.reduceEq, Int.reduceLE, Int.reduceToNat, reduceCtorEq, reduceIte, Nat.reduceBEq, Int.reduceNeg, not_true, not_false_iff, true_and, and_true, true_or, or_true, false_or, or_false, forall_const, implies_true, Nat.le_refl, Int.toNat_natCast, Int.reduceLT, ne_eq, Fin.isValue, Nat.add_zero, nC_hrw, nS_hrw, nC_hwr, nS_hwr, hkd_hrw, hkd_hwr, fin4_0, fin4_1, fin4_2, fin4_3, fin2_0, fin2_1, ci0, ci1, cnn, false_implies, w32_eq, w64_eq, c2]
        try simp (disch := omega) only [yc_lt, yc_le, yc_gt, yc_ge, yc_eq, w32_eq, w64_eq, tn_add, tn_mul, Int.toNat_natCast, Int.reduceToNat, not_true, not_false_iff, false_implies, forall_const, implies_true]
        repeat' (with_reducible first | apply And.intro | intro _)
        all_goals try omega
        all_goals try simp (disch := omega) only [w32_eq, w64_eq, tn_add, tn_mul, Int.toNat_natCast, Int.reduceToNat, Option.some.injEq, Sum.inr.injEq, Sum.inl.injEq]
        all_goals try omega
        all_goals exact ⟨_, rfl, hp, hfin2⟩
      · have hp : ∀ p : Nat, isNth (wrd bec std tbl) x K p → plcOK (wrd bec std tbl) x K p := fun p hp => by
          unfold plcOK
          rw [if_pos qc, if_neg qk, if_neg (by show ¬ (((wrd bec std tbl).count x : Nat) : Int) < K; omega)]
          exact ⟨p, rfl, hp⟩
        generalize hE : ((G, mX5_place, _, _, _, _, h) : EV) = E
        have L1 : ∀ k, k ≤ tbl.length + 1 → ∀ (c : Nat) (cz : Int) (left its : Nat), (k = 0 ∨ cz = (c : Int)) → InvP bec std tbl x K k c left its →
            ExA E 65 [some (.inr (.inr (124))), some (.inl ((x : Int))), some (.inr (.inl ((K : Int)))), none, some (.inr (.inl ((left : Int)))), none, some (.inr (.inl ((its : Int)))), none, some (.inl (cz)), some (.inl ((k : Int))), none, none] [] h2 := by
          refine lpI _ fun k hk ih c cz left its hcz hI => ?_
          by_cases hkn : k ≤ tbl.length
          · have hrl := row_lt hA2 (c := c) hkn hI.1
            have hcz' : k = 0 ∨ cz = (c : Int) ∧ c < 6 := by
              rcases hI.1 with q | q
              · exact Or.inl q
              · rcases hcz with q2 | q2
                · exact Or.inl q2
                · exact Or.inr ⟨q2, q⟩
            have hcu := hI.2.2.1
            rw [curW_row bec std hkn] at hcu
            have hcc := hI.2.1.2
            have hccl : (curW bec std tbl k c).count x ≤ (curW bec std tbl k c).length := List.count_le_length
            rw [curW_row bec std hkn] at hcc hccl
            have L2 : ∀ i, i ≤ (rowL bec std tbl k c).length → ∀ left2 its2 : Nat, (((rowL bec std tbl k c).take i).map fun d => (exl bec (tbl.drop k) d).count x).sum + left2 = left → 1 ≤ left2 →
                its2 = its + (((rowL bec std tbl k c).take i).map fun d => (exl bec (tbl.drop k) d).length).sum →
                ExA E 93 [some (.inr (.inr (124))), some (.inl ((x : Int))), some (.inr (.inl ((K : Int)))), none, some (.inr (.inl ((left2 : Int)))), none, some (.inr (.inl ((its2 : Int)))), none, some (.inl (cz)), some (.inl ((k : Int))), some (.inl ((i : Int))), some (.inl ((if i < (rowL bec std tbl k c).length then (((rowL bec std tbl k c).getD i 0 : Nat) : Int) else -1)))] [] h2 := by
              refine lpI _ fun i hi ih2 left2 its2 hs2 hl2 hi2 => ?_
              have hil := hI.lt hkn hi hs2 hl2
              rw [if_pos hil]
              have hd6 := hrl.2 _ (getD_mem hil)
              have hdl := fm_len1 (exl bec (tbl.drop k)) (getD_mem hil)
              have hdlen := fm_len (exl bec (tbl.drop k)) (rowL bec std tbl k c) (i := i + 1) (by omega)
              rw [take_sum (fun d => (exl bec (tbl.drop k) d).length) _ hil] at hdlen
              have hdc : (exl bec (tbl.drop k) ((rowL bec std tbl k c).getD i 0)).count x ≤ (exl bec (tbl.drop k) ((rowL bec std tbl k c).getD i 0)).length := List.count_le_length
              have hro := hf k _ hkn hd6
              have hrc := hf2 k _ hkn hd6
              have he : endC = 9223372036854775807 := rfl
              rw [swtE_len, show min endC (exl bec (tbl.drop k) ((rowL bec std tbl k c).getD i 0)).length = (exl bec (tbl.drop k) ((rowL bec std tbl k c).getD i 0)).length by omega, ← e1302] at hro
              rw [swtE_cnt, show min endC ((exl bec (tbl.drop k) ((rowL bec std tbl k c).getD i 0)).count x) = (exl bec (tbl.drop k) ((rowL bec std tbl k c).getD i 0)).count x by omega, ← e131] at hrc
              have hnx := fun hl => ih (by omega) _ (((rowL bec std tbl k c).getD i 0 : Nat) : Int) left2 its2 (Or.inr rfl) (hI.next hkn hrl.2 hil hs2 hl hi2)
              have hn2 := ih2 hil (left2 - (exl bec (tbl.drop k) ((rowL bec std tbl k c).getD i 0)).count x) (its2 + (exl bec (tbl.drop k) ((rowL bec std tbl k c).getD i 0)).length)
              rw [take_sum (fun d => (exl bec (tbl.drop k) d).length) _ hil, take_sum (fun d => (exl bec (tbl.drop k) d).count x) _ hil] at hn2
              have hpo := c_X5_partOf (G := G) hF2 hA2 (i := i + 1) hkn hcz' (by omega)
              generalize (exl bec (tbl.drop k) ((rowL bec std tbl k c).getD i 0)).count x = dc at *
              generalize (exl bec (tbl.drop k) ((rowL bec std tbl k c).getD i 0)).length = dl at *
              generalize (rowL bec std tbl k c).getD i 0 = d at *
              have ed : (6 * (k : Int) + (d : Int)).toNat = 6 * k + d := by omega
              by_cases ql : dc < left2
              · have hn2 := hn2 (by omega) (by omega) (by omega)
                subst hE
                refine vsA_ok tk_X5_place rfl 40 ?_
                simp only [at_X5_place, mr_X5_place, vsA, vcA, denA, lget, lset, lst1, lst2, lclr, argsA, restA, acats, acat, tcA, tcN, rzA, lle, List.length_cons, List.length_nil, Option.toList_some, Option.toList_none, List.cons_append, List.nil_append, eG, eM, eD, eC, eS, eQ, eH, if_true, if_false, Nat.reduceAdd, Nat.reduceLeDiff, Nat.reduceEqDiff, Nat.reduceLT, Nat.reduceSub, Int.reduceEq, Int.reduceLE, Int.reduceToNat, reduceCtorEq, reduceIte, Nat.reduceBEq, Int.reduceNeg, not_true, not_false_iff, true_and, and_true, true_or, or_true, false_or, or_false, forall_const, implies_true, Nat.le_refl, Int.toNat_natCast, Int.reduceLT, ne_eq, Fin.isValue, Nat.add_zero, nC_hrw, nS_hrw, nC_hwr, nS_hwr, hkd_hrw, hkd_hwr, fin4_0, fin4_1, fin4_2, fin4_3, fin2_0, fin2_1, ci0, ci1, cnn, false_implies, w32_eq, w64_eq, hF2.m, ed, hro, hrc]
                try simp (disch := omega) only [yc_lt, yc_le, yc_gt, yc_ge, yc_eq, w32_eq, w64_eq, tn_add, tn_mul, Int.toNat_natCast, Int.reduceToNat, not_true, not_false_iff, false_implies, forall_const, implies_true]
                repeat' (with_reducible first | apply And.intro | intro _)
                all_goals try omega
                all_goals try simp (disch := omega) only [w32_eq, w64_eq, tn_add, tn_mul, Int.toNat_natCast, Int.reduceToNat, Option.some.injEq, Sum.inr.injEq, Sum.inl.injEq]
                all_goals try omega
                refine ClA.pure (hpo) (by first | exact Nat.le_of_ble_eq_true rfl | (simp only [eD]; omega)) (by first | exact Nat.le_refl _ | (simp only [eG, eD, eC, eS, eQ, eH, nC_hrw, nC_hwr, nS_hrw, nS_hwr, nC_hnw, nS_hnw]; omega)) (by first | exact Nat.le_refl _ | (simp only [eG, eD, eC, eS, eQ, eH, nC_hrw, nC_hwr, nS_hrw, nS_hwr, nC_hnw, nS_hnw]; omega)) ?_
                refine vsA_ok tk_X5_place rfl 10 ?_
                simp only [at_X5_place, mr_X5_place, vsA, vcA, denA, lget, lset, lst1, lst2, lclr, argsA, restA, acats, acat, tcA, tcN, rzA, lle, List.length_cons, List.length_nil, Option.toList_some, Option.toList_none, List.cons_append, List.nil_append, eG, eM, eD, eC, eS, eQ, eH, if_true, if_false, Nat.reduceAdd, Nat.reduceLeDiff, Nat.reduceEqDiff, Nat.reduceLT, Nat.reduceSub, Int.reduceEq, Int.reduceLE, Int.reduceToNat, reduceCtorEq, reduceIte, Nat.reduceBEq, Int.reduceNeg, not_true, not_false_iff, true_and, and_true, true_or, or_true, false_or, or_false, forall_const, implies_true, Nat.le_refl, Int.toNat_natCast, Int.reduceLT, ne_eq, Fin.isValue, Nat.add_zero, nC_hrw, nS_hrw, nC_hwr, nS_hwr, hkd_hrw, hkd_hwr, fin4_0, fin4_1, fin4_2, fin4_3, fin2_0, fin2_1, ci0, ci1, cnn, false_implies, w32_eq, w64_eq]
                try simp (disch := omega) only [yc_lt, yc_le, yc_gt, yc_ge, yc_eq, w32_eq, w64_eq, tn_add, tn_mul, Int.toNat_natCast, Int.reduceToNat, not_true, not_false_iff, false_implies, forall_const, implies_true]
                repeat' (with_reducible first | apply And.intro | intro _)
                all_goals try omega
                all_goals try simp (disch := omega) only [w32_eq, w64_eq, tn_add, tn_mul, Int.toNat_natCast, Int.reduceToNat, Option.some.injEq, Sum.inr.injEq, Sum.inl.injEq]
                all_goals try omega
                all_goals try exact (hn2).weak rfl (by simp [lle] <;> omega)
              · have hnx := hnx (by omega)
                subst hE
                refine vsA_ok tk_X5_place rfl 20 ?_
                simp only [at_X5_place, mr_X5_place, vsA, vcA, denA, lget, lset, lst1, lst2, lclr, argsA, restA, acats, acat, tcA, tcN, rzA, lle, List.length_cons, List.length_nil, Option.toList_some, Option.toList_none, List.cons_append, List.nil_append, eG, eM, eD, eC, eS, eQ, eH, if_true, if_false, Nat.reduceAdd, Nat.reduceLeDiff, Nat.reduceEqDiff, Nat.reduceLT, Nat.reduceSub, Int.reduceEq, Int.reduceLE, Int.reduceToNat, reduceCtorEq, reduceIte, Nat.reduceBEq, Int.reduceNeg, not_true, not_false_iff, true_and, and_true, true_or, or_true, false_or, or_false, forall_const, implies_true, Nat.le_refl, Int.toNat_natCast, Int.reduceLT, ne_eq, Fin.isValue, Nat.add_zero, nC_hrw, nS_hrw, nC_hwr, nS_hwr, hkd_hrw, hkd_hwr, fin4_0, fin4_1, fin4_2, fin4_3, fin2_0, fin2_1, ci0, ci1, cnn, false_implies, w32_eq, w64_eq, hF2.m, ed, hro, hrc]
                try simp (disch := omega) only [yc_lt, yc_le, yc_gt, yc_ge, yc_eq, w32_eq, w64_eq, tn_add, tn_mul, Int.toNat_natCast, Int.reduceToNat, not_true, not_false_iff, false_implies, forall_const, implies_true]
                repeat' (with_reducible first | apply And.intro | intro _)
                all_goals try omega
                all_goals try simp (disch := omega) only [w32_eq, w64_eq, tn_add, tn_mul, Int.toNat_natCast, Int.reduceToNat, Option.some.injEq, Sum.inr.injEq, Sum.inl.injEq]
                all_goals try omega
                all_goals try exact (hnx).weak rfl (by simp [lle] <;> omega)
            have l2 := L2 0 (Nat.zero_le _) left its (by simp) hI.2.1.1 (by simp)
            subst hE
            refine vsA_ok tk_X5_place rfl 16 ?_
            simp only [at_X5_place, mr_X5_place, vsA, vcA, denA, lget, lset, lst1, lst2, lclr, argsA, restA, acats, acat, tcA, tcN, rzA, lle, List.length_cons, List.length_nil, Option.toList_some, Option.toList_none, List.cons_append, List.nil_append, eG, eM, eD, eC, eS, eQ, eH, if_true, if_false, Nat.reduceAdd, Nat.reduceLeDiff, Nat.reduceEqDiff, Nat.reduceLT, Nat.reduceSub, Int.reduceEq, Int.reduceLE, Int.reduceToNat, reduceCtorEq, reduceIte, Nat.reduceBEq, Int.reduceNeg, not_true, not_false_iff, true_and, and_true, true_or, or_true, false_or, or_false, forall_const, implies_true, Nat.le_refl, Int.toNat_natCast, Int.reduceLT, ne_eq, Fin.isValue, Nat.add_zero, nC_hrw, nS_hrw, nC_hwr, nS_hwr, hkd_hrw, hkd_hwr, fin4_0, fin4_1, fin4_2, fin4_3, fin2_0, fin2_1, ci0, ci1, cnn, false_implies, w32_eq, w64_eq, hF2.m, hq2]
            try simp (disch := omega) only [yc_lt, yc_le, yc_gt, yc_ge, yc_eq, w32_eq, w64_eq, tn_add, tn_mul, Int.toNat_natCast, Int.reduceToNat, not_true, not_false_iff, false_implies, forall_const, implies_true]
            repeat' (with_reducible first | apply And.intro | intro _)
            all_goals try omega
            all_goals try simp (disch := omega) only [w32_eq, w64_eq, tn_add, tn_mul, Int.toNat_natCast, Int.reduceToNat, Option.some.injEq, Sum.inr.injEq, Sum.inl.injEq]
            all_goals try omega
            refine ClA.pure (c_X5_partOf hF2 hA2 (i := 0) hkn hcz' (by omega)) (by first | exact Nat.le_of_ble_eq_true rfl | (simp only [eD]; omega)) (by first | exact Nat.le_refl _ | (simp only [eG, eD, eC, eS, eQ, eH, nC_hrw, nC_hwr, nS_hrw, nS_hwr, nC_hnw, nS_hnw]; omega)) (by first | exact Nat.le_refl _ | (simp only [eG, eD, eC, eS, eQ, eH, nC_hrw, nC_hwr, nS_hrw, nS_hwr, nC_hnw, nS_hnw]; omega)) ?_
            refine vsA_ok tk_X5_place rfl 2 ?_
            simp only [at_X5_place, mr_X5_place, vsA, vcA, denA, lget, lset, lst1, lst2, lclr, argsA, restA, acats, acat, tcA, tcN, rzA, lle, List.length_cons, List.length_nil, Option.toList_some, Option.toList_none, List.cons_append, List.nil_append, eG, eM, eD, eC, eS, eQ, eH, if_true, if_false, Nat.reduceAdd, Nat.reduceLeDiff, Nat.reduceEqDiff, Nat.reduceLT, Nat.reduceSub, Int.reduceEq, Int.reduceLE, Int.reduceToNat, reduceCtorEq, reduceIte, Nat.reduceBEq, Int.reduceNeg, not_true, not_false_iff, true_and, and_true, true_or, or_true, false_or, or_false, forall_const, implies_true, Nat.le_refl, Int.toNat_natCast, Int.reduceLT, ne_eq, Fin.isValue, Nat.add_zero, nC_hrw, nS_hrw, nC_hwr, nS_hwr, hkd_hrw, hkd_hwr, fin4_0, fin4_1, fin4_2, fin4_3, fin2_0, fin2_1, ci0, ci1, cnn, false_implies, w32_eq, w64_eq]
            try simp (disch := omega) only [yc_lt, yc_le, yc_gt, yc_ge, yc_eq, w32_eq, w64_eq, tn_add, tn_mul, Int.toNat_natCast, Int.reduceToNat, not_true, not_false_iff, false_implies, forall_const, implies_true]
            repeat' (with_reducible first | apply And.intro | intro _)
            all_goals try omega
            all_goals try simp (disch := omega) only [w32_eq, w64_eq, tn_add, tn_mul, Int.toNat_natCast, Int.reduceToNat, Option.some.injEq, Sum.inr.injEq, Sum.inl.injEq]
            all_goals try omega
            all_goals try exact (l2).weak rfl (by simp [lle] <;> omega)
          · have hk1 : k = tbl.length + 1 := by omega
            subst hk1
            have hcu : curW bec std tbl (tbl.length + 1) c = [c] := by
              rw [curW_succ, List.drop_length]
              rfl
            obtain ⟨h1', h2', h3', h4'⟩ := hI
            rw [hcu] at h2' h3' h4'
            have hxc : c = x ∧ left = 1 := by
              have := h2'.2
              rw [List.count_singleton] at this
              by_cases e : c = x
              · exact ⟨e, by rw [if_pos (by simpa using e)] at this; omega⟩
              · rw [if_neg (by simpa using e)] at this
                omega
            have hpp := hp _ (h4' 0 ⟨by simp, by simpa using hxc.1, by simp; omega⟩)
            rw [Nat.add_zero] at hpp
            subst hE
            refine vsA_ok tk_X5_place rfl 12 ?_
            simp only [at_X5_place, mr_X5_place, vsA, vcA, denA, lget, lset, lst1, lst2, lclr, argsA, restA, acats, acat, tcA, tcN, rzA, lle, List.length_cons, List.length_nil, Option.toList_some, Option.toList_none, List.cons_append, List.nil_append, eG, eM, eD, eC, eS, eQ, eH, if_true, if_false, Nat.reduceAdd, Nat.reduceLeDiff, Nat.reduceEqDiff, Nat.reduceLT, Nat.reduceSub, Int.reduceEq, Int.reduceLE, Int.reduceToNat, reduceCtorEq, reduceIte, Nat.reduceBEq, Int.reduceNeg, not_true, not_false_iff, true_and, and_true, true_or, or_true, false_or, or_false, forall_const, implies_true, Nat.le_refl, Int.toNat_natCast, Int.reduceLT, ne_eq, Fin.isValue, Nat.add_zero, nC_hrw, nS_hrw, nC_hwr, nS_hwr, hkd_hrw, hkd_hwr, fin4_0, fin4_1, fin4_2, fin4_3, fin2_0, fin2_1, ci0, ci1, cnn, false_implies, w32_eq, w64_eq, hF2.m, hq2, c2]
            try simp (disch := omega) only [yc_lt, yc_le, yc_gt, yc_ge, yc_eq, w32_eq, w64_eq, tn_add, tn_mul, Int.toNat_natCast, Int.reduceToNat, not_true, not_false_iff, false_implies, forall_const, implies_true]
            repeat' (with_reducible first | apply And.intro | intro _)
            all_goals try omega
            all_goals try simp (disch := omega) only [w32_eq, w64_eq, tn_add, tn_mul, Int.toNat_natCast, Int.reduceToNat, Option.some.injEq, Sum.inr.injEq, Sum.inl.injEq]
            all_goals try omega
            all_goals exact ⟨_, rfl, hpp, hfin2⟩
        have l1 := L1 0 (by omega) 0 (-1) K 0 (Or.inl rfl) ⟨Or.inl rfl, ⟨by omega, by show K ≤ (wrd bec std tbl).count x; omega⟩, by show 0 + (wrd bec std tbl).length ≤ _; omega, fun p hp => by rw [Nat.zero_add]; exact hp⟩
        generalize (wrd bec std tbl).count x = cnt at *
        subst hE
        refine vsA_ok tk_X5_place rfl 20 ?_
        simp only [at_X5_place, mr_X5_place, vsA, vcA, denA, lget, lset, lst1, lst2, lclr, argsA, restA, acats, acat, tcA, tcN, rzA, lle, List.length_cons, List.length_nil, Option.toList_some, Option.toList_none, List.cons_append, List.nil_append, eG, eM, eD, eC, eS, eQ, eH, if_true, if_false, Nat.reduceAdd, Nat.reduceLeDiff, Nat.reduceEqDiff, Nat.reduceLT, Nat.reduceSub, Int.reduceEq, Int.reduceLE, Int.reduceToNat, reduceCtorEq, reduceIte, Nat.reduceBEq, Int.reduceNeg, not_true, not_false_iff, true_and, and_true, true_or, or_true, false_or, or_false, forall_const, implies_true, Nat.le_refl, Int.toNat_natCast, Int.reduceLT, ne_eq, Fin.isValue, Nat.add_zero, nC_hrw, nS_hrw, nC_hwr, nS_hwr, hkd_hrw, hkd_hwr, fin4_0, fin4_1, fin4_2, fin4_3, fin2_0, fin2_1, ci0, ci1, cnn, false_implies, w32_eq, w64_eq]
        try simp (disch := omega) only [yc_lt, yc_le, yc_gt, yc_ge, yc_eq, w32_eq, w64_eq, tn_add, tn_mul, Int.toNat_natCast, Int.reduceToNat, not_true, not_false_iff, false_implies, forall_const, implies_true]
        repeat' (with_reducible first | apply And.intro | intro _)
        all_goals try omega
        all_goals try simp (disch := omega) only [w32_eq, w64_eq, tn_add, tn_mul, Int.toNat_natCast, Int.reduceToNat, Option.some.injEq, Sum.inr.injEq, Sum.inl.injEq]
        all_goals try omega
        all_goals try exact (l1).weak rfl (by simp [lle] <;> omega)
  · have hp : plcOK (wrd bec std tbl) c k (-2) := by unfold plcOK; rw [if_neg qc]
    refine CnA.of rfl (Nat.le_of_ble_eq_true rfl) ?_
    simp only [largs, lpad, mr_X5_place]
    refine vsA_ok tk_X5_place rfl 20 ?_
    simp only [at_X5_place, mr_X5_place, vsA, vcA, denA, lget, lset, lst1, lst2, lclr, argsA, restA, acats, acat, tcA, tcN, rzA, lle, List.length_cons, List.length_nil, Option.toList_some, Option.toList_none, List.cons_append, List.nil_append, eG, eM, eD, eC, eS, eQ, eH, if_true, if_false, Nat.reduceAdd, Nat.reduceLeDiff, Nat.reduceEqDiff, Nat.reduceLT, Nat.reduceSub, Int.reduceEq, Int.reduceLE, Int.reduceToNat, reduceCtorEq, reduceIte, Nat.reduceBEq, Int.reduceNeg, not_true, not_false_iff, true_and, and_true, true_or, or_true, false_or, or_false, forall_const, implies_true, Nat.le_refl, Int.toNat_natCast, Int.reduceLT, ne_eq, Fin.isValue, Nat.add_zero, nC_hrw, nS_hrw, nC_hwr, nS_hwr, hkd_hrw, hkd_hwr, fin4_0, fin4_1, fin4_2, fin4_3, fin2_0, fin2_1, ci0, ci1, cnn, false_implies, w32_eq, w64_eq, hF.m, hF0.m]
    try simp (disch := omega) only [yc_lt, yc_le, yc_gt, yc_ge, yc_eq, w32_eq, w64_eq, tn_add, tn_mul, Int.toNat_natCast, Int.reduceToNat, not_true, not_false_iff, false_implies, forall_const, implies_true]
    repeat' (with_reducible first | apply And.intro | intro _)
    all_goals try omega
    all_goals try simp (disch := omega) only [w32_eq, w64_eq, tn_add, tn_mul, Int.toNat_natCast, Int.reduceToNat, Option.some.injEq, Sum.inr.injEq, Sum.inl.injEq]
    all_goals try omega
    refine ClA.pure (c_X5_isLetter c _ (by omega) (by omega)) (by first | exact Nat.le_of_ble_eq_true rfl | (simp only [eD]; omega)) (by first | exact Nat.le_refl _ | (simp only [eG, eD, eC, eS, eQ, eH, nC_hrw, nC_hwr, nS_hrw, nS_hwr, nC_hnw, nS_hnw]; omega)) (by first | exact Nat.le_refl _ | (simp only [eG, eD, eC, eS, eQ, eH, nC_hrw, nC_hwr, nS_hrw, nS_hwr, nC_hnw, nS_hnw]; omega)) ?_
    rw [if_neg qc]
    refine vsA_ok tk_X5_place rfl 20 ?_
    simp only [at_X5_place, mr_X5_place, vsA, vcA, denA, lget, lset, lst1, lst2, lclr, argsA, restA, acats, acat, tcA, tcN, rzA, lle, List.length_cons, List.length_nil, Option.toList_some, Option.toList_none, List.cons_append, List.nil_append, eG, eM, eD, eC, eS, eQ, eH, if_true, if_false, Nat.reduceAdd, Nat.reduceLeDiff, Nat.reduceEqDiff, Nat.reduceLT, Nat.reduceSub, Int.reduceEq, Int.reduceLE, Int.reduceToNat, reduceCtorEq, reduceIte, Nat.reduceBEq, Int.reduceNeg, not_true, not_false_iff, true_and, and_true, true_or, or_true, false_or, or_false, forall_const, implies_true, Nat.le_refl, Int.toNat_natCast, Int.reduceLT, ne_eq, Fin.isValue, Nat.add_zero, nC_hrw, nS_hrw, nC_hwr, nS_hwr, hkd_hrw, hkd_hwr, fin4_0, fin4_1, fin4_2, fin4_3, fin2_0, fin2_1, ci0, ci1, cnn, false_implies, w32_eq, w64_eq]
    try simp (disch := omega) only [yc_lt, yc_le, yc_gt, yc_ge, yc_eq, w32_eq, w64_eq, tn_add, tn_mul, Int.toNat_natCast, Int.reduceToNat, not_true, not_false_iff, false_implies, forall_const, implies_true]
    repeat' (with_reducible first | apply And.intro | intro _)
    all_goals try omega
    all_goals try simp (disch := omega) only [w32_eq, w64_eq, tn_add, tn_mul, Int.toNat_natCast, Int.reduceToNat, Option.some.injEq, Sum.inr.injEq, Sum.inl.injEq]
    all_goals try omega
    all_goals exact ⟨_, rfl, hp, hfin⟩
end
