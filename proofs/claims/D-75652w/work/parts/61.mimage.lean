/-! THE REFERENCE: images -/
set_option maxRecDepth 100000
theorem AllS.cong2 {f f1 : Nat → Int} {s : SP} {a : S3} (h : AllS f s a) (hf : ∀ j, j < 1106 → f1 j = f j) : AllS f1 s a := by
  obtain ⟨⟨a1, a2, a3, ⟨a4, a5, a6, a7, a8⟩, a9, a10, a11, a12⟩, b1, b2⟩ := h
  have hB := a1
  have lw : ∀ (l : Nat) (o : DN), l < 2 → LawC f l o → LawC f1 l o := by
    intro l o hl hC
    cases o with
    | none => show f1 (105 + l) = 0; rw [hf _ (by omega)]; exact hC
    | some q =>
      obtain ⟨c1, fr, c2, c3, c4, c5⟩ := hC
      exact ⟨by rw [hf _ (by omega)]; exact c1, fr, by rw [hf _ (by omega)]; exact c2, by rw [hf _ (by omega)]; exact c3, c4, fun k hk => by rw [hf _ (by omega)]; exact c5 k hk⟩
  refine ⟨⟨a1, a2, a3, ⟨by rw [hf _ (by omega)]; exact a4, by rw [hf _ (by omega)]; exact a5, by rw [hf _ (by omega)]; exact a6, by rw [hf _ (by omega)]; exact a7, by rw [hf _ (by omega)]; exact a8⟩, fun i hi => ?_, fun t c ht hc => ?_, fun t c i ht hc hi => ?_, fun k hk => ?_⟩, lw 0 _ (by decide) b1, lw 1 _ (by decide) b2⟩
  · have := hB.2.2.1.2.1
    rw [hf _ (by omega)]
    exact a9 i hi
  · rw [hf _ (by omega)]
    exact a10 t c ht hc
  · have := (hB.2.2.2 t c ht hc).1
    rw [hf _ (by omega)]
    exact a11 t c i ht hc hi
  · rw [hf _ (by omega)]
    exact a12 k hk
def setI (w : WD) (i : Nat) : WD := (wL w, wA w, wU w, wP w, wF w, wT w, fun k => if k = i then some (wL w, wA w) else wI w k)
def setR (w : WD) (q : SL × S3) : WD := (q.1, q.2, [], wP w, wF w, wT w, wI w)
section
variable {G : GT} {h : AH} {w : WD} {N : Int}
theorem c_X5_image (hF : FxA h) (hM : MdC h w) (v : Int) (hv : In32 v) :
    CnA G mX5_image 2 0 0 [.inr (.inr (124)), .inl (v)] h (fun r h1 => r = some (.inl (if 0 ≤ v ∧ v ≤ 1 then 0 else -2)) ∧ MpC h h1 (if 0 ≤ v ∧ v ≤ 1 then setI w v.toNat else w)) := by
  obtain ⟨x0, hF0, hM0⟩ := thr_0 hF hM
  have hfin : MpC h (hwr h 124 0 0) w := MpC.scr hF hM x0 (by decide) (by decide)
  obtain ⟨hv1, hv2⟩ := hv
  by_cases qv : 0 ≤ v ∧ v ≤ 1
  · rw [if_pos qv, if_pos qv]
    obtain ⟨n, rfl⟩ : ∃ n : Nat, v = n := ⟨v.toNat, by omega⟩
    rw [Int.toNat_natCast]
    have hn : n < 2 := by omega
    refine CnA.of rfl (Nat.le_of_ble_eq_true rfl) ?_
    simp only [largs, lpad, mr_X5_image]
    generalize hE : ((G, mX5_image, _, _, _, _, h) : EV) = E
    have eA0 : hdt (hwr h 124 0 0) 125 = hdt h 125 := by rw [hdt_hwr, if_neg (by decide)]
    have L1 : ∀ k, k ≤ 1106 → ∀ f : Nat → Int, (∀ j, j < 1106 * (n + 1) ∨ 1106 * (n + 1) + 1106 ≤ j → f j = hdt h 125 j) → (∀ j, j < k → f (1106 * (n + 1) + j) = hdt h 125 j) → ExA E 20 [some (.inr (.inr (124))), some (.inl ((n : Int))), some (.inl ((k : Int)))] [] (hrw (hwr h 124 0 0) 125 f) := by
      refine lpI 1106 fun k hk ih f hf1 hf2 => ?_
      have hFr : FxA (hrw (hwr h 124 0 0) 125 f) := hF0.hrw (by decide +kernel) f
      by_cases hk6 : k < 1106
      · have hfk : f k = hdt h 125 k := hf1 k (by omega)
        have ei : (1106 * ((n : Int) + 1) + (k : Int)).toNat = 1106 * (n + 1) + k := by omega
        have nx := ih hk6 (fup f (1106 * (n + 1) + k) (hdt h 125 k)) (fun j hj => by rw [fup_n _ _ (by omega)]; exact hf1 j hj) (fun j hj => by
          by_cases e : j = k
          · rw [e, fup_s]
          · rw [fup_n _ _ (by omega)]
            exact hf2 j (by omega))
        subst hE
        refine vsA_ok tk_X5_image rfl 20 ?_
        simp only [at_X5_image, mr_X5_image, vsA, vcA, denA, lget, lset, lst1, lst2, lclr, argsA, restA, acats, acat, tcA, tcN, rzA, lle, List.length_cons, List.length_nil, Option.toList_some, Option.toList_none, List.cons_append, List.nil_append, eG, eM, eD, eC, eS, eQ, eH, if_true, if_false, Nat.reduceAdd, Nat.reduceLeDiff, Nat.reduceEqDiff, Nat.reduceLT, Nat.reduceSub, Int.reduceEq, Int.reduceLE, Int.reduceToNat, reduceCtorEq, reduceIte, Nat.reduceBEq, Int.reduceNeg, not_true, not_false_iff, true_and, and_true, true_or, or_true, false_or, or_false, forall_const, implies_true, Nat.le_refl, Int.toNat_natCast, Int.reduceLT, ne_eq, Fin.isValue, Nat.add_zero, nC_hrw, nS_hrw, nC_hwr, nS_hwr, hkd_hrw, hkd_hwr, fin4_0, fin4_1, fin4_2, fin4_3, fin2_0, fin2_1, ci0, ci1, cnn, false_implies, w32_eq, w64_eq, hFr.m]
        try simp (disch := omega) only [yc_lt, yc_le, yc_gt, yc_ge, yc_eq, w32_eq, w64_eq, tn_add, tn_mul, Int.toNat_natCast, Int.reduceToNat, not_true, not_false_iff, false_implies, forall_const, implies_true, hdt_hrw_s, hfk, ei, hwr_hrw]
        repeat' (with_reducible first | apply And.intro | intro _)
        all_goals try omega
        all_goals try simp (disch := omega) only [w32_eq, w64_eq, tn_add, tn_mul, Int.toNat_natCast, Int.reduceToNat, Option.some.injEq, Sum.inr.injEq, Sum.inl.injEq, hdt_hrw_s, hfk, ei, hwr_hrw]
        all_goals try omega
        all_goals try exact (nx).weak rfl (by simp [lle] <;> omega)
      · have hk7 : k = 1106 := by omega
        subst hk7
        have hx : FrP mdl h (hwr (hrw (hwr h 124 0 0) 125 f) 126 n 1) := ((FrP.rf.wr (A := mdl) ⟨by decide, by decide⟩ _).rw (fun _ => ⟨by decide, by decide⟩) _).wr ⟨by decide, by decide⟩ _
        have hF2 : FxA (hwr (hrw (hwr h 124 0 0) 125 f) 126 n 1) := hFr.fr (FrP.rf.wr (A := fun b _ => b = 126) rfl _) (fun q hq => by
          have : ∀ q ∈ rFl, q.1 ≠ 126 := by decide +kernel
          exact this q hq)
        have e125 : hdt (hwr (hrw (hwr h 124 0 0) 125 f) 126 n 1) 125 = f := by rw [hdt_hwr, if_neg (by decide), hdt_hrw_s]
        have e126 : hdt (hwr (hrw (hwr h 124 0 0) 125 f) 126 n 1) 126 = fup (hdt h 126) n 1 := by rw [hdt_hwr, if_pos rfl, hdt_hrw_n _ _ (by decide), hdt_hwr, if_neg (by decide)]
        have e124 : ∀ j, j ≠ 0 → hdt (hwr (hrw (hwr h 124 0 0) 125 f) 126 n 1) 124 j = hdt h 124 j := fun j hj => by rw [hdt_hwr, if_neg (by decide), hdt_hrw_n _ _ (by decide), hdt_hwr, if_pos rfl, fup_n _ _ hj]
        have eo : ∀ b, b ≠ 124 → b ≠ 125 → b ≠ 126 → hdt (hwr (hrw (hwr h 124 0 0) 125 f) 126 n 1) b = hdt h b := fun b q1 q2 q3 => by rw [hdt_hwr, if_neg q3, hdt_hrw_n _ _ q2, hdt_hwr, if_neg q1]
        have hM2 : MdC (hwr (hrw (hwr h 124 0 0) 125 f) 126 n 1) (setI w n) := by
          obtain ⟨⟨m0, m1⟩, m2, m3, m4, m5, m6⟩ := hM
          refine ⟨⟨?_, ?_⟩, ?_, fun i hi => ?_, ?_, ?_, fun t ht => ?_⟩
          · rw [e125]; exact m0.cong2 fun j hj => hf1 j (by omega)
          · rw [e125, hf1 0 (by omega)]; exact m1
          · obtain ⟨u1, u2, u3⟩ := m2
            rw [e125]
            exact ⟨u1, by rw [hf1 _ (by omega)]; exact u2, fun k hk => by
              have : k < 10 := Nat.lt_of_lt_of_le hk u1
              rw [hf1 _ (by omega), hf1 _ (by omega), hf1 _ (by omega)]
              exact u3 k hk⟩
          · show ImgM _ i (if i = n then some (wL w, wA w) else wI w i)
            by_cases e : i = n
            · rw [if_pos e, e]
              refine ⟨by rw [e126, fup_s], ?_, ?_⟩
              · rw [e125]; exact m0.cong2 fun j hj => hf2 j hj
              · rw [e125]
                show f (1106 * (n + 1) + 0) = _
                rw [hf2 0 (by omega)]
                exact m1
            · rw [if_neg e]
              have := m3 i hi
              unfold ImgM at this ⊢
              rw [e126, fup_n _ _ e, e125]
              cases hw : wI w i with
              | none => rw [hw] at this; exact this
              | some q =>
                rw [hw] at this
                obtain ⟨t1, t2, t3⟩ := this
                exact ⟨t1, t2.cong2 fun j hj => hf1 _ (by omega), by show f (1106 * (i + 1) + 0) = _; rw [hf1 _ (by omega)]; exact t3⟩
          · rw [e124 5 (by decide), eo 127 (by decide) (by decide) (by decide)]; exact m4
          · rw [e124 13 (by decide), e124 14 (by decide)]; exact m5
          · have := m6 t ht
            show TryM _ t (wT w t)
            unfold TryM TrM at this ⊢
            rw [eo 150 (by decide) (by decide) (by decide), eo 151 (by decide) (by decide) (by decide), eo 152 (by decide) (by decide) (by decide)]
            exact this
        have hfin2 : MpC h (hwr (hrw (hwr h 124 0 0) 125 f) 126 n 1) (setI w n) := ⟨hx, hF2, hM2⟩
        subst hE
        refine vsA_ok tk_X5_image rfl 20 ?_
        simp only [at_X5_image, mr_X5_image, vsA, vcA, denA, lget, lset, lst1, lst2, lclr, argsA, restA, acats, acat, tcA, tcN, rzA, lle, List.length_cons, List.length_nil, Option.toList_some, Option.toList_none, List.cons_append, List.nil_append, eG, eM, eD, eC, eS, eQ, eH, if_true, if_false, Nat.reduceAdd, Nat.reduceLeDiff, Nat.reduceEqDiff, Nat.reduceLT, Nat.reduceSub, Int.reduceEq, Int.reduceLE, Int.reduceToNat, reduceCtorEq, reduceIte, Nat.reduceBEq, Int.reduceNeg, not_true, not_false_iff, true_and, and_true, true_or, or_true, false_or, or_false, forall_const, implies_true, Nat.le_refl, Int.toNat_natCast, Int.reduceLT, ne_eq, Fin.isValue, Nat.add_zero, nC_hrw, nS_hrw, nC_hwr, nS_hwr, hkd_hrw, hkd_hwr, fin4_0, fin4_1, fin4_2, fin4_3, fin2_0, fin2_1, ci0, ci1, cnn, false_implies, w32_eq, w64_eq, hFr.m]
        try simp (disch := omega) only [yc_lt, yc_le, yc_gt, yc_ge, yc_eq, w32_eq, w64_eq, tn_add, tn_mul, Int.toNat_natCast, Int.reduceToNat, not_true, not_false_iff, false_implies, forall_const, implies_true]
        repeat' (with_reducible first | apply And.intro | intro _)
        all_goals try omega
        all_goals try simp (disch := omega) only [w32_eq, w64_eq, tn_add, tn_mul, Int.toNat_natCast, Int.reduceToNat, Option.some.injEq, Sum.inr.injEq, Sum.inl.injEq]
        all_goals try omega
        all_goals exact hfin2
    have l1 := L1 0 (by omega) (hdt h 125) (fun j _ => rfl) (fun j hj => by omega)
    rw [← eA0, hrw_self] at l1
    subst hE
    refine vsA_ok tk_X5_image rfl 20 ?_
    simp only [at_X5_image, mr_X5_image, vsA, vcA, denA, lget, lset, lst1, lst2, lclr, argsA, restA, acats, acat, tcA, tcN, rzA, lle, List.length_cons, List.length_nil, Option.toList_some, Option.toList_none, List.cons_append, List.nil_append, eG, eM, eD, eC, eS, eQ, eH, if_true, if_false, Nat.reduceAdd, Nat.reduceLeDiff, Nat.reduceEqDiff, Nat.reduceLT, Nat.reduceSub, Int.reduceEq, Int.reduceLE, Int.reduceToNat, reduceCtorEq, reduceIte, Nat.reduceBEq, Int.reduceNeg, not_true, not_false_iff, true_and, and_true, true_or, or_true, false_or, or_false, forall_const, implies_true, Nat.le_refl, Int.toNat_natCast, Int.reduceLT, ne_eq, Fin.isValue, Nat.add_zero, nC_hrw, nS_hrw, nC_hwr, nS_hwr, hkd_hrw, hkd_hwr, fin4_0, fin4_1, fin4_2, fin4_3, fin2_0, fin2_1, ci0, ci1, cnn, false_implies, w32_eq, w64_eq, hF.m, hF0.m]
    try simp (disch := omega) only [yc_lt, yc_le, yc_gt, yc_ge, yc_eq, w32_eq, w64_eq, tn_add, tn_mul, Int.toNat_natCast, Int.reduceToNat, not_true, not_false_iff, false_implies, forall_const, implies_true]
    repeat' (with_reducible first | apply And.intro | intro _)
    all_goals try omega
    all_goals try simp (disch := omega) only [w32_eq, w64_eq, tn_add, tn_mul, Int.toNat_natCast, Int.reduceToNat, Option.some.injEq, Sum.inr.injEq, Sum.inl.injEq]
    all_goals try omega
    refine ClA.pure (c_X5_within_T _ (by omega) (by omega) (by omega) qv) (by first | exact Nat.le_of_ble_eq_true rfl | (simp only [eD]; omega)) (by first | exact Nat.le_refl _ | (simp only [eG, eD, eC, eS, eQ, eH, nC_hrw, nC_hwr, nS_hrw, nS_hwr, nC_hnw, nS_hnw]; omega)) (by first | exact Nat.le_refl _ | (simp only [eG, eD, eC, eS, eQ, eH, nC_hrw, nC_hwr, nS_hrw, nS_hwr, nC_hnw, nS_hnw]; omega)) ?_
    refine vsA_ok tk_X5_image rfl 20 ?_
    simp only [at_X5_image, mr_X5_image, vsA, vcA, denA, lget, lset, lst1, lst2, lclr, argsA, restA, acats, acat, tcA, tcN, rzA, lle, List.length_cons, List.length_nil, Option.toList_some, Option.toList_none, List.cons_append, List.nil_append, eG, eM, eD, eC, eS, eQ, eH, if_true, if_false, Nat.reduceAdd, Nat.reduceLeDiff, Nat.reduceEqDiff, Nat.reduceLT, Nat.reduceSub, Int.reduceEq, Int.reduceLE, Int.reduceToNat, reduceCtorEq, reduceIte, Nat.reduceBEq, Int.reduceNeg, not_true, not_false_iff, true_and, and_true, true_or, or_true, false_or, or_false, forall_const, implies_true, Nat.le_refl, Int.toNat_natCast, Int.reduceLT, ne_eq, Fin.isValue, Nat.add_zero, nC_hrw, nS_hrw, nC_hwr, nS_hwr, hkd_hrw, hkd_hwr, fin4_0, fin4_1, fin4_2, fin4_3, fin2_0, fin2_1, ci0, ci1, cnn, false_implies, w32_eq, w64_eq]
    try simp (disch := omega) only [yc_lt, yc_le, yc_gt, yc_ge, yc_eq, w32_eq, w64_eq, tn_add, tn_mul, Int.toNat_natCast, Int.reduceToNat, not_true, not_false_iff, false_implies, forall_const, implies_true]
    repeat' (with_reducible first | apply And.intro | intro _)
    all_goals try omega
    all_goals try simp (disch := omega) only [w32_eq, w64_eq, tn_add, tn_mul, Int.toNat_natCast, Int.reduceToNat, Option.some.injEq, Sum.inr.injEq, Sum.inl.injEq]
    all_goals try omega
    all_goals try exact (l1).weak rfl (by simp [lle] <;> omega)
  · rw [if_neg qv, if_neg qv]
    refine CnA.of rfl (Nat.le_of_ble_eq_true rfl) ?_
    simp only [largs, lpad, mr_X5_image]
    refine vsA_ok tk_X5_image rfl 20 ?_
    simp only [at_X5_image, mr_X5_image, vsA, vcA, denA, lget, lset, lst1, lst2, lclr, argsA, restA, acats, acat, tcA, tcN, rzA, lle, List.length_cons, List.length_nil, Option.toList_some, Option.toList_none, List.cons_append, List.nil_append, eG, eM, eD, eC, eS, eQ, eH, if_true, if_false, Nat.reduceAdd, Nat.reduceLeDiff, Nat.reduceEqDiff, Nat.reduceLT, Nat.reduceSub, Int.reduceEq, Int.reduceLE, Int.reduceToNat, reduceCtorEq, reduceIte, Nat.reduceBEq, Int.reduceNeg, not_true, not_false_iff, true_and, and_true, true_or, or_true, false_or, or_false, forall_const, implies_true, Nat.le_refl, Int.toNat_natCast, Int.reduceLT, ne_eq, Fin.isValue, Nat.add_zero, nC_hrw, nS_hrw, nC_hwr, nS_hwr, hkd_hrw, hkd_hwr, fin4_0, fin4_1, fin4_2, fin4_3, fin2_0, fin2_1, ci0, ci1, cnn, false_implies, w32_eq, w64_eq, hF.m, hF0.m]
    try simp (disch := omega) only [yc_lt, yc_le, yc_gt, yc_ge, yc_eq, w32_eq, w64_eq, tn_add, tn_mul, Int.toNat_natCast, Int.reduceToNat, not_true, not_false_iff, false_implies, forall_const, implies_true]
    repeat' (with_reducible first | apply And.intro | intro _)
    all_goals try omega
    all_goals try simp (disch := omega) only [w32_eq, w64_eq, tn_add, tn_mul, Int.toNat_natCast, Int.reduceToNat, Option.some.injEq, Sum.inr.injEq, Sum.inl.injEq]
    all_goals try omega
    refine ClA.pure (c_X5_within_F _ (by omega) (by omega) (by omega) qv) (by first | exact Nat.le_of_ble_eq_true rfl | (simp only [eD]; omega)) (by first | exact Nat.le_refl _ | (simp only [eG, eD, eC, eS, eQ, eH, nC_hrw, nC_hwr, nS_hrw, nS_hwr, nC_hnw, nS_hnw]; omega)) (by first | exact Nat.le_refl _ | (simp only [eG, eD, eC, eS, eQ, eH, nC_hrw, nC_hwr, nS_hrw, nS_hwr, nC_hnw, nS_hnw]; omega)) ?_
    refine vsA_ok tk_X5_image rfl 20 ?_
    simp only [at_X5_image, mr_X5_image, vsA, vcA, denA, lget, lset, lst1, lst2, lclr, argsA, restA, acats, acat, tcA, tcN, rzA, lle, List.length_cons, List.length_nil, Option.toList_some, Option.toList_none, List.cons_append, List.nil_append, eG, eM, eD, eC, eS, eQ, eH, if_true, if_false, Nat.reduceAdd, Nat.reduceLeDiff, Nat.reduceEqDiff, Nat.reduceLT, Nat.reduceSub, Int.reduceEq, Int.reduceLE, Int.reduceToNat, reduceCtorEq, reduceIte, Nat.reduceBEq, Int.reduceNeg, not_true, not_false_iff, true_and, and_true, true_or, or_true, false_or, or_false, forall_const, implies_true, Nat.le_refl, Int.toNat_natCast, Int.reduceLT, ne_eq, Fin.isValue, Nat.add_zero, nC_hrw, nS_hrw, nC_hwr, nS_hwr, hkd_hrw, hkd_hwr, fin4_0, fin4_1, fin4_2, fin4_3, fin2_0, fin2_1, ci0, ci1, cnn, false_implies, w32_eq, w64_eq]
    try simp (disch := omega) only [yc_lt, yc_le, yc_gt, yc_ge, yc_eq, w32_eq, w64_eq, tn_add, tn_mul, Int.toNat_natCast, Int.reduceToNat, not_true, not_false_iff, false_implies, forall_const, implies_true]
    repeat' (with_reducible first | apply And.intro | intro _)
    all_goals try omega
    all_goals try simp (disch := omega) only [w32_eq, w64_eq, tn_add, tn_mul, Int.toNat_natCast, Int.reduceToNat, Option.some.injEq, Sum.inr.injEq, Sum.inl.injEq]
    all_goals try omega
    all_goals exact hfin
end
