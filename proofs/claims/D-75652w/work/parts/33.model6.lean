/-! THE REFERENCE: deeds -/
set_option maxRecDepth 100000
/-- what deeds write: scratch, fields of the object, what stands in the row of numbers -/
def dA : Nat → Nat → Prop := fun b j => b ∈ [130, 132, 133] ∨ (b = 124 ∧ j ∈ [18, 22, 23]) ∨ (b = 125 ∧ (111 ≤ j ∧ j ≤ 113 ∨ 145 ≤ j ∧ j < 205))
abbrev FrD (h h1 : AH) : Prop := FrP dA h h1
theorem FrM.d {h h1 : AH} {cs fs : List Nat} (x : FrM cs fs h h1) (a : ∀ c ∈ cs, c ∈ [130, 132, 133]) (b : ∀ j ∈ fs, j ∈ [18, 22, 23]) : FrD h h1 := x.mono fun c j q => by
  rcases q with q | q
  · exact Or.inl (a c q)
  · exact Or.inr (Or.inl ⟨q.1, b j q.2⟩)
theorem FxA.frd {h h1 : AH} (hF : FxA h) (x : FrD h h1) : FxA h1 := hF.fr x fun q hq => by
  have hc : chM [130, 132, 133, 125] [18, 22, 23] = true := by decide +kernel
  have h1 := List.all_eq_true.mp hc q hq
  simp only [Bool.and_eq_true, Bool.not_eq_true', Bool.and_eq_false_iff, beq_eq_false_iff_ne, ne_eq, List.contains_eq_mem, decide_eq_false_iff_not] at h1
  rintro (q2 | q2 | q2)
  · exact h1.1 (by simp only [List.mem_cons, List.not_mem_nil, or_false] at q2 ⊢; omega)
  · rcases h1.2 with q3 | q3
    · exact q3 q2.1
    · exact q3 q2.2
  · exact h1.1 (by simp only [List.mem_cons]; omega)
theorem FrD.c {h h1 : AH} (x : FrD h h1) {b : Nat} (e1 : b ∉ [130, 132, 133]) (e2 : b ≠ 124) (e3 : b ≠ 125) : hdt h1 b = hdt h b := x.cell fun j q => by
  rcases q with q | q | q
  · exact e1 q
  · exact e2 q.1
  · exact e3 q.1
theorem FrD.f {h h1 : AH} (x : FrD h h1) {j : Nat} (e : j ∉ [18, 22, 23]) : hdt h1 124 j = hdt h 124 j := x.2.2 124 j fun q => by
  rcases q with q | q | q
  · simp at q
  · exact e q.2
  · exact absurd q.1 (by decide)
theorem FrD.a {h h1 : AH} (x : FrD h h1) {j : Nat} (e : j < 111 ∨ 113 < j ∧ j < 145 ∨ 205 ≤ j) : hdt h1 125 j = hdt h 125 j := x.2.2 125 j fun q => by
  rcases q with q | q | q
  · simp at q
  · exact absurd q.1 (by decide)
  · omega
/-- what stands is laid anew: the street stays -/
theorem AllS.re {f f1 : Nat → Int} {s : SP} {a b : S3} (h : AllS f s a) (hf : ∀ j, j < 111 ∨ 113 < j ∧ j < 145 ∨ 205 ≤ j → f1 j = f j) (hl : b.1.length ≤ 60) (h3 : ∀ t ∈ b.1, t < 3) (e1 : f1 111 = b.2.2) (e2 : f1 112 = b.2.1) (e3 : f1 113 = (b.1.length : Int)) (e4 : ∀ k, k < b.1.length → f1 (145 + k) = ((b.1.getD k 0 : Nat) : Int)) : AllS f1 s b := by
  obtain ⟨⟨a1, a2, a3, ⟨a4, a5, a6, a7, a8⟩, a9, a10, a11, a12⟩, b1, b2⟩ := h
  have hB := a1
  have lw : ∀ (l : Nat) (o : DN), l < 2 → LawC f l o → LawC f1 l o := by
    intro l o hl hC
    cases o with
    | none => show f1 (105 + l) = 0; rw [hf _ (by omega)]; exact hC
    | some q =>
      obtain ⟨c1, fr, c2, c3, c4, c5⟩ := hC
      exact ⟨by rw [hf _ (by omega)]; exact c1, fr, by rw [hf _ (by omega)]; exact c2, by rw [hf _ (by omega)]; exact c3, c4, fun k hk => by rw [hf _ (by omega)]; exact c5 k hk⟩
  refine ⟨⟨a1, hl, h3, ⟨by rw [hf _ (by omega)]; exact a4, by rw [hf _ (by omega)]; exact a5, e1, e2, e3⟩, fun i hi => ?_, fun t c ht hc => ?_, fun t c i ht hc hi => ?_, e4⟩, lw 0 _ (by decide) b1, lw 1 _ (by decide) b2⟩
  · have := hB.2.2.1.2.1
    rw [hf _ (by omega)]
    exact a9 i hi
  · rw [hf _ (by omega)]
    exact a10 t c ht hc
  · have := (hB.2.2.2 t c ht hc).1
    rw [hf _ (by omega)]
    exact a11 t c i ht hc hi
theorem c_X5_whyNight {G : GT} {h : AH} {s : SP} {a : S3} {N v : Int} (hF : FxA h) (hA : AllS (hdt h 125) s a) (hS : StOK s) (hO : OKS s N a) (hN : N < 2147483648) (hv : -9223372036854775808 ≤ v ∧ v < 9223372036854775808) :
    CnA G mX5_whyNight 7 0 0 [.inr (.inr (124)), .inr (.inl (v))] h (fun r h1 => r = some (.inl (whyS s a v)) ∧ FrM [130, 132, 133] [18, 22] h h1 ∧ (whyS s a v = 0 → hdt h1 124 22 = byS s a v)) := by
  refine CnA.of rfl (Nat.le_of_ble_eq_true rfl) ?_
  simp only [largs, lpad, mr_X5_whyNight]
  have hs := hA.1.sz
  have hT := hA.1.q.1
  have h5 := hO.2.2.2.2
  refine vsA_ok tk_X5_whyNight rfl 20 ?_
  simp only [at_X5_whyNight, mr_X5_whyNight, vsA, vcA, denA, lget, lset, lst1, lst2, lclr, argsA, restA, acats, acat, tcA, tcN, rzA, lle, List.length_cons, List.length_nil, Option.toList_some, Option.toList_none, List.cons_append, List.nil_append, eG, eM, eD, eC, eS, eQ, eH, if_true, if_false, Nat.reduceAdd, Nat.reduceLeDiff, Nat.reduceEqDiff, Nat.reduceLT, Nat.reduceSub, Int.reduceEq, Int.reduceLE, Int.reduceToNat, reduceCtorEq, reduceIte, Nat.reduceBEq, Int.reduceNeg, not_true, not_false_iff, true_and, and_true, true_or, or_true, false_or, or_false, forall_const, implies_true, Nat.le_refl, Int.toNat_natCast, Int.reduceLT, ne_eq, Fin.isValue, Nat.add_zero, nC_hrw, nS_hrw, nC_hwr, nS_hwr, hkd_hrw, hkd_hwr, fin4_0, fin4_1, fin4_2, fin4_3, fin2_0, fin2_1, ci0, ci1, cnn, false_implies, w32_eq, w64_eq, hF.m, hT]
  try simp (disch := omega) only [yc_lt, yc_le, yc_gt, yc_ge, yc_eq, w32_eq, w64_eq, tn_add, tn_mul, Int.toNat_natCast, Int.reduceToNat, not_true, not_false_iff, false_implies, forall_const, implies_true]
  repeat' (with_reducible first | apply And.intro | intro _)
  all_goals try omega
  all_goals try simp (disch := omega) only [w32_eq, w64_eq, tn_add, tn_mul, Int.toNat_natCast, Int.reduceToNat, Option.some.injEq, Sum.inr.injEq, Sum.inl.injEq]
  all_goals try omega
  refine ClA.pure (c_X5_within _ _ _ _) (by first | exact Nat.le_of_ble_eq_true rfl | (simp only [eD]; omega)) (by first | exact Nat.le_refl _ | (simp only [eG, eD, eC, eS, eQ, eH, nC_hrw, nC_hwr, nS_hrw, nS_hwr, nC_hnw, nS_hnw]; omega)) (by first | exact Nat.le_refl _ | (simp only [eG, eD, eC, eS, eQ, eH, nC_hrw, nC_hwr, nS_hrw, nS_hwr, nC_hnw, nS_hnw]; omega)) ?_
  -- from the stored table on
  generalize hE : ((G, mX5_whyNight, _, _, _, _, h) : EV) = E
  have Z : ∀ (t : Int) (h1 : AH), (0 ≤ v ∧ v ≤ (sT s : Int)) → byS s a v = t → (t = -1 ∨ 0 ≤ t ∧ t < 3) → FrM [130, 132, 133] [18, 22] h h1 → ExA E 35 [some (.inr (.inr (124))), some (.inr (.inl (v))), none] [.inl (t), .inr (.inr (124))] h1 := by
    intro t h1 hvt hby ht hf
    have hF1 := (hF.frm hf (by decide +kernel)).hwr (a := 124) (j := 22) (by decide +kernel) t
    have hf1 : FrM [130, 132, 133] [18, 22] h (hwr h1 124 22 t) := FrM.wf hf (by decide) t
    have eA : hdt (hwr h1 124 22 t) 125 = hdt h 125 := by rw [hdt_hwr, if_neg (by decide), FrM.c hf (by decide) (by decide)]
    have hA1 : AllS (hdt (hwr h1 124 22 t) 125) s a := by rw [eA]; exact hA
    have e22 : hdt (hwr h1 124 22 t) 124 22 = t := by rw [hdt_hwr, if_pos rfl, fup_s]
    have hF0 := hF.frm hf (by decide +kernel)
    have hq := hA1.1.q
    have c0 := hf.2.1
    have hw : whyS s a v = whyB (sB s) (sS s) a.1 t := by unfold whyS; rw [if_pos hvt, hby]
    rw [hw] at hE
    by_cases e1 : t = -1
    · rw [show whyB (sB s) (sS s) a.1 t = 0 by unfold whyB; rw [if_pos e1]] at hE
      subst hE
      refine vsA_ok tk_X5_whyNight rfl 20 ?_
      simp only [at_X5_whyNight, mr_X5_whyNight, vsA, vcA, denA, lget, lset, lst1, lst2, lclr, argsA, restA, acats, acat, tcA, tcN, rzA, lle, List.length_cons, List.length_nil, Option.toList_some, Option.toList_none, List.cons_append, List.nil_append, eG, eM, eD, eC, eS, eQ, eH, if_true, if_false, Nat.reduceAdd, Nat.reduceLeDiff, Nat.reduceEqDiff, Nat.reduceLT, Nat.reduceSub, Int.reduceEq, Int.reduceLE, Int.reduceToNat, reduceCtorEq, reduceIte, Nat.reduceBEq, Int.reduceNeg, not_true, not_false_iff, true_and, and_true, true_or, or_true, false_or, or_false, forall_const, implies_true, Nat.le_refl, Int.toNat_natCast, Int.reduceLT, ne_eq, Fin.isValue, Nat.add_zero, nC_hrw, nS_hrw, nC_hwr, nS_hwr, hkd_hrw, hkd_hwr, fin4_0, fin4_1, fin4_2, fin4_3, fin2_0, fin2_1, ci0, ci1, cnn, false_implies, w32_eq, w64_eq, hF0.m, hF1.m, e22, c0]
      try simp (disch := omega) only [yc_lt, yc_le, yc_gt, yc_ge, yc_eq, w32_eq, w64_eq, tn_add, tn_mul, Int.toNat_natCast, Int.reduceToNat, not_true, not_false_iff, false_implies, forall_const, implies_true]
      repeat' (with_reducible first | apply And.intro | intro _)
      all_goals try omega
      all_goals try simp (disch := omega) only [w32_eq, w64_eq, tn_add, tn_mul, Int.toNat_natCast, Int.reduceToNat, Option.some.injEq, Sum.inr.injEq, Sum.inl.injEq]
      all_goals try omega
      all_goals first | exact hf1 | exact e22.trans hby.symm
    · by_cases e2 : a.1.length = 60
      · rw [show whyB (sB s) (sS s) a.1 t = 2 by unfold whyB; rw [if_neg e1, if_pos e2]] at hE
        subst hE
        refine vsA_ok tk_X5_whyNight rfl 20 ?_
        simp only [at_X5_whyNight, mr_X5_whyNight, vsA, vcA, denA, lget, lset, lst1, lst2, lclr, argsA, restA, acats, acat, tcA, tcN, rzA, lle, List.length_cons, List.length_nil, Option.toList_some, Option.toList_none, List.cons_append, List.nil_append, eG, eM, eD, eC, eS, eQ, eH, if_true, if_false, Nat.reduceAdd, Nat.reduceLeDiff, Nat.reduceEqDiff, Nat.reduceLT, Nat.reduceSub, Int.reduceEq, Int.reduceLE, Int.reduceToNat, reduceCtorEq, reduceIte, Nat.reduceBEq, Int.reduceNeg, not_true, not_false_iff, true_and, and_true, true_or, or_true, false_or, or_false, forall_const, implies_true, Nat.le_refl, Int.toNat_natCast, Int.reduceLT, ne_eq, Fin.isValue, Nat.add_zero, nC_hrw, nS_hrw, nC_hwr, nS_hwr, hkd_hrw, hkd_hwr, fin4_0, fin4_1, fin4_2, fin4_3, fin2_0, fin2_1, ci0, ci1, cnn, false_implies, w32_eq, w64_eq, hF0.m, hF1.m, e22, hq]
        try simp (disch := omega) only [yc_lt, yc_le, yc_gt, yc_ge, yc_eq, w32_eq, w64_eq, tn_add, tn_mul, Int.toNat_natCast, Int.reduceToNat, not_true, not_false_iff, false_implies, forall_const, implies_true]
        repeat' (with_reducible first | apply And.intro | intro _)
        all_goals try omega
        all_goals try simp (disch := omega) only [w32_eq, w64_eq, tn_add, tn_mul, Int.toNat_natCast, Int.reduceToNat, Option.some.injEq, Sum.inr.injEq, Sum.inl.injEq]
        all_goals try omega
        all_goals first | exact hf1 | exact e22.trans hby.symm
      · obtain ⟨n, rfl⟩ : ∃ n : Nat, t = n := ⟨t.toNat, by omega⟩
        have hwb : whyB (sB s) (sS s) a.1 (n : Int) = if 1000000000000 < (wrd (sB s) (sS s) (a.1 ++ [n])).length then 3 else 0 := by unfold whyB; rw [if_neg e1, if_neg e2]; rfl
        rw [hwb] at hE
        have hx4 : (wrd (sB s) (sS s) (a.1 ++ [n])).length ≤ 4 * (wrd (sB s) (sS s) a.1).length := by
          have h6 := hA.lt
          rw [wrd_snoc]
          have : ∀ W : List Nat, (∀ d ∈ W, d < 6) → (W.flatMap (sB s n)).length ≤ 4 * W.length := by
            intro W
            induction W with
            | nil => intro _; simp
            | cons x l ih =>
              intro h6
              have h1 := (hA.1.b4 (t := n) (by omega) (h6 x List.mem_cons_self)).1
              have h2 := ih fun d hd => h6 d (List.mem_cons_of_mem _ hd)
              rw [List.flatMap_cons, List.length_append, List.length_cons]
              omega
          exact this _ h6
        have h5' : (wrd (sB s) (sS s) a.1).length ≤ 1000000000000 := h5
        subst hE
        refine vsA_ok tk_X5_whyNight rfl 20 ?_
        simp only [at_X5_whyNight, mr_X5_whyNight, vsA, vcA, denA, lget, lset, lst1, lst2, lclr, argsA, restA, acats, acat, tcA, tcN, rzA, lle, List.length_cons, List.length_nil, Option.toList_some, Option.toList_none, List.cons_append, List.nil_append, eG, eM, eD, eC, eS, eQ, eH, if_true, if_false, Nat.reduceAdd, Nat.reduceLeDiff, Nat.reduceEqDiff, Nat.reduceLT, Nat.reduceSub, Int.reduceEq, Int.reduceLE, Int.reduceToNat, reduceCtorEq, reduceIte, Nat.reduceBEq, Int.reduceNeg, not_true, not_false_iff, true_and, and_true, true_or, or_true, false_or, or_false, forall_const, implies_true, Nat.le_refl, Int.toNat_natCast, Int.reduceLT, ne_eq, Fin.isValue, Nat.add_zero, nC_hrw, nS_hrw, nC_hwr, nS_hwr, hkd_hrw, hkd_hwr, fin4_0, fin4_1, fin4_2, fin4_3, fin2_0, fin2_1, ci0, ci1, cnn, false_implies, w32_eq, w64_eq, hF0.m, hF1.m, e22, hq]
        try simp (disch := omega) only [yc_lt, yc_le, yc_gt, yc_ge, yc_eq, w32_eq, w64_eq, tn_add, tn_mul, Int.toNat_natCast, Int.reduceToNat, not_true, not_false_iff, false_implies, forall_const, implies_true]
        repeat' (with_reducible first | apply And.intro | intro _)
        all_goals try omega
        all_goals try simp (disch := omega) only [w32_eq, w64_eq, tn_add, tn_mul, Int.toNat_natCast, Int.reduceToNat, Option.some.injEq, Sum.inr.injEq, Sum.inl.injEq]
        all_goals try omega
        refine ClA.of (c_X5_longBehind hF1 hA1.1 (t := n) (by omega) h5) (by first | exact Nat.le_of_ble_eq_true rfl | (simp only [eD]; omega)) (by first | exact Nat.le_refl _ | (simp only [eG, eD, eC, eS, eQ, eH, nC_hrw, nC_hwr, nS_hrw, nS_hwr, nC_hnw, nS_hnw]; omega)) (by first | exact Nat.le_refl _ | (simp only [eG, eD, eC, eS, eQ, eH, nC_hrw, nC_hwr, nS_hrw, nS_hwr, nC_hnw, nS_hnw]; omega)) ?_
        rintro _ h2 ⟨rfl, f, rfl⟩ - -
        have hf2 : FrM [130, 132, 133] [18, 22] h (hrw (hwr h1 124 22 (n : Int)) 130 f) := FrM.rc hf1 (by decide) f
        have e22' : hdt (hrw (hwr h1 124 22 (n : Int)) 130 f) 124 22 = (n : Int) := by rw [hdt_hrw_n _ _ (by decide)]; exact e22
        by_cases e3 : 1000000000000 < (wrd (sB s) (sS s) (a.1 ++ [n])).length
        · rw [if_pos e3]
          refine vsA_ok tk_X5_whyNight rfl 20 ?_
          simp only [at_X5_whyNight, mr_X5_whyNight, vsA, vcA, denA, lget, lset, lst1, lst2, lclr, argsA, restA, acats, acat, tcA, tcN, rzA, lle, List.length_cons, List.length_nil, Option.toList_some, Option.toList_none, List.cons_append, List.nil_append, eG, eM, eD, eC, eS, eQ, eH, if_true, if_false, Nat.reduceAdd, Nat.reduceLeDiff, Nat.reduceEqDiff, Nat.reduceLT, Nat.reduceSub, Int.reduceEq, Int.reduceLE, Int.reduceToNat, reduceCtorEq, reduceIte, Nat.reduceBEq, Int.reduceNeg, not_true, not_false_iff, true_and, and_true, true_or, or_true, false_or, or_false, forall_const, implies_true, Nat.le_refl, Int.toNat_natCast, Int.reduceLT, ne_eq, Fin.isValue, Nat.add_zero, nC_hrw, nS_hrw, nC_hwr, nS_hwr, hkd_hrw, hkd_hwr, fin4_0, fin4_1, fin4_2, fin4_3, fin2_0, fin2_1, ci0, ci1, cnn, false_implies, w32_eq, w64_eq, c0]
          try simp (disch := omega) only [yc_lt, yc_le, yc_gt, yc_ge, yc_eq, w32_eq, w64_eq, tn_add, tn_mul, Int.toNat_natCast, Int.reduceToNat, not_true, not_false_iff, false_implies, forall_const, implies_true]
          repeat' (with_reducible first | apply And.intro | intro _)
          all_goals try omega
          all_goals try simp (disch := omega) only [w32_eq, w64_eq, tn_add, tn_mul, Int.toNat_natCast, Int.reduceToNat, Option.some.injEq, Sum.inr.injEq, Sum.inl.injEq]
          all_goals try omega
          all_goals first | exact hf2 | exact e22'.trans hby.symm
        · rw [if_neg e3]
          refine vsA_ok tk_X5_whyNight rfl 20 ?_
          simp only [at_X5_whyNight, mr_X5_whyNight, vsA, vcA, denA, lget, lset, lst1, lst2, lclr, argsA, restA, acats, acat, tcA, tcN, rzA, lle, List.length_cons, List.length_nil, Option.toList_some, Option.toList_none, List.cons_append, List.nil_append, eG, eM, eD, eC, eS, eQ, eH, if_true, if_false, Nat.reduceAdd, Nat.reduceLeDiff, Nat.reduceEqDiff, Nat.reduceLT, Nat.reduceSub, Int.reduceEq, Int.reduceLE, Int.reduceToNat, reduceCtorEq, reduceIte, Nat.reduceBEq, Int.reduceNeg, not_true, not_false_iff, true_and, and_true, true_or, or_true, false_or, or_false, forall_const, implies_true, Nat.le_refl, Int.toNat_natCast, Int.reduceLT, ne_eq, Fin.isValue, Nat.add_zero, nC_hrw, nS_hrw, nC_hwr, nS_hwr, hkd_hrw, hkd_hwr, fin4_0, fin4_1, fin4_2, fin4_3, fin2_0, fin2_1, ci0, ci1, cnn, false_implies, w32_eq, w64_eq, c0]
          try simp (disch := omega) only [yc_lt, yc_le, yc_gt, yc_ge, yc_eq, w32_eq, w64_eq, tn_add, tn_mul, Int.toNat_natCast, Int.reduceToNat, not_true, not_false_iff, false_implies, forall_const, implies_true]
          repeat' (with_reducible first | apply And.intro | intro _)
          all_goals try omega
          all_goals try simp (disch := omega) only [w32_eq, w64_eq, tn_add, tn_mul, Int.toNat_natCast, Int.reduceToNat, Option.some.injEq, Sum.inr.injEq, Sum.inl.injEq]
          all_goals try omega
          all_goals first | exact hf2 | exact e22'.trans hby.symm
  by_cases hvt : 0 ≤ v ∧ v ≤ (sT s : Int)
  · by_cases hv0 : v = 0
    · have hpi : pkS s a = -1 ∨ 0 ≤ pkS s a ∧ pkS s a < 3 := by
        have := pkd_in (sT s) hs.2.2.2.1 (sP s) (sL s) (wdW a.2.1 a.2.2 (wrdS s a))
        unfold pkS
        omega
      have hby : byS s a v = pkS s a := by unfold byS; rw [if_pos hv0]
      have zz := Z (pkS s a) 
      subst hE
      refine vsA_ok tk_X5_whyNight rfl 20 ?_
      simp only [at_X5_whyNight, mr_X5_whyNight, vsA, vcA, denA, lget, lset, lst1, lst2, lclr, argsA, restA, acats, acat, tcA, tcN, rzA, lle, List.length_cons, List.length_nil, Option.toList_some, Option.toList_none, List.cons_append, List.nil_append, eG, eM, eD, eC, eS, eQ, eH, if_true, if_false, Nat.reduceAdd, Nat.reduceLeDiff, Nat.reduceEqDiff, Nat.reduceLT, Nat.reduceSub, Int.reduceEq, Int.reduceLE, Int.reduceToNat, reduceCtorEq, reduceIte, Nat.reduceBEq, Int.reduceNeg, not_true, not_false_iff, true_and, and_true, true_or, or_true, false_or, or_false, forall_const, implies_true, Nat.le_refl, Int.toNat_natCast, Int.reduceLT, ne_eq, Fin.isValue, Nat.add_zero, nC_hrw, nS_hrw, nC_hwr, nS_hwr, hkd_hrw, hkd_hwr, fin4_0, fin4_1, fin4_2, fin4_3, fin2_0, fin2_1, ci0, ci1, cnn, false_implies, w32_eq, w64_eq, hF.m]
      try simp (disch := omega) only [yc_lt, yc_le, yc_gt, yc_ge, yc_eq, w32_eq, w64_eq, tn_add, tn_mul, Int.toNat_natCast, Int.reduceToNat, not_true, not_false_iff, false_implies, forall_const, implies_true]
      repeat' (with_reducible first | apply And.intro | intro _)
      all_goals try omega
      all_goals try simp (disch := omega) only [w32_eq, w64_eq, tn_add, tn_mul, Int.toNat_natCast, Int.reduceToNat, Option.some.injEq, Sum.inr.injEq, Sum.inl.injEq]
      all_goals try omega
      refine ClA.of (c_X5_pickedNow hF hA hS hO hN) (by first | exact Nat.le_of_ble_eq_true rfl | (simp only [eD]; omega)) (by first | exact Nat.le_refl _ | (simp only [eG, eD, eC, eS, eQ, eH, nC_hrw, nC_hwr, nS_hrw, nS_hwr, nC_hnw, nS_hnw]; omega)) (by first | exact Nat.le_refl _ | (simp only [eG, eD, eC, eS, eQ, eH, nC_hrw, nC_hwr, nS_hrw, nS_hwr, nC_hnw, nS_hnw]; omega)) ?_
      rintro _ h1 ⟨rfl, hf⟩ - -
      have zz := zz h1 hvt hby hpi (FrM.up hf (by decide) (by decide))
      refine vsA_ok tk_X5_whyNight rfl 0 ?_
      simp only [at_X5_whyNight, mr_X5_whyNight, vsA, vcA, denA, lget, lset, lst1, lst2, lclr, argsA, restA, acats, acat, tcA, tcN, rzA, lle, List.length_cons, List.length_nil, Option.toList_some, Option.toList_none, List.cons_append, List.nil_append, eG, eM, eD, eC, eS, eQ, eH, if_true, if_false, Nat.reduceAdd, Nat.reduceLeDiff, Nat.reduceEqDiff, Nat.reduceLT, Nat.reduceSub, Int.reduceEq, Int.reduceLE, Int.reduceToNat, reduceCtorEq, reduceIte, Nat.reduceBEq, Int.reduceNeg, not_true, not_false_iff, true_and, and_true, true_or, or_true, false_or, or_false, forall_const, implies_true, Nat.le_refl, Int.toNat_natCast, Int.reduceLT, ne_eq, Fin.isValue, Nat.add_zero, nC_hrw, nS_hrw, nC_hwr, nS_hwr, hkd_hrw, hkd_hwr, fin4_0, fin4_1, fin4_2, fin4_3, fin2_0, fin2_1, ci0, ci1, cnn, false_implies, w32_eq, w64_eq]
      try simp (disch := omega) only [yc_lt, yc_le, yc_gt, yc_ge, yc_eq, w32_eq, w64_eq, tn_add, tn_mul, Int.toNat_natCast, Int.reduceToNat, not_true, not_false_iff, false_implies, forall_const, implies_true]
      repeat' (with_reducible first | apply And.intro | intro _)
      all_goals try omega
      all_goals try simp (disch := omega) only [w32_eq, w64_eq, tn_add, tn_mul, Int.toNat_natCast, Int.reduceToNat, Option.some.injEq, Sum.inr.injEq, Sum.inl.injEq]
      all_goals try omega
      all_goals try exact (zz).weak rfl (by simp [lle] <;> omega)
    · have hby : byS s a v = v - 1 := by unfold byS; rw [if_neg hv0]
      have zz := Z (v - 1) h hvt hby (by omega) FrP.rf
      subst hE
      refine vsA_ok tk_X5_whyNight rfl 9 ?_
      simp only [at_X5_whyNight, mr_X5_whyNight, vsA, vcA, denA, lget, lset, lst1, lst2, lclr, argsA, restA, acats, acat, tcA, tcN, rzA, lle, List.length_cons, List.length_nil, Option.toList_some, Option.toList_none, List.cons_append, List.nil_append, eG, eM, eD, eC, eS, eQ, eH, if_true, if_false, Nat.reduceAdd, Nat.reduceLeDiff, Nat.reduceEqDiff, Nat.reduceLT, Nat.reduceSub, Int.reduceEq, Int.reduceLE, Int.reduceToNat, reduceCtorEq, reduceIte, Nat.reduceBEq, Int.reduceNeg, not_true, not_false_iff, true_and, and_true, true_or, or_true, false_or, or_false, forall_const, implies_true, Nat.le_refl, Int.toNat_natCast, Int.reduceLT, ne_eq, Fin.isValue, Nat.add_zero, nC_hrw, nS_hrw, nC_hwr, nS_hwr, hkd_hrw, hkd_hwr, fin4_0, fin4_1, fin4_2, fin4_3, fin2_0, fin2_1, ci0, ci1, cnn, false_implies, w32_eq, w64_eq]
      try simp (disch := omega) only [yc_lt, yc_le, yc_gt, yc_ge, yc_eq, w32_eq, w64_eq, tn_add, tn_mul, Int.toNat_natCast, Int.reduceToNat, not_true, not_false_iff, false_implies, forall_const, implies_true]
      repeat' (with_reducible first | apply And.intro | intro _)
      all_goals try omega
      all_goals try simp (disch := omega) only [w32_eq, w64_eq, tn_add, tn_mul, Int.toNat_natCast, Int.reduceToNat, Option.some.injEq, Sum.inr.injEq, Sum.inl.injEq]
      all_goals try omega
      all_goals try exact (zz).weak rfl (by simp [lle] <;> omega)
  · rw [show whyS s a v = 1 by unfold whyS; rw [if_neg hvt]] at hE
    subst hE
    refine vsA_ok tk_X5_whyNight rfl 20 ?_
    simp only [at_X5_whyNight, mr_X5_whyNight, vsA, vcA, denA, lget, lset, lst1, lst2, lclr, argsA, restA, acats, acat, tcA, tcN, rzA, lle, List.length_cons, List.length_nil, Option.toList_some, Option.toList_none, List.cons_append, List.nil_append, eG, eM, eD, eC, eS, eQ, eH, if_true, if_false, Nat.reduceAdd, Nat.reduceLeDiff, Nat.reduceEqDiff, Nat.reduceLT, Nat.reduceSub, Int.reduceEq, Int.reduceLE, Int.reduceToNat, reduceCtorEq, reduceIte, Nat.reduceBEq, Int.reduceNeg, not_true, not_false_iff, true_and, and_true, true_or, or_true, false_or, or_false, forall_const, implies_true, Nat.le_refl, Int.toNat_natCast, Int.reduceLT, ne_eq, Fin.isValue, Nat.add_zero, nC_hrw, nS_hrw, nC_hwr, nS_hwr, hkd_hrw, hkd_hwr, fin4_0, fin4_1, fin4_2, fin4_3, fin2_0, fin2_1, ci0, ci1, cnn, false_implies, w32_eq, w64_eq]
    try simp (disch := omega) only [yc_lt, yc_le, yc_gt, yc_ge, yc_eq, w32_eq, w64_eq, tn_add, tn_mul, Int.toNat_natCast, Int.reduceToNat, not_true, not_false_iff, false_implies, forall_const, implies_true]
    repeat' (with_reducible first | apply And.intro | intro _)
    all_goals try omega
    all_goals try simp (disch := omega) only [w32_eq, w64_eq, tn_add, tn_mul, Int.toNat_natCast, Int.reduceToNat, Option.some.injEq, Sum.inr.injEq, Sum.inl.injEq]
    all_goals try omega
    all_goals exact FrP.rf
theorem c_X5_goesNight {G : GT} {h : AH} {s : SP} {a : S3} {t : Int} (hF : FxA h) (hA : AllS (hdt h 125) s a) (hp : hdt h 124 22 = t) (ht : t = -1 ∨ 0 ≤ t ∧ t < 3 ∧ a.1.length < 60) :
    CnA G mX5_goesNight 1 0 0 [.inr (.inr (124))] h (fun r h1 => r = none ∧ FrD h h1 ∧ hdt h1 124 = hdt h 124 ∧ AllS (hdt h1 125) s (byG a t)) := by
  refine CnA.of rfl (Nat.le_of_ble_eq_true rfl) ?_
  simp only [largs, lpad, mr_X5_goesNight]
  have hs := hA.1.sz
  have hq := hA.1.q
  have g1 : dA 125 112 := Or.inr (Or.inr ⟨rfl, by omega⟩)
  have g2 : dA 125 113 := Or.inr (Or.inr ⟨rfl, by omega⟩)
  have hF1 : ∀ z, FxA (hwr h 125 112 z) := fun z => hF.hwr (by decide +kernel) z
  rcases ht with rfl | ⟨t0, t1, t2⟩
  · have hG : byG a (-1) = (a.1, a.2.1 + 1, a.2.2) := rfl
    rw [hG]
    refine vsA_ok tk_X5_goesNight rfl 60 ?_
    simp only [at_X5_goesNight, mr_X5_goesNight, vsA, vcA, denA, lget, lset, lst1, lst2, lclr, argsA, restA, acats, acat, tcA, tcN, rzA, lle, List.length_cons, List.length_nil, Option.toList_some, Option.toList_none, List.cons_append, List.nil_append, eG, eM, eD, eC, eS, eQ, eH, if_true, if_false, Nat.reduceAdd, Nat.reduceLeDiff, Nat.reduceEqDiff, Nat.reduceLT, Nat.reduceSub, Int.reduceEq, Int.reduceLE, Int.reduceToNat, reduceCtorEq, reduceIte, Nat.reduceBEq, Int.reduceNeg, not_true, not_false_iff, true_and, and_true, true_or, or_true, false_or, or_false, forall_const, implies_true, Nat.le_refl, Int.toNat_natCast, Int.reduceLT, ne_eq, Fin.isValue, Nat.add_zero, nC_hrw, nS_hrw, nC_hwr, nS_hwr, hkd_hrw, hkd_hwr, fin4_0, fin4_1, fin4_2, fin4_3, fin2_0, fin2_1, ci0, ci1, cnn, false_implies, w32_eq, w64_eq, hF.m, (hF1 _).m, hq, hdt_hwr, fup_at, hp]
    try simp (disch := omega) only [yc_lt, yc_le, yc_gt, yc_ge, yc_eq, w32_eq, w64_eq, tn_add, tn_mul, Int.toNat_natCast, Int.reduceToNat, not_true, not_false_iff, false_implies, forall_const, implies_true]
    repeat' (with_reducible first | apply And.intro | intro _)
    all_goals try omega
    all_goals try simp (disch := omega) only [w32_eq, w64_eq, tn_add, tn_mul, Int.toNat_natCast, Int.reduceToNat, Option.some.injEq, Sum.inr.injEq, Sum.inl.injEq]
    all_goals try omega
    · exact FrP.rf.wr g1 _
    try (rw [hdt_hwr, if_neg (by decide)])
    refine hA.re (fun j hj => ?_) hA.1.2.1 hA.1.2.2.1 ?_ ?_ ?_ fun k hk => ?_
    · rw [fup_n _ _ (by omega)]
    · rw [fup_n _ _ (by omega)]; exact hq.2.2.1
    · rw [fup_s]
    · rw [fup_n _ _ (by omega)]; exact hq.2.2.2.2
    · rw [fup_n _ _ (by omega)]; exact hA.1.by hk
  · obtain ⟨n, rfl⟩ : ∃ n : Nat, t = n := ⟨t.toNat, by omega⟩
    have hG : byG a (n : Int) = (a.1 ++ [n], a.2.1 + 1, a.2.2) := by unfold byG; rw [if_neg (by omega)]; rfl
    rw [hG]
    have g3 : dA 125 (145 + a.1.length) := Or.inr (Or.inr ⟨rfl, by omega⟩)
    have hF2 : ∀ z y, FxA (hwr (hwr h 125 112 z) 125 (145 + a.1.length) y) := fun z y => (hF1 z).fr (FrP.rf.wr (A := fun b j => b = 125) rfl y) (fun q hq => by
      have : ∀ q ∈ rFl, q.1 ≠ 125 := by decide +kernel
      exact this q hq)
    have e22 : ∀ z, hdt (hwr h 125 112 z) 124 22 = (n : Int) := fun z => by rw [hdt_hwr, if_neg (by decide)]; exact hp
    have e22' : ∀ z y, hdt (hwr (hwr h 125 112 z) 125 (145 + a.1.length) y) 124 22 = (n : Int) := fun z y => by rw [hdt_hwr, if_neg (by decide)]; exact e22 z
    have e113 : ∀ z, hdt (hwr h 125 112 z) 125 113 = (a.1.length : Int) := fun z => by rw [hdt_hwr, if_pos rfl, fup_n _ _ (by decide)]; exact hq.2.2.2.2
    have e113' : ∀ z y, hdt (hwr (hwr h 125 112 z) 125 (145 + a.1.length) y) 125 113 = (a.1.length : Int) := fun z y => by rw [hdt_hwr, if_pos rfl, fup_n _ _ (by omega)]; exact e113 z
    have ei : (145 + (a.1.length : Int)).toNat = 145 + a.1.length := by omega
    refine vsA_ok tk_X5_goesNight rfl 60 ?_
    simp only [at_X5_goesNight, mr_X5_goesNight, vsA, vcA, denA, lget, lset, lst1, lst2, lclr, argsA, restA, acats, acat, tcA, tcN, rzA, lle, List.length_cons, List.length_nil, Option.toList_some, Option.toList_none, List.cons_append, List.nil_append, eG, eM, eD, eC, eS, eQ, eH, if_true, if_false, Nat.reduceAdd, Nat.reduceLeDiff, Nat.reduceEqDiff, Nat.reduceLT, Nat.reduceSub, Int.reduceEq, Int.reduceLE, Int.reduceToNat, reduceCtorEq, reduceIte, Nat.reduceBEq, Int.reduceNeg, not_true, not_false_iff, true_and, and_true, true_or, or_true, false_or, or_false, forall_const, implies_true, Nat.le_refl, Int.toNat_natCast, Int.reduceLT, ne_eq, Fin.isValue, Nat.add_zero, nC_hrw, nS_hrw, nC_hwr, nS_hwr, hkd_hrw, hkd_hwr, fin4_0, fin4_1, fin4_2, fin4_3, fin2_0, fin2_1, ci0, ci1, cnn, false_implies, w32_eq, w64_eq, hF.m, (hF1 _).m, (hF2 _ _).m, hq, e22, e22', e113, e113', ei]
    try simp (disch := omega) only [yc_lt, yc_le, yc_gt, yc_ge, yc_eq, w32_eq, w64_eq, tn_add, tn_mul, Int.toNat_natCast, Int.reduceToNat, not_true, not_false_iff, false_implies, forall_const, implies_true]
    repeat' (with_reducible first | apply And.intro | intro _)
    all_goals try omega
    all_goals try simp (disch := omega) only [w32_eq, w64_eq, tn_add, tn_mul, Int.toNat_natCast, Int.reduceToNat, Option.some.injEq, Sum.inr.injEq, Sum.inl.injEq]
    all_goals try omega
    · exact ((FrP.rf.wr g1 _).wr g3 _).wr g2 _
    · rw [hdt_hwr, if_neg (by decide), hdt_hwr, if_neg (by decide), hdt_hwr, if_neg (by decide)]
    · rw [hdt_hwr, if_pos rfl, hdt_hwr, if_pos rfl, hdt_hwr, if_pos rfl]
      refine hA.re (fun j hj => ?_) ?_ ?_ ?_ ?_ ?_ fun k hk => ?_
      · rw [fup_n _ _ (by omega), fup_n _ _ (by omega), fup_n _ _ (by omega)]
      · show (a.1 ++ [n]).length ≤ 60
        simp
        omega
      · intro x hx
        rcases List.mem_append.mp hx with hx | hx
        · exact hA.1.2.2.1 x hx
        · have := List.mem_singleton.mp hx
          omega
      · rw [fup_n _ _ (by omega), fup_n _ _ (by omega), fup_n _ _ (by omega)]; exact hq.2.2.1
      · rw [fup_n _ _ (by omega), fup_n _ _ (by omega), fup_s]
      · rw [fup_s]
        show _ = (((a.1 ++ [n]).length : Nat) : Int)
        simp
      · have hk : k < (a.1 ++ [n]).length := hk
        rw [List.length_append, List.length_singleton] at hk
        show _ = (((a.1 ++ [n]).getD k 0 : Nat) : Int)
        rw [fup_n _ _ (by omega)]
        by_cases e : k = a.1.length
        · subst e
          rw [fup_s]
          simp
        · rw [fup_n _ _ (by omega), fup_n _ _ (by omega), getD_appl _ (by omega)]
          exact hA.1.by (by omega)
