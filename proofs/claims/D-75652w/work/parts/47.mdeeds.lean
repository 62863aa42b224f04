/-! THE REFERENCE: calls that do deeds -/
set_option maxRecDepth 100000
/-- what a call that does deeds may write -/
def dN : Nat → Nat → Prop := fun b j => b ∈ [130, 132, 133, 134, 135] ∨ (b = 124 ∧ j ∈ [0, 18, 22, 23, 25]) ∨ (b = 125 ∧ 111 ≤ j ∧ j < 205)
abbrev FrN (h h1 : AH) : Prop := FrP dN h h1
theorem FrM.n {h h1 : AH} {cs fs : List Nat} (x : FrM cs fs h h1) (a : ∀ c ∈ cs, c ∈ [130, 132, 133, 134, 135]) (b : ∀ j ∈ fs, j ∈ [0, 18, 22, 23, 25]) : FrN h h1 := x.mono fun c j q => by
  rcases q with q | q
  · exact Or.inl (a c q)
  · exact Or.inr (Or.inl ⟨q.1, b j q.2⟩)
theorem FrD.n {h h1 : AH} (x : FrD h h1) : FrN h h1 := x.mono fun b j q => by
  rcases q with q | q | q
  · refine Or.inl ?_
    simp only [List.mem_cons, List.not_mem_nil, or_false] at q ⊢
    omega
  · refine Or.inr (Or.inl ⟨q.1, ?_⟩)
    have := q.2
    simp only [List.mem_cons, List.not_mem_nil, or_false] at this ⊢
    omega
  · exact Or.inr (Or.inr ⟨q.1, by omega, by omega⟩)
theorem FrN.r125 {h h1 : AH} {f : Nat → Int} (x : FrN h h1) (hf : ∀ j, j < 111 ∨ 205 ≤ j → f j = hdt h1 125 j) : FrN h (hrw h1 125 f) := x.tr ⟨fun _ => rfl, ⟨rfl, rfl, rfl⟩, fun b j q => by
  rw [hdt_hrw]
  split
  next e =>
    rw [e]
    refine hf j ?_
    rcases Nat.lt_or_ge j 111 with q1 | q1
    · exact Or.inl q1
    · rcases Nat.lt_or_ge j 205 with q2 | q2
      · exact absurd (Or.inr (Or.inr ⟨e, q1, q2⟩)) q
      · exact Or.inr q2
  next => rfl⟩
theorem FrN.c {h h1 : AH} (x : FrN h h1) {b : Nat} (e1 : b ∉ [130, 132, 133, 134, 135]) (e2 : b ≠ 124) (e3 : b ≠ 125) : hdt h1 b = hdt h b := x.cell fun j q => by
  rcases q with q | q | q
  · exact e1 q
  · exact e2 q.1
  · exact e3 q.1
theorem FrN.f {h h1 : AH} (x : FrN h h1) {j : Nat} (e : j ∉ [0, 18, 22, 23, 25]) : hdt h1 124 j = hdt h 124 j := x.2.2 124 j fun q => by
  rcases q with q | q | q
  · simp at q
  · exact e q.2
  · exact absurd q.1 (by decide)
theorem FrN.a {h h1 : AH} (x : FrN h h1) {j : Nat} (e : j < 111 ∨ 205 ≤ j) : hdt h1 125 j = hdt h 125 j := x.2.2 125 j fun q => by
  rcases q with q | q | q
  · simp at q
  · exact absurd q.1 (by decide)
  · omega
theorem FxA.frn {h h1 : AH} (hF : FxA h) (x : FrN h h1) : FxA h1 := hF.fr x fun q hq => by
  have hc : chM [130, 132, 133, 134, 135, 125] [0, 18, 22, 23, 25] = true := by decide +kernel
  have h1 := List.all_eq_true.mp hc q hq
  simp only [Bool.and_eq_true, Bool.not_eq_true', Bool.and_eq_false_iff, beq_eq_false_iff_ne, ne_eq, List.contains_eq_mem, decide_eq_false_iff_not] at h1
  rintro (q2 | q2 | q2)
  · exact h1.1 (by simp only [List.mem_cons, List.not_mem_nil, or_false] at q2 ⊢; omega)
  · rcases h1.2 with q3 | q3
    · exact q3 q2.1
    · exact q3 q2.2
  · exact h1.1 (by simp only [List.mem_cons]; omega)
/-- what was isn't looked at by what stands -/
theorem AllS.cong {f f1 : Nat → Int} {s : SP} {a : S3} (h : AllS f s a) (hf : ∀ j, j < 114 ∨ 144 < j → f1 j = f j) : AllS f1 s a := by
  obtain ⟨⟨a1, a2, a3, ⟨a4, a5, a6, a7, a8⟩, a9, a10, a11, a12⟩, b1, b2⟩ := h
  have hB := a1
  have lw : ∀ (l : Nat) (o : DN), l < 2 → LawC f l o → LawC f1 l o := by
    intro l o hl hC
    cases o with
    | none => show f1 (105 + l) = 0; rw [hf _ (by omega)]; exact hC
    | some q =>
      obtain ⟨c1, fr, c2, c3, c4, c5⟩ := hC
      exact ⟨by rw [hf _ (by omega)]; exact c1, fr, by rw [hf _ (by omega)]; exact c2, by rw [hf _ (by omega)]; exact c3, c4, fun k hk => by rw [hf _ (by omega)]; exact c5 k hk⟩
  refine ⟨⟨a1, a2, a3, ⟨by rw [hf _ (by omega)]; exact a4, by rw [hf _ (by omega)]; exact a5, by rw [hf _ (by omega)]; exact a6, by rw [hf _ (by omega)]; exact a7, by rw [hf _ (by omega)]; exact a8⟩, fun i hi => ?_, fun t c ht hc => ?_, fun t c i ht hc hi => ?_, fun k hk => ?_⟩, lw 0 _ (by decide) b1, lw 1 _ (by decide) b2⟩
  · have := hB.2.2.1.2.1
    rw [hf _ (by omega)]
    exact a9 i hi
  · rw [hf _ (by omega)]
    exact a10 t c ht hc
  · have := (hB.2.2.2 t c ht hc).1
    rw [hf _ (by omega)]
    exact a11 t c i ht hc hi
  · rw [hf _ (by omega)]
    exact a12 k hk
theorem pushU_t3 (us : List S3) (a : S3) : (pushU us a).map t3 = pushT (us.map t3) (t3 a) := by
  unfold pushU pushT
  rw [List.length_map]
  split <;> simp
theorem MpC.deed {h h1 : AH} {w : WD} {a : S3} {us : List S3} (hF : FxA h) (hM : MdC h w) (x : FrN h h1) (hA : AllS (hdt h1 125) (wS w) a) (hU : UndC (hdt h1 125) (us.map t3)) : MpC h h1 (setAU w a us) := by
  refine ⟨x.mono fun b j q => ?_, hF.frn x, ?_⟩
  · rcases q with q | q | q
    · simp only [List.mem_cons, List.not_mem_nil, or_false] at q
      exact ⟨by omega, by omega⟩
    · exact ⟨by omega, by omega⟩
    · exact ⟨by omega, by omega⟩
  · obtain ⟨⟨m0, m1⟩, m2, m3, m4, m5, m6⟩ := hM
    refine ⟨⟨hA, ?_⟩, hU, fun i hi => ?_, ?_, ?_, fun t ht => ?_⟩
    · rw [FrN.a x (by omega)]; exact m1
    · have := m3 i hi
      show ImgM h1 i (wI w i)
      unfold ImgM at this ⊢
      rw [FrN.c x (b := 126) (by decide) (by decide) (by decide)]
      rw [show (fun j => hdt h1 125 (1106 * (i + 1) + j)) = fun j => hdt h 125 (1106 * (i + 1) + j) from funext fun j => FrN.a x (by omega)]
      exact this
    · rw [FrN.f x (by decide), FrN.c x (b := 127) (by decide) (by decide) (by decide)]; exact m4
    · rw [FrN.f x (by decide), FrN.f x (by decide)]; exact m5
    · have := m6 t ht
      show TryM h1 t (wT w t)
      unfold TryM TrM at this ⊢
      rw [FrN.c x (b := 150) (by decide) (by decide) (by decide), FrN.c x (b := 151) (by decide) (by decide) (by decide), FrN.c x (b := 152) (by decide) (by decide) (by decide)]
      exact this
/-- what was is left alone by deeds -/
theorem UndC.d {h h1 : AH} {us : List T3} (x : FrD h h1) (hU : UndC (hdt h 125) us) : UndC (hdt h1 125) us := by
  obtain ⟨u1, u2, u3⟩ := hU
  exact ⟨u1, by rw [FrD.a x (by omega)]; exact u2, fun i hi => by rw [FrD.a x (by omega), FrD.a x (by omega), FrD.a x (by omega)]; exact u3 i hi⟩
theorem setAU_same (w : WD) : setAU w (wA w) (wU w) = w := rfl
section
variable {G : GT} {h : AH} {w : WD} {N : Int}
theorem c_X5_night (hF : FxA h) (hM : MdC h w) (hW : WOK N w) (hN : N < 2147480000) (v : Int) (hv : In32 v) :
    CnA G mX5_night 8 0 0 [.inr (.inr (124)), .inl (v)] h (fun r h1 => r = some (.inr (.inl (if whyS (wS w) (wA w) v = 0 then (((wrdS (wS w) (goS (wS w) (wA w) v)).length : Nat) : Int) else -10 - whyS (wS w) (wA w) v))) ∧ MpC h h1 (if whyS (wS w) (wA w) v = 0 then setAU w (goS (wS w) (wA w) v) (pushU (wU w) (wA w)) else w)) := by
  refine CnA.of rfl (Nat.le_of_ble_eq_true rfl) ?_
  simp only [largs, lpad, mr_X5_night]
  obtain ⟨hv1, hv2⟩ := hv
  obtain ⟨x0, hF0, hM0⟩ := thr_0 hF hM
  have hS := hW.1
  have hO := hW.2.1
  have hA0 : AllS (hdt (hwr h 124 0 0) 125) (wS w) (wA w) := hM0.1.1
  have hT3 := hS.1.2.1
  have hr3 : 0 ≤ whyS (wS w) (wA w) v ∧ whyS (wS w) (wA w) v ≤ 3 := by
    unfold whyS whyB
    repeat' split
    all_goals omega
  refine vsA_ok tk_X5_night rfl 20 ?_
  simp only [at_X5_night, mr_X5_night, vsA, vcA, denA, lget, lset, lst1, lst2, lclr, argsA, restA, acats, acat, tcA, tcN, rzA, lle, List.length_cons, List.length_nil, Option.toList_some, Option.toList_none, List.cons_append, List.nil_append, eG, eM, eD, eC, eS, eQ, eH, if_true, if_false, Nat.reduceAdd, Nat.reduceLeDiff, Nat.reduceEqDiff, Nat.reduceLT, Nat.reduceSub, Int.reduceEq, Int.reduceLE, Int.reduceToNat, reduceCtorEq, reduceIte, Nat.reduceBEq, Int.reduceNeg, not_true, not_false_iff, true_and, and_true, true_or, or_true, false_or, or_false, forall_const, implies_true, Nat.le_refl, Int.toNat_natCast, Int.reduceLT, ne_eq, Fin.isValue, Nat.add_zero, nC_hrw, nS_hrw, nC_hwr, nS_hwr, hkd_hrw, hkd_hwr, fin4_0, fin4_1, fin4_2, fin4_3, fin2_0, fin2_1, ci0, ci1, cnn, false_implies, w32_eq, w64_eq, hF.m, hF0.m]
  try simp (disch := omega) only [yc_lt, yc_le, yc_gt, yc_ge, yc_eq, w32_eq, w64_eq, tn_add, tn_mul, Int.toNat_natCast, Int.reduceToNat, not_true, not_false_iff, false_implies, forall_const, implies_true]
  repeat' (with_reducible first | apply And.intro | intro _)
  all_goals try omega
  all_goals try simp (disch := omega) only [w32_eq, w64_eq, tn_add, tn_mul, Int.toNat_natCast, Int.reduceToNat, Option.some.injEq, Sum.inr.injEq, Sum.inl.injEq]
  all_goals try omega
  refine ClA.of (c_X5_whyNight hF0 hA0 hS hO (by omega) (v := v) (by omega)) (by first | exact Nat.le_of_ble_eq_true rfl | (simp only [eD]; omega)) (by first | exact Nat.le_refl _ | (simp only [eG, eD, eC, eS, eQ, eH, nC_hrw, nC_hwr, nS_hrw, nS_hwr, nC_hnw, nS_hnw]; omega)) (by first | exact Nat.le_refl _ | (simp only [eG, eD, eC, eS, eQ, eH, nC_hrw, nC_hwr, nS_hrw, nS_hwr, nC_hnw, nS_hnw]; omega)) ?_
  rintro _ h1 ⟨rfl, hf1, hp1⟩ - -
  have hx1 : FrM [130, 132, 133] [0, 18, 22] h h1 := (FrM.up x0 (by decide) (by decide)).tr (FrM.up hf1 (by decide) (by decide))
  have c1 := hx1.2.1
  have hF1 := hF.frm hx1 (by decide +kernel)
  have eA1 : hdt h1 125 = hdt h 125 := FrM.c hx1 (by decide) (by decide)
  have hA1 : AllS (hdt h1 125) (wS w) (wA w) := by rw [eA1]; exact hM.1.1
  by_cases q0 : whyS (wS w) (wA w) v = 0
  · rw [if_pos q0, if_pos q0]
    have hvt : 0 ≤ v ∧ v ≤ 3 := by
      unfold whyS at q0
      split at q0 <;> omega
    have hto : toldS (wS w) (wA w) v = 0 := by unfold toldS; rw [if_pos (by omega)]; exact q0
    have hby := (by_ok hS hO.1 hto (by omega)).2
    have hgo : goS (wS w) (wA w) v = byG (wA w) (byS (wS w) (wA w) v) := by unfold goS; rw [if_neg (by omega)]
    have hO2 := hO.go hS hto
    rw [q0]
    refine vsA_ok tk_X5_night rfl 20 ?_
    simp only [at_X5_night, mr_X5_night, vsA, vcA, denA, lget, lset, lst1, lst2, lclr, argsA, restA, acats, acat, tcA, tcN, rzA, lle, List.length_cons, List.length_nil, Option.toList_some, Option.toList_none, List.cons_append, List.nil_append, eG, eM, eD, eC, eS, eQ, eH, if_true, if_false, Nat.reduceAdd, Nat.reduceLeDiff, Nat.reduceEqDiff, Nat.reduceLT, Nat.reduceSub, Int.reduceEq, Int.reduceLE, Int.reduceToNat, reduceCtorEq, reduceIte, Nat.reduceBEq, Int.reduceNeg, not_true, not_false_iff, true_and, and_true, true_or, or_true, false_or, or_false, forall_const, implies_true, Nat.le_refl, Int.toNat_natCast, Int.reduceLT, ne_eq, Fin.isValue, Nat.add_zero, nC_hrw, nS_hrw, nC_hwr, nS_hwr, hkd_hrw, hkd_hwr, fin4_0, fin4_1, fin4_2, fin4_3, fin2_0, fin2_1, ci0, ci1, cnn, false_implies, w32_eq, w64_eq, hF1.m]
    try simp (disch := omega) only [yc_lt, yc_le, yc_gt, yc_ge, yc_eq, w32_eq, w64_eq, tn_add, tn_mul, Int.toNat_natCast, Int.reduceToNat, not_true, not_false_iff, false_implies, forall_const, implies_true]
    repeat' (with_reducible first | apply And.intro | intro _)
    all_goals try omega
    all_goals try simp (disch := omega) only [w32_eq, w64_eq, tn_add, tn_mul, Int.toNat_natCast, Int.reduceToNat, Option.some.injEq, Sum.inr.injEq, Sum.inl.injEq]
    all_goals try omega
    refine ClA.of (c_X5_stores hF1) (by first | exact Nat.le_of_ble_eq_true rfl | (simp only [eD]; omega)) (by first | exact Nat.le_refl _ | (simp only [eG, eD, eC, eS, eQ, eH, nC_hrw, nC_hwr, nS_hrw, nS_hwr, nC_hnw, nS_hnw]; omega)) (by first | exact Nat.le_refl _ | (simp only [eG, eD, eC, eS, eQ, eH, nC_hrw, nC_hwr, nS_hrw, nS_hwr, nC_hnw, nS_hnw]; omega)) ?_
    rintro _ h2 ⟨rfl, f, rfl, hf⟩ - -
    have hx2 : FrN h (hrw h1 134 f) := (FrM.n hx1 (by decide) (by decide)).rw (fun _ => Or.inl (by decide)) f
    have hF2 := hF.frn hx2
    have eA2 : hdt (hrw h1 134 f) 125 = hdt h 125 := by rw [hdt_hrw_n _ _ (by decide)]; exact eA1
    have e22 : hdt (hrw h1 134 f) 124 22 = byS (wS w) (wA w) v := by rw [hdt_hrw_n _ _ (by decide)]; exact hp1 q0
    have e34 : hdt (hrw h1 134 f) 134 = f := hdt_hrw_s _ _ _
    generalize hrw h1 134 f = h2 at *
    have c2 := hx2.2.1
    refine vsA_ok tk_X5_night rfl 20 ?_
    simp only [at_X5_night, mr_X5_night, vsA, vcA, denA, lget, lset, lst1, lst2, lclr, argsA, restA, acats, acat, tcA, tcN, rzA, lle, List.length_cons, List.length_nil, Option.toList_some, Option.toList_none, List.cons_append, List.nil_append, eG, eM, eD, eC, eS, eQ, eH, if_true, if_false, Nat.reduceAdd, Nat.reduceLeDiff, Nat.reduceEqDiff, Nat.reduceLT, Nat.reduceSub, Int.reduceEq, Int.reduceLE, Int.reduceToNat, reduceCtorEq, reduceIte, Nat.reduceBEq, Int.reduceNeg, not_true, not_false_iff, true_and, and_true, true_or, or_true, false_or, or_false, forall_const, implies_true, Nat.le_refl, Int.toNat_natCast, Int.reduceLT, ne_eq, Fin.isValue, Nat.add_zero, nC_hrw, nS_hrw, nC_hwr, nS_hwr, hkd_hrw, hkd_hwr, fin4_0, fin4_1, fin4_2, fin4_3, fin2_0, fin2_1, ci0, ci1, cnn, false_implies, w32_eq, w64_eq, hF2.m]
    try simp (disch := omega) only [yc_lt, yc_le, yc_gt, yc_ge, yc_eq, w32_eq, w64_eq, tn_add, tn_mul, Int.toNat_natCast, Int.reduceToNat, not_true, not_false_iff, false_implies, forall_const, implies_true]
    repeat' (with_reducible first | apply And.intro | intro _)
    all_goals try omega
    all_goals try simp (disch := omega) only [w32_eq, w64_eq, tn_add, tn_mul, Int.toNat_natCast, Int.reduceToNat, Option.some.injEq, Sum.inr.injEq, Sum.inl.injEq]
    all_goals try omega
    refine ClA.of (c_X5_goesNight hF2 (by rw [eA2]; exact hM.1.1) e22 hby) (by first | exact Nat.le_of_ble_eq_true rfl | (simp only [eD]; omega)) (by first | exact Nat.le_refl _ | (simp only [eG, eD, eC, eS, eQ, eH, nC_hrw, nC_hwr, nS_hrw, nS_hwr, nC_hnw, nS_hnw]; omega)) (by first | exact Nat.le_refl _ | (simp only [eG, eD, eC, eS, eQ, eH, nC_hrw, nC_hwr, nS_hrw, nS_hwr, nC_hnw, nS_hnw]; omega)) ?_
    rintro _ h3 ⟨rfl, hf3, e24, hA3⟩ - -
    have hx3 : FrN h h3 := hx2.tr hf3.n
    have hF3 := hF.frn hx3
    have c3 := hx3.2.1
    have hU3 : UndC (hdt h3 125) ((wU w).map t3) := UndC.d hf3 (by rw [eA2]; exact hM.2.1)
    have e343 : hdt h3 134 = f := (FrD.c hf3 (by decide) (by decide) (by decide)).trans e34
    refine vsA_ok tk_X5_night rfl 20 ?_
    simp only [at_X5_night, mr_X5_night, vsA, vcA, denA, lget, lset, lst1, lst2, lclr, argsA, restA, acats, acat, tcA, tcN, rzA, lle, List.length_cons, List.length_nil, Option.toList_some, Option.toList_none, List.cons_append, List.nil_append, eG, eM, eD, eC, eS, eQ, eH, if_true, if_false, Nat.reduceAdd, Nat.reduceLeDiff, Nat.reduceEqDiff, Nat.reduceLT, Nat.reduceSub, Int.reduceEq, Int.reduceLE, Int.reduceToNat, reduceCtorEq, reduceIte, Nat.reduceBEq, Int.reduceNeg, not_true, not_false_iff, true_and, and_true, true_or, or_true, false_or, or_false, forall_const, implies_true, Nat.le_refl, Int.toNat_natCast, Int.reduceLT, ne_eq, Fin.isValue, Nat.add_zero, nC_hrw, nS_hrw, nC_hwr, nS_hwr, hkd_hrw, hkd_hwr, fin4_0, fin4_1, fin4_2, fin4_3, fin2_0, fin2_1, ci0, ci1, cnn, false_implies, w32_eq, w64_eq, hF3.m]
    try simp (disch := omega) only [yc_lt, yc_le, yc_gt, yc_ge, yc_eq, w32_eq, w64_eq, tn_add, tn_mul, Int.toNat_natCast, Int.reduceToNat, not_true, not_false_iff, false_implies, forall_const, implies_true]
    repeat' (with_reducible first | apply And.intro | intro _)
    all_goals try omega
    all_goals try simp (disch := omega) only [w32_eq, w64_eq, tn_add, tn_mul, Int.toNat_natCast, Int.reduceToNat, Option.some.injEq, Sum.inr.injEq, Sum.inl.injEq]
    all_goals try omega
    refine ClA.of (c_X5_notes hF3 hU3) (by first | exact Nat.le_of_ble_eq_true rfl | (simp only [eD]; omega)) (by first | exact Nat.le_refl _ | (simp only [eG, eD, eC, eS, eQ, eH, nC_hrw, nC_hwr, nS_hrw, nS_hwr, nC_hnw, nS_hnw]; omega)) (by first | exact Nat.le_refl _ | (simp only [eG, eD, eC, eS, eQ, eH, nC_hrw, nC_hwr, nS_hrw, nS_hwr, nC_hnw, nS_hnw]; omega)) ?_
    rintro _ h4 ⟨rfl, g, rfl, hU4, hg⟩ - -
    rw [e343, hf 0 (by decide), hf 1 (by decide), hf 2 (by decide), eA1] at hU4
    have hq := hM.1.1.1.q
    rw [show hdt h 125 (111 + 0) = (wA w).2.2 from hq.2.2.1, show hdt h 125 (111 + 1) = (wA w).2.1 from hq.2.2.2.1, show hdt h 125 (111 + 2) = ((wA w).1.length : Int) from hq.2.2.2.2] at hU4
    have hU4' : UndC g ((pushU (wU w) (wA w)).map t3) := by rw [pushU_t3]; exact hU4
    have hx4 : FrN h (hrw h3 125 g) := FrN.r125 hx3 (fun j hj => hg j (by omega))
    have hF4 := hF.frn hx4
    have e4 : hdt (hrw h3 125 g) 125 = g := hdt_hrw_s _ _ _
    have hA4 : AllS (hdt (hrw h3 125 g) 125) (wS w) (goS (wS w) (wA w) v) := by
      rw [e4, hgo]
      exact hA3.cong hg
    generalize hrw h3 125 g = h4 at *
    have c4 := hx4.2.1
    refine vsA_ok tk_X5_night rfl 20 ?_
    simp only [at_X5_night, mr_X5_night, vsA, vcA, denA, lget, lset, lst1, lst2, lclr, argsA, restA, acats, acat, tcA, tcN, rzA, lle, List.length_cons, List.length_nil, Option.toList_some, Option.toList_none, List.cons_append, List.nil_append, eG, eM, eD, eC, eS, eQ, eH, if_true, if_false, Nat.reduceAdd, Nat.reduceLeDiff, Nat.reduceEqDiff, Nat.reduceLT, Nat.reduceSub, Int.reduceEq, Int.reduceLE, Int.reduceToNat, reduceCtorEq, reduceIte, Nat.reduceBEq, Int.reduceNeg, not_true, not_false_iff, true_and, and_true, true_or, or_true, false_or, or_false, forall_const, implies_true, Nat.le_refl, Int.toNat_natCast, Int.reduceLT, ne_eq, Fin.isValue, Nat.add_zero, nC_hrw, nS_hrw, nC_hwr, nS_hwr, hkd_hrw, hkd_hwr, fin4_0, fin4_1, fin4_2, fin4_3, fin2_0, fin2_1, ci0, ci1, cnn, false_implies, w32_eq, w64_eq, hF4.m]
    try simp (disch := omega) only [yc_lt, yc_le, yc_gt, yc_ge, yc_eq, w32_eq, w64_eq, tn_add, tn_mul, Int.toNat_natCast, Int.reduceToNat, not_true, not_false_iff, false_implies, forall_const, implies_true]
    repeat' (with_reducible first | apply And.intro | intro _)
    all_goals try omega
    all_goals try simp (disch := omega) only [w32_eq, w64_eq, tn_add, tn_mul, Int.toNat_natCast, Int.reduceToNat, Option.some.injEq, Sum.inr.injEq, Sum.inl.injEq]
    all_goals try omega
    refine ClA.of (c_X5_lengthNow hF4 hA4.1 hO2.2.2.2.2) (by first | exact Nat.le_of_ble_eq_true rfl | (simp only [eD]; omega)) (by first | exact Nat.le_refl _ | (simp only [eG, eD, eC, eS, eQ, eH, nC_hrw, nC_hwr, nS_hrw, nS_hwr, nC_hnw, nS_hnw]; omega)) (by first | exact Nat.le_refl _ | (simp only [eG, eD, eC, eS, eQ, eH, nC_hrw, nC_hwr, nS_hrw, nS_hwr, nC_hnw, nS_hnw]; omega)) ?_
    rintro _ h5 ⟨rfl, f5, rfl, hf5⟩ - -
    have hx5 : FrN h (hrw h4 130 f5) := hx4.rw (fun _ => Or.inl (by decide)) f5
    have e5 : hdt (hrw h4 130 f5) 125 = hdt h4 125 := hdt_hrw_n _ _ (by decide)
    have hfin : MpC h (hrw h4 130 f5) (setAU w (goS (wS w) (wA w) v) (pushU (wU w) (wA w))) := MpC.deed hF hM hx5 (by rw [e5]; exact hA4) (by rw [e5, e4]; exact hU4')
    refine vsA_ok tk_X5_night rfl 20 ?_
    simp only [at_X5_night, mr_X5_night, vsA, vcA, denA, lget, lset, lst1, lst2, lclr, argsA, restA, acats, acat, tcA, tcN, rzA, lle, List.length_cons, List.length_nil, Option.toList_some, Option.toList_none, List.cons_append, List.nil_append, eG, eM, eD, eC, eS, eQ, eH, if_true, if_false, Nat.reduceAdd, Nat.reduceLeDiff, Nat.reduceEqDiff, Nat.reduceLT, Nat.reduceSub, Int.reduceEq, Int.reduceLE, Int.reduceToNat, reduceCtorEq, reduceIte, Nat.reduceBEq, Int.reduceNeg, not_true, not_false_iff, true_and, and_true, true_or, or_true, false_or, or_false, forall_const, implies_true, Nat.le_refl, Int.toNat_natCast, Int.reduceLT, ne_eq, Fin.isValue, Nat.add_zero, nC_hrw, nS_hrw, nC_hwr, nS_hwr, hkd_hrw, hkd_hwr, fin4_0, fin4_1, fin4_2, fin4_3, fin2_0, fin2_1, ci0, ci1, cnn, false_implies, w32_eq, w64_eq, c4]
    try simp (disch := omega) only [yc_lt, yc_le, yc_gt, yc_ge, yc_eq, w32_eq, w64_eq, tn_add, tn_mul, Int.toNat_natCast, Int.reduceToNat, not_true, not_false_iff, false_implies, forall_const, implies_true]
    repeat' (with_reducible first | apply And.intro | intro _)
    all_goals try omega
    all_goals try simp (disch := omega) only [w32_eq, w64_eq, tn_add, tn_mul, Int.toNat_natCast, Int.reduceToNat, Option.some.injEq, Sum.inr.injEq, Sum.inl.injEq]
    all_goals try omega
    all_goals first | exact hfin | rfl
  · rw [if_neg q0, if_neg q0]
    have hfin : MpC h h1 w := MpC.scr hF hM hx1 (by decide) (by decide)
    refine vsA_ok tk_X5_night rfl 20 ?_
    simp only [at_X5_night, mr_X5_night, vsA, vcA, denA, lget, lset, lst1, lst2, lclr, argsA, restA, acats, acat, tcA, tcN, rzA, lle, List.length_cons, List.length_nil, Option.toList_some, Option.toList_none, List.cons_append, List.nil_append, eG, eM, eD, eC, eS, eQ, eH, if_true, if_false, Nat.reduceAdd, Nat.reduceLeDiff, Nat.reduceEqDiff, Nat.reduceLT, Nat.reduceSub, Int.reduceEq, Int.reduceLE, Int.reduceToNat, reduceCtorEq, reduceIte, Nat.reduceBEq, Int.reduceNeg, not_true, not_false_iff, true_and, and_true, true_or, or_true, false_or, or_false, forall_const, implies_true, Nat.le_refl, Int.toNat_natCast, Int.reduceLT, ne_eq, Fin.isValue, Nat.add_zero, nC_hrw, nS_hrw, nC_hwr, nS_hwr, hkd_hrw, hkd_hwr, fin4_0, fin4_1, fin4_2, fin4_3, fin2_0, fin2_1, ci0, ci1, cnn, false_implies, w32_eq, w64_eq, hF1.m, c1]
    try simp (disch := omega) only [yc_lt, yc_le, yc_gt, yc_ge, yc_eq, w32_eq, w64_eq, tn_add, tn_mul, Int.toNat_natCast, Int.reduceToNat, not_true, not_false_iff, false_implies, forall_const, implies_true]
    repeat' (with_reducible first | apply And.intro | intro _)
    all_goals try omega
    all_goals try simp (disch := omega) only [w32_eq, w64_eq, tn_add, tn_mul, Int.toNat_natCast, Int.reduceToNat, Option.some.injEq, Sum.inr.injEq, Sum.inl.injEq]
    all_goals try omega
    all_goals exact hfin
end
