/-! THE WORLD between calls: pure; how the reference holds it -/
set_option maxRecDepth 100000
/-- a street, its lines -/
abbrev SL : Type := SP × Int
/-- ((street, lines), what stands, what can be undone (the oldest first), the tape's bytes, (fault, place), trays (sort, numbers), images) -/
abbrev WD : Type := SL × S3 × List S3 × List Nat × (Int × Int) × (Nat → Option (Nat × List Int)) × (Nat → Option (SL × S3))
abbrev wL (w : WD) : SL := w.1
abbrev wS (w : WD) : SP := w.1.1
abbrev wA (w : WD) : S3 := w.2.1
abbrev wU (w : WD) : List S3 := w.2.2.1
abbrev wP (w : WD) : List Nat := w.2.2.2.1
abbrev wF (w : WD) : Int × Int := w.2.2.2.2.1
abbrev wT (w : WD) : Nat → Option (Nat × List Int) := w.2.2.2.2.2.1
abbrev wI (w : WD) : Nat → Option (SL × S3) := w.2.2.2.2.2.2
def setA (w : WD) (a : S3) : WD := (w.1, a, w.2.2)
def setAU (w : WD) (a : S3) (us : List S3) : WD := (w.1, a, us, w.2.2.2)
/-- what can be undone grows by what stood -/
def pushU (us : List S3) (a : S3) : List S3 := (if us.length = 10 then us.drop 1 else us) ++ [a]
/-- the tables of what was are ahead in those of what is -/
def ChU (us : List S3) (a : S3) : Prop := (∀ u ∈ us, u.1 <+: a.1) ∧ us.Pairwise fun u v => u.1 <+: v.1
def TrOK (q : Nat × List Int) : Prop := q.1 < 4 ∧ q.2.length ≤ 40 ∧ ∀ x ∈ q.2, In64 x
/-- a sound world: at most N nights -/
def WOK (N : Int) (w : WD) : Prop := StOK (wS w) ∧ OKS (wS w) N (wA w) ∧ ((wU w).length ≤ 10 ∧ (∀ u ∈ wU w, OKS (wS w) N u) ∧ ChU (wU w) (wA w)) ∧ ((wP w).length ≤ 900 ∧ ∀ b ∈ wP w, b < 256) ∧ (∀ t q, t < 4 → wT w t = some q → TrOK q) ∧ (∀ i q, i < 2 → wI w i = some q → StOK q.1.1 ∧ OKS q.1.1 N q.2) ∧ In32 (wL w).2 ∧ In32 (wF w).1 ∧ In32 (wF w).2
def t3 (a : S3) : T3 := (a.2.2, a.2.1, (a.1.length : Int))
/-- a block of the row of numbers: a street, its lines, what stands -/
def BlC (f : Nat → Int) (q : SL × S3) : Prop := AllS f q.1.1 q.2 ∧ f 0 = q.1.2
def TryM (h : AH) (t : Nat) (o : Option (Nat × List Int)) : Prop := match o with
  | none => hdt h 150 t = -1
  | some q => hdt h 150 t = (q.1 : Int) ∧ TrM h t q.2
def ImgM (h : AH) (i : Nat) (o : Option (SL × S3)) : Prop := match o with
  | none => hdt h 126 i = 0
  | some q => hdt h 126 i = 1 ∧ BlC (fun j => hdt h 125 (1106 * (i + 1) + j)) q
/-- the reference holds the world -/
def MdC (h : AH) (w : WD) : Prop := BlC (hdt h 125) (wL w, wA w) ∧ UndC (hdt h 125) ((wU w).map t3) ∧ (∀ i, i < 2 → ImgM h i (wI w i)) ∧ (hdt h 124 5 = ((wP w).length : Int) ∧ ∀ j, j < (wP w).length → hdt h 127 j = (((wP w).getD j 0 : Nat) : Int)) ∧ (hdt h 124 13 = (wF w).1 ∧ hdt h 124 14 = (wF w).2) ∧ ∀ t, t < 4 → TryM h t (wT w t)
/-- what the reference's calls may write -/
def mdl : Nat → Nat → Prop := fun b _ => 124 ≤ b ∧ b < 153
/-- what holds behind a call of the reference -/
def MpC (h h1 : AH) (w : WD) : Prop := FrP mdl h h1 ∧ FxA h1 ∧ MdC h1 w
theorem MdC.keep {h h1 : AH} {w : WD} (hM : MdC h w) (e125 : hdt h1 125 = hdt h 125) (e126 : hdt h1 126 = hdt h 126) (e127 : hdt h1 127 = hdt h 127) (e150 : hdt h1 150 = hdt h 150) (e151 : hdt h1 151 = hdt h 151) (e152 : hdt h1 152 = hdt h 152) (e5 : hdt h1 124 5 = hdt h 124 5) (e13 : hdt h1 124 13 = hdt h 124 13) (e14 : hdt h1 124 14 = hdt h 124 14) : MdC h1 w := by
  obtain ⟨m1, m2, m3, m4, m5, m6⟩ := hM
  refine ⟨by rw [e125]; exact m1, by rw [e125]; exact m2, fun i hi => ?_, by rw [e5, e127]; exact m4, by rw [e13, e14]; exact m5, fun t ht => ?_⟩
  · have := m3 i hi
    unfold ImgM at this ⊢
    rw [e125, e126]
    exact this
  · have := m6 t ht
    unfold TryM TrM at this ⊢
    rw [e150, e151, e152]
    exact this
theorem MdC.scr {h h1 : AH} {w : WD} {cs fs : List Nat} (hM : MdC h w) (x : FrM cs fs h h1) (hc : ∀ c ∈ cs, c ∈ [129, 130, 131, 132, 133, 134, 135, 136, 137, 138, 139, 140, 141, 142, 143, 144, 145, 146, 147, 148, 149]) (hf : ∀ j ∈ fs, j ∈ [0, 6, 7, 8, 9, 10, 11, 12, 18, 22, 23, 25, 29, 37]) : MdC h1 w := by
  have hcn : ∀ b, b ∉ [129, 130, 131, 132, 133, 134, 135, 136, 137, 138, 139, 140, 141, 142, 143, 144, 145, 146, 147, 148, 149] → b ∉ cs := fun b hb q => hb (hc b q)
  have hfn : ∀ b, b ∉ [0, 6, 7, 8, 9, 10, 11, 12, 18, 22, 23, 25, 29, 37] → b ∉ fs := fun b hb q => hb (hf b q)
  have h124 : 124 ∉ cs := hcn 124 (by decide)
  exact hM.keep (FrM.c x (hcn _ (by decide)) (by decide)) (FrM.c x (hcn _ (by decide)) (by decide)) (FrM.c x (hcn _ (by decide)) (by decide)) (FrM.c x (hcn _ (by decide)) (by decide)) (FrM.c x (hcn _ (by decide)) (by decide)) (FrM.c x (hcn _ (by decide)) (by decide)) (FrM.f x h124 (hfn _ (by decide))) (FrM.f x h124 (hfn _ (by decide))) (FrM.f x h124 (hfn _ (by decide)))
/-- only scratch was written -/
theorem MpC.scr {h h1 : AH} {w : WD} {cs fs : List Nat} (hF : FxA h) (hM : MdC h w) (x : FrM cs fs h h1) (hc : ∀ c ∈ cs, c ∈ [129, 130, 131, 132, 133, 134, 135, 136, 137, 138, 139, 140, 141, 142, 143, 144, 145, 146, 147, 148, 149]) (hf : ∀ j ∈ fs, j ∈ [0, 6, 7, 8, 9, 10, 11, 12, 18, 22, 23, 25, 29, 37]) : MpC h h1 w := by
  refine ⟨x.mono fun b j q => ?_, hF.fr x fun q hq => ?_, hM.scr x hc hf⟩
  · rcases q with q | q
    · have := hc b q
      simp only [List.mem_cons, List.not_mem_nil, or_false] at this
      exact ⟨by omega, by omega⟩
    · exact ⟨by omega, by omega⟩
  · have h1 : chM [129, 130, 131, 132, 133, 134, 135, 136, 137, 138, 139, 140, 141, 142, 143, 144, 145, 146, 147, 148, 149] [0, 6, 7, 8, 9, 10, 11, 12, 18, 22, 23, 25, 29, 37] = true := by decide +kernel
    have h2 := List.all_eq_true.mp h1 q hq
    simp only [Bool.and_eq_true, Bool.not_eq_true', Bool.and_eq_false_iff, beq_eq_false_iff_ne, ne_eq, List.contains_eq_mem, decide_eq_false_iff_not] at h2
    rintro (q2 | q2)
    · exact h2.1 (hc _ q2)
    · rcases h2.2 with q3 | q3
      · exact q3 q2.1
      · exact q3 (hf _ q2.2)
section
variable {G : GT} {h : AH} {w : WD} {N : Int}
/-- ahead of every call: what was thrown is laid to 0 -/
theorem thr_0 (hF : FxA h) (hM : MdC h w) : FrM [] [0] h (hwr h 124 0 0) ∧ FxA (hwr h 124 0 0) ∧ MdC (hwr h 124 0 0) w := by
  have x : FrM [] [0] h (hwr h 124 0 0) := FrM.wf FrP.rf (by decide) _
  exact ⟨x, hF.hwr (by decide +kernel) _, hM.scr x (by decide) (by decide)⟩
theorem c_X5_length (hF : FxA h) (hM : MdC h w) (hW : WOK N w) : CnA G mX5_length 6 0 0 [.inr (.inr (124))] h (fun v h1 => v = some (.inr (.inl ((((wrdS (wS w) (wA w)).length : Nat) : Int)))) ∧ MpC h h1 w) := by
  refine CnA.of rfl (Nat.le_of_ble_eq_true rfl) ?_
  simp only [largs, lpad, mr_X5_length]
  obtain ⟨x0, hF0, hM0⟩ := thr_0 hF hM
  refine vsA_ok tk_X5_length rfl 20 ?_
  simp only [at_X5_length, mr_X5_length, vsA, vcA, denA, lget, lset, lst1, lst2, lclr, argsA, restA, acats, acat, tcA, tcN, rzA, lle, List.length_cons, List.length_nil, Option.toList_some, Option.toList_none, List.cons_append, List.nil_append, eG, eM, eD, eC, eS, eQ, eH, if_true, if_false, Nat.reduceAdd, Nat.reduceLeDiff, Nat.reduceEqDiff, Nat.reduceLT, Nat.reduceSub, Int.reduceEq, Int.reduceLE, Int.reduceToNat, reduceCtorEq, reduceIte, Nat.reduceBEq, Int.reduceNeg, not_true, not_false_iff, true_and, and_true, true_or, or_true, false_or, or_false, forall_const, implies_true, Nat.le_refl, Int.toNat_natCast, Int.reduceLT, ne_eq, Fin.isValue, Nat.add_zero, nC_hrw, nS_hrw, nC_hwr, nS_hwr, hkd_hrw, hkd_hwr, fin4_0, fin4_1, fin4_2, fin4_3, fin2_0, fin2_1, ci0, ci1, cnn, false_implies, w32_eq, w64_eq, hF.m, hF0.m]
  try simp (disch := omega) only [yc_lt, yc_le, yc_gt, yc_ge, yc_eq, w32_eq, w64_eq, tn_add, tn_mul, Int.toNat_natCast, Int.reduceToNat, not_true, not_false_iff, false_implies, forall_const, implies_true]
  repeat' (with_reducible first | apply And.intro | intro _)
  all_goals try omega
  all_goals try simp (disch := omega) only [w32_eq, w64_eq, tn_add, tn_mul, Int.toNat_natCast, Int.reduceToNat, Option.some.injEq, Sum.inr.injEq, Sum.inl.injEq]
  all_goals try omega
  refine ClA.of (c_X5_lengthNow hF0 hM0.1.1.1 hW.2.1.2.2.2.2) (by first | exact Nat.le_of_ble_eq_true rfl | (simp only [eD]; omega)) (by first | exact Nat.le_refl _ | (simp only [eG, eD, eC, eS, eQ, eH, nC_hrw, nC_hwr, nS_hrw, nS_hwr, nC_hnw, nS_hnw]; omega)) (by first | exact Nat.le_refl _ | (simp only [eG, eD, eC, eS, eQ, eH, nC_hrw, nC_hwr, nS_hrw, nS_hwr, nC_hnw, nS_hnw]; omega)) ?_
  rintro _ h1 ⟨rfl, f, rfl, hf⟩ hn1 hn2
  refine vsA_ok tk_X5_length rfl 20 ?_
  simp only [at_X5_length, mr_X5_length, vsA, vcA, denA, lget, lset, lst1, lst2, lclr, argsA, restA, acats, acat, tcA, tcN, rzA, lle, List.length_cons, List.length_nil, Option.toList_some, Option.toList_none, List.cons_append, List.nil_append, eG, eM, eD, eC, eS, eQ, eH, if_true, if_false, Nat.reduceAdd, Nat.reduceLeDiff, Nat.reduceEqDiff, Nat.reduceLT, Nat.reduceSub, Int.reduceEq, Int.reduceLE, Int.reduceToNat, reduceCtorEq, reduceIte, Nat.reduceBEq, Int.reduceNeg, not_true, not_false_iff, true_and, and_true, true_or, or_true, false_or, or_false, forall_const, implies_true, Nat.le_refl, Int.toNat_natCast, Int.reduceLT, ne_eq, Fin.isValue, Nat.add_zero, nC_hrw, nS_hrw, nC_hwr, nS_hwr, hkd_hrw, hkd_hwr, fin4_0, fin4_1, fin4_2, fin4_3, fin2_0, fin2_1, ci0, ci1, cnn, false_implies, w32_eq, w64_eq]
  try simp (disch := omega) only [yc_lt, yc_le, yc_gt, yc_ge, yc_eq, w32_eq, w64_eq, tn_add, tn_mul, Int.toNat_natCast, Int.reduceToNat, not_true, not_false_iff, false_implies, forall_const, implies_true]
  repeat' (with_reducible first | apply And.intro | intro _)
  all_goals try omega
  all_goals try simp (disch := omega) only [w32_eq, w64_eq, tn_add, tn_mul, Int.toNat_natCast, Int.reduceToNat, Option.some.injEq, Sum.inr.injEq, Sum.inl.injEq]
  all_goals try omega
  all_goals exact MpC.scr hF hM (cs := [130]) (fs := [0]) (by repeat' (first | exact FrP.rf | assumption | refine FrM.wc ?_ (by decide) _ _ | refine FrM.wf ?_ (by decide) _ | refine FrM.rc ?_ (by decide) _)) (by decide) (by decide)
theorem c_X5_picks (hF : FxA h) (hM : MdC h w) (hW : WOK N w) (hN : N < 2147483648) : CnA G mX5_picks 7 0 0 [.inr (.inr (124))] h (fun v h1 => v = some (.inl (pkS (wS w) (wA w))) ∧ MpC h h1 w) := by
  refine CnA.of rfl (Nat.le_of_ble_eq_true rfl) ?_
  simp only [largs, lpad, mr_X5_picks]
  obtain ⟨x0, hF0, hM0⟩ := thr_0 hF hM
  refine vsA_ok tk_X5_picks rfl 20 ?_
  simp only [at_X5_picks, mr_X5_picks, vsA, vcA, denA, lget, lset, lst1, lst2, lclr, argsA, restA, acats, acat, tcA, tcN, rzA, lle, List.length_cons, List.length_nil, Option.toList_some, Option.toList_none, List.cons_append, List.nil_append, eG, eM, eD, eC, eS, eQ, eH, if_true, if_false, Nat.reduceAdd, Nat.reduceLeDiff, Nat.reduceEqDiff, Nat.reduceLT, Nat.reduceSub, Int.reduceEq, Int.reduceLE, Int.reduceToNat, reduceCtorEq, reduceIte, Nat.reduceBEq, Int.reduceNeg, not_true, not_false_iff, true_and, and_true, true_or, or_true, false_or, or_false, forall_const, implies_true, Nat.le_refl, Int.toNat_natCast, Int.reduceLT, ne_eq, Fin.isValue, Nat.add_zero, nC_hrw, nS_hrw, nC_hwr, nS_hwr, hkd_hrw, hkd_hwr, fin4_0, fin4_1, fin4_2, fin4_3, fin2_0, fin2_1, ci0, ci1, cnn, false_implies, w32_eq, w64_eq, hF.m, hF0.m]
  try simp (disch := omega) only [yc_lt, yc_le, yc_gt, yc_ge, yc_eq, w32_eq, w64_eq, tn_add, tn_mul, Int.toNat_natCast, Int.reduceToNat, not_true, not_false_iff, false_implies, forall_const, implies_true]
  repeat' (with_reducible first | apply And.intro | intro _)
  all_goals try omega
  all_goals try simp (disch := omega) only [w32_eq, w64_eq, tn_add, tn_mul, Int.toNat_natCast, Int.reduceToNat, Option.some.injEq, Sum.inr.injEq, Sum.inl.injEq]
  all_goals try omega
  refine ClA.of (c_X5_pickedNow hF0 hM0.1.1 hW.1 hW.2.1 hN) (by first | exact Nat.le_of_ble_eq_true rfl | (simp only [eD]; omega)) (by first | exact Nat.le_refl _ | (simp only [eG, eD, eC, eS, eQ, eH, nC_hrw, nC_hwr, nS_hrw, nS_hwr, nC_hnw, nS_hnw]; omega)) (by first | exact Nat.le_refl _ | (simp only [eG, eD, eC, eS, eQ, eH, nC_hrw, nC_hwr, nS_hrw, nS_hwr, nC_hnw, nS_hnw]; omega)) ?_
  rintro _ h1 ⟨rfl, hf⟩ hn1 hn2
  have hx : FrM [130, 132, 133] [0, 18] h h1 := (FrM.up x0 (by decide) (by decide)).tr (FrM.up hf (by decide) (by decide))
  have c0 := hx.2.1
  refine vsA_ok tk_X5_picks rfl 20 ?_
  simp only [at_X5_picks, mr_X5_picks, vsA, vcA, denA, lget, lset, lst1, lst2, lclr, argsA, restA, acats, acat, tcA, tcN, rzA, lle, List.length_cons, List.length_nil, Option.toList_some, Option.toList_none, List.cons_append, List.nil_append, eG, eM, eD, eC, eS, eQ, eH, if_true, if_false, Nat.reduceAdd, Nat.reduceLeDiff, Nat.reduceEqDiff, Nat.reduceLT, Nat.reduceSub, Int.reduceEq, Int.reduceLE, Int.reduceToNat, reduceCtorEq, reduceIte, Nat.reduceBEq, Int.reduceNeg, not_true, not_false_iff, true_and, and_true, true_or, or_true, false_or, or_false, forall_const, implies_true, Nat.le_refl, Int.toNat_natCast, Int.reduceLT, ne_eq, Fin.isValue, Nat.add_zero, nC_hrw, nS_hrw, nC_hwr, nS_hwr, hkd_hrw, hkd_hwr, fin4_0, fin4_1, fin4_2, fin4_3, fin2_0, fin2_1, ci0, ci1, cnn, false_implies, w32_eq, w64_eq]
  try simp (disch := omega) only [yc_lt, yc_le, yc_gt, yc_ge, yc_eq, w32_eq, w64_eq, tn_add, tn_mul, Int.toNat_natCast, Int.reduceToNat, not_true, not_false_iff, false_implies, forall_const, implies_true]
  repeat' (with_reducible first | apply And.intro | intro _)
  all_goals try omega
  all_goals try simp (disch := omega) only [w32_eq, w64_eq, tn_add, tn_mul, Int.toNat_natCast, Int.reduceToNat, Option.some.injEq, Sum.inr.injEq, Sum.inl.injEq]
  all_goals try omega
  all_goals exact MpC.scr hF hM hx (by decide) (by decide)
theorem c_X5_fault (hF : FxA h) (hM : MdC h w) (v : Int) (hv : In32 v) : CnA G mX5_fault 1 0 0 [.inr (.inr (124)), .inl (v)] h (fun r h1 => r = some (.inl (if v = 0 then (wF w).1 else if v = 1 then (wF w).2 else -1)) ∧ MpC h h1 w) := by
  refine CnA.of rfl (Nat.le_of_ble_eq_true rfl) ?_
  simp only [largs, lpad, mr_X5_fault]
  obtain ⟨hv1, hv2⟩ := hv
  obtain ⟨x0, hF0, hM0⟩ := thr_0 hF hM
  have hx : MpC h (hwr h 124 0 0) w := MpC.scr hF hM x0 (by decide) (by decide)
  obtain ⟨e1, e2⟩ := hM0.2.2.2.2.1
  by_cases q0 : v = 0
  · rw [if_pos q0]
    refine vsA_ok tk_X5_fault rfl 20 ?_
    simp only [at_X5_fault, mr_X5_fault, vsA, vcA, denA, lget, lset, lst1, lst2, lclr, argsA, restA, acats, acat, tcA, tcN, rzA, lle, List.length_cons, List.length_nil, Option.toList_some, Option.toList_none, List.cons_append, List.nil_append, eG, eM, eD, eC, eS, eQ, eH, if_true, if_false, Nat.reduceAdd, Nat.reduceLeDiff, Nat.reduceEqDiff, Nat.reduceLT, Nat.reduceSub, Int.reduceEq, Int.reduceLE, Int.reduceToNat, reduceCtorEq, reduceIte, Nat.reduceBEq, Int.reduceNeg, not_true, not_false_iff, true_and, and_true, true_or, or_true, false_or, or_false, forall_const, implies_true, Nat.le_refl, Int.toNat_natCast, Int.reduceLT, ne_eq, Fin.isValue, Nat.add_zero, nC_hrw, nS_hrw, nC_hwr, nS_hwr, hkd_hrw, hkd_hwr, fin4_0, fin4_1, fin4_2, fin4_3, fin2_0, fin2_1, ci0, ci1, cnn, false_implies, w32_eq, w64_eq, hF.m, hF0.m, e1]
    try simp (disch := omega) only [yc_lt, yc_le, yc_gt, yc_ge, yc_eq, w32_eq, w64_eq, tn_add, tn_mul, Int.toNat_natCast, Int.reduceToNat, not_true, not_false_iff, false_implies, forall_const, implies_true]
    repeat' (with_reducible first | apply And.intro | intro _)
    all_goals try omega
    all_goals try simp (disch := omega) only [w32_eq, w64_eq, tn_add, tn_mul, Int.toNat_natCast, Int.reduceToNat, Option.some.injEq, Sum.inr.injEq, Sum.inl.injEq]
    all_goals try omega
    all_goals exact hx
  · rw [if_neg q0]
    by_cases q1 : v = 1
    · rw [if_pos q1]
      refine vsA_ok tk_X5_fault rfl 20 ?_
      simp only [at_X5_fault, mr_X5_fault, vsA, vcA, denA, lget, lset, lst1, lst2, lclr, argsA, restA, acats, acat, tcA, tcN, rzA, lle, List.length_cons, List.length_nil, Option.toList_some, Option.toList_none, List.cons_append, List.nil_append, eG, eM, eD, eC, eS, eQ, eH, if_true, if_false, Nat.reduceAdd, Nat.reduceLeDiff, Nat.reduceEqDiff, Nat.reduceLT, Nat.reduceSub, Int.reduceEq, Int.reduceLE, Int.reduceToNat, reduceCtorEq, reduceIte, Nat.reduceBEq, Int.reduceNeg, not_true, not_false_iff, true_and, and_true, true_or, or_true, false_or, or_false, forall_const, implies_true, Nat.le_refl, Int.toNat_natCast, Int.reduceLT, ne_eq, Fin.isValue, Nat.add_zero, nC_hrw, nS_hrw, nC_hwr, nS_hwr, hkd_hrw, hkd_hwr, fin4_0, fin4_1, fin4_2, fin4_3, fin2_0, fin2_1, ci0, ci1, cnn, false_implies, w32_eq, w64_eq, hF.m, hF0.m, e2]
      try simp (disch := omega) only [yc_lt, yc_le, yc_gt, yc_ge, yc_eq, w32_eq, w64_eq, tn_add, tn_mul, Int.toNat_natCast, Int.reduceToNat, not_true, not_false_iff, false_implies, forall_const, implies_true]
      repeat' (with_reducible first | apply And.intro | intro _)
      all_goals try omega
      all_goals try simp (disch := omega) only [w32_eq, w64_eq, tn_add, tn_mul, Int.toNat_natCast, Int.reduceToNat, Option.some.injEq, Sum.inr.injEq, Sum.inl.injEq]
      all_goals try omega
      all_goals exact hx
    · rw [if_neg q1]
      refine vsA_ok tk_X5_fault rfl 20 ?_
      simp only [at_X5_fault, mr_X5_fault, vsA, vcA, denA, lget, lset, lst1, lst2, lclr, argsA, restA, acats, acat, tcA, tcN, rzA, lle, List.length_cons, List.length_nil, Option.toList_some, Option.toList_none, List.cons_append, List.nil_append, eG, eM, eD, eC, eS, eQ, eH, if_true, if_false, Nat.reduceAdd, Nat.reduceLeDiff, Nat.reduceEqDiff, Nat.reduceLT, Nat.reduceSub, Int.reduceEq, Int.reduceLE, Int.reduceToNat, reduceCtorEq, reduceIte, Nat.reduceBEq, Int.reduceNeg, not_true, not_false_iff, true_and, and_true, true_or, or_true, false_or, or_false, forall_const, implies_true, Nat.le_refl, Int.toNat_natCast, Int.reduceLT, ne_eq, Fin.isValue, Nat.add_zero, nC_hrw, nS_hrw, nC_hwr, nS_hwr, hkd_hrw, hkd_hwr, fin4_0, fin4_1, fin4_2, fin4_3, fin2_0, fin2_1, ci0, ci1, cnn, false_implies, w32_eq, w64_eq, hF.m, hF0.m]
      try simp (disch := omega) only [yc_lt, yc_le, yc_gt, yc_ge, yc_eq, w32_eq, w64_eq, tn_add, tn_mul, Int.toNat_natCast, Int.reduceToNat, not_true, not_false_iff, false_implies, forall_const, implies_true]
      repeat' (with_reducible first | apply And.intro | intro _)
      all_goals try omega
      all_goals try simp (disch := omega) only [w32_eq, w64_eq, tn_add, tn_mul, Int.toNat_natCast, Int.reduceToNat, Option.some.injEq, Sum.inr.injEq, Sum.inl.injEq]
      all_goals try omega
      all_goals exact hx
theorem c_X5_letter (hF : FxA h) (hM : MdC h w) (hW : WOK N w) (v : Int) (hv : In64 v) : CnA G mX5_letter 5 0 0 [.inr (.inr (124)), .inr (.inl (v))] h (fun r h1 => r = some (.inl (if v < 0 then -3 else if v < ((wrdS (wS w) (wA w)).length : Int) then (((wrdS (wS w) (wA w)).getD v.toNat 0 : Nat) : Int) else -1)) ∧ MpC h h1 w) := by
  refine CnA.of rfl (Nat.le_of_ble_eq_true rfl) ?_
  simp only [largs, lpad, mr_X5_letter]
  obtain ⟨hv1, hv2⟩ := hv
  obtain ⟨x0, hF0, hM0⟩ := thr_0 hF hM
  have hx : MpC h (hwr h 124 0 0) w := MpC.scr hF hM x0 (by decide) (by decide)
  by_cases q0 : v < 0
  · rw [if_pos q0]
    refine vsA_ok tk_X5_letter rfl 20 ?_
    simp only [at_X5_letter, mr_X5_letter, vsA, vcA, denA, lget, lset, lst1, lst2, lclr, argsA, restA, acats, acat, tcA, tcN, rzA, lle, List.length_cons, List.length_nil, Option.toList_some, Option.toList_none, List.cons_append, List.nil_append, eG, eM, eD, eC, eS, eQ, eH, if_true, if_false, Nat.reduceAdd, Nat.reduceLeDiff, Nat.reduceEqDiff, Nat.reduceLT, Nat.reduceSub, Int.reduceEq, Int.reduceLE, Int.reduceToNat, reduceCtorEq, reduceIte, Nat.reduceBEq, Int.reduceNeg, not_true, not_false_iff, true_and, and_true, true_or, or_true, false_or, or_false, forall_const, implies_true, Nat.le_refl, Int.toNat_natCast, Int.reduceLT, ne_eq, Fin.isValue, Nat.add_zero, nC_hrw, nS_hrw, nC_hwr, nS_hwr, hkd_hrw, hkd_hwr, fin4_0, fin4_1, fin4_2, fin4_3, fin2_0, fin2_1, ci0, ci1, cnn, false_implies, w32_eq, w64_eq, hF.m, hF0.m]
    try simp (disch := omega) only [yc_lt, yc_le, yc_gt, yc_ge, yc_eq, w32_eq, w64_eq, tn_add, tn_mul, Int.toNat_natCast, Int.reduceToNat, not_true, not_false_iff, false_implies, forall_const, implies_true]
    repeat' (with_reducible first | apply And.intro | intro _)
    all_goals try omega
    all_goals try simp (disch := omega) only [w32_eq, w64_eq, tn_add, tn_mul, Int.toNat_natCast, Int.reduceToNat, Option.some.injEq, Sum.inr.injEq, Sum.inl.injEq]
    all_goals try omega
    all_goals exact hx
  · rw [if_neg q0]
    obtain ⟨p, rfl⟩ : ∃ p : Nat, v = p := ⟨v.toNat, by omega⟩
    refine vsA_ok tk_X5_letter rfl 20 ?_
    simp only [at_X5_letter, mr_X5_letter, vsA, vcA, denA, lget, lset, lst1, lst2, lclr, argsA, restA, acats, acat, tcA, tcN, rzA, lle, List.length_cons, List.length_nil, Option.toList_some, Option.toList_none, List.cons_append, List.nil_append, eG, eM, eD, eC, eS, eQ, eH, if_true, if_false, Nat.reduceAdd, Nat.reduceLeDiff, Nat.reduceEqDiff, Nat.reduceLT, Nat.reduceSub, Int.reduceEq, Int.reduceLE, Int.reduceToNat, reduceCtorEq, reduceIte, Nat.reduceBEq, Int.reduceNeg, not_true, not_false_iff, true_and, and_true, true_or, or_true, false_or, or_false, forall_const, implies_true, Nat.le_refl, Int.toNat_natCast, Int.reduceLT, ne_eq, Fin.isValue, Nat.add_zero, nC_hrw, nS_hrw, nC_hwr, nS_hwr, hkd_hrw, hkd_hwr, fin4_0, fin4_1, fin4_2, fin4_3, fin2_0, fin2_1, ci0, ci1, cnn, false_implies, w32_eq, w64_eq, hF.m, hF0.m]
    try simp (disch := omega) only [yc_lt, yc_le, yc_gt, yc_ge, yc_eq, w32_eq, w64_eq, tn_add, tn_mul, Int.toNat_natCast, Int.reduceToNat, not_true, not_false_iff, false_implies, forall_const, implies_true]
    repeat' (with_reducible first | apply And.intro | intro _)
    all_goals try omega
    all_goals try simp (disch := omega) only [w32_eq, w64_eq, tn_add, tn_mul, Int.toNat_natCast, Int.reduceToNat, Option.some.injEq, Sum.inr.injEq, Sum.inl.injEq]
    all_goals try omega
    refine ClA.of (c_X5_laysLong hF0 hM0.1.1.1) (by first | exact Nat.le_of_ble_eq_true rfl | (simp only [eD]; omega)) (by first | exact Nat.le_refl _ | (simp only [eG, eD, eC, eS, eQ, eH, nC_hrw, nC_hwr, nS_hrw, nS_hwr, nC_hnw, nS_hnw]; omega)) (by first | exact Nat.le_refl _ | (simp only [eG, eD, eC, eS, eQ, eH, nC_hrw, nC_hwr, nS_hrw, nS_hwr, nC_hnw, nS_hnw]; omega)) ?_
    rintro _ h1 ⟨rfl, f, rfl, hf⟩ hn1 hn2
    have hF1 : FxA (hrw (hwr h 124 0 0) 130 f) := hF0.hrw (by decide +kernel) f
    refine vsA_ok tk_X5_letter rfl 20 ?_
    simp only [at_X5_letter, mr_X5_letter, vsA, vcA, denA, lget, lset, lst1, lst2, lclr, argsA, restA, acats, acat, tcA, tcN, rzA, lle, List.length_cons, List.length_nil, Option.toList_some, Option.toList_none, List.cons_append, List.nil_append, eG, eM, eD, eC, eS, eQ, eH, if_true, if_false, Nat.reduceAdd, Nat.reduceLeDiff, Nat.reduceEqDiff, Nat.reduceLT, Nat.reduceSub, Int.reduceEq, Int.reduceLE, Int.reduceToNat, reduceCtorEq, reduceIte, Nat.reduceBEq, Int.reduceNeg, not_true, not_false_iff, true_and, and_true, true_or, or_true, false_or, or_false, forall_const, implies_true, Nat.le_refl, Int.toNat_natCast, Int.reduceLT, ne_eq, Fin.isValue, Nat.add_zero, nC_hrw, nS_hrw, nC_hwr, nS_hwr, hkd_hrw, hkd_hwr, fin4_0, fin4_1, fin4_2, fin4_3, fin2_0, fin2_1, ci0, ci1, cnn, false_implies, w32_eq, w64_eq, hF1.m]
    try simp (disch := omega) only [yc_lt, yc_le, yc_gt, yc_ge, yc_eq, w32_eq, w64_eq, tn_add, tn_mul, Int.toNat_natCast, Int.reduceToNat, not_true, not_false_iff, false_implies, forall_const, implies_true]
    repeat' (with_reducible first | apply And.intro | intro _)
    all_goals try omega
    all_goals try simp (disch := omega) only [w32_eq, w64_eq, tn_add, tn_mul, Int.toNat_natCast, Int.reduceToNat, Option.some.injEq, Sum.inr.injEq, Sum.inl.injEq]
    all_goals try omega
    refine ClA.of (c_X5_comesTo hF1 (by rw [hdt_hrw_n _ _ (by decide)]; exact hM0.1.1.1) hW.2.1.2.2.2.2 (p := p) (by omega) (by rw [hdt_hrw_s]; exact hf)) (by first | exact Nat.le_of_ble_eq_true rfl | (simp only [eD]; omega)) (by first | exact Nat.le_refl _ | (simp only [eG, eD, eC, eS, eQ, eH, nC_hrw, nC_hwr, nS_hrw, nS_hwr, nC_hnw, nS_hnw]; omega)) (by first | exact Nat.le_refl _ | (simp only [eG, eD, eC, eS, eQ, eH, nC_hrw, nC_hwr, nS_hrw, nS_hwr, nC_hnw, nS_hnw]; omega)) ?_
    rintro _ h2 ⟨rfl, z, rfl, -⟩ hm1 hm2
    have e : (if p < (wrd (sB (wS w)) (sS (wS w)) (wA w).1).length then (((wrd (sB (wS w)) (sS (wS w)) (wA w).1).getD p 0 : Nat) : Int) else -1) = if (p : Int) < ((wrdS (wS w) (wA w)).length : Int) then (((wrdS (wS w) (wA w)).getD (p : Int).toNat 0 : Nat) : Int) else -1 := by
      by_cases q : p < (wrdS (wS w) (wA w)).length
      · rw [if_pos q, if_pos (by omega)]; rfl
      · rw [if_neg q, if_neg (by omega)]
    rw [e]
    refine vsA_ok tk_X5_letter rfl 20 ?_
    simp only [at_X5_letter, mr_X5_letter, vsA, vcA, denA, lget, lset, lst1, lst2, lclr, argsA, restA, acats, acat, tcA, tcN, rzA, lle, List.length_cons, List.length_nil, Option.toList_some, Option.toList_none, List.cons_append, List.nil_append, eG, eM, eD, eC, eS, eQ, eH, if_true, if_false, Nat.reduceAdd, Nat.reduceLeDiff, Nat.reduceEqDiff, Nat.reduceLT, Nat.reduceSub, Int.reduceEq, Int.reduceLE, Int.reduceToNat, reduceCtorEq, reduceIte, Nat.reduceBEq, Int.reduceNeg, not_true, not_false_iff, true_and, and_true, true_or, or_true, false_or, or_false, forall_const, implies_true, Nat.le_refl, Int.toNat_natCast, Int.reduceLT, ne_eq, Fin.isValue, Nat.add_zero, nC_hrw, nS_hrw, nC_hwr, nS_hwr, hkd_hrw, hkd_hwr, fin4_0, fin4_1, fin4_2, fin4_3, fin2_0, fin2_1, ci0, ci1, cnn, false_implies, w32_eq, w64_eq]
    try simp (disch := omega) only [yc_lt, yc_le, yc_gt, yc_ge, yc_eq, w32_eq, w64_eq, tn_add, tn_mul, Int.toNat_natCast, Int.reduceToNat, not_true, not_false_iff, false_implies, forall_const, implies_true]
    repeat' (with_reducible first | apply And.intro | intro _)
    all_goals try omega
    all_goals try simp (disch := omega) only [w32_eq, w64_eq, tn_add, tn_mul, Int.toNat_natCast, Int.reduceToNat, Option.some.injEq, Sum.inr.injEq, Sum.inl.injEq]
    all_goals try omega
    all_goals first | rfl | exact MpC.scr hF hM (cs := [130]) (fs := [0, 18]) (by repeat' (first | exact FrP.rf | assumption | refine FrM.wc ?_ (by decide) _ _ | refine FrM.wf ?_ (by decide) _ | refine FrM.rc ?_ (by decide) _)) (by decide) (by decide)
end
