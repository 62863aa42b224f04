/-! THE REFERENCE: listing letters into trays -/
set_option maxRecDepth 100000
def lsP (vs : List Int) (W : List Nat) (p : Nat) : List Int := (List.range vs.length).map fun j => if j < W.length - p then ((W.getD (p + j) 0 : Nat) : Int) else vs.getD j 0
theorem lsP_len (vs : List Int) (W : List Nat) (p : Nat) : (lsP vs W p).length = vs.length := by simp [lsP]
theorem lsP_at (vs : List Int) (W : List Nat) (p : Nat) {j : Nat} (h : j < vs.length) : (lsP vs W p).getD j 0 = if j < W.length - p then ((W.getD (p + j) 0 : Nat) : Int) else vs.getD j 0 := by
  unfold lsP
  rw [List.getD_eq_getElem?_getD, List.getElem?_map, List.getElem?_range h]
  rfl
def lisP (w : WD) (t p : Int) : Int := if trF w t = 0 then if 0 ≤ p ∧ p ≤ ((wrdS (wS w) (wA w)).length : Int) then ((min ((wrdS (wS w) (wA w)).length - p.toNat) (trV w t).length : Nat) : Int) else -3 else trF w t
section
variable {G : GT} {h : AH} {w : WD} {N : Int}
theorem c_X5_lists (hF : FxA h) (hM : MdC h w) (hW : WOK N w) (t p : Int) (ht : In32 t) (hp : In64 p) :
    CnA G mX5_lists 6 0 0 [.inr (.inr (124)), .inl (t), .inr (.inl (p))] h (fun r h1 => r = some (.inl (lisP w t p)) ∧ MpC h h1 (if trF w t = 0 then if 0 ≤ p ∧ p ≤ ((wrdS (wS w) (wA w)).length : Int) then setT w t.toNat (trS w t, lsP (trV w t) (wrdS (wS w) (wA w)) p.toNat) else w else w)) := by
  obtain ⟨x0, hF0, hM0⟩ := thr_0 hF hM
  have hfin : MpC h (hwr h 124 0 0) w := MpC.scr hF hM x0 (by decide) (by decide)
  have hr : trF w t = 0 ∨ trF w t = -2 ∨ trF w t = -6 := by
    unfold trF
    split
    · split
      · exact Or.inr (Or.inr rfl)
      · exact Or.inl rfl
    · exact Or.inr (Or.inl rfl)
  have hnt := c_X5_noTray (G := G) hF0 hM0 hW t ht
  obtain ⟨hp1, hp2⟩ := hp
  have hA0 : AllC (hdt (hwr h 124 0 0) 125) (sT (wS w)) (sB (wS w)) (sS (wS w)) (wA w).1 (wA w).2.1 (wA w).2.2 := hM0.1.1.1
  have hL : (wrd (sB (wS w)) (sS (wS w)) (wA w).1).length ≤ 1000000000000 := hW.2.1.2.2.2.2
  have h6 := hA0.lt
  unfold lisP wrdS
  generalize hWW : wrd (sB (wS w)) (sS (wS w)) (wA w).1 = W at *
  by_cases q0 : trF w t = 0
  · rw [if_pos q0, if_pos q0]
    rw [q0] at hnt
    obtain ⟨n, q, rfl, hn, hq, hvv⟩ := trF_0 q0
    have hss : trS w (n : Int) = q.1 := by unfold trS; rw [Int.toNat_natCast, hq]
    rw [hvv, hss, Int.toNat_natCast]
    have hT0 := hM.2.2.2.2.2 n hn
    rw [hq] at hT0
    obtain ⟨t0, t1, t2, t3, t4⟩ := hT0
    obtain ⟨sort, vs⟩ := q
    have t1 : vs.length ≤ 40 := t1
    have t2 : hdt h 151 n = (vs.length : Int) := t2
    have t3 : ∀ i, i < vs.length → hdt h 152 (40 * n + i) = vs.getD i 0 := t3
    have t4 : ∀ x ∈ vs, In64 x := t4
    have t0 : hdt h 150 n = (sort : Int) := t0
    show CnA G mX5_lists 6 0 0 _ h (fun r h1 => r = some (.inl (if 0 ≤ p ∧ p ≤ (W.length : Int) then ((min (W.length - p.toNat) vs.length : Nat) : Int) else -3)) ∧ MpC h h1 (if 0 ≤ p ∧ p ≤ (W.length : Int) then setT w n (sort, lsP vs W p.toNat) else w))
    by_cases qp : 0 ≤ p ∧ p ≤ (W.length : Int)
    · rw [if_pos qp, if_pos qp]
      obtain ⟨pn, rfl⟩ : ∃ m : Nat, p = m := ⟨p.toNat, by omega⟩
      rw [Int.toNat_natCast]
      generalize hrm : min (W.length - pn) vs.length = rm
      refine CnA.of rfl (Nat.le_of_ble_eq_true rfl) ?_
      simp only [largs, lpad, mr_X5_lists]
      generalize hE : ((G, mX5_lists, _, _, _, _, h) : EV) = E
      have L1 : ∀ f, RowR (sB (wS w)) (wA w).1 lnW f → ∀ i, i ≤ rm → ∀ h1, FrM [130, 152] [0, 18] h h1 → hdt h1 130 = f → (∀ j, j < i → hdt h1 152 (40 * n + j) = ((W.getD (pn + j) 0 : Nat) : Int)) → (∀ j, j < 40 * n ∨ 40 * n + i ≤ j → hdt h1 152 j = hdt h 152 j) →
          ExA E 73 [some (.inr (.inr (124))), some (.inl ((n : Int))), some (.inr (.inl ((pn : Int)))), none, some (.inl (0)), some (.inr (.inl (((W.length : Nat) : Int)))), none, some (.inl ((rm : Int))), some (.inl ((i : Int)))] [] h1 := by
        intro f hf
        refine lpI _ fun i hi ih h1 hx e130 hj1 hj2 => ?_
        have hF1 := hF.frm hx (by decide +kernel)
        have c1 := hx.2.1
        have eA : hdt h1 125 = hdt h 125 := FrM.c hx (by decide) (by decide)
        by_cases hil : i < rm
        · have epi : (pn : Int) + (i : Int) = ((pn + i : Nat) : Int) := by omega
          have ei : (40 * (n : Int) + (i : Int)).toNat = 40 * n + i := by omega
          have hw6 := h6 _ (getD_mem (l := W) (k := pn + i) (by omega))
          have ih := ih hil
          subst hE
          refine vsA_ok tk_X5_lists rfl 20 ?_
          simp only [at_X5_lists, mr_X5_lists, vsA, vcA, denA, lget, lset, lst1, lst2, lclr, argsA, restA, acats, acat, tcA, tcN, rzA, lle, List.length_cons, List.length_nil, Option.toList_some, Option.toList_none, List.cons_append, List.nil_append, eG, eM, eD, eC, eS, eQ, eH, if_true, if_false, Nat.reduceAdd, Nat.reduceLeDiff, Nat.reduceEqDiff, Nat.reduceLT, Nat.reduceSub, Int.reduceEq, Int.reduceLE, Int.reduceToNat, reduceCtorEq, reduceIte, Nat.reduceBEq, Int.reduceNeg, not_true, not_false_iff, true_and, and_true, true_or, or_true, false_or, or_false, forall_const, implies_true, Nat.le_refl, Int.toNat_natCast, Int.reduceLT, ne_eq, Fin.isValue, Nat.add_zero, nC_hrw, nS_hrw, nC_hwr, nS_hwr, hkd_hrw, hkd_hwr, fin4_0, fin4_1, fin4_2, fin4_3, fin2_0, fin2_1, ci0, ci1, cnn, false_implies, w32_eq, w64_eq, hF1.m]
          try simp (disch := omega) only [yc_lt, yc_le, yc_gt, yc_ge, yc_eq, w32_eq, w64_eq, tn_add, tn_mul, Int.toNat_natCast, Int.reduceToNat, not_true, not_false_iff, false_implies, forall_const, implies_true, epi]
          repeat' (with_reducible first | apply And.intro | intro _)
          all_goals try omega
          all_goals try simp (disch := omega) only [w32_eq, w64_eq, tn_add, tn_mul, Int.toNat_natCast, Int.reduceToNat, Option.some.injEq, Sum.inr.injEq, Sum.inl.injEq, epi]
          all_goals try omega
          refine ClA.of (c_X5_comesTo (T := sT (wS w)) (bec := sB (wS w)) (std := sS (wS w)) (tbl := (wA w).1) (nights := (wA w).2.1) (moon := (wA w).2.2) hF1 (by rw [eA]; exact hM.1.1.1) (by rw [hWW]; exact hL) (p := pn + i) (by omega) (by rw [e130]; exact hf)) (by first | exact Nat.le_of_ble_eq_true rfl | (simp only [eD]; omega)) (by first | exact Nat.le_refl _ | (simp only [eG, eD, eC, eS, eQ, eH, nC_hrw, nC_hwr, nS_hrw, nS_hwr, nC_hnw, nS_hnw]; omega)) (by first | exact Nat.le_refl _ | (simp only [eG, eD, eC, eS, eQ, eH, nC_hrw, nC_hwr, nS_hrw, nS_hwr, nC_hnw, nS_hnw]; omega)) ?_
          rintro _ h2 ⟨rfl, z, rfl, -⟩ - -
          rw [hWW, if_pos (by omega)]
          have hx2 : FrM [130, 152] [0, 18] h (hwr h1 124 18 z) := hx.wf (by decide) _
          have hF2 := hF.frm hx2 (by decide +kernel)
          have nx := ih (hwr (hwr h1 124 18 z) 152 (40 * n + i) ((W.getD (pn + i) 0 : Nat) : Int)) (hx2.wc (by decide) _ _) (by rw [hdt_hwr, if_neg (by decide), hdt_hwr, if_neg (by decide)]; exact e130) (fun j hj => by
            rw [hdt_hwr, if_pos rfl]
            by_cases e : j = i
            · rw [e, fup_s]
            · rw [fup_n _ _ (by omega), hdt_hwr, if_neg (by decide)]
              exact hj1 j (by omega)) (fun j hj => by
            rw [hdt_hwr, if_pos rfl, fup_n _ _ (by omega), hdt_hwr, if_neg (by decide)]
            exact hj2 j (by omega))
          generalize W.getD (pn + i) 0 = d at *
          refine vsA_ok tk_X5_lists rfl 20 ?_
          simp only [at_X5_lists, mr_X5_lists, vsA, vcA, denA, lget, lset, lst1, lst2, lclr, argsA, restA, acats, acat, tcA, tcN, rzA, lle, List.length_cons, List.length_nil, Option.toList_some, Option.toList_none, List.cons_append, List.nil_append, eG, eM, eD, eC, eS, eQ, eH, if_true, if_false, Nat.reduceAdd, Nat.reduceLeDiff, Nat.reduceEqDiff, Nat.reduceLT, Nat.reduceSub, Int.reduceEq, Int.reduceLE, Int.reduceToNat, reduceCtorEq, reduceIte, Nat.reduceBEq, Int.reduceNeg, not_true, not_false_iff, true_and, and_true, true_or, or_true, false_or, or_false, forall_const, implies_true, Nat.le_refl, Int.toNat_natCast, Int.reduceLT, ne_eq, Fin.isValue, Nat.add_zero, nC_hrw, nS_hrw, nC_hwr, nS_hwr, hkd_hrw, hkd_hwr, fin4_0, fin4_1, fin4_2, fin4_3, fin2_0, fin2_1, ci0, ci1, cnn, false_implies, w32_eq, w64_eq, hF2.m, ei]
          try simp (disch := omega) only [yc_lt, yc_le, yc_gt, yc_ge, yc_eq, w32_eq, w64_eq, tn_add, tn_mul, Int.toNat_natCast, Int.reduceToNat, not_true, not_false_iff, false_implies, forall_const, implies_true]
          repeat' (with_reducible first | apply And.intro | intro _)
          all_goals try omega
          all_goals try simp (disch := omega) only [w32_eq, w64_eq, tn_add, tn_mul, Int.toNat_natCast, Int.reduceToNat, Option.some.injEq, Sum.inr.injEq, Sum.inl.injEq]
          all_goals try omega
          all_goals try exact (nx).weak rfl (by simp [lle] <;> omega)
        · have hir : i = rm := by omega
          subst hir
          have hxm : FrP mdl h h1 := hx.mono fun b j q => by
            rcases q with q | q
            · simp only [List.mem_cons, List.not_mem_nil, or_false] at q
              exact ⟨by omega, by omega⟩
            · exact ⟨by omega, by omega⟩
          have r : ∀ b, b ≠ 130 → b ≠ 152 → b ≠ 124 → hdt h1 b = hdt h b := fun b a1 a2 a3 => FrM.c hx (by simp; exact ⟨a1, a2⟩) a3
          have r4 : ∀ j, j ≠ 0 → j ≠ 18 → hdt h1 124 j = hdt h 124 j := fun j a1 a2 => FrM.f hx (by decide) (by simp; exact ⟨a1, a2⟩)
          have hM2 : MdC h1 (setT w n (sort, lsP vs W pn)) := by
            obtain ⟨m1, m2, m3, m4, m5, m6⟩ := hM
            refine ⟨by rw [eA]; exact m1, by rw [eA]; exact m2, fun k hk => ?_, by rw [r4 5 (by decide) (by decide), r 127 (by decide) (by decide) (by decide)]; exact m4, by rw [r4 13 (by decide) (by decide), r4 14 (by decide) (by decide)]; exact m5, fun t ht => ?_⟩
            · have := m3 k hk
              show ImgM _ k (wI w k)
              unfold ImgM at this ⊢
              rw [eA, r 126 (by decide) (by decide) (by decide)]
              exact this
            · show TryM _ t (if t = n then some (sort, lsP vs W pn) else wT w t)
              by_cases e : t = n
              · rw [if_pos e, e]
                refine ⟨by rw [r 150 (by decide) (by decide) (by decide)]; exact t0, by rw [lsP_len]; exact t1, by rw [r 151 (by decide) (by decide) (by decide), lsP_len]; exact t2, fun j hj => ?_, fun x hx => ?_⟩
                · rw [lsP_len] at hj
                  rw [lsP_at _ _ _ hj]
                  by_cases q : j < W.length - pn
                  · rw [if_pos q]
                    exact hj1 j (by omega)
                  · rw [if_neg q, hj2 _ (by omega)]
                    exact t3 j hj
                · obtain ⟨j, hj, rfl⟩ := List.mem_map.mp hx
                  have hj := List.mem_range.mp hj
                  split
                  next q =>
                    have := h6 _ (getD_mem (l := W) (k := pn + j) (by omega))
                    exact ⟨by omega, by omega⟩
                  next => exact t4 _ (getD_memI hj)
              · rw [if_neg e]
                have := m6 t ht
                unfold TryM TrM at this ⊢
                rw [r 150 (by decide) (by decide) (by decide), r 151 (by decide) (by decide) (by decide)]
                cases hw : wT w t with
                | none => rw [hw] at this; exact this
                | some q =>
                  rw [hw] at this
                  obtain ⟨s1, s2, s3, s4, s5⟩ := this
                  exact ⟨s1, s2, s3, fun j hj => by rw [hj2 _ (by omega)]; exact s4 j hj, s5⟩
          have hfin2 : MpC h h1 (setT w n (sort, lsP vs W pn)) := ⟨hxm, hF1, hM2⟩
          subst hE
          refine vsA_ok tk_X5_lists rfl 20 ?_
          simp only [at_X5_lists, mr_X5_lists, vsA, vcA, denA, lget, lset, lst1, lst2, lclr, argsA, restA, acats, acat, tcA, tcN, rzA, lle, List.length_cons, List.length_nil, Option.toList_some, Option.toList_none, List.cons_append, List.nil_append, eG, eM, eD, eC, eS, eQ, eH, if_true, if_false, Nat.reduceAdd, Nat.reduceLeDiff, Nat.reduceEqDiff, Nat.reduceLT, Nat.reduceSub, Int.reduceEq, Int.reduceLE, Int.reduceToNat, reduceCtorEq, reduceIte, Nat.reduceBEq, Int.reduceNeg, not_true, not_false_iff, true_and, and_true, true_or, or_true, false_or, or_false, forall_const, implies_true, Nat.le_refl, Int.toNat_natCast, Int.reduceLT, ne_eq, Fin.isValue, Nat.add_zero, nC_hrw, nS_hrw, nC_hwr, nS_hwr, hkd_hrw, hkd_hwr, fin4_0, fin4_1, fin4_2, fin4_3, fin2_0, fin2_1, ci0, ci1, cnn, false_implies, w32_eq, w64_eq, hF1.m, c1]
          try simp (disch := omega) only [yc_lt, yc_le, yc_gt, yc_ge, yc_eq, w32_eq, w64_eq, tn_add, tn_mul, Int.toNat_natCast, Int.reduceToNat, not_true, not_false_iff, false_implies, forall_const, implies_true]
          repeat' (with_reducible first | apply And.intro | intro _)
          all_goals try omega
          all_goals try simp (disch := omega) only [w32_eq, w64_eq, tn_add, tn_mul, Int.toNat_natCast, Int.reduceToNat, Option.some.injEq, Sum.inr.injEq, Sum.inl.injEq]
          all_goals try omega
          all_goals exact hfin2
      have e151 : hdt (hwr h 124 0 0) 151 = hdt h 151 := by rw [hdt_hwr, if_neg (by decide)]
      subst hE
      refine vsA_ok tk_X5_lists rfl 20 ?_
      simp only [at_X5_lists, mr_X5_lists, vsA, vcA, denA, lget, lset, lst1, lst2, lclr, argsA, restA, acats, acat, tcA, tcN, rzA, lle, List.length_cons, List.length_nil, Option.toList_some, Option.toList_none, List.cons_append, List.nil_append, eG, eM, eD, eC, eS, eQ, eH, if_true, if_false, Nat.reduceAdd, Nat.reduceLeDiff, Nat.reduceEqDiff, Nat.reduceLT, Nat.reduceSub, Int.reduceEq, Int.reduceLE, Int.reduceToNat, reduceCtorEq, reduceIte, Nat.reduceBEq, Int.reduceNeg, not_true, not_false_iff, true_and, and_true, true_or, or_true, false_or, or_false, forall_const, implies_true, Nat.le_refl, Int.toNat_natCast, Int.reduceLT, ne_eq, Fin.isValue, Nat.add_zero, nC_hrw, nS_hrw, nC_hwr, nS_hwr, hkd_hrw, hkd_hwr, fin4_0, fin4_1, fin4_2, fin4_3, fin2_0, fin2_1, ci0, ci1, cnn, false_implies, w32_eq, w64_eq, hF.m, hF0.m]
      try simp (disch := omega) only [yc_lt, yc_le, yc_gt, yc_ge, yc_eq, w32_eq, w64_eq, tn_add, tn_mul, Int.toNat_natCast, Int.reduceToNat, not_true, not_false_iff, false_implies, forall_const, implies_true]
      repeat' (with_reducible first | apply And.intro | intro _)
      all_goals try omega
      all_goals try simp (disch := omega) only [w32_eq, w64_eq, tn_add, tn_mul, Int.toNat_natCast, Int.reduceToNat, Option.some.injEq, Sum.inr.injEq, Sum.inl.injEq]
      all_goals try omega
      refine ClA.pure (hnt) (by first | exact Nat.le_of_ble_eq_true rfl | (simp only [eD]; omega)) (by first | exact Nat.le_refl _ | (simp only [eG, eD, eC, eS, eQ, eH, nC_hrw, nC_hwr, nS_hrw, nS_hwr, nC_hnw, nS_hnw]; omega)) (by first | exact Nat.le_refl _ | (simp only [eG, eD, eC, eS, eQ, eH, nC_hrw, nC_hwr, nS_hrw, nS_hwr, nC_hnw, nS_hnw]; omega)) ?_
      refine vsA_ok tk_X5_lists rfl 20 ?_
      simp only [at_X5_lists, mr_X5_lists, vsA, vcA, denA, lget, lset, lst1, lst2, lclr, argsA, restA, acats, acat, tcA, tcN, rzA, lle, List.length_cons, List.length_nil, Option.toList_some, Option.toList_none, List.cons_append, List.nil_append, eG, eM, eD, eC, eS, eQ, eH, if_true, if_false, Nat.reduceAdd, Nat.reduceLeDiff, Nat.reduceEqDiff, Nat.reduceLT, Nat.reduceSub, Int.reduceEq, Int.reduceLE, Int.reduceToNat, reduceCtorEq, reduceIte, Nat.reduceBEq, Int.reduceNeg, not_true, not_false_iff, true_and, and_true, true_or, or_true, false_or, or_false, forall_const, implies_true, Nat.le_refl, Int.toNat_natCast, Int.reduceLT, ne_eq, Fin.isValue, Nat.add_zero, nC_hrw, nS_hrw, nC_hwr, nS_hwr, hkd_hrw, hkd_hwr, fin4_0, fin4_1, fin4_2, fin4_3, fin2_0, fin2_1, ci0, ci1, cnn, false_implies, w32_eq, w64_eq, hF0.m]
      try simp (disch := omega) only [yc_lt, yc_le, yc_gt, yc_ge, yc_eq, w32_eq, w64_eq, tn_add, tn_mul, Int.toNat_natCast, Int.reduceToNat, not_true, not_false_iff, false_implies, forall_const, implies_true]
      repeat' (with_reducible first | apply And.intro | intro _)
      all_goals try omega
      all_goals try simp (disch := omega) only [w32_eq, w64_eq, tn_add, tn_mul, Int.toNat_natCast, Int.reduceToNat, Option.some.injEq, Sum.inr.injEq, Sum.inl.injEq]
      all_goals try omega
      refine ClA.of (c_X5_lengthNow hF0 hA0 (by rw [hWW]; exact hL)) (by first | exact Nat.le_of_ble_eq_true rfl | (simp only [eD]; omega)) (by first | exact Nat.le_refl _ | (simp only [eG, eD, eC, eS, eQ, eH, nC_hrw, nC_hwr, nS_hrw, nS_hwr, nC_hnw, nS_hnw]; omega)) (by first | exact Nat.le_refl _ | (simp only [eG, eD, eC, eS, eQ, eH, nC_hrw, nC_hwr, nS_hrw, nS_hwr, nC_hnw, nS_hnw]; omega)) ?_
      rintro _ h2 ⟨rfl, f, rfl, hf⟩ - -
      rw [hWW]
      have hx2 : FrM [130, 152] [0, 18] h (hrw (hwr h 124 0 0) 130 f) := (by repeat' (first | exact FrP.rf | assumption | refine FrM.wc ?_ (by decide) _ _ | refine FrM.wf ?_ (by decide) _ | refine FrM.rc ?_ (by decide) _))
      have e1512 : hdt (hrw (hwr h 124 0 0) 130 f) 151 n = (vs.length : Int) := by rw [hdt_hrw_n _ _ (by decide), e151]; exact t2
      have l1 := L1 f hf 0 (Nat.zero_le _) (hrw (hwr h 124 0 0) 130 f) hx2 (hdt_hrw_s _ _ _) (fun j hj => by omega) (fun j _ => by rw [hdt_hrw_n _ _ (by decide), hdt_hwr, if_neg (by decide)])
      generalize hrw (hwr h 124 0 0) 130 f = h2 at *
      have hF2 := hF.frm hx2 (by decide +kernel)
      have c2 := hx2.2.1
      refine vsA_ok tk_X5_lists rfl 20 ?_
      simp only [at_X5_lists, mr_X5_lists, vsA, vcA, denA, lget, lset, lst1, lst2, lclr, argsA, restA, acats, acat, tcA, tcN, rzA, lle, List.length_cons, List.length_nil, Option.toList_some, Option.toList_none, List.cons_append, List.nil_append, eG, eM, eD, eC, eS, eQ, eH, if_true, if_false, Nat.reduceAdd, Nat.reduceLeDiff, Nat.reduceEqDiff, Nat.reduceLT, Nat.reduceSub, Int.reduceEq, Int.reduceLE, Int.reduceToNat, reduceCtorEq, reduceIte, Nat.reduceBEq, Int.reduceNeg, not_true, not_false_iff, true_and, and_true, true_or, or_true, false_or, or_false, forall_const, implies_true, Nat.le_refl, Int.toNat_natCast, Int.reduceLT, ne_eq, Fin.isValue, Nat.add_zero, nC_hrw, nS_hrw, nC_hwr, nS_hwr, hkd_hrw, hkd_hwr, fin4_0, fin4_1, fin4_2, fin4_3, fin2_0, fin2_1, ci0, ci1, cnn, false_implies, w32_eq, w64_eq]
      try simp (disch := omega) only [yc_lt, yc_le, yc_gt, yc_ge, yc_eq, w32_eq, w64_eq, tn_add, tn_mul, Int.toNat_natCast, Int.reduceToNat, not_true, not_false_iff, false_implies, forall_const, implies_true]
      repeat' (with_reducible first | apply And.intro | intro _)
      all_goals try omega
      all_goals try simp (disch := omega) only [w32_eq, w64_eq, tn_add, tn_mul, Int.toNat_natCast, Int.reduceToNat, Option.some.injEq, Sum.inr.injEq, Sum.inl.injEq]
      all_goals try omega
      refine ClA.pure (c_X5_within_T _ (by omega) (by omega) (by omega) qp) (by first | exact Nat.le_of_ble_eq_true rfl | (simp only [eD]; omega)) (by first | exact Nat.le_refl _ | (simp only [eG, eD, eC, eS, eQ, eH, nC_hrw, nC_hwr, nS_hrw, nS_hwr, nC_hnw, nS_hnw]; omega)) (by first | exact Nat.le_refl _ | (simp only [eG, eD, eC, eS, eQ, eH, nC_hrw, nC_hwr, nS_hrw, nS_hwr, nC_hnw, nS_hnw]; omega)) ?_
      refine vsA_ok tk_X5_lists rfl 30 ?_
      simp only [at_X5_lists, mr_X5_lists, vsA, vcA, denA, lget, lset, lst1, lst2, lclr, argsA, restA, acats, acat, tcA, tcN, rzA, lle, List.length_cons, List.length_nil, Option.toList_some, Option.toList_none, List.cons_append, List.nil_append, eG, eM, eD, eC, eS, eQ, eH, if_true, if_false, Nat.reduceAdd, Nat.reduceLeDiff, Nat.reduceEqDiff, Nat.reduceLT, Nat.reduceSub, Int.reduceEq, Int.reduceLE, Int.reduceToNat, reduceCtorEq, reduceIte, Nat.reduceBEq, Int.reduceNeg, not_true, not_false_iff, true_and, and_true, true_or, or_true, false_or, or_false, forall_const, implies_true, Nat.le_refl, Int.toNat_natCast, Int.reduceLT, ne_eq, Fin.isValue, Nat.add_zero, nC_hrw, nS_hrw, nC_hwr, nS_hwr, hkd_hrw, hkd_hwr, fin4_0, fin4_1, fin4_2, fin4_3, fin2_0, fin2_1, ci0, ci1, cnn, false_implies, w32_eq, w64_eq, hF2.m, e1512]
      try simp (disch := omega) only [yc_lt, yc_le, yc_gt, yc_ge, yc_eq, w32_eq, w64_eq, tn_add, tn_mul, Int.toNat_natCast, Int.reduceToNat, not_true, not_false_iff, false_implies, forall_const, implies_true]
      repeat' (with_reducible first | apply And.intro | intro _)
      all_goals try omega
      all_goals try simp (disch := omega) only [w32_eq, w64_eq, tn_add, tn_mul, Int.toNat_natCast, Int.reduceToNat, Option.some.injEq, Sum.inr.injEq, Sum.inl.injEq]
      all_goals try omega
      all_goals try exact (l1).weak rfl (by simp [lle] <;> omega)
    · rw [if_neg qp, if_neg qp]
      refine CnA.of rfl (Nat.le_of_ble_eq_true rfl) ?_
      simp only [largs, lpad, mr_X5_lists]
      refine vsA_ok tk_X5_lists rfl 20 ?_
      simp only [at_X5_lists, mr_X5_lists, vsA, vcA, denA, lget, lset, lst1, lst2, lclr, argsA, restA, acats, acat, tcA, tcN, rzA, lle, List.length_cons, List.length_nil, Option.toList_some, Option.toList_none, List.cons_append, List.nil_append, eG, eM, eD, eC, eS, eQ, eH, if_true, if_false, Nat.reduceAdd, Nat.reduceLeDiff, Nat.reduceEqDiff, Nat.reduceLT, Nat.reduceSub, Int.reduceEq, Int.reduceLE, Int.reduceToNat, reduceCtorEq, reduceIte, Nat.reduceBEq, Int.reduceNeg, not_true, not_false_iff, true_and, and_true, true_or, or_true, false_or, or_false, forall_const, implies_true, Nat.le_refl, Int.toNat_natCast, Int.reduceLT, ne_eq, Fin.isValue, Nat.add_zero, nC_hrw, nS_hrw, nC_hwr, nS_hwr, hkd_hrw, hkd_hwr, fin4_0, fin4_1, fin4_2, fin4_3, fin2_0, fin2_1, ci0, ci1, cnn, false_implies, w32_eq, w64_eq, hF.m, hF0.m]
      try simp (disch := omega) only [yc_lt, yc_le, yc_gt, yc_ge, yc_eq, w32_eq, w64_eq, tn_add, tn_mul, Int.toNat_natCast, Int.reduceToNat, not_true, not_false_iff, false_implies, forall_const, implies_true]
      repeat' (with_reducible first | apply And.intro | intro _)
      all_goals try omega
      all_goals try simp (disch := omega) only [w32_eq, w64_eq, tn_add, tn_mul, Int.toNat_natCast, Int.reduceToNat, Option.some.injEq, Sum.inr.injEq, Sum.inl.injEq]
      all_goals try omega
      refine ClA.pure (hnt) (by first | exact Nat.le_of_ble_eq_true rfl | (simp only [eD]; omega)) (by first | exact Nat.le_refl _ | (simp only [eG, eD, eC, eS, eQ, eH, nC_hrw, nC_hwr, nS_hrw, nS_hwr, nC_hnw, nS_hnw]; omega)) (by first | exact Nat.le_refl _ | (simp only [eG, eD, eC, eS, eQ, eH, nC_hrw, nC_hwr, nS_hrw, nS_hwr, nC_hnw, nS_hnw]; omega)) ?_
      refine vsA_ok tk_X5_lists rfl 20 ?_
      simp only [at_X5_lists, mr_X5_lists, vsA, vcA, denA, lget, lset, lst1, lst2, lclr, argsA, restA, acats, acat, tcA, tcN, rzA, lle, List.length_cons, List.length_nil, Option.toList_some, Option.toList_none, List.cons_append, List.nil_append, eG, eM, eD, eC, eS, eQ, eH, if_true, if_false, Nat.reduceAdd, Nat.reduceLeDiff, Nat.reduceEqDiff, Nat.reduceLT, Nat.reduceSub, Int.reduceEq, Int.reduceLE, Int.reduceToNat, reduceCtorEq, reduceIte, Nat.reduceBEq, Int.reduceNeg, not_true, not_false_iff, true_and, and_true, true_or, or_true, false_or, or_false, forall_const, implies_true, Nat.le_refl, Int.toNat_natCast, Int.reduceLT, ne_eq, Fin.isValue, Nat.add_zero, nC_hrw, nS_hrw, nC_hwr, nS_hwr, hkd_hrw, hkd_hwr, fin4_0, fin4_1, fin4_2, fin4_3, fin2_0, fin2_1, ci0, ci1, cnn, false_implies, w32_eq, w64_eq, hF0.m]
      try simp (disch := omega) only [yc_lt, yc_le, yc_gt, yc_ge, yc_eq, w32_eq, w64_eq, tn_add, tn_mul, Int.toNat_natCast, Int.reduceToNat, not_true, not_false_iff, false_implies, forall_const, implies_true]
      repeat' (with_reducible first | apply And.intro | intro _)
      all_goals try omega
      all_goals try simp (disch := omega) only [w32_eq, w64_eq, tn_add, tn_mul, Int.toNat_natCast, Int.reduceToNat, Option.some.injEq, Sum.inr.injEq, Sum.inl.injEq]
      all_goals try omega
      refine ClA.of (c_X5_lengthNow hF0 hA0 (by rw [hWW]; exact hL)) (by first | exact Nat.le_of_ble_eq_true rfl | (simp only [eD]; omega)) (by first | exact Nat.le_refl _ | (simp only [eG, eD, eC, eS, eQ, eH, nC_hrw, nC_hwr, nS_hrw, nS_hwr, nC_hnw, nS_hnw]; omega)) (by first | exact Nat.le_refl _ | (simp only [eG, eD, eC, eS, eQ, eH, nC_hrw, nC_hwr, nS_hrw, nS_hwr, nC_hnw, nS_hnw]; omega)) ?_
      rintro _ h2 ⟨rfl, f, rfl, hf⟩ - -
      rw [hWW]
      have hx2 : FrM [130] [0] h (hrw (hwr h 124 0 0) 130 f) := (by repeat' (first | exact FrP.rf | assumption | refine FrM.wc ?_ (by decide) _ _ | refine FrM.wf ?_ (by decide) _ | refine FrM.rc ?_ (by decide) _))
      have c2 := hx2.2.1
      refine vsA_ok tk_X5_lists rfl 20 ?_
      simp only [at_X5_lists, mr_X5_lists, vsA, vcA, denA, lget, lset, lst1, lst2, lclr, argsA, restA, acats, acat, tcA, tcN, rzA, lle, List.length_cons, List.length_nil, Option.toList_some, Option.toList_none, List.cons_append, List.nil_append, eG, eM, eD, eC, eS, eQ, eH, if_true, if_false, Nat.reduceAdd, Nat.reduceLeDiff, Nat.reduceEqDiff, Nat.reduceLT, Nat.reduceSub, Int.reduceEq, Int.reduceLE, Int.reduceToNat, reduceCtorEq, reduceIte, Nat.reduceBEq, Int.reduceNeg, not_true, not_false_iff, true_and, and_true, true_or, or_true, false_or, or_false, forall_const, implies_true, Nat.le_refl, Int.toNat_natCast, Int.reduceLT, ne_eq, Fin.isValue, Nat.add_zero, nC_hrw, nS_hrw, nC_hwr, nS_hwr, hkd_hrw, hkd_hwr, fin4_0, fin4_1, fin4_2, fin4_3, fin2_0, fin2_1, ci0, ci1, cnn, false_implies, w32_eq, w64_eq]
      try simp (disch := omega) only [yc_lt, yc_le, yc_gt, yc_ge, yc_eq, w32_eq, w64_eq, tn_add, tn_mul, Int.toNat_natCast, Int.reduceToNat, not_true, not_false_iff, false_implies, forall_const, implies_true]
      repeat' (with_reducible first | apply And.intro | intro _)
      all_goals try omega
      all_goals try simp (disch := omega) only [w32_eq, w64_eq, tn_add, tn_mul, Int.toNat_natCast, Int.reduceToNat, Option.some.injEq, Sum.inr.injEq, Sum.inl.injEq]
      all_goals try omega
      refine ClA.pure (c_X5_within_F _ (by omega) (by omega) (by omega) qp) (by first | exact Nat.le_of_ble_eq_true rfl | (simp only [eD]; omega)) (by first | exact Nat.le_refl _ | (simp only [eG, eD, eC, eS, eQ, eH, nC_hrw, nC_hwr, nS_hrw, nS_hwr, nC_hnw, nS_hnw]; omega)) (by first | exact Nat.le_refl _ | (simp only [eG, eD, eC, eS, eQ, eH, nC_hrw, nC_hwr, nS_hrw, nS_hwr, nC_hnw, nS_hnw]; omega)) ?_
      refine vsA_ok tk_X5_lists rfl 20 ?_
      simp only [at_X5_lists, mr_X5_lists, vsA, vcA, denA, lget, lset, lst1, lst2, lclr, argsA, restA, acats, acat, tcA, tcN, rzA, lle, List.length_cons, List.length_nil, Option.toList_some, Option.toList_none, List.cons_append, List.nil_append, eG, eM, eD, eC, eS, eQ, eH, if_true, if_false, Nat.reduceAdd, Nat.reduceLeDiff, Nat.reduceEqDiff, Nat.reduceLT, Nat.reduceSub, Int.reduceEq, Int.reduceLE, Int.reduceToNat, reduceCtorEq, reduceIte, Nat.reduceBEq, Int.reduceNeg, not_true, not_false_iff, true_and, and_true, true_or, or_true, false_or, or_false, forall_const, implies_true, Nat.le_refl, Int.toNat_natCast, Int.reduceLT, ne_eq, Fin.isValue, Nat.add_zero, nC_hrw, nS_hrw, nC_hwr, nS_hwr, hkd_hrw, hkd_hwr, fin4_0, fin4_1, fin4_2, fin4_3, fin2_0, fin2_1, ci0, ci1, cnn, false_implies, w32_eq, w64_eq, c2]
      try simp (disch := omega) only [yc_lt, yc_le, yc_gt, yc_ge, yc_eq, w32_eq, w64_eq, tn_add, tn_mul, Int.toNat_natCast, Int.reduceToNat, not_true, not_false_iff, false_implies, forall_const, implies_true]
      repeat' (with_reducible first | apply And.intro | intro _)
      all_goals try omega
      all_goals try simp (disch := omega) only [w32_eq, w64_eq, tn_add, tn_mul, Int.toNat_natCast, Int.reduceToNat, Option.some.injEq, Sum.inr.injEq, Sum.inl.injEq]
      all_goals try omega
      all_goals exact MpC.scr hF hM hx2 (by decide) (by decide)
  · rw [if_neg q0, if_neg q0]
    refine CnA.of rfl (Nat.le_of_ble_eq_true rfl) ?_
    simp only [largs, lpad, mr_X5_lists]
    refine vsA_ok tk_X5_lists rfl 20 ?_
    simp only [at_X5_lists, mr_X5_lists, vsA, vcA, denA, lget, lset, lst1, lst2, lclr, argsA, restA, acats, acat, tcA, tcN, rzA, lle, List.length_cons, List.length_nil, Option.toList_some, Option.toList_none, List.cons_append, List.nil_append, eG, eM, eD, eC, eS, eQ, eH, if_true, if_false, Nat.reduceAdd, Nat.reduceLeDiff, Nat.reduceEqDiff, Nat.reduceLT, Nat.reduceSub, Int.reduceEq, Int.reduceLE, Int.reduceToNat, reduceCtorEq, reduceIte, Nat.reduceBEq, Int.reduceNeg, not_true, not_false_iff, true_and, and_true, true_or, or_true, false_or, or_false, forall_const, implies_true, Nat.le_refl, Int.toNat_natCast, Int.reduceLT, ne_eq, Fin.isValue, Nat.add_zero, nC_hrw, nS_hrw, nC_hwr, nS_hwr, hkd_hrw, hkd_hwr, fin4_0, fin4_1, fin4_2, fin4_3, fin2_0, fin2_1, ci0, ci1, cnn, false_implies, w32_eq, w64_eq, hF.m, hF0.m]
    try simp (disch := omega) only [yc_lt, yc_le, yc_gt, yc_ge, yc_eq, w32_eq, w64_eq, tn_add, tn_mul, Int.toNat_natCast, Int.reduceToNat, not_true, not_false_iff, false_implies, forall_const, implies_true]
    repeat' (with_reducible first | apply And.intro | intro _)
    all_goals try omega
    all_goals try simp (disch := omega) only [w32_eq, w64_eq, tn_add, tn_mul, Int.toNat_natCast, Int.reduceToNat, Option.some.injEq, Sum.inr.injEq, Sum.inl.injEq]
    all_goals try omega
    refine ClA.pure (hnt) (by first | exact Nat.le_of_ble_eq_true rfl | (simp only [eD]; omega)) (by first | exact Nat.le_refl _ | (simp only [eG, eD, eC, eS, eQ, eH, nC_hrw, nC_hwr, nS_hrw, nS_hwr, nC_hnw, nS_hnw]; omega)) (by first | exact Nat.le_refl _ | (simp only [eG, eD, eC, eS, eQ, eH, nC_hrw, nC_hwr, nS_hrw, nS_hwr, nC_hnw, nS_hnw]; omega)) ?_
    refine vsA_ok tk_X5_lists rfl 20 ?_
    simp only [at_X5_lists, mr_X5_lists, vsA, vcA, denA, lget, lset, lst1, lst2, lclr, argsA, restA, acats, acat, tcA, tcN, rzA, lle, List.length_cons, List.length_nil, Option.toList_some, Option.toList_none, List.cons_append, List.nil_append, eG, eM, eD, eC, eS, eQ, eH, if_true, if_false, Nat.reduceAdd, Nat.reduceLeDiff, Nat.reduceEqDiff, Nat.reduceLT, Nat.reduceSub, Int.reduceEq, Int.reduceLE, Int.reduceToNat, reduceCtorEq, reduceIte, Nat.reduceBEq, Int.reduceNeg, not_true, not_false_iff, true_and, and_true, true_or, or_true, false_or, or_false, forall_const, implies_true, Nat.le_refl, Int.toNat_natCast, Int.reduceLT, ne_eq, Fin.isValue, Nat.add_zero, nC_hrw, nS_hrw, nC_hwr, nS_hwr, hkd_hrw, hkd_hwr, fin4_0, fin4_1, fin4_2, fin4_3, fin2_0, fin2_1, ci0, ci1, cnn, false_implies, w32_eq, w64_eq]
    try simp (disch := omega) only [yc_lt, yc_le, yc_gt, yc_ge, yc_eq, w32_eq, w64_eq, tn_add, tn_mul, Int.toNat_natCast, Int.reduceToNat, not_true, not_false_iff, false_implies, forall_const, implies_true]
    repeat' (with_reducible first | apply And.intro | intro _)
    all_goals try omega
    all_goals try simp (disch := omega) only [w32_eq, w64_eq, tn_add, tn_mul, Int.toNat_natCast, Int.reduceToNat, Option.some.injEq, Sum.inr.injEq, Sum.inl.injEq]
    all_goals try omega
    all_goals exact hfin
end
