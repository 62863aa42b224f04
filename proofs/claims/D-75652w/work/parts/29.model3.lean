/-! THE REFERENCE: comesTo, the letter of a place -/
set_option maxRecDepth 100000
def curW (bec : Nat → Nat → List Nat) (std tbl : List Nat) (k c : Nat) : List Nat := if k = 0 then wrd bec std tbl else exl bec (tbl.drop (k - 1)) c
theorem curW_row (bec : Nat → Nat → List Nat) (std : List Nat) {tbl : List Nat} {k : Nat} (hk : k ≤ tbl.length) (c : Nat) : curW bec std tbl k c = (rowL bec std tbl k c).flatMap (exl bec (tbl.drop k)) := by
  cases k with
  | zero => simp [curW, rowL, wrd]
  | succ k => exact exl_cons bec (by omega) c
theorem curW_succ (bec : Nat → Nat → List Nat) (std tbl : List Nat) (k c : Nat) : curW bec std tbl (k + 1) c = exl bec (tbl.drop k) c := rfl
theorem cnt_fm (F : Nat → List Nat) (x : Nat) (l : List Nat) : (l.flatMap F).count x = (l.map fun d => (F d).count x).sum := by
  induction l with
  | nil => rfl
  | cons y t ih => simp [List.flatMap_cons, List.count_append, ih]
/-- where a walk down the nights stands: what of the street is left, what has been passed -/
def InvW (bec : Nat → Nat → List Nat) (std tbl : List Nat) (p : Nat) (R : Nat → Prop) (k c q : Nat) (z : Int) : Prop :=
  (k = 0 ∧ q = p ∨ 0 < k ∧ c < 6 ∧ q < (curW bec std tbl k c).length ∧ p < (wrd bec std tbl).length) ∧ (curW bec std tbl k c).length ≤ 1000000000000 ∧
  (q < (curW bec std tbl k c).length → p < (wrd bec std tbl).length ∧ (wrd bec std tbl).getD p 0 = (curW bec std tbl k c).getD q 0) ∧
  ∀ x, R x → z + ((((curW bec std tbl k c).take q).count x : Nat) : Int) = ((((wrd bec std tbl).take p).count x : Nat) : Int)
theorem InvW.next {bec : Nat → Nat → List Nat} {std tbl : List Nat} {p : Nat} {R : Nat → Prop} {k c q : Nat} {z : Int} (hI : InvW bec std tbl p R k c q z) (hk : k ≤ tbl.length) (hd6 : ∀ d ∈ rowL bec std tbl k c, d < 6) {i q2 : Nat} {z2 : Int} (hi : i < (rowL bec std tbl k c).length)
    (hs : (((rowL bec std tbl k c).take i).map fun d => (exl bec (tbl.drop k) d).length).sum + q2 = q) (hq : q2 < (exl bec (tbl.drop k) ((rowL bec std tbl k c).getD i 0)).length)
    (hz : ∀ x, R x → z2 = z + ((((rowL bec std tbl k c).take i).map fun d => (exl bec (tbl.drop k) d).count x).sum : Nat)) : InvW bec std tbl p R (k + 1) ((rowL bec std tbl k c).getD i 0) q2 z2 := by
  obtain ⟨h1, h2, h3, h4⟩ := hI
  rw [curW_row bec std hk] at h1 h2 h3 h4
  have hlen := fm_len (exl bec (tbl.drop k)) (rowL bec std tbl k c) (i := i + 1) (by omega)
  rw [take_sum (fun d => (exl bec (tbl.drop k) d).length) _ hi] at hlen
  have hat := fm_at (exl bec (tbl.drop k)) (rowL bec std tbl k c) hi hq
  have htk := fm_take (exl bec (tbl.drop k)) (rowL bec std tbl k c) hi (Nat.le_of_lt hq)
  rw [hs] at hat htk
  have hql : q < ((rowL bec std tbl k c).flatMap (exl bec (tbl.drop k))).length := by omega
  obtain ⟨h5, h6⟩ := h3 hql
  have hc6 := hd6 _ (getD_mem hi)
  refine ⟨Or.inr ⟨Nat.succ_pos _, hc6, ?_, h5⟩, ?_, fun _ => ⟨h5, ?_⟩, fun x hx => ?_⟩
  · rw [curW_succ]; exact hq
  · rw [curW_succ]
    exact Nat.le_trans (fm_len1 (exl bec (tbl.drop k)) (getD_mem hi)) h2
  · rw [h6, hat, curW_succ]
  · rw [← h4 x hx, htk, List.count_append, cnt_fm, hz x hx, curW_succ]
    omega
theorem c_X5_comesTo {G : GT} {h : AH} {T : Nat} {bec : Nat → Nat → List Nat} {std tbl : List Nat} {nights moon : Int} (hF : FxA h) (hA : AllC (hdt h 125) T bec std tbl nights moon) (hL : (wrd bec std tbl).length ≤ 1000000000000) {p : Nat} (hp : p < 9223372036854775808) (hrow : RowR bec tbl lnW (hdt h 130)) :
    CnA G mX5_comesTo 3 0 0 [.inr (.inr (124)), .inr (.inl ((p : Int)))] h (fun v h1 => v = some (.inl (if p < (wrd bec std tbl).length then (((wrd bec std tbl).getD p 0 : Nat) : Int) else -1)) ∧ ∃ z, h1 = hwr h 124 18 z ∧ ∀ x, RowR bec tbl (ctW x) (hdt h 131) → z = ((((wrd bec std tbl).take p).count x : Nat) : Int)) := by
  refine CnA.of rfl (Nat.le_of_ble_eq_true rfl) ?_
  simp only [largs, lpad, mr_X5_comesTo]
  have he : endC = 9223372036854775807 := rfl
  have hs := hA.sz
  have hFr : ∀ z, FxA (hwr h 124 18 z) := fun z => hF.hwr (by decide +kernel) z
  have hAr : ∀ z, AllC (hdt (hwr h 124 18 z) 125) T bec std tbl nights moon := fun z => by rw [hdt_hwr, if_neg (by decide)]; exact hA
  have e130 : ∀ z, hdt (hwr h 124 18 z) 130 = hdt h 130 := fun z => by rw [hdt_hwr, if_neg (by decide)]
  have e131 : ∀ z, hdt (hwr h 124 18 z) 131 = hdt h 131 := fun z => by rw [hdt_hwr, if_neg (by decide)]
  have e18 : ∀ z, hdt (hwr h 124 18 z) 124 18 = z := fun z => by rw [hdt_hwr, if_pos rfl, fup_s]
  generalize hR : (fun x => RowR bec tbl (ctW x) (hdt h 131)) = R
  generalize hE : ((G, mX5_comesTo, _, _, _, _, h) : EV) = E
  have L1 : ∀ k, k ≤ tbl.length + 1 → ∀ (c : Nat) (cz : Int) (q : Nat) (z : Int), (k = 0 ∨ cz = (c : Int)) → InvW bec std tbl p R k c q z →
      ExA E 13 [some (.inr (.inr (124))), some (.inr (.inl ((p : Int)))), none, some (.inr (.inl ((q : Int)))), none, some (.inl (cz)), some (.inl ((k : Int))), none, none] [] (hwr h 124 18 z) := by
    refine lpI _ fun k hk ih c cz q z hcz hI => ?_
    by_cases hkn : k ≤ tbl.length
    · have hrl := row_lt hA (c := c) hkn (by rcases hI.1 with q | q; exact Or.inl q.1; exact Or.inr q.2.1)
      have hcz' : k = 0 ∨ cz = (c : Int) ∧ c < 6 := by
        rcases hI.1 with q | q
        · exact Or.inl q.1
        · exact Or.inr ⟨hcz.resolve_left (by omega), q.2.1⟩
      have hqp : q < 9223372036854775808 := by
        have := hI.2.1
        rcases hI.1 with q | q <;> omega
      have L2 : ∀ i, i ≤ (rowL bec std tbl k c).length → ∀ (q2 : Nat) (z2 : Int), (((rowL bec std tbl k c).take i).map fun d => (exl bec (tbl.drop k) d).length).sum + q2 = q →
          (∀ x, R x → z2 = z + ((((rowL bec std tbl k c).take i).map fun d => (exl bec (tbl.drop k) d).count x).sum : Nat)) →
          ExA E 41 [some (.inr (.inr (124))), some (.inr (.inl ((p : Int)))), none, some (.inr (.inl ((q2 : Int)))), none, some (.inl (cz)), some (.inl ((k : Int))), some (.inl ((i : Int))), some (.inl ((if i < (rowL bec std tbl k c).length then (((rowL bec std tbl k c).getD i 0 : Nat) : Int) else -1)))] [] (hwr h 124 18 z2) := by
        refine lpI _ fun i hi ih2 q2 z2 hq2 hz2 => ?_
        by_cases hil : i < (rowL bec std tbl k c).length
        · rw [if_pos hil]
          have hd6 := hrl.2 _ (getD_mem hil)
          have hdl : (exl bec (tbl.drop k) ((rowL bec std tbl k c).getD i 0)).length ≤ 1000000000000 := by
            have := hI.2.1
            rw [curW_row bec std hkn] at this
            exact Nat.le_trans (fm_len1 (exl bec (tbl.drop k)) (getD_mem hil)) this
          have hro := hrow k _ hkn hd6
          rw [swtE_len, show min endC (exl bec (tbl.drop k) ((rowL bec std tbl k c).getD i 0)).length = (exl bec (tbl.drop k) ((rowL bec std tbl k c).getD i 0)).length by omega] at hro
          have hnx := fun hq => ih (by omega) _ (((rowL bec std tbl k c).getD i 0 : Nat) : Int) q2 z2 (Or.inr rfl) (hI.next hkn hrl.2 hil hq2 hq hz2)
          have hn2 := fun a b => ih2 hil (q2 - (exl bec (tbl.drop k) ((rowL bec std tbl k c).getD i 0)).length) (z2 + hdt h 131 (6 * k + (rowL bec std tbl k c).getD i 0)) a b
          rw [take_sum (fun d => (exl bec (tbl.drop k) d).length) _ hil] at hn2
          have hz3 : ∀ x, R x → z2 + hdt h 131 (6 * k + (rowL bec std tbl k c).getD i 0) = z + ((((rowL bec std tbl k c).take (i + 1)).map fun d => (exl bec (tbl.drop k) d).count x).sum : Nat) := fun x hx => by
            have hx' : RowR bec tbl (ctW x) (hdt h 131) := by rw [← hR] at hx; exact hx
            rw [hx' k _ hkn hd6, take_sum (fun d => (exl bec (tbl.drop k) d).count x) _ hil, swtE_cnt, hz2 x hx]
            have := List.count_le_length (a := x) (l := exl bec (tbl.drop k) ((rowL bec std tbl k c).getD i 0))
            omega
          have hpo := c_X5_partOf (G := G) (hFr (z2 + hdt h 131 (6 * k + (rowL bec std tbl k c).getD i 0))) (hAr _) (i := i + 1) hkn hcz' (by omega)
          generalize (rowL bec std tbl k c).getD i 0 = d at *
          subst hE
          refine vsA_ok tk_X5_comesTo rfl 50 ?_
          simp only [at_X5_comesTo, mr_X5_comesTo, vsA, vcA, denA, lget, lset, lst1, lst2, lclr, argsA, restA, acats, acat, tcA, tcN, rzA, lle, List.length_cons, List.length_nil, Option.toList_some, Option.toList_none, List.cons_append, List.nil_append, eG, eM, eD, eC, eS, eQ, eH, if_true, if_false, Nat.reduceAdd, Nat.reduceLeDiff, Nat.reduceEqDiff, Nat.reduceLT, Nat.reduceSub, Int.reduceEq, Int.reduceLE, Int.reduceToNat, reduceCtorEq, reduceIte, Nat.reduceBEq, Int.reduceNeg, not_true, not_false_iff, true_and, and_true, true_or, or_true, false_or, or_false, forall_const, implies_true, Nat.le_refl, Int.toNat_natCast, Int.reduceLT, ne_eq, Fin.isValue, Nat.add_zero, nC_hrw, nS_hrw, nC_hwr, nS_hwr, hkd_hrw, hkd_hwr, fin4_0, fin4_1, fin4_2, fin4_3, fin2_0, fin2_1, ci0, ci1, cnn, false_implies, w32_eq, w64_eq, (hFr z2).m, e18]
          try simp (disch := omega) only [yc_lt, yc_le, yc_gt, yc_ge, yc_eq, w32_eq, w64_eq, tn_add, tn_mul, Int.toNat_natCast, Int.reduceToNat, not_true, not_false_iff, false_implies, forall_const, implies_true, e130, e131, hro, hwr_same]
          repeat' (with_reducible first | apply And.intro | intro _)
          all_goals try omega
          all_goals try simp (disch := omega) only [w32_eq, w64_eq, tn_add, tn_mul, Int.toNat_natCast, Int.reduceToNat, Option.some.injEq, Sum.inr.injEq, Sum.inl.injEq, e130, e131, hro, hwr_same]
          all_goals try omega
          all_goals try exact (hnx (by omega)).weak rfl (by simp [lle] <;> omega)
          refine ClA.pure (hpo) (by first | exact Nat.le_of_ble_eq_true rfl | (simp only [eD]; omega)) (by first | exact Nat.le_refl _ | (simp only [eG, eD, eC, eS, eQ, eH, nC_hrw, nC_hwr, nS_hrw, nS_hwr, nC_hnw, nS_hnw]; omega)) (by first | exact Nat.le_refl _ | (simp only [eG, eD, eC, eS, eQ, eH, nC_hrw, nC_hwr, nS_hrw, nS_hwr, nC_hnw, nS_hnw]; omega)) ?_
          refine vsA_ok tk_X5_comesTo rfl 30 ?_
          simp only [at_X5_comesTo, mr_X5_comesTo, vsA, vcA, denA, lget, lset, lst1, lst2, lclr, argsA, restA, acats, acat, tcA, tcN, rzA, lle, List.length_cons, List.length_nil, Option.toList_some, Option.toList_none, List.cons_append, List.nil_append, eG, eM, eD, eC, eS, eQ, eH, if_true, if_false, Nat.reduceAdd, Nat.reduceLeDiff, Nat.reduceEqDiff, Nat.reduceLT, Nat.reduceSub, Int.reduceEq, Int.reduceLE, Int.reduceToNat, reduceCtorEq, reduceIte, Nat.reduceBEq, Int.reduceNeg, not_true, not_false_iff, true_and, and_true, true_or, or_true, false_or, or_false, forall_const, implies_true, Nat.le_refl, Int.toNat_natCast, Int.reduceLT, ne_eq, Fin.isValue, Nat.add_zero, nC_hrw, nS_hrw, nC_hwr, nS_hwr, hkd_hrw, hkd_hwr, fin4_0, fin4_1, fin4_2, fin4_3, fin2_0, fin2_1, ci0, ci1, cnn, false_implies, w32_eq, w64_eq]
          try simp (disch := omega) only [yc_lt, yc_le, yc_gt, yc_ge, yc_eq, w32_eq, w64_eq, tn_add, tn_mul, Int.toNat_natCast, Int.reduceToNat, not_true, not_false_iff, false_implies, forall_const, implies_true]
          repeat' (with_reducible first | apply And.intro | intro _)
          all_goals try omega
          all_goals try simp (disch := omega) only [w32_eq, w64_eq, tn_add, tn_mul, Int.toNat_natCast, Int.reduceToNat, Option.some.injEq, Sum.inr.injEq, Sum.inl.injEq]
          all_goals try omega
          all_goals try exact (hn2 (by omega) hz3).weak rfl (by simp [lle] <;> omega)
        · rw [if_neg hil]
          have hq0 : (curW bec std tbl k c).length ≤ q := by
            rw [curW_row bec std hkn, List.length_flatMap]
            rw [List.take_of_length_le (by omega)] at hq2
            omega
          have hk0 : k = 0 ∧ q = p := by
            rcases hI.1 with q | q
            · exact q
            · omega
          obtain ⟨rfl, rfl⟩ := hk0
          have hcu : curW bec std tbl 0 c = wrd bec std tbl := rfl
          rw [hcu] at hq0
          rw [if_neg (show ¬ q < _ by omega)] at hE
          subst hE
          refine vsA_ok tk_X5_comesTo rfl 12 ?_
          simp only [at_X5_comesTo, mr_X5_comesTo, vsA, vcA, denA, lget, lset, lst1, lst2, lclr, argsA, restA, acats, acat, tcA, tcN, rzA, lle, List.length_cons, List.length_nil, Option.toList_some, Option.toList_none, List.cons_append, List.nil_append, eG, eM, eD, eC, eS, eQ, eH, if_true, if_false, Nat.reduceAdd, Nat.reduceLeDiff, Nat.reduceEqDiff, Nat.reduceLT, Nat.reduceSub, Int.reduceEq, Int.reduceLE, Int.reduceToNat, reduceCtorEq, reduceIte, Nat.reduceBEq, Int.reduceNeg, not_true, not_false_iff, true_and, and_true, true_or, or_true, false_or, or_false, forall_const, implies_true, Nat.le_refl, Int.toNat_natCast, Int.reduceLT, ne_eq, Fin.isValue, Nat.add_zero, nC_hrw, nS_hrw, nC_hwr, nS_hwr, hkd_hrw, hkd_hwr, fin4_0, fin4_1, fin4_2, fin4_3, fin2_0, fin2_1, ci0, ci1, cnn, false_implies, w32_eq, w64_eq]
          try simp (disch := omega) only [yc_lt, yc_le, yc_gt, yc_ge, yc_eq, w32_eq, w64_eq, tn_add, tn_mul, Int.toNat_natCast, Int.reduceToNat, not_true, not_false_iff, false_implies, forall_const, implies_true]
          repeat' (with_reducible first | apply And.intro | intro _)
          all_goals try omega
          all_goals try simp (disch := omega) only [w32_eq, w64_eq, tn_add, tn_mul, Int.toNat_natCast, Int.reduceToNat, Option.some.injEq, Sum.inr.injEq, Sum.inl.injEq]
          all_goals try omega
          refine ⟨z2, rfl, fun x hx => ?_⟩
          subst hR
          rw [hz2 x hx, ← hI.2.2.2 x hx, curW_row bec std hkn, List.take_of_length_le (l := (rowL bec std tbl 0 c)) (by omega), ← cnt_fm, List.take_of_length_le (by rw [← curW_row bec std hkn, hcu]; exact hq0)]
      have l2 := L2 0 (Nat.zero_le _) q z (by simp) (fun x hx => by simp)
      subst hE
      refine vsA_ok tk_X5_comesTo rfl 16 ?_
      simp only [at_X5_comesTo, mr_X5_comesTo, vsA, vcA, denA, lget, lset, lst1, lst2, lclr, argsA, restA, acats, acat, tcA, tcN, rzA, lle, List.length_cons, List.length_nil, Option.toList_some, Option.toList_none, List.cons_append, List.nil_append, eG, eM, eD, eC, eS, eQ, eH, if_true, if_false, Nat.reduceAdd, Nat.reduceLeDiff, Nat.reduceEqDiff, Nat.reduceLT, Nat.reduceSub, Int.reduceEq, Int.reduceLE, Int.reduceToNat, reduceCtorEq, reduceIte, Nat.reduceBEq, Int.reduceNeg, not_true, not_false_iff, true_and, and_true, true_or, or_true, false_or, or_false, forall_const, implies_true, Nat.le_refl, Int.toNat_natCast, Int.reduceLT, ne_eq, Fin.isValue, Nat.add_zero, nC_hrw, nS_hrw, nC_hwr, nS_hwr, hkd_hrw, hkd_hwr, fin4_0, fin4_1, fin4_2, fin4_3, fin2_0, fin2_1, ci0, ci1, cnn, false_implies, w32_eq, w64_eq, (hFr z).m, (hAr z).q]
      try simp (disch := omega) only [yc_lt, yc_le, yc_gt, yc_ge, yc_eq, w32_eq, w64_eq, tn_add, tn_mul, Int.toNat_natCast, Int.reduceToNat, not_true, not_false_iff, false_implies, forall_const, implies_true]
      repeat' (with_reducible first | apply And.intro | intro _)
      all_goals try omega
      all_goals try simp (disch := omega) only [w32_eq, w64_eq, tn_add, tn_mul, Int.toNat_natCast, Int.reduceToNat, Option.some.injEq, Sum.inr.injEq, Sum.inl.injEq]
      all_goals try omega
      refine ClA.pure (c_X5_partOf (hFr z) (hAr z) (i := 0) hkn hcz' (by omega)) (by first | exact Nat.le_of_ble_eq_true rfl | (simp only [eD]; omega)) (by first | exact Nat.le_refl _ | (simp only [eG, eD, eC, eS, eQ, eH, nC_hrw, nC_hwr, nS_hrw, nS_hwr, nC_hnw, nS_hnw]; omega)) (by first | exact Nat.le_refl _ | (simp only [eG, eD, eC, eS, eQ, eH, nC_hrw, nC_hwr, nS_hrw, nS_hwr, nC_hnw, nS_hnw]; omega)) ?_
      refine vsA_ok tk_X5_comesTo rfl 12 ?_
      simp only [at_X5_comesTo, mr_X5_comesTo, vsA, vcA, denA, lget, lset, lst1, lst2, lclr, argsA, restA, acats, acat, tcA, tcN, rzA, lle, List.length_cons, List.length_nil, Option.toList_some, Option.toList_none, List.cons_append, List.nil_append, eG, eM, eD, eC, eS, eQ, eH, if_true, if_false, Nat.reduceAdd, Nat.reduceLeDiff, Nat.reduceEqDiff, Nat.reduceLT, Nat.reduceSub, Int.reduceEq, Int.reduceLE, Int.reduceToNat, reduceCtorEq, reduceIte, Nat.reduceBEq, Int.reduceNeg, not_true, not_false_iff, true_and, and_true, true_or, or_true, false_or, or_false, forall_const, implies_true, Nat.le_refl, Int.toNat_natCast, Int.reduceLT, ne_eq, Fin.isValue, Nat.add_zero, nC_hrw, nS_hrw, nC_hwr, nS_hwr, hkd_hrw, hkd_hwr, fin4_0, fin4_1, fin4_2, fin4_3, fin2_0, fin2_1, ci0, ci1, cnn, false_implies, w32_eq, w64_eq]
      try simp (disch := omega) only [yc_lt, yc_le, yc_gt, yc_ge, yc_eq, w32_eq, w64_eq, tn_add, tn_mul, Int.toNat_natCast, Int.reduceToNat, not_true, not_false_iff, false_implies, forall_const, implies_true]
      repeat' (with_reducible first | apply And.intro | intro _)
      all_goals try omega
      all_goals try simp (disch := omega) only [w32_eq, w64_eq, tn_add, tn_mul, Int.toNat_natCast, Int.reduceToNat, Option.some.injEq, Sum.inr.injEq, Sum.inl.injEq]
      all_goals try omega
      all_goals try exact (l2).weak rfl (by simp [lle] <;> omega)
    · have hk1 : k = tbl.length + 1 := by omega
      subst hk1
      have hcu : curW bec std tbl (tbl.length + 1) c = [c] := by
        rw [curW_succ, List.drop_length]
        rfl
      obtain ⟨h1, h2, h3, h4⟩ := hI
      rw [hcu] at h1 h2 h3 h4
      have hq0 : q = 0 := by
        rcases h1 with q | q
        · omega
        · simp at q
          omega
      subst hq0
      obtain ⟨h5, h6⟩ := h3 (by simp)
      have hw : (wrd bec std tbl).getD p 0 = c := h6
      rw [if_pos h5, hw] at hE
      have hc2 := hcz.resolve_left (by omega)
      subst hc2
      subst hE
      refine vsA_ok tk_X5_comesTo rfl 12 ?_
      simp only [at_X5_comesTo, mr_X5_comesTo, vsA, vcA, denA, lget, lset, lst1, lst2, lclr, argsA, restA, acats, acat, tcA, tcN, rzA, lle, List.length_cons, List.length_nil, Option.toList_some, Option.toList_none, List.cons_append, List.nil_append, eG, eM, eD, eC, eS, eQ, eH, if_true, if_false, Nat.reduceAdd, Nat.reduceLeDiff, Nat.reduceEqDiff, Nat.reduceLT, Nat.reduceSub, Int.reduceEq, Int.reduceLE, Int.reduceToNat, reduceCtorEq, reduceIte, Nat.reduceBEq, Int.reduceNeg, not_true, not_false_iff, true_and, and_true, true_or, or_true, false_or, or_false, forall_const, implies_true, Nat.le_refl, Int.toNat_natCast, Int.reduceLT, ne_eq, Fin.isValue, Nat.add_zero, nC_hrw, nS_hrw, nC_hwr, nS_hwr, hkd_hrw, hkd_hwr, fin4_0, fin4_1, fin4_2, fin4_3, fin2_0, fin2_1, ci0, ci1, cnn, false_implies, w32_eq, w64_eq, (hFr z).m, (hAr z).q]
      try simp (disch := omega) only [yc_lt, yc_le, yc_gt, yc_ge, yc_eq, w32_eq, w64_eq, tn_add, tn_mul, Int.toNat_natCast, Int.reduceToNat, not_true, not_false_iff, false_implies, forall_const, implies_true]
      repeat' (with_reducible first | apply And.intro | intro _)
      all_goals try omega
      all_goals try simp (disch := omega) only [w32_eq, w64_eq, tn_add, tn_mul, Int.toNat_natCast, Int.reduceToNat, Option.some.injEq, Sum.inr.injEq, Sum.inl.injEq]
      all_goals try omega
      refine ⟨z, rfl, fun x hx => ?_⟩
      subst hR
      have := h4 x hx
      simpa using this
  have l1 := L1 0 (by omega) 0 (-1) p 0 (Or.inl rfl) ⟨Or.inl ⟨rfl, rfl⟩, hL, fun hq => ⟨hq, rfl⟩, fun x hx => by simp [curW]⟩
  subst hE
  refine vsA_ok tk_X5_comesTo rfl 12 ?_
  simp only [at_X5_comesTo, mr_X5_comesTo, vsA, vcA, denA, lget, lset, lst1, lst2, lclr, argsA, restA, acats, acat, tcA, tcN, rzA, lle, List.length_cons, List.length_nil, Option.toList_some, Option.toList_none, List.cons_append, List.nil_append, eG, eM, eD, eC, eS, eQ, eH, if_true, if_false, Nat.reduceAdd, Nat.reduceLeDiff, Nat.reduceEqDiff, Nat.reduceLT, Nat.reduceSub, Int.reduceEq, Int.reduceLE, Int.reduceToNat, reduceCtorEq, reduceIte, Nat.reduceBEq, Int.reduceNeg, not_true, not_false_iff, true_and, and_true, true_or, or_true, false_or, or_false, forall_const, implies_true, Nat.le_refl, Int.toNat_natCast, Int.reduceLT, ne_eq, Fin.isValue, Nat.add_zero, nC_hrw, nS_hrw, nC_hwr, nS_hwr, hkd_hrw, hkd_hwr, fin4_0, fin4_1, fin4_2, fin4_3, fin2_0, fin2_1, ci0, ci1, cnn, false_implies, w32_eq, w64_eq, hF.m]
  try simp (disch := omega) only [yc_lt, yc_le, yc_gt, yc_ge, yc_eq, w32_eq, w64_eq, tn_add, tn_mul, Int.toNat_natCast, Int.reduceToNat, not_true, not_false_iff, false_implies, forall_const, implies_true]
  repeat' (with_reducible first | apply And.intro | intro _)
  all_goals try omega
  all_goals try simp (disch := omega) only [w32_eq, w64_eq, tn_add, tn_mul, Int.toNat_natCast, Int.reduceToNat, Option.some.injEq, Sum.inr.injEq, Sum.inl.injEq]
  all_goals try omega
  all_goals try exact (l1).weak rfl (by simp [lle] <;> omega)
theorem c_X5_letterAt {G : GT} {h : AH} {T : Nat} {bec : Nat → Nat → List Nat} {std tbl : List Nat} {nights moon : Int} (hF : FxA h) (hA : AllC (hdt h 125) T bec std tbl nights moon) (hL : (wrd bec std tbl).length ≤ 1000000000000) {p : Nat} (hp : p < 9223372036854775808) (hrow : RowR bec tbl lnW (hdt h 130)) :
    CnA G mX5_letterAt 4 0 0 [.inr (.inr (124)), .inr (.inl ((p : Int)))] h (fun v h1 => v = some (.inl (if p < (wrd bec std tbl).length then (((wrd bec std tbl).getD p 0 : Nat) : Int) else 6)) ∧ ∃ z, h1 = hwr h 124 18 z) := by
  refine CnA.of rfl (Nat.le_of_ble_eq_true rfl) ?_
  simp only [largs, lpad, mr_X5_letterAt]
  refine vsA_ok tk_X5_letterAt rfl 20 ?_
  simp only [at_X5_letterAt, mr_X5_letterAt, vsA, vcA, denA, lget, lset, lst1, lst2, lclr, argsA, restA, acats, acat, tcA, tcN, rzA, lle, List.length_cons, List.length_nil, Option.toList_some, Option.toList_none, List.cons_append, List.nil_append, eG, eM, eD, eC, eS, eQ, eH, if_true, if_false, Nat.reduceAdd, Nat.reduceLeDiff, Nat.reduceEqDiff, Nat.reduceLT, Nat.reduceSub, Int.reduceEq, Int.reduceLE, Int.reduceToNat, reduceCtorEq, reduceIte, Nat.reduceBEq, Int.reduceNeg, not_true, not_false_iff, true_and, and_true, true_or, or_true, false_or, or_false, forall_const, implies_true, Nat.le_refl, Int.toNat_natCast, Int.reduceLT, ne_eq, Fin.isValue, Nat.add_zero, nC_hrw, nS_hrw, nC_hwr, nS_hwr, hkd_hrw, hkd_hwr, fin4_0, fin4_1, fin4_2, fin4_3, fin2_0, fin2_1, ci0, ci1, cnn, false_implies, w32_eq, w64_eq, hF.m]
  try simp (disch := omega) only [yc_lt, yc_le, yc_gt, yc_ge, yc_eq, w32_eq, w64_eq, tn_add, tn_mul, Int.toNat_natCast, Int.reduceToNat, not_true, not_false_iff, false_implies, forall_const, implies_true]
  repeat' (with_reducible first | apply And.intro | intro _)
  all_goals try omega
  all_goals try simp (disch := omega) only [w32_eq, w64_eq, tn_add, tn_mul, Int.toNat_natCast, Int.reduceToNat, Option.some.injEq, Sum.inr.injEq, Sum.inl.injEq]
  all_goals try omega
  refine ClA.of (c_X5_comesTo hF hA hL hp hrow) (by first | exact Nat.le_of_ble_eq_true rfl | (simp only [eD]; omega)) (by first | exact Nat.le_refl _ | (simp only [eG, eD, eC, eS, eQ, eH, nC_hrw, nC_hwr, nS_hrw, nS_hwr, nC_hnw, nS_hnw]; omega)) (by first | exact Nat.le_refl _ | (simp only [eG, eD, eC, eS, eQ, eH, nC_hrw, nC_hwr, nS_hrw, nS_hwr, nC_hnw, nS_hnw]; omega)) ?_
  rintro _ h1 ⟨rfl, z, rfl, -⟩ - -
  by_cases hpl : p < (wrd bec std tbl).length
  · have h6 := hA.lt _ (getD_mem hpl)
    rw [if_pos hpl, if_pos hpl]
    refine vsA_ok tk_X5_letterAt rfl 20 ?_
    simp only [at_X5_letterAt, mr_X5_letterAt, vsA, vcA, denA, lget, lset, lst1, lst2, lclr, argsA, restA, acats, acat, tcA, tcN, rzA, lle, List.length_cons, List.length_nil, Option.toList_some, Option.toList_none, List.cons_append, List.nil_append, eG, eM, eD, eC, eS, eQ, eH, if_true, if_false, Nat.reduceAdd, Nat.reduceLeDiff, Nat.reduceEqDiff, Nat.reduceLT, Nat.reduceSub, Int.reduceEq, Int.reduceLE, Int.reduceToNat, reduceCtorEq, reduceIte, Nat.reduceBEq, Int.reduceNeg, not_true, not_false_iff, true_and, and_true, true_or, or_true, false_or, or_false, forall_const, implies_true, Nat.le_refl, Int.toNat_natCast, Int.reduceLT, ne_eq, Fin.isValue, Nat.add_zero, nC_hrw, nS_hrw, nC_hwr, nS_hwr, hkd_hrw, hkd_hwr, fin4_0, fin4_1, fin4_2, fin4_3, fin2_0, fin2_1, ci0, ci1, cnn, false_implies, w32_eq, w64_eq]
    try simp (disch := omega) only [yc_lt, yc_le, yc_gt, yc_ge, yc_eq, w32_eq, w64_eq, tn_add, tn_mul, Int.toNat_natCast, Int.reduceToNat, not_true, not_false_iff, false_implies, forall_const, implies_true]
    repeat' (with_reducible first | apply And.intro | intro _)
    all_goals try omega
    all_goals try simp (disch := omega) only [w32_eq, w64_eq, tn_add, tn_mul, Int.toNat_natCast, Int.reduceToNat, Option.some.injEq, Sum.inr.injEq, Sum.inl.injEq]
    all_goals try omega
    exact ⟨z, rfl⟩
  · rw [if_neg hpl, if_neg hpl]
    refine vsA_ok tk_X5_letterAt rfl 20 ?_
    simp only [at_X5_letterAt, mr_X5_letterAt, vsA, vcA, denA, lget, lset, lst1, lst2, lclr, argsA, restA, acats, acat, tcA, tcN, rzA, lle, List.length_cons, List.length_nil, Option.toList_some, Option.toList_none, List.cons_append, List.nil_append, eG, eM, eD, eC, eS, eQ, eH, if_true, if_false, Nat.reduceAdd, Nat.reduceLeDiff, Nat.reduceEqDiff, Nat.reduceLT, Nat.reduceSub, Int.reduceEq, Int.reduceLE, Int.reduceToNat, reduceCtorEq, reduceIte, Nat.reduceBEq, Int.reduceNeg, not_true, not_false_iff, true_and, and_true, true_or, or_true, false_or, or_false, forall_const, implies_true, Nat.le_refl, Int.toNat_natCast, Int.reduceLT, ne_eq, Fin.isValue, Nat.add_zero, nC_hrw, nS_hrw, nC_hwr, nS_hwr, hkd_hrw, hkd_hwr, fin4_0, fin4_1, fin4_2, fin4_3, fin2_0, fin2_1, ci0, ci1, cnn, false_implies, w32_eq, w64_eq]
    try simp (disch := omega) only [yc_lt, yc_le, yc_gt, yc_ge, yc_eq, w32_eq, w64_eq, tn_add, tn_mul, Int.toNat_natCast, Int.reduceToNat, not_true, not_false_iff, false_implies, forall_const, implies_true]
    repeat' (with_reducible first | apply And.intro | intro _)
    all_goals try omega
    all_goals try simp (disch := omega) only [w32_eq, w64_eq, tn_add, tn_mul, Int.toNat_natCast, Int.reduceToNat, Option.some.injEq, Sum.inr.injEq, Sum.inl.injEq]
    all_goals try omega
    exact ⟨z, rfl⟩
theorem c_X5_longBehind {G : GT} {h : AH} {T : Nat} {bec : Nat → Nat → List Nat} {std tbl : List Nat} {nights moon : Int} (hF : FxA h) (hA : AllC (hdt h 125) T bec std tbl nights moon) {t : Nat} (ht : t < 3) (hL : (wrd bec std tbl).length ≤ 1000000000000) :
    CnA G mX5_longBehind 4 0 0 [.inr (.inr (124)), .inl ((t : Int))] h (fun v h1 => v = some (.inr (.inl ((((wrd bec std (tbl ++ [t])).length : Nat) : Int)))) ∧ ∃ f, h1 = hrw h 130 f) := by
  refine CnA.of rfl (Nat.le_of_ble_eq_true rfl) ?_
  simp only [largs, lpad, mr_X5_longBehind]
  have hs := hA.sz
  have hFr : ∀ f, FxA (hrw h 130 f) := fun f => hF.hrw (by decide +kernel) f
  have hAr : ∀ f, AllC (hdt (hrw h 130 f) 125) T bec std tbl nights moon := fun f => by rw [hdt_hrw_n _ _ (by decide)]; exact hA
  have hg4 : ∀ c, (if c < 6 then (bec t c).length else 0) ≤ 4 := fun c => by
    split
    · exact (hA.b4 ht (by assumption)).1
    · omega
  generalize hgg : (fun c => if c < 6 then (bec t c).length else 0) = g at hg4
  have hg6 : ∀ c, c < 6 → g c = (bec t c).length := fun c hc => by rw [← hgg]; exact if_pos hc
  have hgl : ∀ c, g c ≤ 4 := fun c => by rw [← hgg]; exact hg4 c
  have hgE : ∀ c, g c ≤ endC := fun c => Nat.le_trans (hgl c) (by decide)
  have hsum : wsm g (wrd bec std tbl) = (wrd bec std (tbl ++ [t])).length := by
    rw [wrd_snoc, List.length_flatMap]
    unfold wsm
    congr 1
    exact List.map_congr_left fun d hd => hg6 d (hA.lt d hd)
  have hle : wsm g (wrd bec std tbl) ≤ endC := by
    have := sum_le g 4 hgl (wrd bec std tbl)
    have he : endC = 9223372036854775807 := rfl
    unfold wsm
    omega
  generalize hE : ((G, mX5_longBehind, _, _, _, _, h) : EV) = E
  have L1 : ∀ i, i ≤ 6 → ∀ f : Nat → Int, (∀ c : Nat, c < i → f (6 * tbl.length + c) = ((g c : Nat) : Int)) → ExA E 2 [some (.inr (.inr (124))), some (.inl ((t : Int))), some (.inl ((i : Int)))] [] (hrw h 130 f) := by
    refine lpI 6 fun i hi ih f hf => ?_
    by_cases hi6 : i < 6
    · have nx := ih hi6 (fup f (6 * tbl.length + i) ((g i : Nat) : Int)) (fun c hc => by
        by_cases e : c = i
        · rw [e, fup_s]
        · rw [fup_n _ _ (by omega)]
          exact hf c (by omega))
      rw [hg6 i hi6] at nx
      have h4 := (hA.b4 ht hi6).1
      subst hE
      refine vsA_ok tk_X5_longBehind rfl 20 ?_
      simp only [at_X5_longBehind, mr_X5_longBehind, vsA, vcA, denA, lget, lset, lst1, lst2, lclr, argsA, restA, acats, acat, tcA, tcN, rzA, lle, List.length_cons, List.length_nil, Option.toList_some, Option.toList_none, List.cons_append, List.nil_append, eG, eM, eD, eC, eS, eQ, eH, if_true, if_false, Nat.reduceAdd, Nat.reduceLeDiff, Nat.reduceEqDiff, Nat.reduceLT, Nat.reduceSub, Int.reduceEq, Int.reduceLE, Int.reduceToNat, reduceCtorEq, reduceIte, Nat.reduceBEq, Int.reduceNeg, not_true, not_false_iff, true_and, and_true, true_or, or_true, false_or, or_false, forall_const, implies_true, Nat.le_refl, Int.toNat_natCast, Int.reduceLT, ne_eq, Fin.isValue, Nat.add_zero, nC_hrw, nS_hrw, nC_hwr, nS_hwr, hkd_hrw, hkd_hwr, fin4_0, fin4_1, fin4_2, fin4_3, fin2_0, fin2_1, ci0, ci1, cnn, false_implies, w32_eq, w64_eq, (hFr f).m, (hAr f).q]
      try simp (disch := omega) only [yc_lt, yc_le, yc_gt, yc_ge, yc_eq, w32_eq, w64_eq, tn_add, tn_mul, Int.toNat_natCast, Int.reduceToNat, not_true, not_false_iff, false_implies, forall_const, implies_true]
      repeat' (with_reducible first | apply And.intro | intro _)
      all_goals try omega
      all_goals try simp (disch := omega) only [w32_eq, w64_eq, tn_add, tn_mul, Int.toNat_natCast, Int.reduceToNat, Option.some.injEq, Sum.inr.injEq, Sum.inl.injEq]
      all_goals try omega
      refine ClA.pure (c_X5_becomeMany (hFr f) (hAr f) ht hi6) (by first | exact Nat.le_of_ble_eq_true rfl | (simp only [eD]; omega)) (by first | exact Nat.le_refl _ | (simp only [eG, eD, eC, eS, eQ, eH, nC_hrw, nC_hwr, nS_hrw, nS_hwr, nC_hnw, nS_hnw]; omega)) (by first | exact Nat.le_refl _ | (simp only [eG, eD, eC, eS, eQ, eH, nC_hrw, nC_hwr, nS_hrw, nS_hwr, nC_hnw, nS_hnw]; omega)) ?_
      refine vsA_ok tk_X5_longBehind rfl 20 ?_
      simp only [at_X5_longBehind, mr_X5_longBehind, vsA, vcA, denA, lget, lset, lst1, lst2, lclr, argsA, restA, acats, acat, tcA, tcN, rzA, lle, List.length_cons, List.length_nil, Option.toList_some, Option.toList_none, List.cons_append, List.nil_append, eG, eM, eD, eC, eS, eQ, eH, if_true, if_false, Nat.reduceAdd, Nat.reduceLeDiff, Nat.reduceEqDiff, Nat.reduceLT, Nat.reduceSub, Int.reduceEq, Int.reduceLE, Int.reduceToNat, reduceCtorEq, reduceIte, Nat.reduceBEq, Int.reduceNeg, not_true, not_false_iff, true_and, and_true, true_or, or_true, false_or, or_false, forall_const, implies_true, Nat.le_refl, Int.toNat_natCast, Int.reduceLT, ne_eq, Fin.isValue, Nat.add_zero, nC_hrw, nS_hrw, nC_hwr, nS_hwr, hkd_hrw, hkd_hwr, fin4_0, fin4_1, fin4_2, fin4_3, fin2_0, fin2_1, ci0, ci1, cnn, false_implies, w32_eq, w64_eq, (hFr f).m]
      try simp (disch := omega) only [yc_lt, yc_le, yc_gt, yc_ge, yc_eq, w32_eq, w64_eq, tn_add, tn_mul, Int.toNat_natCast, Int.reduceToNat, not_true, not_false_iff, false_implies, forall_const, implies_true, hwr_hrw]
      repeat' (with_reducible first | apply And.intro | intro _)
      all_goals try omega
      all_goals try simp (disch := omega) only [w32_eq, w64_eq, tn_add, tn_mul, Int.toNat_natCast, Int.reduceToNat, Option.some.injEq, Sum.inr.injEq, Sum.inl.injEq, hwr_hrw]
      all_goals try omega
      all_goals try exact (nx).weak rfl (by simp [lle] <;> omega)
    · subst hE
      refine vsA_ok tk_X5_longBehind rfl 20 ?_
      simp only [at_X5_longBehind, mr_X5_longBehind, vsA, vcA, denA, lget, lset, lst1, lst2, lclr, argsA, restA, acats, acat, tcA, tcN, rzA, lle, List.length_cons, List.length_nil, Option.toList_some, Option.toList_none, List.cons_append, List.nil_append, eG, eM, eD, eC, eS, eQ, eH, if_true, if_false, Nat.reduceAdd, Nat.reduceLeDiff, Nat.reduceEqDiff, Nat.reduceLT, Nat.reduceSub, Int.reduceEq, Int.reduceLE, Int.reduceToNat, reduceCtorEq, reduceIte, Nat.reduceBEq, Int.reduceNeg, not_true, not_false_iff, true_and, and_true, true_or, or_true, false_or, or_false, forall_const, implies_true, Nat.le_refl, Int.toNat_natCast, Int.reduceLT, ne_eq, Fin.isValue, Nat.add_zero, nC_hrw, nS_hrw, nC_hwr, nS_hwr, hkd_hrw, hkd_hwr, fin4_0, fin4_1, fin4_2, fin4_3, fin2_0, fin2_1, ci0, ci1, cnn, false_implies, w32_eq, w64_eq, (hFr f).m]
      try simp (disch := omega) only [yc_lt, yc_le, yc_gt, yc_ge, yc_eq, w32_eq, w64_eq, tn_add, tn_mul, Int.toNat_natCast, Int.reduceToNat, not_true, not_false_iff, false_implies, forall_const, implies_true]
      repeat' (with_reducible first | apply And.intro | intro _)
      all_goals try omega
      all_goals try simp (disch := omega) only [w32_eq, w64_eq, tn_add, tn_mul, Int.toNat_natCast, Int.reduceToNat, Option.some.injEq, Sum.inr.injEq, Sum.inl.injEq]
      all_goals try omega
      · refine ClA.of (c_X5_laysBack (g := g) (hFr f) (hAr f) (Or.inl rfl) hgE (fun c hc => by rw [hdt_hrw_s, hf c (by omega)])) (by first | exact Nat.le_of_ble_eq_true rfl | (simp only [eD]; omega)) (by first | exact Nat.le_refl _ | (simp only [eG, eD, eC, eS, eQ, eH, nC_hrw, nC_hwr, nS_hrw, nS_hwr, nC_hnw, nS_hnw]; omega)) (by first | exact Nat.le_refl _ | (simp only [eG, eD, eC, eS, eQ, eH, nC_hrw, nC_hwr, nS_hrw, nS_hwr, nC_hnw, nS_hnw]; omega)) ?_
        rintro _ h1 ⟨rfl, f1, rfl, hf1⟩ - -
        rw [hrw_hrw]
        refine vsA_ok tk_X5_longBehind rfl 20 ?_
        simp only [at_X5_longBehind, mr_X5_longBehind, vsA, vcA, denA, lget, lset, lst1, lst2, lclr, argsA, restA, acats, acat, tcA, tcN, rzA, lle, List.length_cons, List.length_nil, Option.toList_some, Option.toList_none, List.cons_append, List.nil_append, eG, eM, eD, eC, eS, eQ, eH, if_true, if_false, Nat.reduceAdd, Nat.reduceLeDiff, Nat.reduceEqDiff, Nat.reduceLT, Nat.reduceSub, Int.reduceEq, Int.reduceLE, Int.reduceToNat, reduceCtorEq, reduceIte, Nat.reduceBEq, Int.reduceNeg, not_true, not_false_iff, true_and, and_true, true_or, or_true, false_or, or_false, forall_const, implies_true, Nat.le_refl, Int.toNat_natCast, Int.reduceLT, ne_eq, Fin.isValue, Nat.add_zero, nC_hrw, nS_hrw, nC_hwr, nS_hwr, hkd_hrw, hkd_hwr, fin4_0, fin4_1, fin4_2, fin4_3, fin2_0, fin2_1, ci0, ci1, cnn, false_implies, w32_eq, w64_eq, (hFr f1).m]
        try simp (disch := omega) only [yc_lt, yc_le, yc_gt, yc_ge, yc_eq, w32_eq, w64_eq, tn_add, tn_mul, Int.toNat_natCast, Int.reduceToNat, not_true, not_false_iff, false_implies, forall_const, implies_true]
        repeat' (with_reducible first | apply And.intro | intro _)
        all_goals try omega
        all_goals try simp (disch := omega) only [w32_eq, w64_eq, tn_add, tn_mul, Int.toNat_natCast, Int.reduceToNat, Option.some.injEq, Sum.inr.injEq, Sum.inl.injEq]
        all_goals try omega
        refine ClA.pure (c_X5_sumOf (hFr f1) (hAr f1) (Or.inl rfl) (w := swt endC bec g tbl) (fun c hc => by rw [hdt_hrw_s]; exact RowR.zero hf1 c hc)) (by first | exact Nat.le_of_ble_eq_true rfl | (simp only [eD]; omega)) (by first | exact Nat.le_refl _ | (simp only [eG, eD, eC, eS, eQ, eH, nC_hrw, nC_hwr, nS_hrw, nS_hwr, nC_hnw, nS_hnw]; omega)) (by first | exact Nat.le_refl _ | (simp only [eG, eD, eC, eS, eQ, eH, nC_hrw, nC_hwr, nS_hrw, nS_hwr, nC_hnw, nS_hnw]; omega)) ?_
        rw [sum_swtB g hgE hle, hsum]
        refine vsA_ok tk_X5_longBehind rfl 20 ?_
        simp only [at_X5_longBehind, mr_X5_longBehind, vsA, vcA, denA, lget, lset, lst1, lst2, lclr, argsA, restA, acats, acat, tcA, tcN, rzA, lle, List.length_cons, List.length_nil, Option.toList_some, Option.toList_none, List.cons_append, List.nil_append, eG, eM, eD, eC, eS, eQ, eH, if_true, if_false, Nat.reduceAdd, Nat.reduceLeDiff, Nat.reduceEqDiff, Nat.reduceLT, Nat.reduceSub, Int.reduceEq, Int.reduceLE, Int.reduceToNat, reduceCtorEq, reduceIte, Nat.reduceBEq, Int.reduceNeg, not_true, not_false_iff, true_and, and_true, true_or, or_true, false_or, or_false, forall_const, implies_true, Nat.le_refl, Int.toNat_natCast, Int.reduceLT, ne_eq, Fin.isValue, Nat.add_zero, nC_hrw, nS_hrw, nC_hwr, nS_hwr, hkd_hrw, hkd_hwr, fin4_0, fin4_1, fin4_2, fin4_3, fin2_0, fin2_1, ci0, ci1, cnn, false_implies, w32_eq, w64_eq]
        try simp (disch := omega) only [yc_lt, yc_le, yc_gt, yc_ge, yc_eq, w32_eq, w64_eq, tn_add, tn_mul, Int.toNat_natCast, Int.reduceToNat, not_true, not_false_iff, false_implies, forall_const, implies_true]
        repeat' (with_reducible first | apply And.intro | intro _)
        all_goals try omega
        all_goals try simp (disch := omega) only [w32_eq, w64_eq, tn_add, tn_mul, Int.toNat_natCast, Int.reduceToNat, Option.some.injEq, Sum.inr.injEq, Sum.inl.injEq]
        all_goals try omega
        exact ⟨f1, rfl⟩
  have l1 := L1 0 (by omega) (hdt h 130) (fun c hc => by omega)
  rw [hrw_self] at l1
  subst hE
  refine vsA_ok tk_X5_longBehind rfl 20 ?_
  simp only [at_X5_longBehind, mr_X5_longBehind, vsA, vcA, denA, lget, lset, lst1, lst2, lclr, argsA, restA, acats, acat, tcA, tcN, rzA, lle, List.length_cons, List.length_nil, Option.toList_some, Option.toList_none, List.cons_append, List.nil_append, eG, eM, eD, eC, eS, eQ, eH, if_true, if_false, Nat.reduceAdd, Nat.reduceLeDiff, Nat.reduceEqDiff, Nat.reduceLT, Nat.reduceSub, Int.reduceEq, Int.reduceLE, Int.reduceToNat, reduceCtorEq, reduceIte, Nat.reduceBEq, Int.reduceNeg, not_true, not_false_iff, true_and, and_true, true_or, or_true, false_or, or_false, forall_const, implies_true, Nat.le_refl, Int.toNat_natCast, Int.reduceLT, ne_eq, Fin.isValue, Nat.add_zero, nC_hrw, nS_hrw, nC_hwr, nS_hwr, hkd_hrw, hkd_hwr, fin4_0, fin4_1, fin4_2, fin4_3, fin2_0, fin2_1, ci0, ci1, cnn, false_implies, w32_eq, w64_eq]
  try simp (disch := omega) only [yc_lt, yc_le, yc_gt, yc_ge, yc_eq, w32_eq, w64_eq, tn_add, tn_mul, Int.toNat_natCast, Int.reduceToNat, not_true, not_false_iff, false_implies, forall_const, implies_true]
  repeat' (with_reducible first | apply And.intro | intro _)
  all_goals try omega
  all_goals try simp (disch := omega) only [w32_eq, w64_eq, tn_add, tn_mul, Int.toNat_natCast, Int.reduceToNat, Option.some.injEq, Sum.inr.injEq, Sum.inl.injEq]
  all_goals try omega
  all_goals try exact (l1).weak rfl (by simp [lle] <;> omega)
