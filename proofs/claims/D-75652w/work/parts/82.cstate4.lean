/-! THE SYSTEM: states: how many ahead of a place, the place of the k-th, all counts, the beginning -/
set_option maxRecDepth 100000
section
variable {G : GT} {h : AH} {a S T : Nat} {bec : Nat → Nat → List Nat} {std tbl : List Nat} {nights moon : Int}
/-- both rows are laid -/
def RowB (h : AH) (a : Nat) (bec : Nat → Nat → List Nat) (tbl : List Nat) (x : Nat) : Prop := (∀ k c, k ≤ tbl.length → c < 6 → hdt h (a + 2) (6 * k + c) = ((min bigC (exl bec (tbl.drop k) c).length : Nat) : Int)) ∧ ∀ k c, k ≤ tbl.length → c < 6 → hdt h (a + 3) (6 * k + c) = ((min bigC ((exl bec (tbl.drop k) c).count x) : Nat) : Int)
theorem swt_cnt {bec : Nat → Nat → List Nat} (x : Nat) (ts : List Nat) (c : Nat) : swt bigC bec (ctW x) ts c = min bigC ((exl bec ts c).count x) := by
  rw [swt_eq bigC bec (ctW x) (fun c => Nat.le_trans (ctW_le x c) (by decide)), wsm_cnt]
theorem WSt.row_std (hW : WSt h a S T bec std tbl nights moon) {k c : Nat} (hk : k ≤ tbl.length) (hc : k = 0 ∨ c < 6) : (rowL bec std tbl k c).length ≤ 12 ∧ ∀ d ∈ rowL bec std tbl k c, d < 6 := by
  have hs := hW.sz
  unfold rowL
  split
  · exact ⟨hs.2.2.1, hW.2.1.2.1.2.2.1.2.2⟩
  · have := hW.bec (hW.table (k := k - 1) (by omega)).2 (c := c) (by omega)
    exact ⟨by omega, this.2⟩
theorem ctW_if (x c : Nat) (_ : c < 6) : ctW x c = if (x : Int) = -1 ∨ (x : Int) = (c : Int) then 1 else 0 := by
  unfold ctW
  by_cases e : c = x
  · rw [if_pos e, if_pos (Or.inr (by omega))]
  · rw [if_neg e, if_neg (by omega)]
theorem c_X2_aheadOf (hW : WSt h a S T bec std tbl nights moon) (hL : (wrd bec std tbl).length ≤ 1000000000000) {x p : Nat} (hx : x < 6) (hp : p < (wrd bec std tbl).length) :
    CnA G mX2_aheadOf 4 0 0 [.inr (.inr ((a : Int))), .inl ((x : Int)), .inr (.inl ((p : Int)))] h (fun v h1 => v = some (.inr (.inl (((((wrd bec std tbl).take p).count x : Nat) : Int)))) ∧ OutA (sW a S) h h1) := by
  refine CnA.of rfl (Nat.le_of_ble_eq_true rfl) ?_
  simp only [largs, lpad, mr_X2_aheadOf]
  have hb : bigC = 4000000000000 := rfl
  refine vsA_ok tk_X2_aheadOf rfl 10 ?_
  simp only [at_X2_aheadOf, mr_X2_aheadOf, vsA, vcA, denA, lget, lset, lst1, lst2, lclr, argsA, restA, acats, acat, tcA, tcN, rzA, lle, List.length_cons, List.length_nil, Option.toList_some, Option.toList_none, List.cons_append, List.nil_append, eG, eM, eD, eC, eS, eQ, eH, if_true, if_false, Nat.reduceAdd, Nat.reduceLeDiff, Nat.reduceEqDiff, Nat.reduceLT, Nat.reduceSub, Int.reduceEq, Int.reduceLE, Int.reduceToNat, reduceCtorEq, reduceIte, Nat.reduceBEq, Int.reduceNeg, not_true, not_false_iff, true_and, and_true, true_or, or_true, false_or, or_false, forall_const, implies_true, Nat.le_refl, Int.toNat_natCast, Int.reduceLT, ne_eq, Fin.isValue, Nat.add_zero, nC_hrw, nS_hrw, nC_hwr, nS_hwr, hkd_hrw, hkd_hwr, fin4_0, fin4_1, fin4_2, fin4_3, fin2_0, fin2_1, ci0, ci1, cnn, false_implies, w32_eq, w64_eq, hW.q]
  try simp (disch := omega) only [yc_lt, yc_le, yc_gt, yc_ge, yc_eq, w32_eq, w64_eq, tn_add, tn_mul, Int.toNat_natCast, Int.reduceToNat, not_true, not_false_iff, false_implies, forall_const, implies_true]
  repeat' (with_reducible first | apply And.intro | intro _)
  all_goals try omega
  all_goals try simp (disch := omega) only [w32_eq, w64_eq, tn_add, tn_mul, Int.toNat_natCast, Int.reduceToNat, Option.some.injEq, Sum.inr.injEq, Sum.inl.injEq]
  all_goals try omega
  refine ClA.of (c_X2_lays (g := lnW) hW.1 hW.2.1 hW.2.2 (Or.inl rfl) (by omega) (fun _ => Nat.le_refl _) (fun c hc => by simp)) (by first | exact Nat.le_of_ble_eq_true rfl | (simp only [eD]; omega)) (by first | exact Nat.le_refl _ | (simp only [eG, eD, eC, eS, eQ, eH, nC_hrw, nC_hwr, nS_hrw, nS_hwr, nC_hnw, nS_hnw]; omega)) (by first | exact Nat.le_refl _ | (simp only [eG, eD, eC, eS, eQ, eH, nC_hrw, nC_hwr, nS_hrw, nS_hwr, nC_hnw, nS_hnw]; omega)) ?_
  rintro _ h1 ⟨rfl, f, he, hf⟩ hn1 hn2
  have hO : OutA (sW a S) h h1 := by rw [he]; exact OutA.row (Or.inl rfl) f
  have hW1 := hW.outS hO
  have hr1 : ∀ k c, k ≤ tbl.length → c < 6 → hdt h1 (a + 2) (6 * k + c) = ((min bigC (exl bec (tbl.drop k) c).length : Nat) : Int) := fun k c hk hc => by
    rw [he, hdt_hrw_s, hf k c hk hc, swt_len]
  clear he hf
  refine vsA_ok tk_X2_aheadOf rfl 10 ?_
  simp only [at_X2_aheadOf, mr_X2_aheadOf, vsA, vcA, denA, lget, lset, lst1, lst2, lclr, argsA, restA, acats, acat, tcA, tcN, rzA, lle, List.length_cons, List.length_nil, Option.toList_some, Option.toList_none, List.cons_append, List.nil_append, eG, eM, eD, eC, eS, eQ, eH, if_true, if_false, Nat.reduceAdd, Nat.reduceLeDiff, Nat.reduceEqDiff, Nat.reduceLT, Nat.reduceSub, Int.reduceEq, Int.reduceLE, Int.reduceToNat, reduceCtorEq, reduceIte, Nat.reduceBEq, Int.reduceNeg, not_true, not_false_iff, true_and, and_true, true_or, or_true, false_or, or_false, forall_const, implies_true, Nat.le_refl, Int.toNat_natCast, Int.reduceLT, ne_eq, Fin.isValue, Nat.add_zero, nC_hrw, nS_hrw, nC_hwr, nS_hwr, hkd_hrw, hkd_hwr, fin4_0, fin4_1, fin4_2, fin4_3, fin2_0, fin2_1, ci0, ci1, cnn, false_implies, w32_eq, w64_eq, hW1.q]
  try simp (disch := omega) only [yc_lt, yc_le, yc_gt, yc_ge, yc_eq, w32_eq, w64_eq, tn_add, tn_mul, Int.toNat_natCast, Int.reduceToNat, not_true, not_false_iff, false_implies, forall_const, implies_true]
  repeat' (with_reducible first | apply And.intro | intro _)
  all_goals try omega
  all_goals try simp (disch := omega) only [w32_eq, w64_eq, tn_add, tn_mul, Int.toNat_natCast, Int.reduceToNat, Option.some.injEq, Sum.inr.injEq, Sum.inl.injEq]
  all_goals try omega
  refine ClA.of (c_X2_lays (g := ctW x) hW1.1 hW1.2.1 hW1.2.2 (Or.inr rfl) (by omega) (ctW_le x) (ctW_if x)) (by first | exact Nat.le_of_ble_eq_true rfl | (simp only [eD]; omega)) (by first | exact Nat.le_refl _ | (simp only [eG, eD, eC, eS, eQ, eH, nC_hrw, nC_hwr, nS_hrw, nS_hwr, nC_hnw, nS_hnw]; omega)) (by first | exact Nat.le_refl _ | (simp only [eG, eD, eC, eS, eQ, eH, nC_hrw, nC_hwr, nS_hrw, nS_hwr, nC_hnw, nS_hnw]; omega)) ?_
  rintro _ h2 ⟨rfl, f, he, hf⟩ hm1 hm2
  have hO2 : OutA (sW a S) h h2 := hO.tr (by rw [he]; exact OutA.row (Or.inr (Or.inl rfl)) f)
  have hW2 := hW.outS hO2
  have hRB : RowB h2 a bec tbl x := ⟨fun k c hk hc => by rw [he, hdt_hrw_n _ _ (by omega)]; exact hr1 k c hk hc, fun k c hk hc => by rw [he, hdt_hrw_s, hf k c hk hc, swt_cnt]⟩
  obtain ⟨rl, rc⟩ := hRB
  clear he hf
  have hs := hW2.sz
  generalize hE : ((G, mX2_aheadOf, _, _, _, _, h) : EV) = E
  have L2 : ∀ k, k ≤ tbl.length → ∀ (i0 c q : Nat) (z : Int), InvW bec std tbl p (fun y => y = x) (k + 1) c q z → ExA E 121 [some (.inr (.inr ((a : Int)))), some (.inl ((x : Int))), some (.inr (.inl ((p : Int)))), none, some (.inr (.inl ((q : Int)))), none, some (.inr (.inl (z))), none, some (.inl ((i0 : Int))), some (.inl ((c : Int))), some (.inl ((k : Int))), none] [] h2 := by
    refine lpI _ fun k hk ih i0 c q z hI => ?_
    have hc6 : c < 6 := by
      rcases hI.1 with a | a
      · omega
      · exact a.2.1
    by_cases hkl : k < tbl.length
    · have htk := hW2.table hkl
      have hrl : ∀ d ∈ rowL bec std tbl (k + 1) c, d < 6 := (hW2.row_std (c := c) (by omega) (Or.inr hc6)).2
      have hlenV := hI.2.1
      rw [curW_row bec std (by omega)] at hlenV
      have hql : q < (curW bec std tbl (k + 1) c).length := by
        rcases hI.1 with a | a
        · omega
        · exact a.2.2.1
      rw [curW_row bec std (by omega)] at hql
      have L3 : ∀ i, i ≤ (rowL bec std tbl (k + 1) c).length → ∀ (q2 : Nat) (z2 : Int), (((rowL bec std tbl (k + 1) c).take i).map fun d => (exl bec (tbl.drop (k + 1)) d).length).sum + q2 = q →
          z2 = z + ((((rowL bec std tbl (k + 1) c).take i).map fun d => (exl bec (tbl.drop (k + 1)) d).count x).sum : Nat) →
          ExA E 133 [some (.inr (.inr ((a : Int)))), some (.inl ((x : Int))), some (.inr (.inl ((p : Int)))), none, some (.inr (.inl ((q2 : Int)))), none, some (.inr (.inl (z2))), none, some (.inl ((i0 : Int))), some (.inl ((c : Int))), some (.inl ((k : Int))), some (.inl ((i : Int)))] [] h2 := by
        refine lpI _ fun i hi ih2 q2 z2 hq2 hz2 => ?_
        have hil : i < (rowL bec std tbl (k + 1) c).length := fm_in (exl bec (tbl.drop (k + 1))) _ hi hql (by omega)
        have hd6 := hrl _ (getD_mem hil)
        have hdl := fm_len1 (exl bec (tbl.drop (k + 1))) (getD_mem hil)
        have hdc : (exl bec (tbl.drop (k + 1)) ((rowL bec std tbl (k + 1) c).getD i 0)).count x ≤ (exl bec (tbl.drop (k + 1)) ((rowL bec std tbl (k + 1) c).getD i 0)).length := List.count_le_length
        have hro := rl (k + 1) _ (by omega) hd6
        have hrc := rc (k + 1) _ (by omega) hd6
        rw [show min bigC (exl bec (tbl.drop (k + 1)) ((rowL bec std tbl (k + 1) c).getD i 0)).length = (exl bec (tbl.drop (k + 1)) ((rowL bec std tbl (k + 1) c).getD i 0)).length by omega] at hro
        rw [show min bigC ((exl bec (tbl.drop (k + 1)) ((rowL bec std tbl (k + 1) c).getD i 0)).count x) = (exl bec (tbl.drop (k + 1)) ((rowL bec std tbl (k + 1) c).getD i 0)).count x by omega] at hrc
        have hnx := fun hq => ih hkl i0 _ q2 z2 (hI.next (by omega) hrl hil hq2 hq (fun y hy => by rw [hy]; exact hz2))
        have hn2 := ih2 hil (q2 - (exl bec (tbl.drop (k + 1)) ((rowL bec std tbl (k + 1) c).getD i 0)).length) (z2 + (((exl bec (tbl.drop (k + 1)) ((rowL bec std tbl (k + 1) c).getD i 0)).count x : Nat) : Int))
        rw [take_sum (fun d => (exl bec (tbl.drop (k + 1)) d).length) _ hil, take_sum (fun d => (exl bec (tbl.drop (k + 1)) d).count x) _ hil] at hn2
        have hch := hW2.child (G := G) htk.2 hc6 (i := i) hil
        have h4 := (hW2.bec htk.2 hc6).1
        have hi4 : i < (bec (tbl.getD k 0) c).length := hil
        rw [show (bec (tbl.getD k 0) c).getD i 0 = (rowL bec std tbl (k + 1) c).getD i 0 from rfl] at hch
        generalize (rowL bec std tbl (k + 1) c).getD i 0 = d at *
        have ed : (6 * ((k : Int) + 1) + (d : Int)).toNat = 6 * (k + 1) + d := by omega
        generalize (exl bec (tbl.drop (k + 1)) d).count x = dc at *
        generalize (exl bec (tbl.drop (k + 1)) d).length = dl at *
        have hqb : q2 ≤ 1000000000000 := by omega
        have hdb : dl ≤ 1000000000000 := by omega
        clear ih ih2 hI hql hlenV hL hp hr1 hdc rl rc hdl hil hi
        by_cases ql : q2 < dl
        · have hnx := hnx ql
          subst hE
          refine vsA_ok tk_X2_aheadOf rfl 24 ?_
          simp only [at_X2_aheadOf, mr_X2_aheadOf, vsA, vcA, denA, lget, lset, lst1, lst2, lclr, argsA, restA, acats, acat, tcA, tcN, rzA, lle, List.length_cons, List.length_nil, Option.toList_some, Option.toList_none, List.cons_append, List.nil_append, eG, eM, eD, eC, eS, eQ, eH, if_true, if_false, Nat.reduceAdd, Nat.reduceLeDiff, Nat.reduceEqDiff, Nat.reduceLT, Nat.reduceSub, Int.reduceEq, Int.reduceLE, Int.reduceToNat, reduceCtorEq, reduceIte, Nat.reduceBEq, Int.reduceNeg, not_true, not_false_iff, true_and, and_true, true_or, or_true, false_or, or_false, forall_const, implies_true, Nat.le_refl, Int.toNat_natCast, Int.reduceLT, ne_eq, Fin.isValue, Nat.add_zero, nC_hrw, nS_hrw, nC_hwr, nS_hwr, hkd_hrw, hkd_hwr, fin4_0, fin4_1, fin4_2, fin4_3, fin2_0, fin2_1, ci0, ci1, cnn, false_implies, w32_eq, w64_eq, hW2.q, htk.1]
          try simp (disch := omega) only [yc_lt, yc_le, yc_gt, yc_ge, yc_eq, w32_eq, w64_eq, tn_add, tn_mul, Int.toNat_natCast, Int.reduceToNat, not_true, not_false_iff, false_implies, forall_const, implies_true]
          repeat' (with_reducible first | apply And.intro | intro _)
          all_goals try omega
          all_goals try simp (disch := omega) only [w32_eq, w64_eq, tn_add, tn_mul, Int.toNat_natCast, Int.reduceToNat, Option.some.injEq, Sum.inr.injEq, Sum.inl.injEq]
          all_goals try omega
          refine ClA.pure (hch) (by first | exact Nat.le_of_ble_eq_true rfl | (simp only [eD]; omega)) (by first | exact Nat.le_refl _ | (simp only [eG, eD, eC, eS, eQ, eH, nC_hrw, nC_hwr, nS_hrw, nS_hwr, nC_hnw, nS_hnw]; omega)) (by first | exact Nat.le_refl _ | (simp only [eG, eD, eC, eS, eQ, eH, nC_hrw, nC_hwr, nS_hrw, nS_hwr, nC_hnw, nS_hnw]; omega)) ?_
          refine vsA_ok tk_X2_aheadOf rfl 3 ?_
          simp only [at_X2_aheadOf, mr_X2_aheadOf, vsA, vcA, denA, lget, lset, lst1, lst2, lclr, argsA, restA, acats, acat, tcA, tcN, rzA, lle, List.length_cons, List.length_nil, Option.toList_some, Option.toList_none, List.cons_append, List.nil_append, eG, eM, eD, eC, eS, eQ, eH, if_true, if_false, Nat.reduceAdd, Nat.reduceLeDiff, Nat.reduceEqDiff, Nat.reduceLT, Nat.reduceSub, Int.reduceEq, Int.reduceLE, Int.reduceToNat, reduceCtorEq, reduceIte, Nat.reduceBEq, Int.reduceNeg, not_true, not_false_iff, true_and, and_true, true_or, or_true, false_or, or_false, forall_const, implies_true, Nat.le_refl, Int.toNat_natCast, Int.reduceLT, ne_eq, Fin.isValue, Nat.add_zero, nC_hrw, nS_hrw, nC_hwr, nS_hwr, hkd_hrw, hkd_hwr, fin4_0, fin4_1, fin4_2, fin4_3, fin2_0, fin2_1, ci0, ci1, cnn, false_implies, w32_eq, w64_eq, hW2.q]
          try simp (disch := omega) only [yc_lt, yc_le, yc_gt, yc_ge, yc_eq, w32_eq, w64_eq, tn_add, tn_mul, Int.toNat_natCast, Int.reduceToNat, not_true, not_false_iff, false_implies, forall_const, implies_true, ed, hro]
          repeat' (with_reducible first | apply And.intro | intro _)
          all_goals try omega
          all_goals try simp (disch := omega) only [w32_eq, w64_eq, tn_add, tn_mul, Int.toNat_natCast, Int.reduceToNat, Option.some.injEq, Sum.inr.injEq, Sum.inl.injEq, ed, hro]
          all_goals try omega
          refine vsA_ok tk_X2_aheadOf rfl 14 ?_
          simp only [at_X2_aheadOf, mr_X2_aheadOf, vsA, vcA, denA, lget, lset, lst1, lst2, lclr, argsA, restA, acats, acat, tcA, tcN, rzA, lle, List.length_cons, List.length_nil, Option.toList_some, Option.toList_none, List.cons_append, List.nil_append, eG, eM, eD, eC, eS, eQ, eH, if_true, if_false, Nat.reduceAdd, Nat.reduceLeDiff, Nat.reduceEqDiff, Nat.reduceLT, Nat.reduceSub, Int.reduceEq, Int.reduceLE, Int.reduceToNat, reduceCtorEq, reduceIte, Nat.reduceBEq, Int.reduceNeg, not_true, not_false_iff, true_and, and_true, true_or, or_true, false_or, or_false, forall_const, implies_true, Nat.le_refl, Int.toNat_natCast, Int.reduceLT, ne_eq, Fin.isValue, Nat.add_zero, nC_hrw, nS_hrw, nC_hwr, nS_hwr, hkd_hrw, hkd_hwr, fin4_0, fin4_1, fin4_2, fin4_3, fin2_0, fin2_1, ci0, ci1, cnn, false_implies, w32_eq, w64_eq, hW2.q, htk.1]
          try simp (disch := omega) only [yc_lt, yc_le, yc_gt, yc_ge, yc_eq, w32_eq, w64_eq, tn_add, tn_mul, Int.toNat_natCast, Int.reduceToNat, not_true, not_false_iff, false_implies, forall_const, implies_true]
          repeat' (with_reducible first | apply And.intro | intro _)
          all_goals try omega
          all_goals try simp (disch := omega) only [w32_eq, w64_eq, tn_add, tn_mul, Int.toNat_natCast, Int.reduceToNat, Option.some.injEq, Sum.inr.injEq, Sum.inl.injEq]
          all_goals try omega
          refine ClA.pure (hch) (by first | exact Nat.le_of_ble_eq_true rfl | (simp only [eD]; omega)) (by first | exact Nat.le_refl _ | (simp only [eG, eD, eC, eS, eQ, eH, nC_hrw, nC_hwr, nS_hrw, nS_hwr, nC_hnw, nS_hnw]; omega)) (by first | exact Nat.le_refl _ | (simp only [eG, eD, eC, eS, eQ, eH, nC_hrw, nC_hwr, nS_hrw, nS_hwr, nC_hnw, nS_hnw]; omega)) ?_
          refine vsA_ok tk_X2_aheadOf rfl 12 ?_
          simp only [at_X2_aheadOf, mr_X2_aheadOf, vsA, vcA, denA, lget, lset, lst1, lst2, lclr, argsA, restA, acats, acat, tcA, tcN, rzA, lle, List.length_cons, List.length_nil, Option.toList_some, Option.toList_none, List.cons_append, List.nil_append, eG, eM, eD, eC, eS, eQ, eH, if_true, if_false, Nat.reduceAdd, Nat.reduceLeDiff, Nat.reduceEqDiff, Nat.reduceLT, Nat.reduceSub, Int.reduceEq, Int.reduceLE, Int.reduceToNat, reduceCtorEq, reduceIte, Nat.reduceBEq, Int.reduceNeg, not_true, not_false_iff, true_and, and_true, true_or, or_true, false_or, or_false, forall_const, implies_true, Nat.le_refl, Int.toNat_natCast, Int.reduceLT, ne_eq, Fin.isValue, Nat.add_zero, nC_hrw, nS_hrw, nC_hwr, nS_hwr, hkd_hrw, hkd_hwr, fin4_0, fin4_1, fin4_2, fin4_3, fin2_0, fin2_1, ci0, ci1, cnn, false_implies, w32_eq, w64_eq]
          try simp (disch := omega) only [yc_lt, yc_le, yc_gt, yc_ge, yc_eq, w32_eq, w64_eq, tn_add, tn_mul, Int.toNat_natCast, Int.reduceToNat, not_true, not_false_iff, false_implies, forall_const, implies_true]
          repeat' (with_reducible first | apply And.intro | intro _)
          all_goals try omega
          all_goals try simp (disch := omega) only [w32_eq, w64_eq, tn_add, tn_mul, Int.toNat_natCast, Int.reduceToNat, Option.some.injEq, Sum.inr.injEq, Sum.inl.injEq]
          all_goals try omega
          all_goals try exact (hnx).weak rfl (by simp [lle] <;> omega)
        · have hn2 := hn2 (by omega) (by omega)
          subst hE
          refine vsA_ok tk_X2_aheadOf rfl 24 ?_
          simp only [at_X2_aheadOf, mr_X2_aheadOf, vsA, vcA, denA, lget, lset, lst1, lst2, lclr, argsA, restA, acats, acat, tcA, tcN, rzA, lle, List.length_cons, List.length_nil, Option.toList_some, Option.toList_none, List.cons_append, List.nil_append, eG, eM, eD, eC, eS, eQ, eH, if_true, if_false, Nat.reduceAdd, Nat.reduceLeDiff, Nat.reduceEqDiff, Nat.reduceLT, Nat.reduceSub, Int.reduceEq, Int.reduceLE, Int.reduceToNat, reduceCtorEq, reduceIte, Nat.reduceBEq, Int.reduceNeg, not_true, not_false_iff, true_and, and_true, true_or, or_true, false_or, or_false, forall_const, implies_true, Nat.le_refl, Int.toNat_natCast, Int.reduceLT, ne_eq, Fin.isValue, Nat.add_zero, nC_hrw, nS_hrw, nC_hwr, nS_hwr, hkd_hrw, hkd_hwr, fin4_0, fin4_1, fin4_2, fin4_3, fin2_0, fin2_1, ci0, ci1, cnn, false_implies, w32_eq, w64_eq, hW2.q, htk.1]
          try simp (disch := omega) only [yc_lt, yc_le, yc_gt, yc_ge, yc_eq, w32_eq, w64_eq, tn_add, tn_mul, Int.toNat_natCast, Int.reduceToNat, not_true, not_false_iff, false_implies, forall_const, implies_true]
          repeat' (with_reducible first | apply And.intro | intro _)
          all_goals try omega
          all_goals try simp (disch := omega) only [w32_eq, w64_eq, tn_add, tn_mul, Int.toNat_natCast, Int.reduceToNat, Option.some.injEq, Sum.inr.injEq, Sum.inl.injEq]
          all_goals try omega
          refine ClA.pure (hch) (by first | exact Nat.le_of_ble_eq_true rfl | (simp only [eD]; omega)) (by first | exact Nat.le_refl _ | (simp only [eG, eD, eC, eS, eQ, eH, nC_hrw, nC_hwr, nS_hrw, nS_hwr, nC_hnw, nS_hnw]; omega)) (by first | exact Nat.le_refl _ | (simp only [eG, eD, eC, eS, eQ, eH, nC_hrw, nC_hwr, nS_hrw, nS_hwr, nC_hnw, nS_hnw]; omega)) ?_
          refine vsA_ok tk_X2_aheadOf rfl 3 ?_
          simp only [at_X2_aheadOf, mr_X2_aheadOf, vsA, vcA, denA, lget, lset, lst1, lst2, lclr, argsA, restA, acats, acat, tcA, tcN, rzA, lle, List.length_cons, List.length_nil, Option.toList_some, Option.toList_none, List.cons_append, List.nil_append, eG, eM, eD, eC, eS, eQ, eH, if_true, if_false, Nat.reduceAdd, Nat.reduceLeDiff, Nat.reduceEqDiff, Nat.reduceLT, Nat.reduceSub, Int.reduceEq, Int.reduceLE, Int.reduceToNat, reduceCtorEq, reduceIte, Nat.reduceBEq, Int.reduceNeg, not_true, not_false_iff, true_and, and_true, true_or, or_true, false_or, or_false, forall_const, implies_true, Nat.le_refl, Int.toNat_natCast, Int.reduceLT, ne_eq, Fin.isValue, Nat.add_zero, nC_hrw, nS_hrw, nC_hwr, nS_hwr, hkd_hrw, hkd_hwr, fin4_0, fin4_1, fin4_2, fin4_3, fin2_0, fin2_1, ci0, ci1, cnn, false_implies, w32_eq, w64_eq, hW2.q]
          try simp (disch := omega) only [yc_lt, yc_le, yc_gt, yc_ge, yc_eq, w32_eq, w64_eq, tn_add, tn_mul, Int.toNat_natCast, Int.reduceToNat, not_true, not_false_iff, false_implies, forall_const, implies_true, ed, hro]
          repeat' (with_reducible first | apply And.intro | intro _)
          all_goals try omega
          all_goals try simp (disch := omega) only [w32_eq, w64_eq, tn_add, tn_mul, Int.toNat_natCast, Int.reduceToNat, Option.some.injEq, Sum.inr.injEq, Sum.inl.injEq, ed, hro]
          all_goals try omega
          refine vsA_ok tk_X2_aheadOf rfl 20 ?_
          simp only [at_X2_aheadOf, mr_X2_aheadOf, vsA, vcA, denA, lget, lset, lst1, lst2, lclr, argsA, restA, acats, acat, tcA, tcN, rzA, lle, List.length_cons, List.length_nil, Option.toList_some, Option.toList_none, List.cons_append, List.nil_append, eG, eM, eD, eC, eS, eQ, eH, if_true, if_false, Nat.reduceAdd, Nat.reduceLeDiff, Nat.reduceEqDiff, Nat.reduceLT, Nat.reduceSub, Int.reduceEq, Int.reduceLE, Int.reduceToNat, reduceCtorEq, reduceIte, Nat.reduceBEq, Int.reduceNeg, not_true, not_false_iff, true_and, and_true, true_or, or_true, false_or, or_false, forall_const, implies_true, Nat.le_refl, Int.toNat_natCast, Int.reduceLT, ne_eq, Fin.isValue, Nat.add_zero, nC_hrw, nS_hrw, nC_hwr, nS_hwr, hkd_hrw, hkd_hwr, fin4_0, fin4_1, fin4_2, fin4_3, fin2_0, fin2_1, ci0, ci1, cnn, false_implies, w32_eq, w64_eq, hW2.q, htk.1]
          try simp (disch := omega) only [yc_lt, yc_le, yc_gt, yc_ge, yc_eq, w32_eq, w64_eq, tn_add, tn_mul, Int.toNat_natCast, Int.reduceToNat, not_true, not_false_iff, false_implies, forall_const, implies_true]
          repeat' (with_reducible first | apply And.intro | intro _)
          all_goals try omega
          all_goals try simp (disch := omega) only [w32_eq, w64_eq, tn_add, tn_mul, Int.toNat_natCast, Int.reduceToNat, Option.some.injEq, Sum.inr.injEq, Sum.inl.injEq]
          all_goals try omega
          refine ClA.pure (hch) (by first | exact Nat.le_of_ble_eq_true rfl | (simp only [eD]; omega)) (by first | exact Nat.le_refl _ | (simp only [eG, eD, eC, eS, eQ, eH, nC_hrw, nC_hwr, nS_hrw, nS_hwr, nC_hnw, nS_hnw]; omega)) (by first | exact Nat.le_refl _ | (simp only [eG, eD, eC, eS, eQ, eH, nC_hrw, nC_hwr, nS_hrw, nS_hwr, nC_hnw, nS_hnw]; omega)) ?_
          refine vsA_ok tk_X2_aheadOf rfl 24 ?_
          simp only [at_X2_aheadOf, mr_X2_aheadOf, vsA, vcA, denA, lget, lset, lst1, lst2, lclr, argsA, restA, acats, acat, tcA, tcN, rzA, lle, List.length_cons, List.length_nil, Option.toList_some, Option.toList_none, List.cons_append, List.nil_append, eG, eM, eD, eC, eS, eQ, eH, if_true, if_false, Nat.reduceAdd, Nat.reduceLeDiff, Nat.reduceEqDiff, Nat.reduceLT, Nat.reduceSub, Int.reduceEq, Int.reduceLE, Int.reduceToNat, reduceCtorEq, reduceIte, Nat.reduceBEq, Int.reduceNeg, not_true, not_false_iff, true_and, and_true, true_or, or_true, false_or, or_false, forall_const, implies_true, Nat.le_refl, Int.toNat_natCast, Int.reduceLT, ne_eq, Fin.isValue, Nat.add_zero, nC_hrw, nS_hrw, nC_hwr, nS_hwr, hkd_hrw, hkd_hwr, fin4_0, fin4_1, fin4_2, fin4_3, fin2_0, fin2_1, ci0, ci1, cnn, false_implies, w32_eq, w64_eq, hW2.q, htk.1]
          try simp (disch := omega) only [yc_lt, yc_le, yc_gt, yc_ge, yc_eq, w32_eq, w64_eq, tn_add, tn_mul, Int.toNat_natCast, Int.reduceToNat, not_true, not_false_iff, false_implies, forall_const, implies_true, ed, hro]
          repeat' (with_reducible first | apply And.intro | intro _)
          all_goals try omega
          all_goals try simp (disch := omega) only [w32_eq, w64_eq, tn_add, tn_mul, Int.toNat_natCast, Int.reduceToNat, Option.some.injEq, Sum.inr.injEq, Sum.inl.injEq, ed, hro]
          all_goals try omega
          refine ClA.pure (hch) (by first | exact Nat.le_of_ble_eq_true rfl | (simp only [eD]; omega)) (by first | exact Nat.le_refl _ | (simp only [eG, eD, eC, eS, eQ, eH, nC_hrw, nC_hwr, nS_hrw, nS_hwr, nC_hnw, nS_hnw]; omega)) (by first | exact Nat.le_refl _ | (simp only [eG, eD, eC, eS, eQ, eH, nC_hrw, nC_hwr, nS_hrw, nS_hwr, nC_hnw, nS_hnw]; omega)) ?_
          refine vsA_ok tk_X2_aheadOf rfl 24 ?_
          simp only [at_X2_aheadOf, mr_X2_aheadOf, vsA, vcA, denA, lget, lset, lst1, lst2, lclr, argsA, restA, acats, acat, tcA, tcN, rzA, lle, List.length_cons, List.length_nil, Option.toList_some, Option.toList_none, List.cons_append, List.nil_append, eG, eM, eD, eC, eS, eQ, eH, if_true, if_false, Nat.reduceAdd, Nat.reduceLeDiff, Nat.reduceEqDiff, Nat.reduceLT, Nat.reduceSub, Int.reduceEq, Int.reduceLE, Int.reduceToNat, reduceCtorEq, reduceIte, Nat.reduceBEq, Int.reduceNeg, not_true, not_false_iff, true_and, and_true, true_or, or_true, false_or, or_false, forall_const, implies_true, Nat.le_refl, Int.toNat_natCast, Int.reduceLT, ne_eq, Fin.isValue, Nat.add_zero, nC_hrw, nS_hrw, nC_hwr, nS_hwr, hkd_hrw, hkd_hwr, fin4_0, fin4_1, fin4_2, fin4_3, fin2_0, fin2_1, ci0, ci1, cnn, false_implies, w32_eq, w64_eq, hW2.q]
          try simp (disch := omega) only [yc_lt, yc_le, yc_gt, yc_ge, yc_eq, w32_eq, w64_eq, tn_add, tn_mul, Int.toNat_natCast, Int.reduceToNat, not_true, not_false_iff, false_implies, forall_const, implies_true, ed, hrc]
          repeat' (with_reducible first | apply And.intro | intro _)
          all_goals try omega
          all_goals try simp (disch := omega) only [w32_eq, w64_eq, tn_add, tn_mul, Int.toNat_natCast, Int.reduceToNat, Option.some.injEq, Sum.inr.injEq, Sum.inl.injEq, ed, hrc]
          all_goals try omega
          all_goals try exact (hn2).weak rfl (by simp [lle] <;> omega)
      have l3 := L3 0 (Nat.zero_le _) q z (by simp) (by simp)
      subst hE
      refine vsA_ok tk_X2_aheadOf rfl 6 ?_
      simp only [at_X2_aheadOf, mr_X2_aheadOf, vsA, vcA, denA, lget, lset, lst1, lst2, lclr, argsA, restA, acats, acat, tcA, tcN, rzA, lle, List.length_cons, List.length_nil, Option.toList_some, Option.toList_none, List.cons_append, List.nil_append, eG, eM, eD, eC, eS, eQ, eH, if_true, if_false, Nat.reduceAdd, Nat.reduceLeDiff, Nat.reduceEqDiff, Nat.reduceLT, Nat.reduceSub, Int.reduceEq, Int.reduceLE, Int.reduceToNat, reduceCtorEq, reduceIte, Nat.reduceBEq, Int.reduceNeg, not_true, not_false_iff, true_and, and_true, true_or, or_true, false_or, or_false, forall_const, implies_true, Nat.le_refl, Int.toNat_natCast, Int.reduceLT, ne_eq, Fin.isValue, Nat.add_zero, nC_hrw, nS_hrw, nC_hwr, nS_hwr, hkd_hrw, hkd_hwr, fin4_0, fin4_1, fin4_2, fin4_3, fin2_0, fin2_1, ci0, ci1, cnn, false_implies, w32_eq, w64_eq, hW2.q]
      try simp (disch := omega) only [yc_lt, yc_le, yc_gt, yc_ge, yc_eq, w32_eq, w64_eq, tn_add, tn_mul, Int.toNat_natCast, Int.reduceToNat, not_true, not_false_iff, false_implies, forall_const, implies_true]
      repeat' (with_reducible first | apply And.intro | intro _)
      all_goals try omega
      all_goals try simp (disch := omega) only [w32_eq, w64_eq, tn_add, tn_mul, Int.toNat_natCast, Int.reduceToNat, Option.some.injEq, Sum.inr.injEq, Sum.inl.injEq]
      all_goals try omega
      all_goals try exact (l3).weak rfl (by simp [lle] <;> omega)
    · have hk1 : k = tbl.length := by omega
      subst hk1
      have hcu : curW bec std tbl (tbl.length + 1) c = [c] := by
        rw [curW_succ, List.drop_length]
        rfl
      obtain ⟨h1', h2', h3', h4'⟩ := hI
      rw [hcu] at h1' h4'
      have hq0 : q = 0 := by
        rcases h1' with q | q
        · omega
        · simp at q
          omega
      subst hq0
      have hz := h4' x rfl
      have hz : z = ((((wrd bec std tbl).take p).count x : Nat) : Int) := by simpa using hz
      subst hz
      subst hE
      refine vsA_ok tk_X2_aheadOf rfl 8 ?_
      simp only [at_X2_aheadOf, mr_X2_aheadOf, vsA, vcA, denA, lget, lset, lst1, lst2, lclr, argsA, restA, acats, acat, tcA, tcN, rzA, lle, List.length_cons, List.length_nil, Option.toList_some, Option.toList_none, List.cons_append, List.nil_append, eG, eM, eD, eC, eS, eQ, eH, if_true, if_false, Nat.reduceAdd, Nat.reduceLeDiff, Nat.reduceEqDiff, Nat.reduceLT, Nat.reduceSub, Int.reduceEq, Int.reduceLE, Int.reduceToNat, reduceCtorEq, reduceIte, Nat.reduceBEq, Int.reduceNeg, not_true, not_false_iff, true_and, and_true, true_or, or_true, false_or, or_false, forall_const, implies_true, Nat.le_refl, Int.toNat_natCast, Int.reduceLT, ne_eq, Fin.isValue, Nat.add_zero, nC_hrw, nS_hrw, nC_hwr, nS_hwr, hkd_hrw, hkd_hwr, fin4_0, fin4_1, fin4_2, fin4_3, fin2_0, fin2_1, ci0, ci1, cnn, false_implies, w32_eq, w64_eq, hW2.q, hm1, hm2, hn1, hn2]
      try simp (disch := omega) only [yc_lt, yc_le, yc_gt, yc_ge, yc_eq, w32_eq, w64_eq, tn_add, tn_mul, Int.toNat_natCast, Int.reduceToNat, not_true, not_false_iff, false_implies, forall_const, implies_true]
      repeat' (with_reducible first | apply And.intro | intro _)
      all_goals try omega
      all_goals try simp (disch := omega) only [w32_eq, w64_eq, tn_add, tn_mul, Int.toNat_natCast, Int.reduceToNat, Option.some.injEq, Sum.inr.injEq, Sum.inl.injEq]
      all_goals try omega
      all_goals first | rfl | exact hO2
  have L1 : ∀ i, i ≤ std.length → ∀ (q2 : Nat) (z2 : Int), ((std.take i).map fun d => (exl bec tbl d).length).sum + q2 = p → z2 = (((std.take i).map fun d => (exl bec tbl d).count x).sum : Nat) →
      ExA E 27 [some (.inr (.inr ((a : Int)))), some (.inl ((x : Int))), some (.inr (.inl ((p : Int)))), none, some (.inr (.inl ((q2 : Int)))), none, some (.inr (.inl (z2))), none, some (.inl ((i : Int))), none, none, none] [] h2 := by
    refine lpI _ fun i hi ih q2 z2 hq2 hz2 => ?_
    have hil : i < std.length := fm_in (exl bec tbl) std hi hp (by omega)
    have hst := hW2.stand hil
    have hdl : (exl bec tbl (std.getD i 0)).length ≤ (wrd bec std tbl).length := fm_len1 (exl bec tbl) (getD_mem hil)
    have hdc : (exl bec tbl (std.getD i 0)).count x ≤ (exl bec tbl (std.getD i 0)).length := List.count_le_length
    have hro := rl 0 _ (Nat.zero_le _) hst.2
    have hrc := rc 0 _ (Nat.zero_le _) hst.2
    rw [List.drop_zero, Nat.mul_zero, Nat.zero_add, show min bigC (exl bec tbl (std.getD i 0)).length = (exl bec tbl (std.getD i 0)).length by omega] at hro
    rw [List.drop_zero, Nat.mul_zero, Nat.zero_add, show min bigC ((exl bec tbl (std.getD i 0)).count x) = (exl bec tbl (std.getD i 0)).count x by omega] at hrc
    have hI0 : InvW bec std tbl p (fun y => y = x) 0 0 p 0 := ⟨Or.inl ⟨rfl, rfl⟩, hL, fun hq => ⟨hq, rfl⟩, fun y hy => by show 0 + ((((wrd bec std tbl).take p).count y : Nat) : Int) = _; omega⟩
    have hnx := fun hq => L2 0 (Nat.zero_le _) i _ q2 z2 (hI0.next (Nat.zero_le _) (hW2.row_std (k := 0) (c := 0) (Nat.zero_le _) (Or.inl rfl)).2 (i := i) (q2 := q2) (z2 := z2) hil hq2 hq (fun y hy => by rw [hy, hz2]; show _ = 0 + _; rw [Int.zero_add]; rfl))
    have hn2 := ih hil (q2 - (exl bec tbl (std.getD i 0)).length) (z2 + (((exl bec tbl (std.getD i 0)).count x : Nat) : Int))
    rw [take_sum (fun d => (exl bec tbl d).length) _ hil, take_sum (fun d => (exl bec tbl d).count x) _ hil] at hn2
    have hnx : q2 < (exl bec tbl (std.getD i 0)).length → ExA E 121 [some (.inr (.inr ((a : Int)))), some (.inl ((x : Int))), some (.inr (.inl ((p : Int)))), none, some (.inr (.inl ((q2 : Int)))), none, some (.inr (.inl (z2))), none, some (.inl ((i : Int))), some (.inl (((std.getD i 0 : Nat) : Int))), some (.inl (((0 : Nat) : Int))), none] [] h2 := hnx
    generalize (exl bec tbl (std.getD i 0)).count x = dc at *
    generalize (exl bec tbl (std.getD i 0)).length = dl at *
    by_cases ql : q2 < dl
    · have hnx := hnx ql
      subst hE
      refine vsA_ok tk_X2_aheadOf rfl 11 ?_
      simp only [at_X2_aheadOf, mr_X2_aheadOf, vsA, vcA, denA, lget, lset, lst1, lst2, lclr, argsA, restA, acats, acat, tcA, tcN, rzA, lle, List.length_cons, List.length_nil, Option.toList_some, Option.toList_none, List.cons_append, List.nil_append, eG, eM, eD, eC, eS, eQ, eH, if_true, if_false, Nat.reduceAdd, Nat.reduceLeDiff, Nat.reduceEqDiff, Nat.reduceLT, Nat.reduceSub, Int.reduceEq, Int.reduceLE, Int.reduceToNat, reduceCtorEq, reduceIte, Nat.reduceBEq, Int.reduceNeg, not_true, not_false_iff, true_and, and_true, true_or, or_true, false_or, or_false, forall_const, implies_true, Nat.le_refl, Int.toNat_natCast, Int.reduceLT, ne_eq, Fin.isValue, Nat.add_zero, nC_hrw, nS_hrw, nC_hwr, nS_hwr, hkd_hrw, hkd_hwr, fin4_0, fin4_1, fin4_2, fin4_3, fin2_0, fin2_1, ci0, ci1, cnn, false_implies, w32_eq, w64_eq, hW2.q, hst.1]
      try simp (disch := omega) only [yc_lt, yc_le, yc_gt, yc_ge, yc_eq, w32_eq, w64_eq, tn_add, tn_mul, Int.toNat_natCast, Int.reduceToNat, not_true, not_false_iff, false_implies, forall_const, implies_true, hro]
      repeat' (with_reducible first | apply And.intro | intro _)
      all_goals try omega
      all_goals try simp (disch := omega) only [w32_eq, w64_eq, tn_add, tn_mul, Int.toNat_natCast, Int.reduceToNat, Option.some.injEq, Sum.inr.injEq, Sum.inl.injEq, hro]
      all_goals try omega
      refine vsA_ok tk_X2_aheadOf rfl 9 ?_
      simp only [at_X2_aheadOf, mr_X2_aheadOf, vsA, vcA, denA, lget, lset, lst1, lst2, lclr, argsA, restA, acats, acat, tcA, tcN, rzA, lle, List.length_cons, List.length_nil, Option.toList_some, Option.toList_none, List.cons_append, List.nil_append, eG, eM, eD, eC, eS, eQ, eH, if_true, if_false, Nat.reduceAdd, Nat.reduceLeDiff, Nat.reduceEqDiff, Nat.reduceLT, Nat.reduceSub, Int.reduceEq, Int.reduceLE, Int.reduceToNat, reduceCtorEq, reduceIte, Nat.reduceBEq, Int.reduceNeg, not_true, not_false_iff, true_and, and_true, true_or, or_true, false_or, or_false, forall_const, implies_true, Nat.le_refl, Int.toNat_natCast, Int.reduceLT, ne_eq, Fin.isValue, Nat.add_zero, nC_hrw, nS_hrw, nC_hwr, nS_hwr, hkd_hrw, hkd_hwr, fin4_0, fin4_1, fin4_2, fin4_3, fin2_0, fin2_1, ci0, ci1, cnn, false_implies, w32_eq, w64_eq, hW2.q, hst.1]
      try simp (disch := omega) only [yc_lt, yc_le, yc_gt, yc_ge, yc_eq, w32_eq, w64_eq, tn_add, tn_mul, Int.toNat_natCast, Int.reduceToNat, not_true, not_false_iff, false_implies, forall_const, implies_true]
      repeat' (with_reducible first | apply And.intro | intro _)
      all_goals try omega
      all_goals try simp (disch := omega) only [w32_eq, w64_eq, tn_add, tn_mul, Int.toNat_natCast, Int.reduceToNat, Option.some.injEq, Sum.inr.injEq, Sum.inl.injEq]
      all_goals try omega
      all_goals try exact (hnx).weak rfl (by simp [lle] <;> omega)
    · have hn2 := hn2 (by omega) (by omega)
      subst hE
      refine vsA_ok tk_X2_aheadOf rfl 11 ?_
      simp only [at_X2_aheadOf, mr_X2_aheadOf, vsA, vcA, denA, lget, lset, lst1, lst2, lclr, argsA, restA, acats, acat, tcA, tcN, rzA, lle, List.length_cons, List.length_nil, Option.toList_some, Option.toList_none, List.cons_append, List.nil_append, eG, eM, eD, eC, eS, eQ, eH, if_true, if_false, Nat.reduceAdd, Nat.reduceLeDiff, Nat.reduceEqDiff, Nat.reduceLT, Nat.reduceSub, Int.reduceEq, Int.reduceLE, Int.reduceToNat, reduceCtorEq, reduceIte, Nat.reduceBEq, Int.reduceNeg, not_true, not_false_iff, true_and, and_true, true_or, or_true, false_or, or_false, forall_const, implies_true, Nat.le_refl, Int.toNat_natCast, Int.reduceLT, ne_eq, Fin.isValue, Nat.add_zero, nC_hrw, nS_hrw, nC_hwr, nS_hwr, hkd_hrw, hkd_hwr, fin4_0, fin4_1, fin4_2, fin4_3, fin2_0, fin2_1, ci0, ci1, cnn, false_implies, w32_eq, w64_eq, hW2.q, hst.1]
      try simp (disch := omega) only [yc_lt, yc_le, yc_gt, yc_ge, yc_eq, w32_eq, w64_eq, tn_add, tn_mul, Int.toNat_natCast, Int.reduceToNat, not_true, not_false_iff, false_implies, forall_const, implies_true, hro]
      repeat' (with_reducible first | apply And.intro | intro _)
      all_goals try omega
      all_goals try simp (disch := omega) only [w32_eq, w64_eq, tn_add, tn_mul, Int.toNat_natCast, Int.reduceToNat, Option.some.injEq, Sum.inr.injEq, Sum.inl.injEq, hro]
      all_goals try omega
      refine vsA_ok tk_X2_aheadOf rfl 11 ?_
      simp only [at_X2_aheadOf, mr_X2_aheadOf, vsA, vcA, denA, lget, lset, lst1, lst2, lclr, argsA, restA, acats, acat, tcA, tcN, rzA, lle, List.length_cons, List.length_nil, Option.toList_some, Option.toList_none, List.cons_append, List.nil_append, eG, eM, eD, eC, eS, eQ, eH, if_true, if_false, Nat.reduceAdd, Nat.reduceLeDiff, Nat.reduceEqDiff, Nat.reduceLT, Nat.reduceSub, Int.reduceEq, Int.reduceLE, Int.reduceToNat, reduceCtorEq, reduceIte, Nat.reduceBEq, Int.reduceNeg, not_true, not_false_iff, true_and, and_true, true_or, or_true, false_or, or_false, forall_const, implies_true, Nat.le_refl, Int.toNat_natCast, Int.reduceLT, ne_eq, Fin.isValue, Nat.add_zero, nC_hrw, nS_hrw, nC_hwr, nS_hwr, hkd_hrw, hkd_hwr, fin4_0, fin4_1, fin4_2, fin4_3, fin2_0, fin2_1, ci0, ci1, cnn, false_implies, w32_eq, w64_eq, hW2.q, hst.1]
      try simp (disch := omega) only [yc_lt, yc_le, yc_gt, yc_ge, yc_eq, w32_eq, w64_eq, tn_add, tn_mul, Int.toNat_natCast, Int.reduceToNat, not_true, not_false_iff, false_implies, forall_const, implies_true, hro]
      repeat' (with_reducible first | apply And.intro | intro _)
      all_goals try omega
      all_goals try simp (disch := omega) only [w32_eq, w64_eq, tn_add, tn_mul, Int.toNat_natCast, Int.reduceToNat, Option.some.injEq, Sum.inr.injEq, Sum.inl.injEq, hro]
      all_goals try omega
      refine vsA_ok tk_X2_aheadOf rfl 14 ?_
      simp only [at_X2_aheadOf, mr_X2_aheadOf, vsA, vcA, denA, lget, lset, lst1, lst2, lclr, argsA, restA, acats, acat, tcA, tcN, rzA, lle, List.length_cons, List.length_nil, Option.toList_some, Option.toList_none, List.cons_append, List.nil_append, eG, eM, eD, eC, eS, eQ, eH, if_true, if_false, Nat.reduceAdd, Nat.reduceLeDiff, Nat.reduceEqDiff, Nat.reduceLT, Nat.reduceSub, Int.reduceEq, Int.reduceLE, Int.reduceToNat, reduceCtorEq, reduceIte, Nat.reduceBEq, Int.reduceNeg, not_true, not_false_iff, true_and, and_true, true_or, or_true, false_or, or_false, forall_const, implies_true, Nat.le_refl, Int.toNat_natCast, Int.reduceLT, ne_eq, Fin.isValue, Nat.add_zero, nC_hrw, nS_hrw, nC_hwr, nS_hwr, hkd_hrw, hkd_hwr, fin4_0, fin4_1, fin4_2, fin4_3, fin2_0, fin2_1, ci0, ci1, cnn, false_implies, w32_eq, w64_eq, hW2.q, hst.1]
      try simp (disch := omega) only [yc_lt, yc_le, yc_gt, yc_ge, yc_eq, w32_eq, w64_eq, tn_add, tn_mul, Int.toNat_natCast, Int.reduceToNat, not_true, not_false_iff, false_implies, forall_const, implies_true, hrc]
      repeat' (with_reducible first | apply And.intro | intro _)
      all_goals try omega
      all_goals try simp (disch := omega) only [w32_eq, w64_eq, tn_add, tn_mul, Int.toNat_natCast, Int.reduceToNat, Option.some.injEq, Sum.inr.injEq, Sum.inl.injEq, hrc]
      all_goals try omega
      all_goals try exact (hn2).weak rfl (by simp [lle] <;> omega)
  have l1 := L1 0 (Nat.zero_le _) p 0 (by simp) (by simp)
  subst hE
  refine vsA_ok tk_X2_aheadOf rfl 10 ?_
  simp only [at_X2_aheadOf, mr_X2_aheadOf, vsA, vcA, denA, lget, lset, lst1, lst2, lclr, argsA, restA, acats, acat, tcA, tcN, rzA, lle, List.length_cons, List.length_nil, Option.toList_some, Option.toList_none, List.cons_append, List.nil_append, eG, eM, eD, eC, eS, eQ, eH, if_true, if_false, Nat.reduceAdd, Nat.reduceLeDiff, Nat.reduceEqDiff, Nat.reduceLT, Nat.reduceSub, Int.reduceEq, Int.reduceLE, Int.reduceToNat, reduceCtorEq, reduceIte, Nat.reduceBEq, Int.reduceNeg, not_true, not_false_iff, true_and, and_true, true_or, or_true, false_or, or_false, forall_const, implies_true, Nat.le_refl, Int.toNat_natCast, Int.reduceLT, ne_eq, Fin.isValue, Nat.add_zero, nC_hrw, nS_hrw, nC_hwr, nS_hwr, hkd_hrw, hkd_hwr, fin4_0, fin4_1, fin4_2, fin4_3, fin2_0, fin2_1, ci0, ci1, cnn, false_implies, w32_eq, w64_eq]
  try simp (disch := omega) only [yc_lt, yc_le, yc_gt, yc_ge, yc_eq, w32_eq, w64_eq, tn_add, tn_mul, Int.toNat_natCast, Int.reduceToNat, not_true, not_false_iff, false_implies, forall_const, implies_true]
  repeat' (with_reducible first | apply And.intro | intro _)
  all_goals try omega
  all_goals try simp (disch := omega) only [w32_eq, w64_eq, tn_add, tn_mul, Int.toNat_natCast, Int.reduceToNat, Option.some.injEq, Sum.inr.injEq, Sum.inl.injEq]
  all_goals try omega
  all_goals try exact (l1).weak rfl (by simp [lle] <;> omega)
theorem c_X2_placeOf (hW : WSt h a S T bec std tbl nights moon) (hL : (wrd bec std tbl).length ≤ 1000000000000) {x K : Nat} (hx : x < 6) (hK : 1 ≤ K ∧ K ≤ (wrd bec std tbl).count x) :
    CnA G mX2_placeOf 4 0 0 [.inr (.inr ((a : Int))), .inl ((x : Int)), .inr (.inl ((K : Int)))] h (fun v h1 => (∃ p : Nat, v = some (.inr (.inl ((p : Int)))) ∧ isNth (wrd bec std tbl) x K p) ∧ OutA (sW a S) h h1) := by
  refine CnA.of rfl (Nat.le_of_ble_eq_true rfl) ?_
  simp only [largs, lpad, mr_X2_placeOf]
  have hb : bigC = 4000000000000 := rfl
  have hcl : (wrd bec std tbl).count x ≤ 1000000000000 := Nat.le_trans List.count_le_length hL
  refine vsA_ok tk_X2_placeOf rfl 10 ?_
  simp only [at_X2_placeOf, mr_X2_placeOf, vsA, vcA, denA, lget, lset, lst1, lst2, lclr, argsA, restA, acats, acat, tcA, tcN, rzA, lle, List.length_cons, List.length_nil, Option.toList_some, Option.toList_none, List.cons_append, List.nil_append, eG, eM, eD, eC, eS, eQ, eH, if_true, if_false, Nat.reduceAdd, Nat.reduceLeDiff, Nat.reduceEqDiff, Nat.reduceLT, Nat.reduceSub, Int.reduceEq, Int.reduceLE, Int.reduceToNat, reduceCtorEq, reduceIte, Nat.reduceBEq, Int.reduceNeg, not_true, not_false_iff, true_and, and_true, true_or, or_true, false_or, or_false, forall_const, implies_true, Nat.le_refl, Int.toNat_natCast, Int.reduceLT, ne_eq, Fin.isValue, Nat.add_zero, nC_hrw, nS_hrw, nC_hwr, nS_hwr, hkd_hrw, hkd_hwr, fin4_0, fin4_1, fin4_2, fin4_3, fin2_0, fin2_1, ci0, ci1, cnn, false_implies, w32_eq, w64_eq, hW.q]
  try simp (disch := omega) only [yc_lt, yc_le, yc_gt, yc_ge, yc_eq, w32_eq, w64_eq, tn_add, tn_mul, Int.toNat_natCast, Int.reduceToNat, not_true, not_false_iff, false_implies, forall_const, implies_true]
  repeat' (with_reducible first | apply And.intro | intro _)
  all_goals try omega
  all_goals try simp (disch := omega) only [w32_eq, w64_eq, tn_add, tn_mul, Int.toNat_natCast, Int.reduceToNat, Option.some.injEq, Sum.inr.injEq, Sum.inl.injEq]
  all_goals try omega
  refine ClA.of (c_X2_lays (g := lnW) hW.1 hW.2.1 hW.2.2 (Or.inl rfl) (by omega) (fun _ => Nat.le_refl _) (fun c hc => by simp)) (by first | exact Nat.le_of_ble_eq_true rfl | (simp only [eD]; omega)) (by first | exact Nat.le_refl _ | (simp only [eG, eD, eC, eS, eQ, eH, nC_hrw, nC_hwr, nS_hrw, nS_hwr, nC_hnw, nS_hnw]; omega)) (by first | exact Nat.le_refl _ | (simp only [eG, eD, eC, eS, eQ, eH, nC_hrw, nC_hwr, nS_hrw, nS_hwr, nC_hnw, nS_hnw]; omega)) ?_
  rintro _ h1 ⟨rfl, f, he, hf⟩ hn1 hn2
  have hO : OutA (sW a S) h h1 := by rw [he]; exact OutA.row (Or.inl rfl) f
  have hW1 := hW.outS hO
  have hr1 : ∀ k c, k ≤ tbl.length → c < 6 → hdt h1 (a + 2) (6 * k + c) = ((min bigC (exl bec (tbl.drop k) c).length : Nat) : Int) := fun k c hk hc => by
    rw [he, hdt_hrw_s, hf k c hk hc, swt_len]
  clear he hf
  refine vsA_ok tk_X2_placeOf rfl 10 ?_
  simp only [at_X2_placeOf, mr_X2_placeOf, vsA, vcA, denA, lget, lset, lst1, lst2, lclr, argsA, restA, acats, acat, tcA, tcN, rzA, lle, List.length_cons, List.length_nil, Option.toList_some, Option.toList_none, List.cons_append, List.nil_append, eG, eM, eD, eC, eS, eQ, eH, if_true, if_false, Nat.reduceAdd, Nat.reduceLeDiff, Nat.reduceEqDiff, Nat.reduceLT, Nat.reduceSub, Int.reduceEq, Int.reduceLE, Int.reduceToNat, reduceCtorEq, reduceIte, Nat.reduceBEq, Int.reduceNeg, not_true, not_false_iff, true_and, and_true, true_or, or_true, false_or, or_false, forall_const, implies_true, Nat.le_refl, Int.toNat_natCast, Int.reduceLT, ne_eq, Fin.isValue, Nat.add_zero, nC_hrw, nS_hrw, nC_hwr, nS_hwr, hkd_hrw, hkd_hwr, fin4_0, fin4_1, fin4_2, fin4_3, fin2_0, fin2_1, ci0, ci1, cnn, false_implies, w32_eq, w64_eq, hW1.q]
  try simp (disch := omega) only [yc_lt, yc_le, yc_gt, yc_ge, yc_eq, w32_eq, w64_eq, tn_add, tn_mul, Int.toNat_natCast, Int.reduceToNat, not_true, not_false_iff, false_implies, forall_const, implies_true]
  repeat' (with_reducible first | apply And.intro | intro _)
  all_goals try omega
  all_goals try simp (disch := omega) only [w32_eq, w64_eq, tn_add, tn_mul, Int.toNat_natCast, Int.reduceToNat, Option.some.injEq, Sum.inr.injEq, Sum.inl.injEq]
  all_goals try omega
  refine ClA.of (c_X2_lays (g := ctW x) hW1.1 hW1.2.1 hW1.2.2 (Or.inr rfl) (by omega) (ctW_le x) (ctW_if x)) (by first | exact Nat.le_of_ble_eq_true rfl | (simp only [eD]; omega)) (by first | exact Nat.le_refl _ | (simp only [eG, eD, eC, eS, eQ, eH, nC_hrw, nC_hwr, nS_hrw, nS_hwr, nC_hnw, nS_hnw]; omega)) (by first | exact Nat.le_refl _ | (simp only [eG, eD, eC, eS, eQ, eH, nC_hrw, nC_hwr, nS_hrw, nS_hwr, nC_hnw, nS_hnw]; omega)) ?_
  rintro _ h2 ⟨rfl, f, he, hf⟩ hm1 hm2
  have hO2 : OutA (sW a S) h h2 := hO.tr (by rw [he]; exact OutA.row (Or.inr (Or.inl rfl)) f)
  have hW2 := hW.outS hO2
  have hRB : RowB h2 a bec tbl x := ⟨fun k c hk hc => by rw [he, hdt_hrw_n _ _ (by omega)]; exact hr1 k c hk hc, fun k c hk hc => by rw [he, hdt_hrw_s, hf k c hk hc, swt_cnt]⟩
  obtain ⟨rl, rc⟩ := hRB
  clear he hf
  have hs := hW2.sz
  generalize hE : ((G, mX2_placeOf, _, _, _, _, h) : EV) = E
  have L2 : ∀ k, k ≤ tbl.length → ∀ (i0 c left its : Nat), c < 6 → InvP bec std tbl x K (k + 1) c left its → ExA E 121 [some (.inr (.inr ((a : Int)))), some (.inl ((x : Int))), some (.inr (.inl ((K : Int)))), none, some (.inr (.inl ((left : Int)))), none, some (.inr (.inl ((its : Int)))), none, some (.inl ((i0 : Int))), some (.inl ((c : Int))), some (.inl ((k : Int))), none] [] h2 := by
    refine lpI _ fun k hk ih i0 c left its hc6 hI => ?_
    by_cases hkl : k < tbl.length
    · have htk := hW2.table hkl
      have hrl : ∀ d ∈ rowL bec std tbl (k + 1) c, d < 6 := (hW2.row_std (c := c) (by omega) (Or.inr hc6)).2
      have hlenV := hI.2.2.1
      rw [curW_row bec std (by omega)] at hlenV
      have L3 : ∀ i, i ≤ (rowL bec std tbl (k + 1) c).length → ∀ left2 its2 : Nat, (((rowL bec std tbl (k + 1) c).take i).map fun d => (exl bec (tbl.drop (k + 1)) d).count x).sum + left2 = left → 1 ≤ left2 →
          its2 = its + (((rowL bec std tbl (k + 1) c).take i).map fun d => (exl bec (tbl.drop (k + 1)) d).length).sum →
          ExA E 133 [some (.inr (.inr ((a : Int)))), some (.inl ((x : Int))), some (.inr (.inl ((K : Int)))), none, some (.inr (.inl ((left2 : Int)))), none, some (.inr (.inl ((its2 : Int)))), none, some (.inl ((i0 : Int))), some (.inl ((c : Int))), some (.inl ((k : Int))), some (.inl ((i : Int)))] [] h2 := by
        refine lpI _ fun i hi ih2 left2 its2 hs2 hl2 hi2 => ?_
        have hil := hI.lt (by omega) hi hs2 hl2
        have hd6 := hrl _ (getD_mem hil)
        have hdl := fm_len1 (exl bec (tbl.drop (k + 1))) (getD_mem hil)
        have hdlen := fm_len (exl bec (tbl.drop (k + 1))) (rowL bec std tbl (k + 1) c) (i := i + 1) (by omega)
        rw [take_sum (fun d => (exl bec (tbl.drop (k + 1)) d).length) _ hil] at hdlen
        have hdc : (exl bec (tbl.drop (k + 1)) ((rowL bec std tbl (k + 1) c).getD i 0)).count x ≤ (exl bec (tbl.drop (k + 1)) ((rowL bec std tbl (k + 1) c).getD i 0)).length := List.count_le_length
        have hle2 : left2 ≤ 1000000000000 := by
          have := hI.2.1.2
          have h1 : (curW bec std tbl (k + 1) c).count x ≤ (curW bec std tbl (k + 1) c).length := List.count_le_length
          rw [curW_row bec std (by omega)] at this h1
          omega
        have hro := rl (k + 1) _ (by omega) hd6
        have hrc := rc (k + 1) _ (by omega) hd6
        rw [show min bigC (exl bec (tbl.drop (k + 1)) ((rowL bec std tbl (k + 1) c).getD i 0)).length = (exl bec (tbl.drop (k + 1)) ((rowL bec std tbl (k + 1) c).getD i 0)).length by omega] at hro
        rw [show min bigC ((exl bec (tbl.drop (k + 1)) ((rowL bec std tbl (k + 1) c).getD i 0)).count x) = (exl bec (tbl.drop (k + 1)) ((rowL bec std tbl (k + 1) c).getD i 0)).count x by omega] at hrc
        have hnx := fun hl => ih hkl i0 _ left2 its2 hd6 (hI.next (by omega) hrl hil hs2 hl hi2)
        have hn2 := ih2 hil (left2 - (exl bec (tbl.drop (k + 1)) ((rowL bec std tbl (k + 1) c).getD i 0)).count x) (its2 + (exl bec (tbl.drop (k + 1)) ((rowL bec std tbl (k + 1) c).getD i 0)).length)
        rw [take_sum (fun d => (exl bec (tbl.drop (k + 1)) d).length) _ hil, take_sum (fun d => (exl bec (tbl.drop (k + 1)) d).count x) _ hil] at hn2
        have hch := hW2.child (G := G) htk.2 hc6 (i := i) hil
        have h4 := (hW2.bec htk.2 hc6).1
        have hi4 : i < (bec (tbl.getD k 0) c).length := hil
        rw [show (bec (tbl.getD k 0) c).getD i 0 = (rowL bec std tbl (k + 1) c).getD i 0 from rfl] at hch
        generalize (rowL bec std tbl (k + 1) c).getD i 0 = d at *
        have ed : (6 * ((k : Int) + 1) + (d : Int)).toNat = 6 * (k + 1) + d := by omega
        generalize (exl bec (tbl.drop (k + 1)) d).count x = dc at *
        generalize (exl bec (tbl.drop (k + 1)) d).length = dl at *
        by_cases ql : dc < left2
        · have hn2 := hn2 (by omega) (by omega) (by omega)
          subst hE
          refine vsA_ok tk_X2_placeOf rfl 24 ?_
          simp only [at_X2_placeOf, mr_X2_placeOf, vsA, vcA, denA, lget, lset, lst1, lst2, lclr, argsA, restA, acats, acat, tcA, tcN, rzA, lle, List.length_cons, List.length_nil, Option.toList_some, Option.toList_none, List.cons_append, List.nil_append, eG, eM, eD, eC, eS, eQ, eH, if_true, if_false, Nat.reduceAdd, Nat.reduceLeDiff, Nat.reduceEqDiff, Nat.reduceLT, Nat.reduceSub, Int.reduceEq, Int.reduceLE, Int.reduceToNat, reduceCtorEq, reduceIte, Nat.reduceBEq, Int.reduceNeg, not_true, not_false_iff, true_and, and_true, true_or, or_true, false_or, or_false, forall_const, implies_true, Nat.le_refl, Int.toNat_natCast, Int.reduceLT, ne_eq, Fin.isValue, Nat.add_zero, nC_hrw, nS_hrw, nC_hwr, nS_hwr, hkd_hrw, hkd_hwr, fin4_0, fin4_1, fin4_2, fin4_3, fin2_0, fin2_1, ci0, ci1, cnn, false_implies, w32_eq, w64_eq, hW2.q, htk.1]
          try simp (disch := omega) only [yc_lt, yc_le, yc_gt, yc_ge, yc_eq, w32_eq, w64_eq, tn_add, tn_mul, Int.toNat_natCast, Int.reduceToNat, not_true, not_false_iff, false_implies, forall_const, implies_true]
          repeat' (with_reducible first | apply And.intro | intro _)
          all_goals try omega
          all_goals try simp (disch := omega) only [w32_eq, w64_eq, tn_add, tn_mul, Int.toNat_natCast, Int.reduceToNat, Option.some.injEq, Sum.inr.injEq, Sum.inl.injEq]
          all_goals try omega
          refine ClA.pure (hch) (by first | exact Nat.le_of_ble_eq_true rfl | (simp only [eD]; omega)) (by first | exact Nat.le_refl _ | (simp only [eG, eD, eC, eS, eQ, eH, nC_hrw, nC_hwr, nS_hrw, nS_hwr, nC_hnw, nS_hnw]; omega)) (by first | exact Nat.le_refl _ | (simp only [eG, eD, eC, eS, eQ, eH, nC_hrw, nC_hwr, nS_hrw, nS_hwr, nC_hnw, nS_hnw]; omega)) ?_
          refine vsA_ok tk_X2_placeOf rfl 3 ?_
          simp only [at_X2_placeOf, mr_X2_placeOf, vsA, vcA, denA, lget, lset, lst1, lst2, lclr, argsA, restA, acats, acat, tcA, tcN, rzA, lle, List.length_cons, List.length_nil, Option.toList_some, Option.toList_none, List.cons_append, List.nil_append, eG, eM, eD, eC, eS, eQ, eH, if_true, if_false, Nat.reduceAdd, Nat.reduceLeDiff, Nat.reduceEqDiff, Nat.reduceLT, Nat.reduceSub, Int.reduceEq, Int.reduceLE, Int.reduceToNat, reduceCtorEq, reduceIte, Nat.reduceBEq, Int.reduceNeg, not_true, not_false_iff, true_and, and_true, true_or, or_true, false_or, or_false, forall_const, implies_true, Nat.le_refl, Int.toNat_natCast, Int.reduceLT, ne_eq, Fin.isValue, Nat.add_zero, nC_hrw, nS_hrw, nC_hwr, nS_hwr, hkd_hrw, hkd_hwr, fin4_0, fin4_1, fin4_2, fin4_3, fin2_0, fin2_1, ci0, ci1, cnn, false_implies, w32_eq, w64_eq, hW2.q]
          try simp (disch := omega) only [yc_lt, yc_le, yc_gt, yc_ge, yc_eq, w32_eq, w64_eq, tn_add, tn_mul, Int.toNat_natCast, Int.reduceToNat, not_true, not_false_iff, false_implies, forall_const, implies_true, ed, hrc]
          repeat' (with_reducible first | apply And.intro | intro _)
          all_goals try omega
          all_goals try simp (disch := omega) only [w32_eq, w64_eq, tn_add, tn_mul, Int.toNat_natCast, Int.reduceToNat, Option.some.injEq, Sum.inr.injEq, Sum.inl.injEq, ed, hrc]
          all_goals try omega
          refine vsA_ok tk_X2_placeOf rfl 20 ?_
          simp only [at_X2_placeOf, mr_X2_placeOf, vsA, vcA, denA, lget, lset, lst1, lst2, lclr, argsA, restA, acats, acat, tcA, tcN, rzA, lle, List.length_cons, List.length_nil, Option.toList_some, Option.toList_none, List.cons_append, List.nil_append, eG, eM, eD, eC, eS, eQ, eH, if_true, if_false, Nat.reduceAdd, Nat.reduceLeDiff, Nat.reduceEqDiff, Nat.reduceLT, Nat.reduceSub, Int.reduceEq, Int.reduceLE, Int.reduceToNat, reduceCtorEq, reduceIte, Nat.reduceBEq, Int.reduceNeg, not_true, not_false_iff, true_and, and_true, true_or, or_true, false_or, or_false, forall_const, implies_true, Nat.le_refl, Int.toNat_natCast, Int.reduceLT, ne_eq, Fin.isValue, Nat.add_zero, nC_hrw, nS_hrw, nC_hwr, nS_hwr, hkd_hrw, hkd_hwr, fin4_0, fin4_1, fin4_2, fin4_3, fin2_0, fin2_1, ci0, ci1, cnn, false_implies, w32_eq, w64_eq, hW2.q, htk.1]
          try simp (disch := omega) only [yc_lt, yc_le, yc_gt, yc_ge, yc_eq, w32_eq, w64_eq, tn_add, tn_mul, Int.toNat_natCast, Int.reduceToNat, not_true, not_false_iff, false_implies, forall_const, implies_true]
          repeat' (with_reducible first | apply And.intro | intro _)
          all_goals try omega
          all_goals try simp (disch := omega) only [w32_eq, w64_eq, tn_add, tn_mul, Int.toNat_natCast, Int.reduceToNat, Option.some.injEq, Sum.inr.injEq, Sum.inl.injEq]
          all_goals try omega
          refine ClA.pure (hch) (by first | exact Nat.le_of_ble_eq_true rfl | (simp only [eD]; omega)) (by first | exact Nat.le_refl _ | (simp only [eG, eD, eC, eS, eQ, eH, nC_hrw, nC_hwr, nS_hrw, nS_hwr, nC_hnw, nS_hnw]; omega)) (by first | exact Nat.le_refl _ | (simp only [eG, eD, eC, eS, eQ, eH, nC_hrw, nC_hwr, nS_hrw, nS_hwr, nC_hnw, nS_hnw]; omega)) ?_
          refine vsA_ok tk_X2_placeOf rfl 24 ?_
          simp only [at_X2_placeOf, mr_X2_placeOf, vsA, vcA, denA, lget, lset, lst1, lst2, lclr, argsA, restA, acats, acat, tcA, tcN, rzA, lle, List.length_cons, List.length_nil, Option.toList_some, Option.toList_none, List.cons_append, List.nil_append, eG, eM, eD, eC, eS, eQ, eH, if_true, if_false, Nat.reduceAdd, Nat.reduceLeDiff, Nat.reduceEqDiff, Nat.reduceLT, Nat.reduceSub, Int.reduceEq, Int.reduceLE, Int.reduceToNat, reduceCtorEq, reduceIte, Nat.reduceBEq, Int.reduceNeg, not_true, not_false_iff, true_and, and_true, true_or, or_true, false_or, or_false, forall_const, implies_true, Nat.le_refl, Int.toNat_natCast, Int.reduceLT, ne_eq, Fin.isValue, Nat.add_zero, nC_hrw, nS_hrw, nC_hwr, nS_hwr, hkd_hrw, hkd_hwr, fin4_0, fin4_1, fin4_2, fin4_3, fin2_0, fin2_1, ci0, ci1, cnn, false_implies, w32_eq, w64_eq, hW2.q, htk.1]
          try simp (disch := omega) only [yc_lt, yc_le, yc_gt, yc_ge, yc_eq, w32_eq, w64_eq, tn_add, tn_mul, Int.toNat_natCast, Int.reduceToNat, not_true, not_false_iff, false_implies, forall_const, implies_true, ed, hrc]
          repeat' (with_reducible first | apply And.intro | intro _)
          all_goals try omega
          all_goals try simp (disch := omega) only [w32_eq, w64_eq, tn_add, tn_mul, Int.toNat_natCast, Int.reduceToNat, Option.some.injEq, Sum.inr.injEq, Sum.inl.injEq, ed, hrc]
          all_goals try omega
          refine ClA.pure (hch) (by first | exact Nat.le_of_ble_eq_true rfl | (simp only [eD]; omega)) (by first | exact Nat.le_refl _ | (simp only [eG, eD, eC, eS, eQ, eH, nC_hrw, nC_hwr, nS_hrw, nS_hwr, nC_hnw, nS_hnw]; omega)) (by first | exact Nat.le_refl _ | (simp only [eG, eD, eC, eS, eQ, eH, nC_hrw, nC_hwr, nS_hrw, nS_hwr, nC_hnw, nS_hnw]; omega)) ?_
          refine vsA_ok tk_X2_placeOf rfl 24 ?_
          simp only [at_X2_placeOf, mr_X2_placeOf, vsA, vcA, denA, lget, lset, lst1, lst2, lclr, argsA, restA, acats, acat, tcA, tcN, rzA, lle, List.length_cons, List.length_nil, Option.toList_some, Option.toList_none, List.cons_append, List.nil_append, eG, eM, eD, eC, eS, eQ, eH, if_true, if_false, Nat.reduceAdd, Nat.reduceLeDiff, Nat.reduceEqDiff, Nat.reduceLT, Nat.reduceSub, Int.reduceEq, Int.reduceLE, Int.reduceToNat, reduceCtorEq, reduceIte, Nat.reduceBEq, Int.reduceNeg, not_true, not_false_iff, true_and, and_true, true_or, or_true, false_or, or_false, forall_const, implies_true, Nat.le_refl, Int.toNat_natCast, Int.reduceLT, ne_eq, Fin.isValue, Nat.add_zero, nC_hrw, nS_hrw, nC_hwr, nS_hwr, hkd_hrw, hkd_hwr, fin4_0, fin4_1, fin4_2, fin4_3, fin2_0, fin2_1, ci0, ci1, cnn, false_implies, w32_eq, w64_eq, hW2.q]
          try simp (disch := omega) only [yc_lt, yc_le, yc_gt, yc_ge, yc_eq, w32_eq, w64_eq, tn_add, tn_mul, Int.toNat_natCast, Int.reduceToNat, not_true, not_false_iff, false_implies, forall_const, implies_true, ed, hro]
          repeat' (with_reducible first | apply And.intro | intro _)
          all_goals try omega
          all_goals try simp (disch := omega) only [w32_eq, w64_eq, tn_add, tn_mul, Int.toNat_natCast, Int.reduceToNat, Option.some.injEq, Sum.inr.injEq, Sum.inl.injEq, ed, hro]
          all_goals try omega
          all_goals try exact (hn2).weak rfl (by simp [lle] <;> omega)
        · have hnx := hnx (by omega)
          subst hE
          refine vsA_ok tk_X2_placeOf rfl 24 ?_
          simp only [at_X2_placeOf, mr_X2_placeOf, vsA, vcA, denA, lget, lset, lst1, lst2, lclr, argsA, restA, acats, acat, tcA, tcN, rzA, lle, List.length_cons, List.length_nil, Option.toList_some, Option.toList_none, List.cons_append, List.nil_append, eG, eM, eD, eC, eS, eQ, eH, if_true, if_false, Nat.reduceAdd, Nat.reduceLeDiff, Nat.reduceEqDiff, Nat.reduceLT, Nat.reduceSub, Int.reduceEq, Int.reduceLE, Int.reduceToNat, reduceCtorEq, reduceIte, Nat.reduceBEq, Int.reduceNeg, not_true, not_false_iff, true_and, and_true, true_or, or_true, false_or, or_false, forall_const, implies_true, Nat.le_refl, Int.toNat_natCast, Int.reduceLT, ne_eq, Fin.isValue, Nat.add_zero, nC_hrw, nS_hrw, nC_hwr, nS_hwr, hkd_hrw, hkd_hwr, fin4_0, fin4_1, fin4_2, fin4_3, fin2_0, fin2_1, ci0, ci1, cnn, false_implies, w32_eq, w64_eq, hW2.q, htk.1]
          try simp (disch := omega) only [yc_lt, yc_le, yc_gt, yc_ge, yc_eq, w32_eq, w64_eq, tn_add, tn_mul, Int.toNat_natCast, Int.reduceToNat, not_true, not_false_iff, false_implies, forall_const, implies_true]
          repeat' (with_reducible first | apply And.intro | intro _)
          all_goals try omega
          all_goals try simp (disch := omega) only [w32_eq, w64_eq, tn_add, tn_mul, Int.toNat_natCast, Int.reduceToNat, Option.some.injEq, Sum.inr.injEq, Sum.inl.injEq]
          all_goals try omega
          refine ClA.pure (hch) (by first | exact Nat.le_of_ble_eq_true rfl | (simp only [eD]; omega)) (by first | exact Nat.le_refl _ | (simp only [eG, eD, eC, eS, eQ, eH, nC_hrw, nC_hwr, nS_hrw, nS_hwr, nC_hnw, nS_hnw]; omega)) (by first | exact Nat.le_refl _ | (simp only [eG, eD, eC, eS, eQ, eH, nC_hrw, nC_hwr, nS_hrw, nS_hwr, nC_hnw, nS_hnw]; omega)) ?_
          refine vsA_ok tk_X2_placeOf rfl 3 ?_
          simp only [at_X2_placeOf, mr_X2_placeOf, vsA, vcA, denA, lget, lset, lst1, lst2, lclr, argsA, restA, acats, acat, tcA, tcN, rzA, lle, List.length_cons, List.length_nil, Option.toList_some, Option.toList_none, List.cons_append, List.nil_append, eG, eM, eD, eC, eS, eQ, eH, if_true, if_false, Nat.reduceAdd, Nat.reduceLeDiff, Nat.reduceEqDiff, Nat.reduceLT, Nat.reduceSub, Int.reduceEq, Int.reduceLE, Int.reduceToNat, reduceCtorEq, reduceIte, Nat.reduceBEq, Int.reduceNeg, not_true, not_false_iff, true_and, and_true, true_or, or_true, false_or, or_false, forall_const, implies_true, Nat.le_refl, Int.toNat_natCast, Int.reduceLT, ne_eq, Fin.isValue, Nat.add_zero, nC_hrw, nS_hrw, nC_hwr, nS_hwr, hkd_hrw, hkd_hwr, fin4_0, fin4_1, fin4_2, fin4_3, fin2_0, fin2_1, ci0, ci1, cnn, false_implies, w32_eq, w64_eq, hW2.q]
          try simp (disch := omega) only [yc_lt, yc_le, yc_gt, yc_ge, yc_eq, w32_eq, w64_eq, tn_add, tn_mul, Int.toNat_natCast, Int.reduceToNat, not_true, not_false_iff, false_implies, forall_const, implies_true, ed, hrc]
          repeat' (with_reducible first | apply And.intro | intro _)
          all_goals try omega
          all_goals try simp (disch := omega) only [w32_eq, w64_eq, tn_add, tn_mul, Int.toNat_natCast, Int.reduceToNat, Option.some.injEq, Sum.inr.injEq, Sum.inl.injEq, ed, hrc]
          all_goals try omega
          refine vsA_ok tk_X2_placeOf rfl 14 ?_
          simp only [at_X2_placeOf, mr_X2_placeOf, vsA, vcA, denA, lget, lset, lst1, lst2, lclr, argsA, restA, acats, acat, tcA, tcN, rzA, lle, List.length_cons, List.length_nil, Option.toList_some, Option.toList_none, List.cons_append, List.nil_append, eG, eM, eD, eC, eS, eQ, eH, if_true, if_false, Nat.reduceAdd, Nat.reduceLeDiff, Nat.reduceEqDiff, Nat.reduceLT, Nat.reduceSub, Int.reduceEq, Int.reduceLE, Int.reduceToNat, reduceCtorEq, reduceIte, Nat.reduceBEq, Int.reduceNeg, not_true, not_false_iff, true_and, and_true, true_or, or_true, false_or, or_false, forall_const, implies_true, Nat.le_refl, Int.toNat_natCast, Int.reduceLT, ne_eq, Fin.isValue, Nat.add_zero, nC_hrw, nS_hrw, nC_hwr, nS_hwr, hkd_hrw, hkd_hwr, fin4_0, fin4_1, fin4_2, fin4_3, fin2_0, fin2_1, ci0, ci1, cnn, false_implies, w32_eq, w64_eq, hW2.q, htk.1]
          try simp (disch := omega) only [yc_lt, yc_le, yc_gt, yc_ge, yc_eq, w32_eq, w64_eq, tn_add, tn_mul, Int.toNat_natCast, Int.reduceToNat, not_true, not_false_iff, false_implies, forall_const, implies_true]
          repeat' (with_reducible first | apply And.intro | intro _)
          all_goals try omega
          all_goals try simp (disch := omega) only [w32_eq, w64_eq, tn_add, tn_mul, Int.toNat_natCast, Int.reduceToNat, Option.some.injEq, Sum.inr.injEq, Sum.inl.injEq]
          all_goals try omega
          refine ClA.pure (hch) (by first | exact Nat.le_of_ble_eq_true rfl | (simp only [eD]; omega)) (by first | exact Nat.le_refl _ | (simp only [eG, eD, eC, eS, eQ, eH, nC_hrw, nC_hwr, nS_hrw, nS_hwr, nC_hnw, nS_hnw]; omega)) (by first | exact Nat.le_refl _ | (simp only [eG, eD, eC, eS, eQ, eH, nC_hrw, nC_hwr, nS_hrw, nS_hwr, nC_hnw, nS_hnw]; omega)) ?_
          refine vsA_ok tk_X2_placeOf rfl 12 ?_
          simp only [at_X2_placeOf, mr_X2_placeOf, vsA, vcA, denA, lget, lset, lst1, lst2, lclr, argsA, restA, acats, acat, tcA, tcN, rzA, lle, List.length_cons, List.length_nil, Option.toList_some, Option.toList_none, List.cons_append, List.nil_append, eG, eM, eD, eC, eS, eQ, eH, if_true, if_false, Nat.reduceAdd, Nat.reduceLeDiff, Nat.reduceEqDiff, Nat.reduceLT, Nat.reduceSub, Int.reduceEq, Int.reduceLE, Int.reduceToNat, reduceCtorEq, reduceIte, Nat.reduceBEq, Int.reduceNeg, not_true, not_false_iff, true_and, and_true, true_or, or_true, false_or, or_false, forall_const, implies_true, Nat.le_refl, Int.toNat_natCast, Int.reduceLT, ne_eq, Fin.isValue, Nat.add_zero, nC_hrw, nS_hrw, nC_hwr, nS_hwr, hkd_hrw, hkd_hwr, fin4_0, fin4_1, fin4_2, fin4_3, fin2_0, fin2_1, ci0, ci1, cnn, false_implies, w32_eq, w64_eq]
          try simp (disch := omega) only [yc_lt, yc_le, yc_gt, yc_ge, yc_eq, w32_eq, w64_eq, tn_add, tn_mul, Int.toNat_natCast, Int.reduceToNat, not_true, not_false_iff, false_implies, forall_const, implies_true]
          repeat' (with_reducible first | apply And.intro | intro _)
          all_goals try omega
          all_goals try simp (disch := omega) only [w32_eq, w64_eq, tn_add, tn_mul, Int.toNat_natCast, Int.reduceToNat, Option.some.injEq, Sum.inr.injEq, Sum.inl.injEq]
          all_goals try omega
          all_goals try exact (hnx).weak rfl (by simp [lle] <;> omega)
      have l3 := L3 0 (Nat.zero_le _) left its (by simp) hI.2.1.1 (by simp)
      subst hE
      refine vsA_ok tk_X2_placeOf rfl 6 ?_
      simp only [at_X2_placeOf, mr_X2_placeOf, vsA, vcA, denA, lget, lset, lst1, lst2, lclr, argsA, restA, acats, acat, tcA, tcN, rzA, lle, List.length_cons, List.length_nil, Option.toList_some, Option.toList_none, List.cons_append, List.nil_append, eG, eM, eD, eC, eS, eQ, eH, if_true, if_false, Nat.reduceAdd, Nat.reduceLeDiff, Nat.reduceEqDiff, Nat.reduceLT, Nat.reduceSub, Int.reduceEq, Int.reduceLE, Int.reduceToNat, reduceCtorEq, reduceIte, Nat.reduceBEq, Int.reduceNeg, not_true, not_false_iff, true_and, and_true, true_or, or_true, false_or, or_false, forall_const, implies_true, Nat.le_refl, Int.toNat_natCast, Int.reduceLT, ne_eq, Fin.isValue, Nat.add_zero, nC_hrw, nS_hrw, nC_hwr, nS_hwr, hkd_hrw, hkd_hwr, fin4_0, fin4_1, fin4_2, fin4_3, fin2_0, fin2_1, ci0, ci1, cnn, false_implies, w32_eq, w64_eq, hW2.q]
      try simp (disch := omega) only [yc_lt, yc_le, yc_gt, yc_ge, yc_eq, w32_eq, w64_eq, tn_add, tn_mul, Int.toNat_natCast, Int.reduceToNat, not_true, not_false_iff, false_implies, forall_const, implies_true]
      repeat' (with_reducible first | apply And.intro | intro _)
      all_goals try omega
      all_goals try simp (disch := omega) only [w32_eq, w64_eq, tn_add, tn_mul, Int.toNat_natCast, Int.reduceToNat, Option.some.injEq, Sum.inr.injEq, Sum.inl.injEq]
      all_goals try omega
      all_goals try exact (l3).weak rfl (by simp [lle] <;> omega)
    · have hk1 : k = tbl.length := by omega
      subst hk1
      have hcu : curW bec std tbl (tbl.length + 1) c = [c] := by
        rw [curW_succ, List.drop_length]
        rfl
      obtain ⟨h1', h2', h3', h4'⟩ := hI
      rw [hcu] at h2' h3' h4'
      have hxc : c = x ∧ left = 1 := by
        have := h2'.2
        rw [List.count_singleton] at this
        by_cases e : c = x
        · exact ⟨e, by rw [if_pos (by simpa using e)] at this; omega⟩
        · rw [if_neg (by simpa using e)] at this
          omega
      have hpp := h4' 0 ⟨by simp, by simpa using hxc.1, by simp; omega⟩
      rw [Nat.add_zero] at hpp
      subst hE
      refine vsA_ok tk_X2_placeOf rfl 8 ?_
      simp only [at_X2_placeOf, mr_X2_placeOf, vsA, vcA, denA, lget, lset, lst1, lst2, lclr, argsA, restA, acats, acat, tcA, tcN, rzA, lle, List.length_cons, List.length_nil, Option.toList_some, Option.toList_none, List.cons_append, List.nil_append, eG, eM, eD, eC, eS, eQ, eH, if_true, if_false, Nat.reduceAdd, Nat.reduceLeDiff, Nat.reduceEqDiff, Nat.reduceLT, Nat.reduceSub, Int.reduceEq, Int.reduceLE, Int.reduceToNat, reduceCtorEq, reduceIte, Nat.reduceBEq, Int.reduceNeg, not_true, not_false_iff, true_and, and_true, true_or, or_true, false_or, or_false, forall_const, implies_true, Nat.le_refl, Int.toNat_natCast, Int.reduceLT, ne_eq, Fin.isValue, Nat.add_zero, nC_hrw, nS_hrw, nC_hwr, nS_hwr, hkd_hrw, hkd_hwr, fin4_0, fin4_1, fin4_2, fin4_3, fin2_0, fin2_1, ci0, ci1, cnn, false_implies, w32_eq, w64_eq, hW2.q, hm1, hm2, hn1, hn2]
      try simp (disch := omega) only [yc_lt, yc_le, yc_gt, yc_ge, yc_eq, w32_eq, w64_eq, tn_add, tn_mul, Int.toNat_natCast, Int.reduceToNat, not_true, not_false_iff, false_implies, forall_const, implies_true]
      repeat' (with_reducible first | apply And.intro | intro _)
      all_goals try omega
      all_goals try simp (disch := omega) only [w32_eq, w64_eq, tn_add, tn_mul, Int.toNat_natCast, Int.reduceToNat, Option.some.injEq, Sum.inr.injEq, Sum.inl.injEq]
      all_goals try omega
      all_goals first | exact hO2 | exact ⟨its, rfl, hpp⟩
  have L1 : ∀ i, i ≤ std.length → ∀ left2 its2 : Nat, ((std.take i).map fun d => (exl bec tbl d).count x).sum + left2 = K → 1 ≤ left2 → its2 = ((std.take i).map fun d => (exl bec tbl d).length).sum →
      ExA E 27 [some (.inr (.inr ((a : Int)))), some (.inl ((x : Int))), some (.inr (.inl ((K : Int)))), none, some (.inr (.inl ((left2 : Int)))), none, some (.inr (.inl ((its2 : Int)))), none, some (.inl ((i : Int))), none, none, none] [] h2 := by
    refine lpI _ fun i hi ih left2 its2 hs2 hl2 hi2 => ?_
    have hI0 : InvP bec std tbl x K 0 0 K 0 := ⟨Or.inl rfl, ⟨hK.1, hK.2⟩, by show 0 + (wrd bec std tbl).length ≤ _; omega, fun p hp => by rw [Nat.zero_add]; exact hp⟩
    have hil : i < std.length := hI0.lt (Nat.zero_le _) (i := i) (left2 := left2) hi hs2 hl2
    have hst := hW2.stand hil
    have hdl : (exl bec tbl (std.getD i 0)).length ≤ (wrd bec std tbl).length := fm_len1 (exl bec tbl) (getD_mem hil)
    have hdlen := fm_len (exl bec tbl) std (i := i + 1) (by omega)
    rw [take_sum (fun d => (exl bec tbl d).length) _ hil] at hdlen
    have hWe : (std.flatMap (exl bec tbl)).length = (wrd bec std tbl).length := rfl
    have hdc : (exl bec tbl (std.getD i 0)).count x ≤ (exl bec tbl (std.getD i 0)).length := List.count_le_length
    have hro := rl 0 _ (Nat.zero_le _) hst.2
    have hrc := rc 0 _ (Nat.zero_le _) hst.2
    rw [List.drop_zero, Nat.mul_zero, Nat.zero_add, show min bigC (exl bec tbl (std.getD i 0)).length = (exl bec tbl (std.getD i 0)).length by omega] at hro
    rw [List.drop_zero, Nat.mul_zero, Nat.zero_add, show min bigC ((exl bec tbl (std.getD i 0)).count x) = (exl bec tbl (std.getD i 0)).count x by omega] at hrc
    have hnx := fun hl => L2 0 (Nat.zero_le _) i _ left2 its2 hst.2 (hI0.next (Nat.zero_le _) (hW2.row_std (k := 0) (c := 0) (Nat.zero_le _) (Or.inl rfl)).2 (i := i) (left2 := left2) (its2 := its2) hil hs2 hl (by rw [hi2, Nat.zero_add]; rfl))
    have hn2 := ih hil (left2 - (exl bec tbl (std.getD i 0)).count x) (its2 + (exl bec tbl (std.getD i 0)).length)
    rw [take_sum (fun d => (exl bec tbl d).length) _ hil, take_sum (fun d => (exl bec tbl d).count x) _ hil] at hn2
    have hnx : (1 ≤ left2 ∧ left2 ≤ (exl bec tbl (std.getD i 0)).count x) → ExA E 121 [some (.inr (.inr ((a : Int)))), some (.inl ((x : Int))), some (.inr (.inl ((K : Int)))), none, some (.inr (.inl ((left2 : Int)))), none, some (.inr (.inl ((its2 : Int)))), none, some (.inl ((i : Int))), some (.inl (((std.getD i 0 : Nat) : Int))), some (.inl (((0 : Nat) : Int))), none] [] h2 := hnx
    generalize (exl bec tbl (std.getD i 0)).count x = dc at *
    generalize (exl bec tbl (std.getD i 0)).length = dl at *
    by_cases ql : dc < left2
    · have hn2 := hn2 (by omega) (by omega) (by omega)
      subst hE
      refine vsA_ok tk_X2_placeOf rfl 11 ?_
      simp only [at_X2_placeOf, mr_X2_placeOf, vsA, vcA, denA, lget, lset, lst1, lst2, lclr, argsA, restA, acats, acat, tcA, tcN, rzA, lle, List.length_cons, List.length_nil, Option.toList_some, Option.toList_none, List.cons_append, List.nil_append, eG, eM, eD, eC, eS, eQ, eH, if_true, if_false, Nat.reduceAdd, Nat.reduceLeDiff, Nat.reduceEqDiff, Nat.reduceLT, Nat.reduceSub, Int.reduceEq, Int.reduceLE, Int.reduceToNat, reduceCtorEq, reduceIte, Nat.reduceBEq, Int.reduceNeg, not_true, not_false_iff, true_and, and_true, true_or, or_true, false_or, or_false, forall_const, implies_true, Nat.le_refl, Int.toNat_natCast, Int.reduceLT, ne_eq, Fin.isValue, Nat.add_zero, nC_hrw, nS_hrw, nC_hwr, nS_hwr, hkd_hrw, hkd_hwr, fin4_0, fin4_1, fin4_2, fin4_3, fin2_0, fin2_1, ci0, ci1, cnn, false_implies, w32_eq, w64_eq, hW2.q, hst.1]
      try simp (disch := omega) only [yc_lt, yc_le, yc_gt, yc_ge, yc_eq, w32_eq, w64_eq, tn_add, tn_mul, Int.toNat_natCast, Int.reduceToNat, not_true, not_false_iff, false_implies, forall_const, implies_true, hrc]
      repeat' (with_reducible first | apply And.intro | intro _)
      all_goals try omega
      all_goals try simp (disch := omega) only [w32_eq, w64_eq, tn_add, tn_mul, Int.toNat_natCast, Int.reduceToNat, Option.some.injEq, Sum.inr.injEq, Sum.inl.injEq, hrc]
      all_goals try omega
      refine vsA_ok tk_X2_placeOf rfl 11 ?_
      simp only [at_X2_placeOf, mr_X2_placeOf, vsA, vcA, denA, lget, lset, lst1, lst2, lclr, argsA, restA, acats, acat, tcA, tcN, rzA, lle, List.length_cons, List.length_nil, Option.toList_some, Option.toList_none, List.cons_append, List.nil_append, eG, eM, eD, eC, eS, eQ, eH, if_true, if_false, Nat.reduceAdd, Nat.reduceLeDiff, Nat.reduceEqDiff, Nat.reduceLT, Nat.reduceSub, Int.reduceEq, Int.reduceLE, Int.reduceToNat, reduceCtorEq, reduceIte, Nat.reduceBEq, Int.reduceNeg, not_true, not_false_iff, true_and, and_true, true_or, or_true, false_or, or_false, forall_const, implies_true, Nat.le_refl, Int.toNat_natCast, Int.reduceLT, ne_eq, Fin.isValue, Nat.add_zero, nC_hrw, nS_hrw, nC_hwr, nS_hwr, hkd_hrw, hkd_hwr, fin4_0, fin4_1, fin4_2, fin4_3, fin2_0, fin2_1, ci0, ci1, cnn, false_implies, w32_eq, w64_eq, hW2.q, hst.1]
      try simp (disch := omega) only [yc_lt, yc_le, yc_gt, yc_ge, yc_eq, w32_eq, w64_eq, tn_add, tn_mul, Int.toNat_natCast, Int.reduceToNat, not_true, not_false_iff, false_implies, forall_const, implies_true, hrc]
      repeat' (with_reducible first | apply And.intro | intro _)
      all_goals try omega
      all_goals try simp (disch := omega) only [w32_eq, w64_eq, tn_add, tn_mul, Int.toNat_natCast, Int.reduceToNat, Option.some.injEq, Sum.inr.injEq, Sum.inl.injEq, hrc]
      all_goals try omega
      refine vsA_ok tk_X2_placeOf rfl 14 ?_
      simp only [at_X2_placeOf, mr_X2_placeOf, vsA, vcA, denA, lget, lset, lst1, lst2, lclr, argsA, restA, acats, acat, tcA, tcN, rzA, lle, List.length_cons, List.length_nil, Option.toList_some, Option.toList_none, List.cons_append, List.nil_append, eG, eM, eD, eC, eS, eQ, eH, if_true, if_false, Nat.reduceAdd, Nat.reduceLeDiff, Nat.reduceEqDiff, Nat.reduceLT, Nat.reduceSub, Int.reduceEq, Int.reduceLE, Int.reduceToNat, reduceCtorEq, reduceIte, Nat.reduceBEq, Int.reduceNeg, not_true, not_false_iff, true_and, and_true, true_or, or_true, false_or, or_false, forall_const, implies_true, Nat.le_refl, Int.toNat_natCast, Int.reduceLT, ne_eq, Fin.isValue, Nat.add_zero, nC_hrw, nS_hrw, nC_hwr, nS_hwr, hkd_hrw, hkd_hwr, fin4_0, fin4_1, fin4_2, fin4_3, fin2_0, fin2_1, ci0, ci1, cnn, false_implies, w32_eq, w64_eq, hW2.q, hst.1]
      try simp (disch := omega) only [yc_lt, yc_le, yc_gt, yc_ge, yc_eq, w32_eq, w64_eq, tn_add, tn_mul, Int.toNat_natCast, Int.reduceToNat, not_true, not_false_iff, false_implies, forall_const, implies_true, hro]
      repeat' (with_reducible first | apply And.intro | intro _)
      all_goals try omega
      all_goals try simp (disch := omega) only [w32_eq, w64_eq, tn_add, tn_mul, Int.toNat_natCast, Int.reduceToNat, Option.some.injEq, Sum.inr.injEq, Sum.inl.injEq, hro]
      all_goals try omega
      all_goals try exact (hn2).weak rfl (by simp [lle] <;> omega)
    · have hnx := hnx (by omega)
      subst hE
      refine vsA_ok tk_X2_placeOf rfl 11 ?_
      simp only [at_X2_placeOf, mr_X2_placeOf, vsA, vcA, denA, lget, lset, lst1, lst2, lclr, argsA, restA, acats, acat, tcA, tcN, rzA, lle, List.length_cons, List.length_nil, Option.toList_some, Option.toList_none, List.cons_append, List.nil_append, eG, eM, eD, eC, eS, eQ, eH, if_true, if_false, Nat.reduceAdd, Nat.reduceLeDiff, Nat.reduceEqDiff, Nat.reduceLT, Nat.reduceSub, Int.reduceEq, Int.reduceLE, Int.reduceToNat, reduceCtorEq, reduceIte, Nat.reduceBEq, Int.reduceNeg, not_true, not_false_iff, true_and, and_true, true_or, or_true, false_or, or_false, forall_const, implies_true, Nat.le_refl, Int.toNat_natCast, Int.reduceLT, ne_eq, Fin.isValue, Nat.add_zero, nC_hrw, nS_hrw, nC_hwr, nS_hwr, hkd_hrw, hkd_hwr, fin4_0, fin4_1, fin4_2, fin4_3, fin2_0, fin2_1, ci0, ci1, cnn, false_implies, w32_eq, w64_eq, hW2.q, hst.1]
      try simp (disch := omega) only [yc_lt, yc_le, yc_gt, yc_ge, yc_eq, w32_eq, w64_eq, tn_add, tn_mul, Int.toNat_natCast, Int.reduceToNat, not_true, not_false_iff, false_implies, forall_const, implies_true, hrc]
      repeat' (with_reducible first | apply And.intro | intro _)
      all_goals try omega
      all_goals try simp (disch := omega) only [w32_eq, w64_eq, tn_add, tn_mul, Int.toNat_natCast, Int.reduceToNat, Option.some.injEq, Sum.inr.injEq, Sum.inl.injEq, hrc]
      all_goals try omega
      refine vsA_ok tk_X2_placeOf rfl 9 ?_
      simp only [at_X2_placeOf, mr_X2_placeOf, vsA, vcA, denA, lget, lset, lst1, lst2, lclr, argsA, restA, acats, acat, tcA, tcN, rzA, lle, List.length_cons, List.length_nil, Option.toList_some, Option.toList_none, List.cons_append, List.nil_append, eG, eM, eD, eC, eS, eQ, eH, if_true, if_false, Nat.reduceAdd, Nat.reduceLeDiff, Nat.reduceEqDiff, Nat.reduceLT, Nat.reduceSub, Int.reduceEq, Int.reduceLE, Int.reduceToNat, reduceCtorEq, reduceIte, Nat.reduceBEq, Int.reduceNeg, not_true, not_false_iff, true_and, and_true, true_or, or_true, false_or, or_false, forall_const, implies_true, Nat.le_refl, Int.toNat_natCast, Int.reduceLT, ne_eq, Fin.isValue, Nat.add_zero, nC_hrw, nS_hrw, nC_hwr, nS_hwr, hkd_hrw, hkd_hwr, fin4_0, fin4_1, fin4_2, fin4_3, fin2_0, fin2_1, ci0, ci1, cnn, false_implies, w32_eq, w64_eq, hW2.q, hst.1]
      try simp (disch := omega) only [yc_lt, yc_le, yc_gt, yc_ge, yc_eq, w32_eq, w64_eq, tn_add, tn_mul, Int.toNat_natCast, Int.reduceToNat, not_true, not_false_iff, false_implies, forall_const, implies_true]
      repeat' (with_reducible first | apply And.intro | intro _)
      all_goals try omega
      all_goals try simp (disch := omega) only [w32_eq, w64_eq, tn_add, tn_mul, Int.toNat_natCast, Int.reduceToNat, Option.some.injEq, Sum.inr.injEq, Sum.inl.injEq]
      all_goals try omega
      all_goals try exact (hnx).weak rfl (by simp [lle] <;> omega)
  have l1 := L1 0 (Nat.zero_le _) K 0 (by simp) hK.1 (by simp)
  subst hE
  refine vsA_ok tk_X2_placeOf rfl 10 ?_
  simp only [at_X2_placeOf, mr_X2_placeOf, vsA, vcA, denA, lget, lset, lst1, lst2, lclr, argsA, restA, acats, acat, tcA, tcN, rzA, lle, List.length_cons, List.length_nil, Option.toList_some, Option.toList_none, List.cons_append, List.nil_append, eG, eM, eD, eC, eS, eQ, eH, if_true, if_false, Nat.reduceAdd, Nat.reduceLeDiff, Nat.reduceEqDiff, Nat.reduceLT, Nat.reduceSub, Int.reduceEq, Int.reduceLE, Int.reduceToNat, reduceCtorEq, reduceIte, Nat.reduceBEq, Int.reduceNeg, not_true, not_false_iff, true_and, and_true, true_or, or_true, false_or, or_false, forall_const, implies_true, Nat.le_refl, Int.toNat_natCast, Int.reduceLT, ne_eq, Fin.isValue, Nat.add_zero, nC_hrw, nS_hrw, nC_hwr, nS_hwr, hkd_hrw, hkd_hwr, fin4_0, fin4_1, fin4_2, fin4_3, fin2_0, fin2_1, ci0, ci1, cnn, false_implies, w32_eq, w64_eq]
  try simp (disch := omega) only [yc_lt, yc_le, yc_gt, yc_ge, yc_eq, w32_eq, w64_eq, tn_add, tn_mul, Int.toNat_natCast, Int.reduceToNat, not_true, not_false_iff, false_implies, forall_const, implies_true]
  repeat' (with_reducible first | apply And.intro | intro _)
  all_goals try omega
  all_goals try simp (disch := omega) only [w32_eq, w64_eq, tn_add, tn_mul, Int.toNat_natCast, Int.reduceToNat, Option.some.injEq, Sum.inr.injEq, Sum.inl.injEq]
  all_goals try omega
  all_goals try exact (l1).weak rfl (by simp [lle] <;> omega)
/-- laysMany(row, at): how many of each letter there are -/
theorem c_X2_laysMany (hW : WSt h a S T bec std tbl nights moon) (hL : (wrd bec std tbl).length ≤ 1000000000000) (h101 : hkd h 101 = (101, 60)) (ha : a + 3 < 101) (hS : S = 1 ∨ 153 ≤ S) :
    CnA G mX2_laysMany 5 0 0 [.inr (.inr ((a : Int))), .inr (.inr (101)), .inl (0)] h (fun v h1 => v = none ∧ FrP (fun b _ => sW a S b ∨ b = 101) h h1 ∧ ∀ c, c < 6 → hdt h1 101 c = ((cntW (wrd bec std tbl) c : Nat) : Int)) := by
  refine CnA.of rfl (Nat.le_of_ble_eq_true rfl) ?_
  simp only [largs, lpad, mr_X2_laysMany]
  generalize hE : ((G, mX2_laysMany, _, _, _, _, h) : EV) = E
  have L1 : ∀ i, i ≤ 6 → ∀ h1, FrP (fun b _ => sW a S b ∨ b = 101) h h1 → WSt h1 a S T bec std tbl nights moon → (∀ c, c < i → hdt h1 101 c = ((cntW (wrd bec std tbl) c : Nat) : Int)) → ExA E 2 [some (.inr (.inr ((a : Int)))), some (.inr (.inr (101))), some (.inl (0)), some (.inl ((i : Int)))] [] h1 := by
    refine lpI 6 fun i hi ih h1 hx hW1 hr => ?_
    have c1 := hx.2.1
    have k1 : hkd h1 101 = (101, 60) := (hx.1 101).trans h101
    by_cases hi6 : i < 6
    · have ih := ih hi6
      subst hE
      refine vsA_ok tk_X2_laysMany rfl 10 ?_
      simp only [at_X2_laysMany, mr_X2_laysMany, vsA, vcA, denA, lget, lset, lst1, lst2, lclr, argsA, restA, acats, acat, tcA, tcN, rzA, lle, List.length_cons, List.length_nil, Option.toList_some, Option.toList_none, List.cons_append, List.nil_append, eG, eM, eD, eC, eS, eQ, eH, if_true, if_false, Nat.reduceAdd, Nat.reduceLeDiff, Nat.reduceEqDiff, Nat.reduceLT, Nat.reduceSub, Int.reduceEq, Int.reduceLE, Int.reduceToNat, reduceCtorEq, reduceIte, Nat.reduceBEq, Int.reduceNeg, not_true, not_false_iff, true_and, and_true, true_or, or_true, false_or, or_false, forall_const, implies_true, Nat.le_refl, Int.toNat_natCast, Int.reduceLT, ne_eq, Fin.isValue, Nat.add_zero, nC_hrw, nS_hrw, nC_hwr, nS_hwr, hkd_hrw, hkd_hwr, fin4_0, fin4_1, fin4_2, fin4_3, fin2_0, fin2_1, ci0, ci1, cnn, false_implies, w32_eq, w64_eq, hW1.q]
      try simp (disch := omega) only [yc_lt, yc_le, yc_gt, yc_ge, yc_eq, w32_eq, w64_eq, tn_add, tn_mul, Int.toNat_natCast, Int.reduceToNat, not_true, not_false_iff, false_implies, forall_const, implies_true]
      repeat' (with_reducible first | apply And.intro | intro _)
      all_goals try omega
      all_goals try simp (disch := omega) only [w32_eq, w64_eq, tn_add, tn_mul, Int.toNat_natCast, Int.reduceToNat, Option.some.injEq, Sum.inr.injEq, Sum.inl.injEq]
      all_goals try omega
      refine ClA.of (c_X2_manyOf (x := i) hW1 (Nat.le_trans hL (by decide)) hi6) (by first | exact Nat.le_of_ble_eq_true rfl | (simp only [eD]; omega)) (by first | exact Nat.le_refl _ | (simp only [eG, eD, eC, eS, eQ, eH, nC_hrw, nC_hwr, nS_hrw, nS_hwr, nC_hnw, nS_hnw]; omega)) (by first | exact Nat.le_refl _ | (simp only [eG, eD, eC, eS, eQ, eH, nC_hrw, nC_hwr, nS_hrw, nS_hwr, nC_hnw, nS_hnw]; omega)) ?_
      rintro _ h2 ⟨rfl, hO2⟩ hm1 hm2
      have hW2 := hW1.outS hO2
      have hx2 : FrP (fun b _ => sW a S b ∨ b = 101) h h2 := hx.tr ((hO2.fr hm1 hm2).mono fun b j q => Or.inl q)
      have e101 : hdt h2 101 = hdt h1 101 := hO2.2.2 101 (fun q => by rcases q with q | q | q <;> omega)
      have k2 : hkd h2 101 = (101, 60) := (hx2.1 101).trans h101
      have hW3 : WSt (hwr h2 101 i (((wrd bec std tbl).count i : Nat) : Int)) a S T bec std tbl nights moon := hW2.row (by rw [k2]) _
      have nx := ih _ (hx2.wr (Or.inr rfl) (((wrd bec std tbl).count i : Nat) : Int) (j := i)) hW3 (fun c hc => by
        rw [hdt_hwr, if_pos rfl]
        by_cases e : c = i
        · rw [e, fup_s]
          rfl
        · rw [fup_n _ _ e, e101]
          exact hr c (by omega))
      refine vsA_ok tk_X2_laysMany rfl 10 ?_
      simp only [at_X2_laysMany, mr_X2_laysMany, vsA, vcA, denA, lget, lset, lst1, lst2, lclr, argsA, restA, acats, acat, tcA, tcN, rzA, lle, List.length_cons, List.length_nil, Option.toList_some, Option.toList_none, List.cons_append, List.nil_append, eG, eM, eD, eC, eS, eQ, eH, if_true, if_false, Nat.reduceAdd, Nat.reduceLeDiff, Nat.reduceEqDiff, Nat.reduceLT, Nat.reduceSub, Int.reduceEq, Int.reduceLE, Int.reduceToNat, reduceCtorEq, reduceIte, Nat.reduceBEq, Int.reduceNeg, not_true, not_false_iff, true_and, and_true, true_or, or_true, false_or, or_false, forall_const, implies_true, Nat.le_refl, Int.toNat_natCast, Int.reduceLT, ne_eq, Fin.isValue, Nat.add_zero, nC_hrw, nS_hrw, nC_hwr, nS_hwr, hkd_hrw, hkd_hwr, fin4_0, fin4_1, fin4_2, fin4_3, fin2_0, fin2_1, ci0, ci1, cnn, false_implies, w32_eq, w64_eq, k2]
      try simp (disch := omega) only [yc_lt, yc_le, yc_gt, yc_ge, yc_eq, w32_eq, w64_eq, tn_add, tn_mul, Int.toNat_natCast, Int.reduceToNat, not_true, not_false_iff, false_implies, forall_const, implies_true, Nat.zero_add]
      repeat' (with_reducible first | apply And.intro | intro _)
      all_goals try omega
      all_goals try simp (disch := omega) only [w32_eq, w64_eq, tn_add, tn_mul, Int.toNat_natCast, Int.reduceToNat, Option.some.injEq, Sum.inr.injEq, Sum.inl.injEq, Nat.zero_add]
      all_goals try omega
      all_goals try exact (nx).weak rfl (by simp [lle] <;> omega)
    · subst hE
      refine vsA_ok tk_X2_laysMany rfl 10 ?_
      simp only [at_X2_laysMany, mr_X2_laysMany, vsA, vcA, denA, lget, lset, lst1, lst2, lclr, argsA, restA, acats, acat, tcA, tcN, rzA, lle, List.length_cons, List.length_nil, Option.toList_some, Option.toList_none, List.cons_append, List.nil_append, eG, eM, eD, eC, eS, eQ, eH, if_true, if_false, Nat.reduceAdd, Nat.reduceLeDiff, Nat.reduceEqDiff, Nat.reduceLT, Nat.reduceSub, Int.reduceEq, Int.reduceLE, Int.reduceToNat, reduceCtorEq, reduceIte, Nat.reduceBEq, Int.reduceNeg, not_true, not_false_iff, true_and, and_true, true_or, or_true, false_or, or_false, forall_const, implies_true, Nat.le_refl, Int.toNat_natCast, Int.reduceLT, ne_eq, Fin.isValue, Nat.add_zero, nC_hrw, nS_hrw, nC_hwr, nS_hwr, hkd_hrw, hkd_hwr, fin4_0, fin4_1, fin4_2, fin4_3, fin2_0, fin2_1, ci0, ci1, cnn, false_implies, w32_eq, w64_eq, c1]
      try simp (disch := omega) only [yc_lt, yc_le, yc_gt, yc_ge, yc_eq, w32_eq, w64_eq, tn_add, tn_mul, Int.toNat_natCast, Int.reduceToNat, not_true, not_false_iff, false_implies, forall_const, implies_true]
      repeat' (with_reducible first | apply And.intro | intro _)
      all_goals try omega
      all_goals try simp (disch := omega) only [w32_eq, w64_eq, tn_add, tn_mul, Int.toNat_natCast, Int.reduceToNat, Option.some.injEq, Sum.inr.injEq, Sum.inl.injEq]
      all_goals try omega
      all_goals first | exact hx | exact hr _ (by omega)
  have l1 := L1 0 (by omega) h FrP.rf hW (fun c hc => by omega)
  subst hE
  refine vsA_ok tk_X2_laysMany rfl 5 ?_
  simp only [at_X2_laysMany, mr_X2_laysMany, vsA, vcA, denA, lget, lset, lst1, lst2, lclr, argsA, restA, acats, acat, tcA, tcN, rzA, lle, List.length_cons, List.length_nil, Option.toList_some, Option.toList_none, List.cons_append, List.nil_append, eG, eM, eD, eC, eS, eQ, eH, if_true, if_false, Nat.reduceAdd, Nat.reduceLeDiff, Nat.reduceEqDiff, Nat.reduceLT, Nat.reduceSub, Int.reduceEq, Int.reduceLE, Int.reduceToNat, reduceCtorEq, reduceIte, Nat.reduceBEq, Int.reduceNeg, not_true, not_false_iff, true_and, and_true, true_or, or_true, false_or, or_false, forall_const, implies_true, Nat.le_refl, Int.toNat_natCast, Int.reduceLT, ne_eq, Fin.isValue, Nat.add_zero, nC_hrw, nS_hrw, nC_hwr, nS_hwr, hkd_hrw, hkd_hwr, fin4_0, fin4_1, fin4_2, fin4_3, fin2_0, fin2_1, ci0, ci1, cnn, false_implies, w32_eq, w64_eq]
  try simp (disch := omega) only [yc_lt, yc_le, yc_gt, yc_ge, yc_eq, w32_eq, w64_eq, tn_add, tn_mul, Int.toNat_natCast, Int.reduceToNat, not_true, not_false_iff, false_implies, forall_const, implies_true]
  repeat' (with_reducible first | apply And.intro | intro _)
  all_goals try omega
  all_goals try simp (disch := omega) only [w32_eq, w64_eq, tn_add, tn_mul, Int.toNat_natCast, Int.reduceToNat, Option.some.injEq, Sum.inr.injEq, Sum.inl.injEq]
  all_goals try omega
  all_goals try exact (l1).weak rfl (by simp [lle] <;> omega)
end
