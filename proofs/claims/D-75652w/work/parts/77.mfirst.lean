/-! THE REFERENCE: where a word is first -/
set_option maxRecDepth 100000
/-- where the walk down to the first word stands -/
def InvF (bec : Nat → Nat → List Nat) (std tbl ws : List Nat) (k c q its : Nat) : Prop :=
  (k = 0 ∧ q = 0 ∧ its = 0 ∨ 0 < k ∧ c < 6 ∧ (rnQ ws q (curW bec std tbl k c)).2 ≠ 0) ∧ q < ws.length ∧ its + (curW bec std tbl k c).length ≤ (wrd bec std tbl).length ∧
  ((rnQ ws q (curW bec std tbl k c)).2 ≠ 0 → (rnQ ws 0 (wrd bec std tbl)).2 ≠ 0 ∧ fhQ ws 0 (wrd bec std tbl) = its + fhQ ws q (curW bec std tbl k c))
theorem InvF.next {bec : Nat → Nat → List Nat} {std tbl ws : List Nat} {k c q its : Nat} (hI : InvF bec std tbl ws k c q its) (hk : k ≤ tbl.length) (hd6 : ∀ d ∈ rowL bec std tbl k c, d < 6) {i : Nat} (hi : i < (rowL bec std tbl k c).length)
    (h0 : (rnQ ws q (((rowL bec std tbl k c).take i).flatMap (exl bec (tbl.drop k)))).2 = 0) (h1 : (rnQ ws (rnQ ws q (((rowL bec std tbl k c).take i).flatMap (exl bec (tbl.drop k)))).1 (exl bec (tbl.drop k) ((rowL bec std tbl k c).getD i 0))).2 ≠ 0) :
    InvF bec std tbl ws (k + 1) ((rowL bec std tbl k c).getD i 0) (rnQ ws q (((rowL bec std tbl k c).take i).flatMap (exl bec (tbl.drop k)))).1 (its + (((rowL bec std tbl k c).take i).flatMap (exl bec (tbl.drop k))).length) := by
  obtain ⟨a1, a2, a3, a4⟩ := hI
  rw [curW_row bec std hk, fm_split (exl bec (tbl.drop k)) _ hi] at a3 a4
  rw [List.length_append, List.length_append] at a3
  have hV : (rnQ ws q (((rowL bec std tbl k c).take i).flatMap (exl bec (tbl.drop k)) ++ (exl bec (tbl.drop k) ((rowL bec std tbl k c).getD i 0) ++ ((rowL bec std tbl k c).drop (i + 1)).flatMap (exl bec (tbl.drop k))))).2 ≠ 0 := by
    rw [rnQ_app, rnQ_app]
    show (rnQ ws q _).2 + ((rnQ ws _ _).2 + _) ≠ 0
    omega
  obtain ⟨b1, b2⟩ := a4 hV
  rw [fhQ_app _ _ _ _ h0, fhQ_app2 _ _ _ _ h1] at b2
  refine ⟨Or.inr ⟨Nat.succ_pos _, hd6 _ (getD_mem hi), by rw [curW_succ]; exact h1⟩, rnQ_lt _ _ a2, by rw [curW_succ]; omega, fun _ => ⟨b1, ?_⟩⟩
  rw [curW_succ, b2]
  omega
section
variable {G : GT} {h : AH} {w : WD} {N : Int}
theorem c_X5_first (hF : FxA h) (hM : MdC h w) (hW : WOK N w) (t : Int) (ht : In32 t) :
    CnA G mX5_first 5 0 0 [.inr (.inr (124)), .inl (t)] h (fun r h1 => ∃ z, r = some (.inr (.inl (z))) ∧ firOK w t z ∧ MpC h h1 w) := by
  obtain ⟨x0, hF0, hM0⟩ := thr_0 hF hM
  have hfin : MpC h (hwr h 124 0 0) w := MpC.scr hF hM x0 (by decide) (by decide)
  have hno := c_X5_noWord (G := G) hF0 hM0 hW t ht
  have hin := wordF_in w t
  by_cases q0 : wordF w t = 0
  · have hfo : ∀ z, FirOK (wsN (trV w t)) (wrdS (wS w) (wA w)) z → firOK w t z := fun z hz => by unfold firOK; rw [if_pos q0]; exact hz
    rw [q0] at hno
    obtain ⟨n, q, rfl, hn, hq, hvv, hlen, hl5⟩ := wordF_0 q0
    rw [hvv] at hfo
    have hTM : TrM (hwr h 124 0 0) n q.2 := by
      have := hM0.2.2.2.2.2 n hn
      rw [hq] at this
      exact this.2
    generalize q.2 = vs at *
    have hA : AllC (hdt h 125) (sT (wS w)) (sB (wS w)) (sS (wS w)) (wA w).1 (wA w).2.1 (wA w).2.2 := hM.1.1.1
    have hL : (wrd (sB (wS w)) (sS (wS w)) (wA w).1).length ≤ 1000000000000 := hW.2.1.2.2.2.2
    refine CnA.of rfl (Nat.le_of_ble_eq_true rfl) ?_
    simp only [largs, lpad, mr_X5_first]
    refine vsA_ok tk_X5_first rfl 10 ?_
    simp only [at_X5_first, mr_X5_first, vsA, vcA, denA, lget, lset, lst1, lst2, lclr, argsA, restA, acats, acat, tcA, tcN, rzA, lle, List.length_cons, List.length_nil, Option.toList_some, Option.toList_none, List.cons_append, List.nil_append, eG, eM, eD, eC, eS, eQ, eH, if_true, if_false, Nat.reduceAdd, Nat.reduceLeDiff, Nat.reduceEqDiff, Nat.reduceLT, Nat.reduceSub, Int.reduceEq, Int.reduceLE, Int.reduceToNat, reduceCtorEq, reduceIte, Nat.reduceBEq, Int.reduceNeg, not_true, not_false_iff, true_and, and_true, true_or, or_true, false_or, or_false, forall_const, implies_true, Nat.le_refl, Int.toNat_natCast, Int.reduceLT, ne_eq, Fin.isValue, Nat.add_zero, nC_hrw, nS_hrw, nC_hwr, nS_hwr, hkd_hrw, hkd_hwr, fin4_0, fin4_1, fin4_2, fin4_3, fin2_0, fin2_1, ci0, ci1, cnn, false_implies, w32_eq, w64_eq, hF.m, hF0.m]
    try simp (disch := omega) only [yc_lt, yc_le, yc_gt, yc_ge, yc_eq, w32_eq, w64_eq, tn_add, tn_mul, Int.toNat_natCast, Int.reduceToNat, not_true, not_false_iff, false_implies, forall_const, implies_true]
    repeat' (with_reducible first | apply And.intro | intro _)
    all_goals try omega
    all_goals try simp (disch := omega) only [w32_eq, w64_eq, tn_add, tn_mul, Int.toNat_natCast, Int.reduceToNat, Option.some.injEq, Sum.inr.injEq, Sum.inl.injEq]
    all_goals try omega
    refine ClA.pure (hno) (by first | exact Nat.le_of_ble_eq_true rfl | (simp only [eD]; omega)) (by first | exact Nat.le_refl _ | (simp only [eG, eD, eC, eS, eQ, eH, nC_hrw, nC_hwr, nS_hrw, nS_hwr, nC_hnw, nS_hnw]; omega)) (by first | exact Nat.le_refl _ | (simp only [eG, eD, eC, eS, eQ, eH, nC_hrw, nC_hwr, nS_hrw, nS_hwr, nC_hnw, nS_hnw]; omega)) ?_
    refine vsA_ok tk_X5_first rfl 10 ?_
    simp only [at_X5_first, mr_X5_first, vsA, vcA, denA, lget, lset, lst1, lst2, lclr, argsA, restA, acats, acat, tcA, tcN, rzA, lle, List.length_cons, List.length_nil, Option.toList_some, Option.toList_none, List.cons_append, List.nil_append, eG, eM, eD, eC, eS, eQ, eH, if_true, if_false, Nat.reduceAdd, Nat.reduceLeDiff, Nat.reduceEqDiff, Nat.reduceLT, Nat.reduceSub, Int.reduceEq, Int.reduceLE, Int.reduceToNat, reduceCtorEq, reduceIte, Nat.reduceBEq, Int.reduceNeg, not_true, not_false_iff, true_and, and_true, true_or, or_true, false_or, or_false, forall_const, implies_true, Nat.le_refl, Int.toNat_natCast, Int.reduceLT, ne_eq, Fin.isValue, Nat.add_zero, nC_hrw, nS_hrw, nC_hwr, nS_hwr, hkd_hrw, hkd_hwr, fin4_0, fin4_1, fin4_2, fin4_3, fin2_0, fin2_1, ci0, ci1, cnn, false_implies, w32_eq, w64_eq, hF0.m]
    try simp (disch := omega) only [yc_lt, yc_le, yc_gt, yc_ge, yc_eq, w32_eq, w64_eq, tn_add, tn_mul, Int.toNat_natCast, Int.reduceToNat, not_true, not_false_iff, false_implies, forall_const, implies_true]
    repeat' (with_reducible first | apply And.intro | intro _)
    all_goals try omega
    all_goals try simp (disch := omega) only [w32_eq, w64_eq, tn_add, tn_mul, Int.toNat_natCast, Int.reduceToNat, Option.some.injEq, Sum.inr.injEq, Sum.inl.injEq]
    all_goals try omega
    refine ClA.of (c_X5_laysSpelling hF0 hTM hn hlen.2) (by first | exact Nat.le_of_ble_eq_true rfl | (simp only [eD]; omega)) (by first | exact Nat.le_refl _ | (simp only [eG, eD, eC, eS, eQ, eH, nC_hrw, nC_hwr, nS_hrw, nS_hwr, nC_hnw, nS_hnw]; omega)) (by first | exact Nat.le_refl _ | (simp only [eG, eD, eC, eS, eQ, eH, nC_hrw, nC_hwr, nS_hrw, nS_hwr, nC_hnw, nS_hnw]; omega)) ?_
    rintro _ h2 ⟨rfl, hx2, hS2⟩ - -
    obtain ⟨hSn, hwl, hw6⟩ := hS2.nat hl5
    have hx2' : FrM [130, 136, 137, 138] [0, 29] h h2 := (FrM.up x0 (by decide) (by decide)).tr (FrM.up hx2 (by decide) (by decide))
    have hF2 := hF.frm hx2' (by decide +kernel)
    have c2 := hx2'.2.1
    have hA2 : AllC (hdt h2 125) (sT (wS w)) (sB (wS w)) (sS (wS w)) (wA w).1 (wA w).2.1 (wA w).2.2 := by rw [FrM.c hx2' (b := 125) (by decide) (by decide)]; exact hA
    refine vsA_ok tk_X5_first rfl 10 ?_
    simp only [at_X5_first, mr_X5_first, vsA, vcA, denA, lget, lset, lst1, lst2, lclr, argsA, restA, acats, acat, tcA, tcN, rzA, lle, List.length_cons, List.length_nil, Option.toList_some, Option.toList_none, List.cons_append, List.nil_append, eG, eM, eD, eC, eS, eQ, eH, if_true, if_false, Nat.reduceAdd, Nat.reduceLeDiff, Nat.reduceEqDiff, Nat.reduceLT, Nat.reduceSub, Int.reduceEq, Int.reduceLE, Int.reduceToNat, reduceCtorEq, reduceIte, Nat.reduceBEq, Int.reduceNeg, not_true, not_false_iff, true_and, and_true, true_or, or_true, false_or, or_false, forall_const, implies_true, Nat.le_refl, Int.toNat_natCast, Int.reduceLT, ne_eq, Fin.isValue, Nat.add_zero, nC_hrw, nS_hrw, nC_hwr, nS_hwr, hkd_hrw, hkd_hwr, fin4_0, fin4_1, fin4_2, fin4_3, fin2_0, fin2_1, ci0, ci1, cnn, false_implies, w32_eq, w64_eq, hF2.m]
    try simp (disch := omega) only [yc_lt, yc_le, yc_gt, yc_ge, yc_eq, w32_eq, w64_eq, tn_add, tn_mul, Int.toNat_natCast, Int.reduceToNat, not_true, not_false_iff, false_implies, forall_const, implies_true]
    repeat' (with_reducible first | apply And.intro | intro _)
    all_goals try omega
    all_goals try simp (disch := omega) only [w32_eq, w64_eq, tn_add, tn_mul, Int.toNat_natCast, Int.reduceToNat, Option.some.injEq, Sum.inr.injEq, Sum.inl.injEq]
    all_goals try omega
    refine ClA.of (c_X5_laysHits hF2 hA2 hSn (by omega) hw6) (by first | exact Nat.le_of_ble_eq_true rfl | (simp only [eD]; omega)) (by first | exact Nat.le_refl _ | (simp only [eG, eD, eC, eS, eQ, eH, nC_hrw, nC_hwr, nS_hrw, nS_hwr, nC_hnw, nS_hnw]; omega)) (by first | exact Nat.le_refl _ | (simp only [eG, eD, eC, eS, eQ, eH, nC_hrw, nC_hwr, nS_hrw, nS_hwr, nC_hnw, nS_hnw]; omega)) ?_
    rintro _ h3 ⟨rfl, hx3, hH⟩ - -
    have hx3' : FrM [130, 136, 137, 138] [0, 29] h h3 := hx2'.tr (FrM.up hx3 (by decide) (by decide))
    have hF3 := hF.frm hx3' (by decide +kernel)
    have c3 := hx3'.2.1
    have hA3 : AllC (hdt h3 125) (sT (wS w)) (sB (wS w)) (sS (wS w)) (wA w).1 (wA w).2.1 (wA w).2.2 := by rw [FrM.c hx3' (b := 125) (by decide) (by decide)]; exact hA
    refine vsA_ok tk_X5_first rfl 10 ?_
    simp only [at_X5_first, mr_X5_first, vsA, vcA, denA, lget, lset, lst1, lst2, lclr, argsA, restA, acats, acat, tcA, tcN, rzA, lle, List.length_cons, List.length_nil, Option.toList_some, Option.toList_none, List.cons_append, List.nil_append, eG, eM, eD, eC, eS, eQ, eH, if_true, if_false, Nat.reduceAdd, Nat.reduceLeDiff, Nat.reduceEqDiff, Nat.reduceLT, Nat.reduceSub, Int.reduceEq, Int.reduceLE, Int.reduceToNat, reduceCtorEq, reduceIte, Nat.reduceBEq, Int.reduceNeg, not_true, not_false_iff, true_and, and_true, true_or, or_true, false_or, or_false, forall_const, implies_true, Nat.le_refl, Int.toNat_natCast, Int.reduceLT, ne_eq, Fin.isValue, Nat.add_zero, nC_hrw, nS_hrw, nC_hwr, nS_hwr, hkd_hrw, hkd_hwr, fin4_0, fin4_1, fin4_2, fin4_3, fin2_0, fin2_1, ci0, ci1, cnn, false_implies, w32_eq, w64_eq, hF3.m]
    try simp (disch := omega) only [yc_lt, yc_le, yc_gt, yc_ge, yc_eq, w32_eq, w64_eq, tn_add, tn_mul, Int.toNat_natCast, Int.reduceToNat, not_true, not_false_iff, false_implies, forall_const, implies_true]
    repeat' (with_reducible first | apply And.intro | intro _)
    all_goals try omega
    all_goals try simp (disch := omega) only [w32_eq, w64_eq, tn_add, tn_mul, Int.toNat_natCast, Int.reduceToNat, Option.some.injEq, Sum.inr.injEq, Sum.inl.injEq]
    all_goals try omega
    refine ClA.of (c_X5_laysLong hF3 hA3) (by first | exact Nat.le_of_ble_eq_true rfl | (simp only [eD]; omega)) (by first | exact Nat.le_refl _ | (simp only [eG, eD, eC, eS, eQ, eH, nC_hrw, nC_hwr, nS_hrw, nS_hwr, nC_hnw, nS_hnw]; omega)) (by first | exact Nat.le_refl _ | (simp only [eG, eD, eC, eS, eQ, eH, nC_hrw, nC_hwr, nS_hrw, nS_hwr, nC_hnw, nS_hnw]; omega)) ?_
    rintro _ h4 ⟨rfl, f, rfl, hf⟩ - -
    have hx4 : FrM [130, 136, 137, 138] [0, 29] h (hrw h3 130 f) := hx3'.rc (by decide) f
    have e130 : hdt (hrw h3 130 f) 130 = f := hdt_hrw_s _ _ _
    have hH4 : ∀ k c q, k ≤ (wA w).1.length → c < 6 → q < (wsN vs).length → HtI (hrw h3 130 f) (sB (wS w)) (wA w).1 (wsN vs) k c q := fun k c q a1 a2 a3 => by
      have := hH k c q a1 a2 a3
      unfold HtI at this ⊢
      rw [hdt_hrw_n _ _ (by decide), hdt_hrw_n _ _ (by decide)]
      exact this
    have e29 : hdt (hrw h3 130 f) 124 29 = ((wsN vs).length : Int) := by rw [hdt_hrw_n _ _ (by decide), FrM.f hx3 (by decide) (by decide)]; exact hSn.1
    generalize hrw h3 130 f = h4 at *
    have hF4 := hF.frm hx4 (by decide +kernel)
    have c4 := hx4.2.1
    have hA4 : AllC (hdt h4 125) (sT (wS w)) (sB (wS w)) (sS (wS w)) (wA w).1 (wA w).2.1 (wA w).2.2 := by rw [FrM.c hx4 (b := 125) (by decide) (by decide)]; exact hA
    have hfin4 : MpC h h4 w := MpC.scr hF hM hx4 (by decide) (by decide)
    have hsz := hA4.sz
    have hq4 := hA4.q
    have hfir := fhQ_fir (ws := wsN vs) (by omega) (wrdS (wS w) (wA w))
    have hwp : 1 ≤ (wsN vs).length ∧ (wsN vs).length ≤ 6 := by omega
    generalize wsN vs = ws at *
    unfold wrdS at hfir hfo
    generalize sB (wS w) = bec at *
    generalize sS (wS w) = std at *
    generalize (wA w).1 = tbl at *
    generalize hE : ((G, mX5_first, _, _, _, _, h) : EV) = E
    have he : endC = 9223372036854775807 := rfl
    have L1 : ∀ k, k ≤ tbl.length + 1 → ∀ (c : Nat) (cz : Int) (q its : Nat), (k = 0 ∨ cz = (c : Int)) → InvF bec std tbl ws k c q its →
        ExA E 42 [some (.inr (.inr (124))), some (.inl ((n : Int))), some (.inl (0)), some (.inl ((q : Int))), some (.inr (.inl ((its : Int)))), none, some (.inl (cz)), some (.inl ((k : Int))), none, none] [] h4 := by
      refine lpI _ fun k hk ih c cz q its hcz hI => ?_
      by_cases hkn : k ≤ tbl.length
      · have hrl := row_lt hA4 (c := c) hkn (by rcases hI.1 with q | q; exact Or.inl q.1; exact Or.inr q.2.1)
        have hcz' : k = 0 ∨ cz = (c : Int) ∧ c < 6 := by
          rcases hI.1 with q | q
          · exact Or.inl q.1
          · exact Or.inr ⟨hcz.resolve_left (by omega), q.2.1⟩
        have hlenV := hI.2.2.1
        rw [curW_row bec std hkn] at hlenV
        have L2 : ∀ i, i ≤ (rowL bec std tbl k c).length → (rnQ ws q (((rowL bec std tbl k c).take i).flatMap (exl bec (tbl.drop k)))).2 = 0 →
            ExA E 70 [some (.inr (.inr (124))), some (.inl ((n : Int))), some (.inl (0)), some (.inl ((((rnQ ws q (((rowL bec std tbl k c).take i).flatMap (exl bec (tbl.drop k)))).1 : Nat) : Int))), some (.inr (.inl (((its + (((rowL bec std tbl k c).take i).flatMap (exl bec (tbl.drop k))).length : Nat) : Int)))), none, some (.inl (cz)), some (.inl ((k : Int))), some (.inl ((i : Int))), some (.inl ((if i < (rowL bec std tbl k c).length then (((rowL bec std tbl k c).getD i 0 : Nat) : Int) else -1)))] [] h4 := by
          refine lpI _ fun i hi ih2 h0 => ?_
          have hql := rnQ_lt (ws := ws) (((rowL bec std tbl k c).take i).flatMap (exl bec (tbl.drop k))) q hI.2.1
          by_cases hil : i < (rowL bec std tbl k c).length
          · rw [if_pos hil]
            have hd6 := hrl.2 _ (getD_mem hil)
            have hdl := fm_len1 (exl bec (tbl.drop k)) (getD_mem hil)
            have hlt := fm_len (exl bec (tbl.drop k)) (rowL bec std tbl k c) hi
            rw [← List.length_flatMap] at hlt
            have hro := hf k _ hkn hd6
            rw [swtE_len, ← e130] at hro
            have hh := hH4 k ((rowL bec std tbl k c).getD i 0) _ hkn hd6 hql
            have hnle := rnQ_le ws (exl bec (tbl.drop k) ((rowL bec std tbl k c).getD i 0)) (rnQ ws q (((rowL bec std tbl k c).take i).flatMap (exl bec (tbl.drop k)))).1
            have hnx := fun h1 => ih (by omega) _ (((rowL bec std tbl k c).getD i 0 : Nat) : Int) _ _ (Or.inr rfl) (hI.next hkn hrl.2 hil h0 h1)
            have hn2 := ih2 hil
            rw [fm_takeS _ _ hil, rnQ_app, List.length_append] at hn2
            have hpo := c_X5_partOf (G := G) hF4 hA4 (i := i + 1) hkn hcz' (by omega)
            have hAle : its + (((rowL bec std tbl k c).take i).flatMap (exl bec (tbl.drop k))).length ≤ 1000000000000 := by omega
            generalize ((rowL bec std tbl k c).take i).flatMap (exl bec (tbl.drop k)) = A at *
            generalize (rowL bec std tbl k c).getD i 0 = d at *
            rw [show min endC (exl bec (tbl.drop k) d).length = (exl bec (tbl.drop k) d).length by omega] at hro
            generalize rnQ ws q A = st at *
            obtain ⟨q2, s2⟩ := st
            have h0 : s2 = 0 := h0
            subst h0
            have hql : q2 < ws.length := hql
            obtain ⟨e36, e38⟩ := hh
            have e36 : hdt h4 136 (6 * (6 * k + d) + q2) = (((rnQ ws q2 (exl bec (tbl.drop k) d)).1 : Nat) : Int) := e36
            have e38 : hdt h4 138 (6 * (6 * k + d) + q2) = ((min endC (rnQ ws q2 (exl bec (tbl.drop k) d)).2 : Nat) : Int) := e38
            have hnle : (rnQ ws q2 (exl bec (tbl.drop k) d)).2 ≤ (exl bec (tbl.drop k) d).length := hnle
            rw [show min endC (rnQ ws q2 (exl bec (tbl.drop k) d)).2 = (rnQ ws q2 (exl bec (tbl.drop k) d)).2 by omega] at e38
            have ej : (6 * (6 * (k : Int) + (d : Int)) + (q2 : Int)).toNat = 6 * (6 * k + d) + q2 := by omega
            have ek : (6 * (k : Int) + (d : Int)).toNat = 6 * k + d := by omega
            by_cases qz : (rnQ ws q2 (exl bec (tbl.drop k) d)).2 = 0
            · have hn2 := hn2 (by show 0 + (rnQ ws q2 (exl bec (tbl.drop k) d)).2 = 0; omega)
              rw [qz] at e38
              have hn2 : ExA E 70 [some (.inr (.inr (124))), some (.inl ((n : Int))), some (.inl (0)), some (.inl ((((rnQ ws q2 (exl bec (tbl.drop k) d)).1 : Nat) : Int))), some (.inr (.inl (((its + (A.length + (exl bec (tbl.drop k) d).length) : Nat) : Int)))), none, some (.inl (cz)), some (.inl ((k : Int))), some (.inl (((i + 1 : Nat) : Int))), some (.inl ((if i + 1 < (rowL bec std tbl k c).length then (((rowL bec std tbl k c).getD (i + 1) 0 : Nat) : Int) else -1)))] [] h4 := hn2
              generalize (rnQ ws q2 (exl bec (tbl.drop k) d)).1 = q3 at *
              generalize (exl bec (tbl.drop k) d).length = dl at *
              subst hE
              refine vsA_ok tk_X5_first rfl 60 ?_
              simp only [at_X5_first, mr_X5_first, vsA, vcA, denA, lget, lset, lst1, lst2, lclr, argsA, restA, acats, acat, tcA, tcN, rzA, lle, List.length_cons, List.length_nil, Option.toList_some, Option.toList_none, List.cons_append, List.nil_append, eG, eM, eD, eC, eS, eQ, eH, if_true, if_false, Nat.reduceAdd, Nat.reduceLeDiff, Nat.reduceEqDiff, Nat.reduceLT, Nat.reduceSub, Int.reduceEq, Int.reduceLE, Int.reduceToNat, reduceCtorEq, reduceIte, Nat.reduceBEq, Int.reduceNeg, not_true, not_false_iff, true_and, and_true, true_or, or_true, false_or, or_false, forall_const, implies_true, Nat.le_refl, Int.toNat_natCast, Int.reduceLT, ne_eq, Fin.isValue, Nat.add_zero, nC_hrw, nS_hrw, nC_hwr, nS_hwr, hkd_hrw, hkd_hwr, fin4_0, fin4_1, fin4_2, fin4_3, fin2_0, fin2_1, ci0, ci1, cnn, false_implies, w32_eq, w64_eq, hF4.m]
              try simp (disch := omega) only [yc_lt, yc_le, yc_gt, yc_ge, yc_eq, w32_eq, w64_eq, tn_add, tn_mul, Int.toNat_natCast, Int.reduceToNat, not_true, not_false_iff, false_implies, forall_const, implies_true, ej, ek, e38, hro, e36]
              repeat' (with_reducible first | apply And.intro | intro _)
              all_goals try omega
              all_goals try simp (disch := omega) only [w32_eq, w64_eq, tn_add, tn_mul, Int.toNat_natCast, Int.reduceToNat, Option.some.injEq, Sum.inr.injEq, Sum.inl.injEq, ej, ek, e38, hro, e36]
              all_goals try omega
              refine ClA.pure (hpo) (by first | exact Nat.le_of_ble_eq_true rfl | (simp only [eD]; omega)) (by first | exact Nat.le_refl _ | (simp only [eG, eD, eC, eS, eQ, eH, nC_hrw, nC_hwr, nS_hrw, nS_hwr, nC_hnw, nS_hnw]; omega)) (by first | exact Nat.le_refl _ | (simp only [eG, eD, eC, eS, eQ, eH, nC_hrw, nC_hwr, nS_hrw, nS_hwr, nC_hnw, nS_hnw]; omega)) ?_
              refine vsA_ok tk_X5_first rfl 10 ?_
              simp only [at_X5_first, mr_X5_first, vsA, vcA, denA, lget, lset, lst1, lst2, lclr, argsA, restA, acats, acat, tcA, tcN, rzA, lle, List.length_cons, List.length_nil, Option.toList_some, Option.toList_none, List.cons_append, List.nil_append, eG, eM, eD, eC, eS, eQ, eH, if_true, if_false, Nat.reduceAdd, Nat.reduceLeDiff, Nat.reduceEqDiff, Nat.reduceLT, Nat.reduceSub, Int.reduceEq, Int.reduceLE, Int.reduceToNat, reduceCtorEq, reduceIte, Nat.reduceBEq, Int.reduceNeg, not_true, not_false_iff, true_and, and_true, true_or, or_true, false_or, or_false, forall_const, implies_true, Nat.le_refl, Int.toNat_natCast, Int.reduceLT, ne_eq, Fin.isValue, Nat.add_zero, nC_hrw, nS_hrw, nC_hwr, nS_hwr, hkd_hrw, hkd_hwr, fin4_0, fin4_1, fin4_2, fin4_3, fin2_0, fin2_1, ci0, ci1, cnn, false_implies, w32_eq, w64_eq]
              try simp (disch := omega) only [yc_lt, yc_le, yc_gt, yc_ge, yc_eq, w32_eq, w64_eq, tn_add, tn_mul, Int.toNat_natCast, Int.reduceToNat, not_true, not_false_iff, false_implies, forall_const, implies_true]
              repeat' (with_reducible first | apply And.intro | intro _)
              all_goals try omega
              all_goals try simp (disch := omega) only [w32_eq, w64_eq, tn_add, tn_mul, Int.toNat_natCast, Int.reduceToNat, Option.some.injEq, Sum.inr.injEq, Sum.inl.injEq]
              all_goals try omega
              all_goals try exact (hn2).weak rfl (by simp [lle] <;> omega)
            · have hny : ExA E 42 [some (.inr (.inr (124))), some (.inl ((n : Int))), some (.inl (0)), some (.inl ((q2 : Int))), some (.inr (.inl (((its + A.length : Nat) : Int)))), none, some (.inl ((d : Int))), some (.inl (((k + 1 : Nat) : Int))), none, none] [] h4 := hnx qz
              generalize (rnQ ws q2 (exl bec (tbl.drop k) d)).2 = nh at *
              subst hE
              refine vsA_ok tk_X5_first rfl 40 ?_
              simp only [at_X5_first, mr_X5_first, vsA, vcA, denA, lget, lset, lst1, lst2, lclr, argsA, restA, acats, acat, tcA, tcN, rzA, lle, List.length_cons, List.length_nil, Option.toList_some, Option.toList_none, List.cons_append, List.nil_append, eG, eM, eD, eC, eS, eQ, eH, if_true, if_false, Nat.reduceAdd, Nat.reduceLeDiff, Nat.reduceEqDiff, Nat.reduceLT, Nat.reduceSub, Int.reduceEq, Int.reduceLE, Int.reduceToNat, reduceCtorEq, reduceIte, Nat.reduceBEq, Int.reduceNeg, not_true, not_false_iff, true_and, and_true, true_or, or_true, false_or, or_false, forall_const, implies_true, Nat.le_refl, Int.toNat_natCast, Int.reduceLT, ne_eq, Fin.isValue, Nat.add_zero, nC_hrw, nS_hrw, nC_hwr, nS_hwr, hkd_hrw, hkd_hwr, fin4_0, fin4_1, fin4_2, fin4_3, fin2_0, fin2_1, ci0, ci1, cnn, false_implies, w32_eq, w64_eq, hF4.m]
              try simp (disch := omega) only [yc_lt, yc_le, yc_gt, yc_ge, yc_eq, w32_eq, w64_eq, tn_add, tn_mul, Int.toNat_natCast, Int.reduceToNat, not_true, not_false_iff, false_implies, forall_const, implies_true, ej, e38]
              repeat' (with_reducible first | apply And.intro | intro _)
              all_goals try omega
              all_goals try simp (disch := omega) only [w32_eq, w64_eq, tn_add, tn_mul, Int.toNat_natCast, Int.reduceToNat, Option.some.injEq, Sum.inr.injEq, Sum.inl.injEq, ej, e38]
              all_goals try omega
              all_goals try exact (hny).weak rfl (by simp [lle] <;> omega)
          · rw [if_neg hil]
            rw [List.take_of_length_le (by omega), ← curW_row bec std hkn] at h0
            have hk0 : k = 0 ∧ q = 0 ∧ its = 0 := by
              rcases hI.1 with a | a
              · exact a
              · exact absurd h0 a.2.2
            obtain ⟨rfl, rfl, rfl⟩ := hk0
            have h0 : (rnQ ws 0 (wrd bec std tbl)).2 = 0 := h0
            rw [if_pos h0] at hfir
            have hz := hfo _ hfir
            generalize (rnQ ws 0 (((rowL bec std tbl 0 c).take i).flatMap (exl bec (tbl.drop 0)))).1 = q2 at *
            subst hE
            refine vsA_ok tk_X5_first rfl 12 ?_
            simp only [at_X5_first, mr_X5_first, vsA, vcA, denA, lget, lset, lst1, lst2, lclr, argsA, restA, acats, acat, tcA, tcN, rzA, lle, List.length_cons, List.length_nil, Option.toList_some, Option.toList_none, List.cons_append, List.nil_append, eG, eM, eD, eC, eS, eQ, eH, if_true, if_false, Nat.reduceAdd, Nat.reduceLeDiff, Nat.reduceEqDiff, Nat.reduceLT, Nat.reduceSub, Int.reduceEq, Int.reduceLE, Int.reduceToNat, reduceCtorEq, reduceIte, Nat.reduceBEq, Int.reduceNeg, not_true, not_false_iff, true_and, and_true, true_or, or_true, false_or, or_false, forall_const, implies_true, Nat.le_refl, Int.toNat_natCast, Int.reduceLT, ne_eq, Fin.isValue, Nat.add_zero, nC_hrw, nS_hrw, nC_hwr, nS_hwr, hkd_hrw, hkd_hwr, fin4_0, fin4_1, fin4_2, fin4_3, fin2_0, fin2_1, ci0, ci1, cnn, false_implies, w32_eq, w64_eq, c4]
            try simp (disch := omega) only [yc_lt, yc_le, yc_gt, yc_ge, yc_eq, w32_eq, w64_eq, tn_add, tn_mul, Int.toNat_natCast, Int.reduceToNat, not_true, not_false_iff, false_implies, forall_const, implies_true]
            repeat' (with_reducible first | apply And.intro | intro _)
            all_goals try omega
            all_goals try simp (disch := omega) only [w32_eq, w64_eq, tn_add, tn_mul, Int.toNat_natCast, Int.reduceToNat, Option.some.injEq, Sum.inr.injEq, Sum.inl.injEq]
            all_goals try omega
            all_goals exact ⟨_, rfl, hz, hfin4⟩
        have l2 := L2 0 (Nat.zero_le _) (by rw [List.take_zero, List.flatMap_nil]; rfl)
        rw [List.take_zero, List.flatMap_nil, show rnQ ws q [] = (q, 0) from rfl, List.length_nil, Nat.add_zero] at l2
        subst hE
        refine vsA_ok tk_X5_first rfl 16 ?_
        simp only [at_X5_first, mr_X5_first, vsA, vcA, denA, lget, lset, lst1, lst2, lclr, argsA, restA, acats, acat, tcA, tcN, rzA, lle, List.length_cons, List.length_nil, Option.toList_some, Option.toList_none, List.cons_append, List.nil_append, eG, eM, eD, eC, eS, eQ, eH, if_true, if_false, Nat.reduceAdd, Nat.reduceLeDiff, Nat.reduceEqDiff, Nat.reduceLT, Nat.reduceSub, Int.reduceEq, Int.reduceLE, Int.reduceToNat, reduceCtorEq, reduceIte, Nat.reduceBEq, Int.reduceNeg, not_true, not_false_iff, true_and, and_true, true_or, or_true, false_or, or_false, forall_const, implies_true, Nat.le_refl, Int.toNat_natCast, Int.reduceLT, ne_eq, Fin.isValue, Nat.add_zero, nC_hrw, nS_hrw, nC_hwr, nS_hwr, hkd_hrw, hkd_hwr, fin4_0, fin4_1, fin4_2, fin4_3, fin2_0, fin2_1, ci0, ci1, cnn, false_implies, w32_eq, w64_eq, hF4.m, hq4]
        try simp (disch := omega) only [yc_lt, yc_le, yc_gt, yc_ge, yc_eq, w32_eq, w64_eq, tn_add, tn_mul, Int.toNat_natCast, Int.reduceToNat, not_true, not_false_iff, false_implies, forall_const, implies_true]
        repeat' (with_reducible first | apply And.intro | intro _)
        all_goals try omega
        all_goals try simp (disch := omega) only [w32_eq, w64_eq, tn_add, tn_mul, Int.toNat_natCast, Int.reduceToNat, Option.some.injEq, Sum.inr.injEq, Sum.inl.injEq]
        all_goals try omega
        refine ClA.pure (c_X5_partOf hF4 hA4 (i := 0) hkn hcz' (by omega)) (by first | exact Nat.le_of_ble_eq_true rfl | (simp only [eD]; omega)) (by first | exact Nat.le_refl _ | (simp only [eG, eD, eC, eS, eQ, eH, nC_hrw, nC_hwr, nS_hrw, nS_hwr, nC_hnw, nS_hnw]; omega)) (by first | exact Nat.le_refl _ | (simp only [eG, eD, eC, eS, eQ, eH, nC_hrw, nC_hwr, nS_hrw, nS_hwr, nC_hnw, nS_hnw]; omega)) ?_
        refine vsA_ok tk_X5_first rfl 1 ?_
        simp only [at_X5_first, mr_X5_first, vsA, vcA, denA, lget, lset, lst1, lst2, lclr, argsA, restA, acats, acat, tcA, tcN, rzA, lle, List.length_cons, List.length_nil, Option.toList_some, Option.toList_none, List.cons_append, List.nil_append, eG, eM, eD, eC, eS, eQ, eH, if_true, if_false, Nat.reduceAdd, Nat.reduceLeDiff, Nat.reduceEqDiff, Nat.reduceLT, Nat.reduceSub, Int.reduceEq, Int.reduceLE, Int.reduceToNat, reduceCtorEq, reduceIte, Nat.reduceBEq, Int.reduceNeg, not_true, not_false_iff, true_and, and_true, true_or, or_true, false_or, or_false, forall_const, implies_true, Nat.le_refl, Int.toNat_natCast, Int.reduceLT, ne_eq, Fin.isValue, Nat.add_zero, nC_hrw, nS_hrw, nC_hwr, nS_hwr, hkd_hrw, hkd_hwr, fin4_0, fin4_1, fin4_2, fin4_3, fin2_0, fin2_1, ci0, ci1, cnn, false_implies, w32_eq, w64_eq]
        try simp (disch := omega) only [yc_lt, yc_le, yc_gt, yc_ge, yc_eq, w32_eq, w64_eq, tn_add, tn_mul, Int.toNat_natCast, Int.reduceToNat, not_true, not_false_iff, false_implies, forall_const, implies_true]
        repeat' (with_reducible first | apply And.intro | intro _)
        all_goals try omega
        all_goals try simp (disch := omega) only [w32_eq, w64_eq, tn_add, tn_mul, Int.toNat_natCast, Int.reduceToNat, Option.some.injEq, Sum.inr.injEq, Sum.inl.injEq]
        all_goals try omega
        all_goals try exact (l2).weak rfl (by simp [lle] <;> omega)
      · have hk1 : k = tbl.length + 1 := by omega
        subst hk1
        have hcu : curW bec std tbl (tbl.length + 1) c = [c] := by
          rw [curW_succ, List.drop_length]
          rfl
        obtain ⟨b1, b2, b3, b4⟩ := hI
        rw [hcu] at b1 b3 b4
        have hne : (rnQ ws q [c]).2 ≠ 0 := by
          rcases b1 with a | a
          · omega
          · exact a.2.2
        obtain ⟨d1, d2⟩ := b4 hne
        have hh : htQ ws q c = true := by
          have hne : 0 + (if htQ ws q c = true then 1 else 0) ≠ 0 := hne
          by_cases a : htQ ws q c = true
          · exact a
          · rw [if_neg a] at hne
            omega
        rw [show fhQ ws q [c] = 0 from if_pos hh, Nat.add_zero] at d2
        rw [if_neg d1, d2] at hfir
        have hz := hfo _ hfir
        have b3 : its + 1 ≤ (wrd bec std tbl).length := b3
        subst hE
        refine vsA_ok tk_X5_first rfl 20 ?_
        simp only [at_X5_first, mr_X5_first, vsA, vcA, denA, lget, lset, lst1, lst2, lclr, argsA, restA, acats, acat, tcA, tcN, rzA, lle, List.length_cons, List.length_nil, Option.toList_some, Option.toList_none, List.cons_append, List.nil_append, eG, eM, eD, eC, eS, eQ, eH, if_true, if_false, Nat.reduceAdd, Nat.reduceLeDiff, Nat.reduceEqDiff, Nat.reduceLT, Nat.reduceSub, Int.reduceEq, Int.reduceLE, Int.reduceToNat, reduceCtorEq, reduceIte, Nat.reduceBEq, Int.reduceNeg, not_true, not_false_iff, true_and, and_true, true_or, or_true, false_or, or_false, forall_const, implies_true, Nat.le_refl, Int.toNat_natCast, Int.reduceLT, ne_eq, Fin.isValue, Nat.add_zero, nC_hrw, nS_hrw, nC_hwr, nS_hwr, hkd_hrw, hkd_hwr, fin4_0, fin4_1, fin4_2, fin4_3, fin2_0, fin2_1, ci0, ci1, cnn, false_implies, w32_eq, w64_eq, hF4.m, hq4, e29, c4]
        try simp (disch := omega) only [yc_lt, yc_le, yc_gt, yc_ge, yc_eq, w32_eq, w64_eq, tn_add, tn_mul, Int.toNat_natCast, Int.reduceToNat, not_true, not_false_iff, false_implies, forall_const, implies_true]
        repeat' (with_reducible first | apply And.intro | intro _)
        all_goals try omega
        all_goals try simp (disch := omega) only [w32_eq, w64_eq, tn_add, tn_mul, Int.toNat_natCast, Int.reduceToNat, Option.some.injEq, Sum.inr.injEq, Sum.inl.injEq]
        all_goals try omega
        all_goals exact ⟨_, rfl, hz, hfin4⟩
    have l1 := L1 0 (by omega) 0 (-1) 0 0 (Or.inl rfl) ⟨Or.inl ⟨rfl, rfl, rfl⟩, by omega, by show 0 + (wrd bec std tbl).length ≤ _; omega, fun a => ⟨a, by show _ = 0 + fhQ ws 0 (wrd bec std tbl); omega⟩⟩
    subst hE
    refine vsA_ok tk_X5_first rfl 12 ?_
    simp only [at_X5_first, mr_X5_first, vsA, vcA, denA, lget, lset, lst1, lst2, lclr, argsA, restA, acats, acat, tcA, tcN, rzA, lle, List.length_cons, List.length_nil, Option.toList_some, Option.toList_none, List.cons_append, List.nil_append, eG, eM, eD, eC, eS, eQ, eH, if_true, if_false, Nat.reduceAdd, Nat.reduceLeDiff, Nat.reduceEqDiff, Nat.reduceLT, Nat.reduceSub, Int.reduceEq, Int.reduceLE, Int.reduceToNat, reduceCtorEq, reduceIte, Nat.reduceBEq, Int.reduceNeg, not_true, not_false_iff, true_and, and_true, true_or, or_true, false_or, or_false, forall_const, implies_true, Nat.le_refl, Int.toNat_natCast, Int.reduceLT, ne_eq, Fin.isValue, Nat.add_zero, nC_hrw, nS_hrw, nC_hwr, nS_hwr, hkd_hrw, hkd_hwr, fin4_0, fin4_1, fin4_2, fin4_3, fin2_0, fin2_1, ci0, ci1, cnn, false_implies, w32_eq, w64_eq]
    try simp (disch := omega) only [yc_lt, yc_le, yc_gt, yc_ge, yc_eq, w32_eq, w64_eq, tn_add, tn_mul, Int.toNat_natCast, Int.reduceToNat, not_true, not_false_iff, false_implies, forall_const, implies_true]
    repeat' (with_reducible first | apply And.intro | intro _)
    all_goals try omega
    all_goals try simp (disch := omega) only [w32_eq, w64_eq, tn_add, tn_mul, Int.toNat_natCast, Int.reduceToNat, Option.some.injEq, Sum.inr.injEq, Sum.inl.injEq]
    all_goals try omega
    all_goals try exact (l1).weak rfl (by simp [lle] <;> omega)
  · have hfo : firOK w t (wordF w t) := by unfold firOK; rw [if_neg q0]
    refine CnA.of rfl (Nat.le_of_ble_eq_true rfl) ?_
    simp only [largs, lpad, mr_X5_first]
    refine vsA_ok tk_X5_first rfl 20 ?_
    simp only [at_X5_first, mr_X5_first, vsA, vcA, denA, lget, lset, lst1, lst2, lclr, argsA, restA, acats, acat, tcA, tcN, rzA, lle, List.length_cons, List.length_nil, Option.toList_some, Option.toList_none, List.cons_append, List.nil_append, eG, eM, eD, eC, eS, eQ, eH, if_true, if_false, Nat.reduceAdd, Nat.reduceLeDiff, Nat.reduceEqDiff, Nat.reduceLT, Nat.reduceSub, Int.reduceEq, Int.reduceLE, Int.reduceToNat, reduceCtorEq, reduceIte, Nat.reduceBEq, Int.reduceNeg, not_true, not_false_iff, true_and, and_true, true_or, or_true, false_or, or_false, forall_const, implies_true, Nat.le_refl, Int.toNat_natCast, Int.reduceLT, ne_eq, Fin.isValue, Nat.add_zero, nC_hrw, nS_hrw, nC_hwr, nS_hwr, hkd_hrw, hkd_hwr, fin4_0, fin4_1, fin4_2, fin4_3, fin2_0, fin2_1, ci0, ci1, cnn, false_implies, w32_eq, w64_eq, hF.m, hF0.m]
    try simp (disch := omega) only [yc_lt, yc_le, yc_gt, yc_ge, yc_eq, w32_eq, w64_eq, tn_add, tn_mul, Int.toNat_natCast, Int.reduceToNat, not_true, not_false_iff, false_implies, forall_const, implies_true]
    repeat' (with_reducible first | apply And.intro | intro _)
    all_goals try omega
    all_goals try simp (disch := omega) only [w32_eq, w64_eq, tn_add, tn_mul, Int.toNat_natCast, Int.reduceToNat, Option.some.injEq, Sum.inr.injEq, Sum.inl.injEq]
    all_goals try omega
    refine ClA.pure (hno) (by first | exact Nat.le_of_ble_eq_true rfl | (simp only [eD]; omega)) (by first | exact Nat.le_refl _ | (simp only [eG, eD, eC, eS, eQ, eH, nC_hrw, nC_hwr, nS_hrw, nS_hwr, nC_hnw, nS_hnw]; omega)) (by first | exact Nat.le_refl _ | (simp only [eG, eD, eC, eS, eQ, eH, nC_hrw, nC_hwr, nS_hrw, nS_hwr, nC_hnw, nS_hnw]; omega)) ?_
    refine vsA_ok tk_X5_first rfl 20 ?_
    simp only [at_X5_first, mr_X5_first, vsA, vcA, denA, lget, lset, lst1, lst2, lclr, argsA, restA, acats, acat, tcA, tcN, rzA, lle, List.length_cons, List.length_nil, Option.toList_some, Option.toList_none, List.cons_append, List.nil_append, eG, eM, eD, eC, eS, eQ, eH, if_true, if_false, Nat.reduceAdd, Nat.reduceLeDiff, Nat.reduceEqDiff, Nat.reduceLT, Nat.reduceSub, Int.reduceEq, Int.reduceLE, Int.reduceToNat, reduceCtorEq, reduceIte, Nat.reduceBEq, Int.reduceNeg, not_true, not_false_iff, true_and, and_true, true_or, or_true, false_or, or_false, forall_const, implies_true, Nat.le_refl, Int.toNat_natCast, Int.reduceLT, ne_eq, Fin.isValue, Nat.add_zero, nC_hrw, nS_hrw, nC_hwr, nS_hwr, hkd_hrw, hkd_hwr, fin4_0, fin4_1, fin4_2, fin4_3, fin2_0, fin2_1, ci0, ci1, cnn, false_implies, w32_eq, w64_eq]
    try simp (disch := omega) only [yc_lt, yc_le, yc_gt, yc_ge, yc_eq, w32_eq, w64_eq, tn_add, tn_mul, Int.toNat_natCast, Int.reduceToNat, not_true, not_false_iff, false_implies, forall_const, implies_true]
    repeat' (with_reducible first | apply And.intro | intro _)
    all_goals try omega
    all_goals try simp (disch := omega) only [w32_eq, w64_eq, tn_add, tn_mul, Int.toNat_natCast, Int.reduceToNat, Option.some.injEq, Sum.inr.injEq, Sum.inl.injEq]
    all_goals try omega
    all_goals exact ⟨_, rfl, hfo, hfin⟩
end
