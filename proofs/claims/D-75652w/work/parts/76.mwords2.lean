/-! THE REFERENCE: words in the street -/
set_option maxRecDepth 100000
theorem nxQ_lt {ws : List Nat} {q c : Nat} (h1 : q < ws.length) : nxQ ws q c < ws.length := by
  unfold nxQ
  by_cases e : htQ ws q c = true
  · rw [if_pos e]
    have := schN_le (fun n => rdB ws n q c) (ws.length - 1)
    omega
  · rw [if_neg e]
    have hle := schN_le (fun n => rdB ws n q c) (q + 1)
    rcases Nat.lt_or_ge (schN (fun n => rdB ws n q c) (q + 1)) ws.length with a | a
    · exact a
    · exfalso
      have hq : q = ws.length - 1 := by omega
      have hs : schN (fun n => rdB ws n q c) (q + 1) = q + 1 := by omega
      rcases schN_is (fun n => rdB ws n q c) (q + 1) with b | b
      · omega
      · rw [hs] at b
        have b : rdB ws (q + 1) q c = true := b
        rw [rdB_sx (by omega)] at b
        refine e ?_
        unfold htQ
        rw [decide_eq_true_eq]
        exact ⟨hq, b.2.1⟩
theorem rnQ_lt {ws : List Nat} : ∀ (W : List Nat) (q : Nat), q < ws.length → (rnQ ws q W).1 < ws.length
  | [], q, h => h
  | c :: W, q, h => rnQ_lt W (nxQ ws q c) (nxQ_lt h)
def wsN (vs : List Int) : List Nat := vs.map Int.toNat
def SpN (h : AH) (ws : List Nat) : Prop := hdt h 124 29 = (ws.length : Int) ∧ ∀ i, i < ws.length → hdt h 137 i = ((ws.getD i 0 : Nat) : Int)
theorem SpC.nat {h : AH} {vs : List Int} (hS : SpC h vs) (hl : ∀ i, i < vs.length → 0 ≤ vs.getD i 0 ∧ vs.getD i 0 ≤ 5) : SpN h (wsN vs) ∧ (wsN vs).length = vs.length ∧ ∀ i, i < (wsN vs).length → (wsN vs).getD i 0 < 6 := by
  have hlen : (wsN vs).length = vs.length := List.length_map ..
  have hat : ∀ i, i < vs.length → (wsN vs).getD i 0 = (vs.getD i 0).toNat := fun i hi => by
    unfold wsN
    simp [hi]
  refine ⟨⟨by rw [hlen]; exact hS.1, fun i hi => ?_⟩, hlen, fun i hi => ?_⟩
  · rw [hlen] at hi
    have := hl i hi
    rw [hS.2 i hi, hat i hi]
    omega
  · rw [hlen] at hi
    have := hl i hi
    rw [hat i hi]
    omega
theorem fm_takeS (F : Nat → List Nat) (l : List Nat) {i : Nat} (hi : i < l.length) : (l.take (i + 1)).flatMap F = (l.take i).flatMap F ++ F (l.getD i 0) := by
  rw [List.take_add_one, List.getElem?_eq_getElem hi, List.flatMap_append]
  simp [hi]
/-- what is laid of one letter of a level, for one state -/
def HtI (h : AH) (bec : Nat → Nat → List Nat) (tbl ws : List Nat) (k c q : Nat) : Prop := hdt h 136 (6 * (6 * k + c) + q) = (((rnQ ws q (exl bec (tbl.drop k) c)).1 : Nat) : Int) ∧ hdt h 138 (6 * (6 * k + c) + q) = ((min endC (rnQ ws q (exl bec (tbl.drop k) c)).2 : Nat) : Int)
section
variable {G : GT} {T : Nat} {bec : Nat → Nat → List Nat} {std tbl : List Nat} {nights moon : Int} {ws : List Nat}
theorem c_X5_isRead {h : AH} (hF : FxA h) (hS : SpN h ws) (h6 : ws.length ≤ 6) (hl : ∀ i, i < ws.length → ws.getD i 0 < 6) {n q c : Nat} (hn : 0 < n) (hq : q < ws.length) (hc : c < 6) (hnm : n ≤ ws.length) :
    CnA G mX5_isRead 1 0 0 [.inr (.inr (124)), .inl ((n : Int)), .inl ((q : Int)), .inl ((c : Int))] h (fun r h1 => r = some (.inl (if rdB ws n q c = true then 1 else 0)) ∧ h1 = h) := by
  obtain ⟨s1, s2⟩ := hS
  obtain ⟨m, rfl⟩ : ∃ m, n = m + 1 := ⟨n - 1, by omega⟩
  have e1 := s2 m (by omega)
  have l1 := hl m (by omega)
  have ei : ((m + 1 : Nat) : Int) - 1 = (m : Int) := by omega
  by_cases q1 : m ≤ q
  · by_cases q2 : ws.getD m 0 = c
    · have hb : ∀ b : Bool, (b = true ↔ ∀ i, i < m → ws.getD i 0 = ws.getD (q - m + i) 0) → rdB ws (m + 1) q c = b := fun b hb => by
        unfold rdB
        cases b with
        | true =>
          rw [decide_eq_true_eq]
          exact ⟨by omega, q2, fun i hi => by rw [show q + 1 - (m + 1) + i = q - m + i by omega]; exact hb.mp rfl i hi⟩
        | false =>
          rw [decide_eq_false_iff_not]
          rintro ⟨-, -, a⟩
          have := hb.mpr fun i hi => by
            have := a i hi
            rw [show q + 1 - (m + 1) + i = q - m + i by omega] at this
            exact this
          exact absurd this (by simp)
      refine CnA.of rfl (Nat.le_of_ble_eq_true rfl) ?_
      simp only [largs, lpad, mr_X5_isRead]
      generalize hE : ((G, mX5_isRead, _, _, _, _, h) : EV) = E
      have L1 : ∀ i, i ≤ m → (∀ j, j < i → ws.getD j 0 = ws.getD (q - m + j) 0) → ExA E 24 [some (.inr (.inr (124))), some (.inl (((m + 1 : Nat) : Int))), some (.inl ((q : Int))), some (.inl ((c : Int))), some (.inl ((i : Int)))] [] h := by
        refine lpI _ fun i hi ih hj => ?_
        by_cases him : i < m
        · have a1 := s2 i (by omega)
          have a2 := s2 (q - m + i) (by omega)
          have b1 := hl i (by omega)
          have b2 := hl (q - m + i) (by omega)
          have ej : ((q : Int) - ((m + 1 : Nat) : Int) + 1 + (i : Int)).toNat = q - m + i := by omega
          by_cases q3 : ws.getD i 0 = ws.getD (q - m + i) 0
          · have nx := ih him (fun j hji => by
              by_cases e : j = i
              · rw [e]; exact q3
              · exact hj j (by omega))
            rw [q3] at a1
            generalize ws.getD (q - m + i) 0 = x at *
            subst hE
            refine vsA_ok tk_X5_isRead rfl 26 ?_
            simp only [at_X5_isRead, mr_X5_isRead, vsA, vcA, denA, lget, lset, lst1, lst2, lclr, argsA, restA, acats, acat, tcA, tcN, rzA, lle, List.length_cons, List.length_nil, Option.toList_some, Option.toList_none, List.cons_append, List.nil_append, eG, eM, eD, eC, eS, eQ, eH, if_true, if_false, Nat.reduceAdd, Nat.reduceLeDiff, Nat.reduceEqDiff, Nat.reduceLT, Nat.reduceSub, Int.reduceEq, Int.reduceLE, Int.reduceToNat, reduceCtorEq, reduceIte, Nat.reduceBEq, Int.reduceNeg, not_true, not_false_iff, true_and, and_true, true_or, or_true, false_or, or_false, forall_const, implies_true, Nat.le_refl, Int.toNat_natCast, Int.reduceLT, ne_eq, Fin.isValue, Nat.add_zero, nC_hrw, nS_hrw, nC_hwr, nS_hwr, hkd_hrw, hkd_hwr, fin4_0, fin4_1, fin4_2, fin4_3, fin2_0, fin2_1, ci0, ci1, cnn, false_implies, w32_eq, w64_eq, hF.m, a1, ej, a2]
            try simp (disch := omega) only [yc_lt, yc_le, yc_gt, yc_ge, yc_eq, w32_eq, w64_eq, tn_add, tn_mul, Int.toNat_natCast, Int.reduceToNat, not_true, not_false_iff, false_implies, forall_const, implies_true]
            repeat' (with_reducible first | apply And.intro | intro _)
            all_goals try omega
            all_goals try simp (disch := omega) only [w32_eq, w64_eq, tn_add, tn_mul, Int.toNat_natCast, Int.reduceToNat, Option.some.injEq, Sum.inr.injEq, Sum.inl.injEq]
            all_goals try omega
            all_goals try exact (nx).weak rfl (by simp [lle] <;> omega)
          · rw [hb false ⟨fun e => absurd e (by simp), fun a => absurd (a i him) q3⟩, if_neg (by simp)] at hE
            generalize ws.getD (q - m + i) 0 = x at *
            generalize ws.getD i 0 = y at *
            subst hE
            refine vsA_ok tk_X5_isRead rfl 26 ?_
            simp only [at_X5_isRead, mr_X5_isRead, vsA, vcA, denA, lget, lset, lst1, lst2, lclr, argsA, restA, acats, acat, tcA, tcN, rzA, lle, List.length_cons, List.length_nil, Option.toList_some, Option.toList_none, List.cons_append, List.nil_append, eG, eM, eD, eC, eS, eQ, eH, if_true, if_false, Nat.reduceAdd, Nat.reduceLeDiff, Nat.reduceEqDiff, Nat.reduceLT, Nat.reduceSub, Int.reduceEq, Int.reduceLE, Int.reduceToNat, reduceCtorEq, reduceIte, Nat.reduceBEq, Int.reduceNeg, not_true, not_false_iff, true_and, and_true, true_or, or_true, false_or, or_false, forall_const, implies_true, Nat.le_refl, Int.toNat_natCast, Int.reduceLT, ne_eq, Fin.isValue, Nat.add_zero, nC_hrw, nS_hrw, nC_hwr, nS_hwr, hkd_hrw, hkd_hwr, fin4_0, fin4_1, fin4_2, fin4_3, fin2_0, fin2_1, ci0, ci1, cnn, false_implies, w32_eq, w64_eq, hF.m, a1, ej, a2]
            try simp (disch := omega) only [yc_lt, yc_le, yc_gt, yc_ge, yc_eq, w32_eq, w64_eq, tn_add, tn_mul, Int.toNat_natCast, Int.reduceToNat, not_true, not_false_iff, false_implies, forall_const, implies_true]
            repeat' (with_reducible first | apply And.intro | intro _)
            all_goals try omega
            all_goals try simp (disch := omega) only [w32_eq, w64_eq, tn_add, tn_mul, Int.toNat_natCast, Int.reduceToNat, Option.some.injEq, Sum.inr.injEq, Sum.inl.injEq]
            all_goals try omega
        · have him : i = m := by omega
          subst him
          rw [hb true ⟨fun _ => hj, fun _ => rfl⟩, if_pos rfl] at hE
          subst hE
          refine vsA_ok tk_X5_isRead rfl 20 ?_
          simp only [at_X5_isRead, mr_X5_isRead, vsA, vcA, denA, lget, lset, lst1, lst2, lclr, argsA, restA, acats, acat, tcA, tcN, rzA, lle, List.length_cons, List.length_nil, Option.toList_some, Option.toList_none, List.cons_append, List.nil_append, eG, eM, eD, eC, eS, eQ, eH, if_true, if_false, Nat.reduceAdd, Nat.reduceLeDiff, Nat.reduceEqDiff, Nat.reduceLT, Nat.reduceSub, Int.reduceEq, Int.reduceLE, Int.reduceToNat, reduceCtorEq, reduceIte, Nat.reduceBEq, Int.reduceNeg, not_true, not_false_iff, true_and, and_true, true_or, or_true, false_or, or_false, forall_const, implies_true, Nat.le_refl, Int.toNat_natCast, Int.reduceLT, ne_eq, Fin.isValue, Nat.add_zero, nC_hrw, nS_hrw, nC_hwr, nS_hwr, hkd_hrw, hkd_hwr, fin4_0, fin4_1, fin4_2, fin4_3, fin2_0, fin2_1, ci0, ci1, cnn, false_implies, w32_eq, w64_eq]
          try simp (disch := omega) only [yc_lt, yc_le, yc_gt, yc_ge, yc_eq, w32_eq, w64_eq, tn_add, tn_mul, Int.toNat_natCast, Int.reduceToNat, not_true, not_false_iff, false_implies, forall_const, implies_true]
          repeat' (with_reducible first | apply And.intro | intro _)
          all_goals try omega
          all_goals try simp (disch := omega) only [w32_eq, w64_eq, tn_add, tn_mul, Int.toNat_natCast, Int.reduceToNat, Option.some.injEq, Sum.inr.injEq, Sum.inl.injEq]
          all_goals try omega
      have l1' := L1 0 (Nat.zero_le _) (fun j hj => absurd hj (Nat.not_lt_zero _))
      subst hE
      rw [q2] at e1
      refine vsA_ok tk_X5_isRead rfl 20 ?_
      simp only [at_X5_isRead, mr_X5_isRead, vsA, vcA, denA, lget, lset, lst1, lst2, lclr, argsA, restA, acats, acat, tcA, tcN, rzA, lle, List.length_cons, List.length_nil, Option.toList_some, Option.toList_none, List.cons_append, List.nil_append, eG, eM, eD, eC, eS, eQ, eH, if_true, if_false, Nat.reduceAdd, Nat.reduceLeDiff, Nat.reduceEqDiff, Nat.reduceLT, Nat.reduceSub, Int.reduceEq, Int.reduceLE, Int.reduceToNat, reduceCtorEq, reduceIte, Nat.reduceBEq, Int.reduceNeg, not_true, not_false_iff, true_and, and_true, true_or, or_true, false_or, or_false, forall_const, implies_true, Nat.le_refl, Int.toNat_natCast, Int.reduceLT, ne_eq, Fin.isValue, Nat.add_zero, nC_hrw, nS_hrw, nC_hwr, nS_hwr, hkd_hrw, hkd_hwr, fin4_0, fin4_1, fin4_2, fin4_3, fin2_0, fin2_1, ci0, ci1, cnn, false_implies, w32_eq, w64_eq, hF.m, ei, e1]
      try simp (disch := omega) only [yc_lt, yc_le, yc_gt, yc_ge, yc_eq, w32_eq, w64_eq, tn_add, tn_mul, Int.toNat_natCast, Int.reduceToNat, not_true, not_false_iff, false_implies, forall_const, implies_true]
      repeat' (with_reducible first | apply And.intro | intro _)
      all_goals try omega
      all_goals try simp (disch := omega) only [w32_eq, w64_eq, tn_add, tn_mul, Int.toNat_natCast, Int.reduceToNat, Option.some.injEq, Sum.inr.injEq, Sum.inl.injEq]
      all_goals try omega
      all_goals try exact (l1').weak rfl (by simp [lle] <;> omega)
    · rw [if_neg (by unfold rdB; rw [decide_eq_true_eq]; exact fun a => q2 a.2.1)]
      generalize ws.getD m 0 = x at *
      refine CnA.of rfl (Nat.le_of_ble_eq_true rfl) ?_
      simp only [largs, lpad, mr_X5_isRead]
      refine vsA_ok tk_X5_isRead rfl 20 ?_
      simp only [at_X5_isRead, mr_X5_isRead, vsA, vcA, denA, lget, lset, lst1, lst2, lclr, argsA, restA, acats, acat, tcA, tcN, rzA, lle, List.length_cons, List.length_nil, Option.toList_some, Option.toList_none, List.cons_append, List.nil_append, eG, eM, eD, eC, eS, eQ, eH, if_true, if_false, Nat.reduceAdd, Nat.reduceLeDiff, Nat.reduceEqDiff, Nat.reduceLT, Nat.reduceSub, Int.reduceEq, Int.reduceLE, Int.reduceToNat, reduceCtorEq, reduceIte, Nat.reduceBEq, Int.reduceNeg, not_true, not_false_iff, true_and, and_true, true_or, or_true, false_or, or_false, forall_const, implies_true, Nat.le_refl, Int.toNat_natCast, Int.reduceLT, ne_eq, Fin.isValue, Nat.add_zero, nC_hrw, nS_hrw, nC_hwr, nS_hwr, hkd_hrw, hkd_hwr, fin4_0, fin4_1, fin4_2, fin4_3, fin2_0, fin2_1, ci0, ci1, cnn, false_implies, w32_eq, w64_eq, hF.m, ei, e1]
      try simp (disch := omega) only [yc_lt, yc_le, yc_gt, yc_ge, yc_eq, w32_eq, w64_eq, tn_add, tn_mul, Int.toNat_natCast, Int.reduceToNat, not_true, not_false_iff, false_implies, forall_const, implies_true]
      repeat' (with_reducible first | apply And.intro | intro _)
      all_goals try omega
      all_goals try simp (disch := omega) only [w32_eq, w64_eq, tn_add, tn_mul, Int.toNat_natCast, Int.reduceToNat, Option.some.injEq, Sum.inr.injEq, Sum.inl.injEq]
      all_goals try omega
  · rw [if_neg (by unfold rdB; rw [decide_eq_true_eq]; exact fun a => by have := a.1; omega)]
    refine CnA.of rfl (Nat.le_of_ble_eq_true rfl) ?_
    simp only [largs, lpad, mr_X5_isRead]
    refine vsA_ok tk_X5_isRead rfl 20 ?_
    simp only [at_X5_isRead, mr_X5_isRead, vsA, vcA, denA, lget, lset, lst1, lst2, lclr, argsA, restA, acats, acat, tcA, tcN, rzA, lle, List.length_cons, List.length_nil, Option.toList_some, Option.toList_none, List.cons_append, List.nil_append, eG, eM, eD, eC, eS, eQ, eH, if_true, if_false, Nat.reduceAdd, Nat.reduceLeDiff, Nat.reduceEqDiff, Nat.reduceLT, Nat.reduceSub, Int.reduceEq, Int.reduceLE, Int.reduceToNat, reduceCtorEq, reduceIte, Nat.reduceBEq, Int.reduceNeg, not_true, not_false_iff, true_and, and_true, true_or, or_true, false_or, or_false, forall_const, implies_true, Nat.le_refl, Int.toNat_natCast, Int.reduceLT, ne_eq, Fin.isValue, Nat.add_zero, nC_hrw, nS_hrw, nC_hwr, nS_hwr, hkd_hrw, hkd_hwr, fin4_0, fin4_1, fin4_2, fin4_3, fin2_0, fin2_1, ci0, ci1, cnn, false_implies, w32_eq, w64_eq]
    try simp (disch := omega) only [yc_lt, yc_le, yc_gt, yc_ge, yc_eq, w32_eq, w64_eq, tn_add, tn_mul, Int.toNat_natCast, Int.reduceToNat, not_true, not_false_iff, false_implies, forall_const, implies_true]
    repeat' (with_reducible first | apply And.intro | intro _)
    all_goals try omega
    all_goals try simp (disch := omega) only [w32_eq, w64_eq, tn_add, tn_mul, Int.toNat_natCast, Int.reduceToNat, Option.some.injEq, Sum.inr.injEq, Sum.inl.injEq]
    all_goals try omega
theorem c_X5_laysHits {h : AH} (hF : FxA h) (hA : AllC (hdt h 125) T bec std tbl nights moon) (hS : SpN h ws) (h6 : 1 ≤ ws.length ∧ ws.length ≤ 6) (hl : ∀ i, i < ws.length → ws.getD i 0 < 6) :
    CnA G mX5_laysHits 3 0 0 [.inr (.inr (124))] h (fun r h1 => r = none ∧ FrM [136, 138] [] h h1 ∧ ∀ k c q, k ≤ tbl.length → c < 6 → q < ws.length → HtI h1 bec tbl ws k c q) := by
  have hsz := hA.sz
  have hq := hA.q
  have he : endC = 9223372036854775807 := rfl
  obtain ⟨h61, h66⟩ := h6
  refine CnA.of rfl (Nat.le_of_ble_eq_true rfl) ?_
  simp only [largs, lpad, mr_X5_laysHits]
  generalize hE : ((G, mX5_laysHits, _, _, _, _, h) : EV) = E
  -- what a frame keeps
  have KP : ∀ h1, FrM [136, 138] [] h h1 → FxA h1 ∧ AllC (hdt h1 125) T bec std tbl nights moon ∧ SpN h1 ws := fun h1 hx => by
    refine ⟨hF.frm hx (by decide +kernel), ?_, ?_⟩
    · rw [FrM.c hx (by decide) (by decide)]; exact hA
    · unfold SpN
      rw [FrM.f hx (by decide) (by decide), FrM.c hx (b := 137) (by decide) (by decide)]
      exact hS
  have WR : ∀ (h1 : AH) (k c q : Nat) (v y : Int) (k' c' q' : Nat), c < 6 → c' < 6 → q < 6 → q' < 6 → ¬ (k' = k ∧ c' = c ∧ q' = q) → HtI h1 bec tbl ws k' c' q' → HtI (hwr (hwr h1 136 (6 * (6 * k + c) + q) v) 138 (6 * (6 * k + c) + q) y) bec tbl ws k' c' q' := fun h1 k c q v y k' c' q' a1 a2 a3 a4 a5 a6 => by
    obtain ⟨b1, b2⟩ := a6
    exact ⟨by rw [hdt_hwr, if_neg (by decide), hdt_hwr, if_pos rfl, fup_n _ _ (by omega)]; exact b1, by rw [hdt_hwr, if_pos rfl, fup_n _ _ (by omega), hdt_hwr, if_neg (by decide)]; exact b2⟩
  have L4 : ∀ n, n ≤ tbl.length → ∀ h1, FrM [136, 138] [] h h1 → (∀ k c q, n ≤ k → k ≤ tbl.length → c < 6 → q < ws.length → HtI h1 bec tbl ws k c q) → ExA E 150 [some (.inr (.inr (124))), some (.inl ((n : Int) - 1)), none, none, none, none, none, none, none] [] h1 := by
    refine lpD _ fun n hn ih h1 hx hd => ?_
    cases n with
    | zero =>
      have c1 := hx.2.1
      subst hE
      refine vsA_ok tk_X5_laysHits rfl 4 ?_
      simp only [at_X5_laysHits, mr_X5_laysHits, vsA, vcA, denA, lget, lset, lst1, lst2, lclr, argsA, restA, acats, acat, tcA, tcN, rzA, lle, List.length_cons, List.length_nil, Option.toList_some, Option.toList_none, List.cons_append, List.nil_append, eG, eM, eD, eC, eS, eQ, eH, if_true, if_false, Nat.reduceAdd, Nat.reduceLeDiff, Nat.reduceEqDiff, Nat.reduceLT, Nat.reduceSub, Int.reduceEq, Int.reduceLE, Int.reduceToNat, reduceCtorEq, reduceIte, Nat.reduceBEq, Int.reduceNeg, not_true, not_false_iff, true_and, and_true, true_or, or_true, false_or, or_false, forall_const, implies_true, Nat.le_refl, Int.toNat_natCast, Int.reduceLT, ne_eq, Fin.isValue, Nat.add_zero, nC_hrw, nS_hrw, nC_hwr, nS_hwr, hkd_hrw, hkd_hwr, fin4_0, fin4_1, fin4_2, fin4_3, fin2_0, fin2_1, ci0, ci1, cnn, false_implies, w32_eq, w64_eq, c1]
      try simp (disch := omega) only [yc_lt, yc_le, yc_gt, yc_ge, yc_eq, w32_eq, w64_eq, tn_add, tn_mul, Int.toNat_natCast, Int.reduceToNat, not_true, not_false_iff, false_implies, forall_const, implies_true]
      repeat' (with_reducible first | apply And.intro | intro _)
      all_goals try omega
      all_goals try simp (disch := omega) only [w32_eq, w64_eq, tn_add, tn_mul, Int.toNat_natCast, Int.reduceToNat, Option.some.injEq, Sum.inr.injEq, Sum.inl.injEq]
      all_goals try omega
      all_goals first | exact hx | exact hd _ _ _ (Nat.zero_le _) (by assumption) (by assumption) (by assumption)
    | succ n =>
      have ih := ih n rfl
      have hnl : n < tbl.length := by omega
      have ht3 := hA.t3 hnl
      have L5 : ∀ c, c ≤ 6 → ∀ h1, FrM [136, 138] [] h h1 → (∀ k c q, n < k → k ≤ tbl.length → c < 6 → q < ws.length → HtI h1 bec tbl ws k c q) → (∀ d q, d < c → q < ws.length → HtI h1 bec tbl ws n d q) → ExA E 156 [some (.inr (.inr (124))), some (.inl ((n : Int))), some (.inl ((c : Int))), none, none, none, none, none, none] [] h1 := by
        refine lpI 6 fun c hc ihc h1 hx hd1 hd2 => ?_
        by_cases hc6 : c < 6
        · have ihc := ihc hc6
          have h4 := (hA.b4 ht3 hc6).1
          have L6 : ∀ q, q ≤ ws.length → ∀ h1, FrM [136, 138] [] h h1 → (∀ k c q, n < k → k ≤ tbl.length → c < 6 → q < ws.length → HtI h1 bec tbl ws k c q) → (∀ d q, d < c → q < ws.length → HtI h1 bec tbl ws n d q) → (∀ r, r < q → HtI h1 bec tbl ws n c r) →
              ExA E 164 [some (.inr (.inr (124))), some (.inl ((n : Int))), some (.inl ((c : Int))), some (.inl ((q : Int))), none, none, none, none, none] [] h1 := by
            refine lpI _ fun q hq' ihq h1 hx hd1 hd2 hd3 => ?_
            obtain ⟨hF1, hA1, hS1⟩ := KP h1 hx
            have cc1 := hx.2.1
            by_cases hql : q < ws.length
            · have ihq := ihq hql
              have hex := exl_cons bec hnl c
              have L7 : ∀ i, i ≤ (bec (tbl.getD n 0) c).length → ExA E 181 [some (.inr (.inr (124))), some (.inl ((n : Int))), some (.inl ((c : Int))), some (.inl ((q : Int))), some (.inl ((((rnQ ws q (((bec (tbl.getD n 0) c).take i).flatMap (exl bec (tbl.drop (n + 1))))).1 : Nat) : Int))), some (.inr (.inl (((min endC (rnQ ws q (((bec (tbl.getD n 0) c).take i).flatMap (exl bec (tbl.drop (n + 1))))).2 : Nat) : Int)))), none, some (.inl ((i : Int))), none] [] h1 := by
                refine lpI _ fun i hi ih7 => ?_
                have hpo := c_X5_partOf (G := G) hF1 hA1 (k := n + 1) (c := c) (cz := (c : Int)) (i := i) (by omega) (Or.inr ⟨rfl, hc6⟩) (by omega)
                rw [show ((n + 1 : Nat) : Int) - 1 = (n : Int) by omega, show rowL bec std tbl (n + 1) c = bec (tbl.getD n 0) c from rfl] at hpo
                have hnow := rnQ_lt (ws := ws) (((bec (tbl.getD n 0) c).take i).flatMap (exl bec (tbl.drop (n + 1)))) q hql
                by_cases hil : i < (bec (tbl.getD n 0) c).length
                · have nx := ih7 hil
                  rw [fm_takeS _ _ hil, rnQ_app] at nx
                  rw [if_pos hil] at hpo
                  have hd6 := (hA.b4 ht3 hc6).2 _ (getD_mem hil)
                  generalize rnQ ws q (((bec (tbl.getD n 0) c).take i).flatMap (exl bec (tbl.drop (n + 1)))) = st at *
                  obtain ⟨now, sm⟩ := st
                  generalize (bec (tbl.getD n 0) c).getD i 0 = d at *
                  have hnow : now < ws.length := hnow
                  obtain ⟨e36, e38⟩ := hd1 (n + 1) d now (by omega) (by omega) hd6 hnow
                  have ej : (6 * (6 * ((n : Int) + 1) + (d : Int)) + (now : Int)).toNat = 6 * (6 * (n + 1) + d) + now := by omega
                  generalize rnQ ws now (exl bec (tbl.drop (n + 1)) d) = st2 at *
                  obtain ⟨now2, sm2⟩ := st2
                  have nx : ExA E 181 [some (.inr (.inr (124))), some (.inl ((n : Int))), some (.inl ((c : Int))), some (.inl ((q : Int))), some (.inl (((now2 : Nat) : Int))), some (.inr (.inl (((min endC (sm + sm2) : Nat) : Int)))), none, some (.inl (((i + 1 : Nat) : Int))), none] [] h1 := nx
                  have hpl := c_X5_plus (G := G) (min endC sm) (min endC sm2) h1 (Nat.min_le_left _ _) (Nat.min_le_left _ _)
                  rw [show min endC (min endC sm + min endC sm2) = min endC (sm + sm2) by omega] at hpl
                  subst hE
                  refine vsA_ok tk_X5_laysHits rfl 10 ?_
                  simp only [at_X5_laysHits, mr_X5_laysHits, vsA, vcA, denA, lget, lset, lst1, lst2, lclr, argsA, restA, acats, acat, tcA, tcN, rzA, lle, List.length_cons, List.length_nil, Option.toList_some, Option.toList_none, List.cons_append, List.nil_append, eG, eM, eD, eC, eS, eQ, eH, if_true, if_false, Nat.reduceAdd, Nat.reduceLeDiff, Nat.reduceEqDiff, Nat.reduceLT, Nat.reduceSub, Int.reduceEq, Int.reduceLE, Int.reduceToNat, reduceCtorEq, reduceIte, Nat.reduceBEq, Int.reduceNeg, not_true, not_false_iff, true_and, and_true, true_or, or_true, false_or, or_false, forall_const, implies_true, Nat.le_refl, Int.toNat_natCast, Int.reduceLT, ne_eq, Fin.isValue, Nat.add_zero, nC_hrw, nS_hrw, nC_hwr, nS_hwr, hkd_hrw, hkd_hwr, fin4_0, fin4_1, fin4_2, fin4_3, fin2_0, fin2_1, ci0, ci1, cnn, false_implies, w32_eq, w64_eq, hF1.m]
                  try simp (disch := omega) only [yc_lt, yc_le, yc_gt, yc_ge, yc_eq, w32_eq, w64_eq, tn_add, tn_mul, Int.toNat_natCast, Int.reduceToNat, not_true, not_false_iff, false_implies, forall_const, implies_true]
                  repeat' (with_reducible first | apply And.intro | intro _)
                  all_goals try omega
                  all_goals try simp (disch := omega) only [w32_eq, w64_eq, tn_add, tn_mul, Int.toNat_natCast, Int.reduceToNat, Option.some.injEq, Sum.inr.injEq, Sum.inl.injEq]
                  all_goals try omega
                  refine ClA.pure (hpo) (by first | exact Nat.le_of_ble_eq_true rfl | (simp only [eD]; omega)) (by first | exact Nat.le_refl _ | (simp only [eG, eD, eC, eS, eQ, eH, nC_hrw, nC_hwr, nS_hrw, nS_hwr, nC_hnw, nS_hnw]; omega)) (by first | exact Nat.le_refl _ | (simp only [eG, eD, eC, eS, eQ, eH, nC_hrw, nC_hwr, nS_hrw, nS_hwr, nC_hnw, nS_hnw]; omega)) ?_
                  refine vsA_ok tk_X5_laysHits rfl 20 ?_
                  simp only [at_X5_laysHits, mr_X5_laysHits, vsA, vcA, denA, lget, lset, lst1, lst2, lclr, argsA, restA, acats, acat, tcA, tcN, rzA, lle, List.length_cons, List.length_nil, Option.toList_some, Option.toList_none, List.cons_append, List.nil_append, eG, eM, eD, eC, eS, eQ, eH, if_true, if_false, Nat.reduceAdd, Nat.reduceLeDiff, Nat.reduceEqDiff, Nat.reduceLT, Nat.reduceSub, Int.reduceEq, Int.reduceLE, Int.reduceToNat, reduceCtorEq, reduceIte, Nat.reduceBEq, Int.reduceNeg, not_true, not_false_iff, true_and, and_true, true_or, or_true, false_or, or_false, forall_const, implies_true, Nat.le_refl, Int.toNat_natCast, Int.reduceLT, ne_eq, Fin.isValue, Nat.add_zero, nC_hrw, nS_hrw, nC_hwr, nS_hwr, hkd_hrw, hkd_hwr, fin4_0, fin4_1, fin4_2, fin4_3, fin2_0, fin2_1, ci0, ci1, cnn, false_implies, w32_eq, w64_eq, hF1.m]
                  try simp (disch := omega) only [yc_lt, yc_le, yc_gt, yc_ge, yc_eq, w32_eq, w64_eq, tn_add, tn_mul, Int.toNat_natCast, Int.reduceToNat, not_true, not_false_iff, false_implies, forall_const, implies_true]
                  repeat' (with_reducible first | apply And.intro | intro _)
                  all_goals try omega
                  all_goals try simp (disch := omega) only [w32_eq, w64_eq, tn_add, tn_mul, Int.toNat_natCast, Int.reduceToNat, Option.some.injEq, Sum.inr.injEq, Sum.inl.injEq]
                  all_goals try omega
                  refine ClA.pure (hpo) (by first | exact Nat.le_of_ble_eq_true rfl | (simp only [eD]; omega)) (by first | exact Nat.le_refl _ | (simp only [eG, eD, eC, eS, eQ, eH, nC_hrw, nC_hwr, nS_hrw, nS_hwr, nC_hnw, nS_hnw]; omega)) (by first | exact Nat.le_refl _ | (simp only [eG, eD, eC, eS, eQ, eH, nC_hrw, nC_hwr, nS_hrw, nS_hwr, nC_hnw, nS_hnw]; omega)) ?_
                  refine vsA_ok tk_X5_laysHits rfl 20 ?_
                  simp only [at_X5_laysHits, mr_X5_laysHits, vsA, vcA, denA, lget, lset, lst1, lst2, lclr, argsA, restA, acats, acat, tcA, tcN, rzA, lle, List.length_cons, List.length_nil, Option.toList_some, Option.toList_none, List.cons_append, List.nil_append, eG, eM, eD, eC, eS, eQ, eH, if_true, if_false, Nat.reduceAdd, Nat.reduceLeDiff, Nat.reduceEqDiff, Nat.reduceLT, Nat.reduceSub, Int.reduceEq, Int.reduceLE, Int.reduceToNat, reduceCtorEq, reduceIte, Nat.reduceBEq, Int.reduceNeg, not_true, not_false_iff, true_and, and_true, true_or, or_true, false_or, or_false, forall_const, implies_true, Nat.le_refl, Int.toNat_natCast, Int.reduceLT, ne_eq, Fin.isValue, Nat.add_zero, nC_hrw, nS_hrw, nC_hwr, nS_hwr, hkd_hrw, hkd_hwr, fin4_0, fin4_1, fin4_2, fin4_3, fin2_0, fin2_1, ci0, ci1, cnn, false_implies, w32_eq, w64_eq, hF1.m]
                  try simp (disch := omega) only [yc_lt, yc_le, yc_gt, yc_ge, yc_eq, w32_eq, w64_eq, tn_add, tn_mul, Int.toNat_natCast, Int.reduceToNat, not_true, not_false_iff, false_implies, forall_const, implies_true, ej, e36, e38]
                  repeat' (with_reducible first | apply And.intro | intro _)
                  all_goals try omega
                  all_goals try simp (disch := omega) only [w32_eq, w64_eq, tn_add, tn_mul, Int.toNat_natCast, Int.reduceToNat, Option.some.injEq, Sum.inr.injEq, Sum.inl.injEq, ej, e36, e38]
                  all_goals try omega
                  refine ClA.pure (hpl) (by first | exact Nat.le_of_ble_eq_true rfl | (simp only [eD]; omega)) (by first | exact Nat.le_refl _ | (simp only [eG, eD, eC, eS, eQ, eH, nC_hrw, nC_hwr, nS_hrw, nS_hwr, nC_hnw, nS_hnw]; omega)) (by first | exact Nat.le_refl _ | (simp only [eG, eD, eC, eS, eQ, eH, nC_hrw, nC_hwr, nS_hrw, nS_hwr, nC_hnw, nS_hnw]; omega)) ?_
                  refine vsA_ok tk_X5_laysHits rfl 20 ?_
                  simp only [at_X5_laysHits, mr_X5_laysHits, vsA, vcA, denA, lget, lset, lst1, lst2, lclr, argsA, restA, acats, acat, tcA, tcN, rzA, lle, List.length_cons, List.length_nil, Option.toList_some, Option.toList_none, List.cons_append, List.nil_append, eG, eM, eD, eC, eS, eQ, eH, if_true, if_false, Nat.reduceAdd, Nat.reduceLeDiff, Nat.reduceEqDiff, Nat.reduceLT, Nat.reduceSub, Int.reduceEq, Int.reduceLE, Int.reduceToNat, reduceCtorEq, reduceIte, Nat.reduceBEq, Int.reduceNeg, not_true, not_false_iff, true_and, and_true, true_or, or_true, false_or, or_false, forall_const, implies_true, Nat.le_refl, Int.toNat_natCast, Int.reduceLT, ne_eq, Fin.isValue, Nat.add_zero, nC_hrw, nS_hrw, nC_hwr, nS_hwr, hkd_hrw, hkd_hwr, fin4_0, fin4_1, fin4_2, fin4_3, fin2_0, fin2_1, ci0, ci1, cnn, false_implies, w32_eq, w64_eq, hF1.m]
                  try simp (disch := omega) only [yc_lt, yc_le, yc_gt, yc_ge, yc_eq, w32_eq, w64_eq, tn_add, tn_mul, Int.toNat_natCast, Int.reduceToNat, not_true, not_false_iff, false_implies, forall_const, implies_true, ej, e36, e38]
                  repeat' (with_reducible first | apply And.intro | intro _)
                  all_goals try omega
                  all_goals try simp (disch := omega) only [w32_eq, w64_eq, tn_add, tn_mul, Int.toNat_natCast, Int.reduceToNat, Option.some.injEq, Sum.inr.injEq, Sum.inl.injEq, ej, e36, e38]
                  all_goals try omega
                  all_goals try exact (nx).weak rfl (by simp [lle] <;> omega)
                · rw [if_neg hil] at hpo
                  rw [List.take_of_length_le (by omega), ← hex] at hnow ⊢
                  have nx := ihq (hwr (hwr h1 136 (6 * (6 * n + c) + q) (((rnQ ws q (exl bec (tbl.drop n) c)).1 : Nat) : Int)) 138 (6 * (6 * n + c) + q) ((min endC (rnQ ws q (exl bec (tbl.drop n) c)).2 : Nat) : Int)) ((hx.wc (by decide) _ _).wc (by decide) _ _) (fun k d r a1 a2 a3 a4 => WR h1 n c q _ _ k d r hc6 a3 (by omega) (by omega) (by omega) (hd1 k d r a1 a2 a3 a4)) (fun d r a1 a2 => WR h1 n c q _ _ n d r hc6 (by omega) (by omega) (by omega) (by omega) (hd2 d r a1 a2)) (fun r hr => by
                    by_cases e : r = q
                    · subst e
                      exact ⟨by rw [hdt_hwr, if_neg (by decide), hdt_hwr, if_pos rfl, fup_s], by rw [hdt_hwr, if_pos rfl, fup_s]⟩
                    · exact WR h1 n c q _ _ n c r hc6 hc6 (by omega) (by omega) (by omega) (hd3 r (by omega)))
                  have ej : (6 * (6 * (n : Int) + (c : Int)) + (q : Int)).toNat = 6 * (6 * n + c) + q := by omega
                  have hFb : ∀ v, FxA (hwr h1 136 (6 * (6 * n + c) + q) v) := fun v => hF1.frm (FrM.wc (cs := [136, 138]) (fs := []) FrP.rf (by decide) _ _) (by decide +kernel)
                  generalize rnQ ws q (exl bec (tbl.drop n) c) = st at *
                  obtain ⟨now, sm⟩ := st
                  have hFb' := (hFb (now : Int)).m
                  subst hE
                  refine vsA_ok tk_X5_laysHits rfl 10 ?_
                  simp only [at_X5_laysHits, mr_X5_laysHits, vsA, vcA, denA, lget, lset, lst1, lst2, lclr, argsA, restA, acats, acat, tcA, tcN, rzA, lle, List.length_cons, List.length_nil, Option.toList_some, Option.toList_none, List.cons_append, List.nil_append, eG, eM, eD, eC, eS, eQ, eH, if_true, if_false, Nat.reduceAdd, Nat.reduceLeDiff, Nat.reduceEqDiff, Nat.reduceLT, Nat.reduceSub, Int.reduceEq, Int.reduceLE, Int.reduceToNat, reduceCtorEq, reduceIte, Nat.reduceBEq, Int.reduceNeg, not_true, not_false_iff, true_and, and_true, true_or, or_true, false_or, or_false, forall_const, implies_true, Nat.le_refl, Int.toNat_natCast, Int.reduceLT, ne_eq, Fin.isValue, Nat.add_zero, nC_hrw, nS_hrw, nC_hwr, nS_hwr, hkd_hrw, hkd_hwr, fin4_0, fin4_1, fin4_2, fin4_3, fin2_0, fin2_1, ci0, ci1, cnn, false_implies, w32_eq, w64_eq, hF1.m]
                  try simp (disch := omega) only [yc_lt, yc_le, yc_gt, yc_ge, yc_eq, w32_eq, w64_eq, tn_add, tn_mul, Int.toNat_natCast, Int.reduceToNat, not_true, not_false_iff, false_implies, forall_const, implies_true]
                  repeat' (with_reducible first | apply And.intro | intro _)
                  all_goals try omega
                  all_goals try simp (disch := omega) only [w32_eq, w64_eq, tn_add, tn_mul, Int.toNat_natCast, Int.reduceToNat, Option.some.injEq, Sum.inr.injEq, Sum.inl.injEq]
                  all_goals try omega
                  refine ClA.pure (hpo) (by first | exact Nat.le_of_ble_eq_true rfl | (simp only [eD]; omega)) (by first | exact Nat.le_refl _ | (simp only [eG, eD, eC, eS, eQ, eH, nC_hrw, nC_hwr, nS_hrw, nS_hwr, nC_hnw, nS_hnw]; omega)) (by first | exact Nat.le_refl _ | (simp only [eG, eD, eC, eS, eQ, eH, nC_hrw, nC_hwr, nS_hrw, nS_hwr, nC_hnw, nS_hnw]; omega)) ?_
                  refine vsA_ok tk_X5_laysHits rfl 40 ?_
                  simp only [at_X5_laysHits, mr_X5_laysHits, vsA, vcA, denA, lget, lset, lst1, lst2, lclr, argsA, restA, acats, acat, tcA, tcN, rzA, lle, List.length_cons, List.length_nil, Option.toList_some, Option.toList_none, List.cons_append, List.nil_append, eG, eM, eD, eC, eS, eQ, eH, if_true, if_false, Nat.reduceAdd, Nat.reduceLeDiff, Nat.reduceEqDiff, Nat.reduceLT, Nat.reduceSub, Int.reduceEq, Int.reduceLE, Int.reduceToNat, reduceCtorEq, reduceIte, Nat.reduceBEq, Int.reduceNeg, not_true, not_false_iff, true_and, and_true, true_or, or_true, false_or, or_false, forall_const, implies_true, Nat.le_refl, Int.toNat_natCast, Int.reduceLT, ne_eq, Fin.isValue, Nat.add_zero, nC_hrw, nS_hrw, nC_hwr, nS_hwr, hkd_hrw, hkd_hwr, fin4_0, fin4_1, fin4_2, fin4_3, fin2_0, fin2_1, ci0, ci1, cnn, false_implies, w32_eq, w64_eq, hF1.m, hFb', ej]
                  try simp (disch := omega) only [yc_lt, yc_le, yc_gt, yc_ge, yc_eq, w32_eq, w64_eq, tn_add, tn_mul, Int.toNat_natCast, Int.reduceToNat, not_true, not_false_iff, false_implies, forall_const, implies_true]
                  repeat' (with_reducible first | apply And.intro | intro _)
                  all_goals try omega
                  all_goals try simp (disch := omega) only [w32_eq, w64_eq, tn_add, tn_mul, Int.toNat_natCast, Int.reduceToNat, Option.some.injEq, Sum.inr.injEq, Sum.inl.injEq]
                  all_goals try omega
                  all_goals try exact (nx).weak rfl (by simp [lle] <;> omega)
              have l7 := L7 0 (Nat.zero_le _)
              rw [List.take_zero, List.flatMap_nil, show rnQ ws q [] = (q, 0) from rfl, show min endC (q, 0).2 = 0 from rfl] at l7
              subst hE
              refine vsA_ok tk_X5_laysHits rfl 12 ?_
              simp only [at_X5_laysHits, mr_X5_laysHits, vsA, vcA, denA, lget, lset, lst1, lst2, lclr, argsA, restA, acats, acat, tcA, tcN, rzA, lle, List.length_cons, List.length_nil, Option.toList_some, Option.toList_none, List.cons_append, List.nil_append, eG, eM, eD, eC, eS, eQ, eH, if_true, if_false, Nat.reduceAdd, Nat.reduceLeDiff, Nat.reduceEqDiff, Nat.reduceLT, Nat.reduceSub, Int.reduceEq, Int.reduceLE, Int.reduceToNat, reduceCtorEq, reduceIte, Nat.reduceBEq, Int.reduceNeg, not_true, not_false_iff, true_and, and_true, true_or, or_true, false_or, or_false, forall_const, implies_true, Nat.le_refl, Int.toNat_natCast, Int.reduceLT, ne_eq, Fin.isValue, Nat.add_zero, nC_hrw, nS_hrw, nC_hwr, nS_hwr, hkd_hrw, hkd_hwr, fin4_0, fin4_1, fin4_2, fin4_3, fin2_0, fin2_1, ci0, ci1, cnn, false_implies, w32_eq, w64_eq, hF1.m, hS1.1]
              try simp (disch := omega) only [yc_lt, yc_le, yc_gt, yc_ge, yc_eq, w32_eq, w64_eq, tn_add, tn_mul, Int.toNat_natCast, Int.reduceToNat, not_true, not_false_iff, false_implies, forall_const, implies_true]
              repeat' (with_reducible first | apply And.intro | intro _)
              all_goals try omega
              all_goals try simp (disch := omega) only [w32_eq, w64_eq, tn_add, tn_mul, Int.toNat_natCast, Int.reduceToNat, Option.some.injEq, Sum.inr.injEq, Sum.inl.injEq]
              all_goals try omega
              all_goals try exact (l7).weak rfl (by simp [lle] <;> omega)
            · have nx := ihc h1 hx hd1 (fun d r hd hr => by
                by_cases e : d = c
                · rw [e]; exact hd3 r (by omega)
                · exact hd2 d r (by omega) hr)
              subst hE
              refine vsA_ok tk_X5_laysHits rfl 8 ?_
              simp only [at_X5_laysHits, mr_X5_laysHits, vsA, vcA, denA, lget, lset, lst1, lst2, lclr, argsA, restA, acats, acat, tcA, tcN, rzA, lle, List.length_cons, List.length_nil, Option.toList_some, Option.toList_none, List.cons_append, List.nil_append, eG, eM, eD, eC, eS, eQ, eH, if_true, if_false, Nat.reduceAdd, Nat.reduceLeDiff, Nat.reduceEqDiff, Nat.reduceLT, Nat.reduceSub, Int.reduceEq, Int.reduceLE, Int.reduceToNat, reduceCtorEq, reduceIte, Nat.reduceBEq, Int.reduceNeg, not_true, not_false_iff, true_and, and_true, true_or, or_true, false_or, or_false, forall_const, implies_true, Nat.le_refl, Int.toNat_natCast, Int.reduceLT, ne_eq, Fin.isValue, Nat.add_zero, nC_hrw, nS_hrw, nC_hwr, nS_hwr, hkd_hrw, hkd_hwr, fin4_0, fin4_1, fin4_2, fin4_3, fin2_0, fin2_1, ci0, ci1, cnn, false_implies, w32_eq, w64_eq, hF1.m, hS1.1]
              try simp (disch := omega) only [yc_lt, yc_le, yc_gt, yc_ge, yc_eq, w32_eq, w64_eq, tn_add, tn_mul, Int.toNat_natCast, Int.reduceToNat, not_true, not_false_iff, false_implies, forall_const, implies_true]
              repeat' (with_reducible first | apply And.intro | intro _)
              all_goals try omega
              all_goals try simp (disch := omega) only [w32_eq, w64_eq, tn_add, tn_mul, Int.toNat_natCast, Int.reduceToNat, Option.some.injEq, Sum.inr.injEq, Sum.inl.injEq]
              all_goals try omega
              all_goals try exact (nx).weak rfl (by simp [lle] <;> omega)
          have l6 := L6 0 (Nat.zero_le _) h1 hx hd1 hd2 (fun r hr => absurd hr (Nat.not_lt_zero _))
          subst hE
          refine vsA_ok tk_X5_laysHits rfl 6 ?_
          simp only [at_X5_laysHits, mr_X5_laysHits, vsA, vcA, denA, lget, lset, lst1, lst2, lclr, argsA, restA, acats, acat, tcA, tcN, rzA, lle, List.length_cons, List.length_nil, Option.toList_some, Option.toList_none, List.cons_append, List.nil_append, eG, eM, eD, eC, eS, eQ, eH, if_true, if_false, Nat.reduceAdd, Nat.reduceLeDiff, Nat.reduceEqDiff, Nat.reduceLT, Nat.reduceSub, Int.reduceEq, Int.reduceLE, Int.reduceToNat, reduceCtorEq, reduceIte, Nat.reduceBEq, Int.reduceNeg, not_true, not_false_iff, true_and, and_true, true_or, or_true, false_or, or_false, forall_const, implies_true, Nat.le_refl, Int.toNat_natCast, Int.reduceLT, ne_eq, Fin.isValue, Nat.add_zero, nC_hrw, nS_hrw, nC_hwr, nS_hwr, hkd_hrw, hkd_hwr, fin4_0, fin4_1, fin4_2, fin4_3, fin2_0, fin2_1, ci0, ci1, cnn, false_implies, w32_eq, w64_eq]
          try simp (disch := omega) only [yc_lt, yc_le, yc_gt, yc_ge, yc_eq, w32_eq, w64_eq, tn_add, tn_mul, Int.toNat_natCast, Int.reduceToNat, not_true, not_false_iff, false_implies, forall_const, implies_true]
          repeat' (with_reducible first | apply And.intro | intro _)
          all_goals try omega
          all_goals try simp (disch := omega) only [w32_eq, w64_eq, tn_add, tn_mul, Int.toNat_natCast, Int.reduceToNat, Option.some.injEq, Sum.inr.injEq, Sum.inl.injEq]
          all_goals try omega
          all_goals try exact (l6).weak rfl (by simp [lle] <;> omega)
        · have hc7 : c = 6 := by omega
          subst hc7
          have nx := ih h1 hx (fun k c q a1 a2 a3 a4 => by
            by_cases e : k = n
            · rw [e]; exact hd2 c q a3 a4
            · exact hd1 k c q (by omega) a2 a3 a4)
          subst hE
          refine vsA_ok tk_X5_laysHits rfl 6 ?_
          simp only [at_X5_laysHits, mr_X5_laysHits, vsA, vcA, denA, lget, lset, lst1, lst2, lclr, argsA, restA, acats, acat, tcA, tcN, rzA, lle, List.length_cons, List.length_nil, Option.toList_some, Option.toList_none, List.cons_append, List.nil_append, eG, eM, eD, eC, eS, eQ, eH, if_true, if_false, Nat.reduceAdd, Nat.reduceLeDiff, Nat.reduceEqDiff, Nat.reduceLT, Nat.reduceSub, Int.reduceEq, Int.reduceLE, Int.reduceToNat, reduceCtorEq, reduceIte, Nat.reduceBEq, Int.reduceNeg, not_true, not_false_iff, true_and, and_true, true_or, or_true, false_or, or_false, forall_const, implies_true, Nat.le_refl, Int.toNat_natCast, Int.reduceLT, ne_eq, Fin.isValue, Nat.add_zero, nC_hrw, nS_hrw, nC_hwr, nS_hwr, hkd_hrw, hkd_hwr, fin4_0, fin4_1, fin4_2, fin4_3, fin2_0, fin2_1, ci0, ci1, cnn, false_implies, w32_eq, w64_eq]
          try simp (disch := omega) only [yc_lt, yc_le, yc_gt, yc_ge, yc_eq, w32_eq, w64_eq, tn_add, tn_mul, Int.toNat_natCast, Int.reduceToNat, not_true, not_false_iff, false_implies, forall_const, implies_true]
          repeat' (with_reducible first | apply And.intro | intro _)
          all_goals try omega
          all_goals try simp (disch := omega) only [w32_eq, w64_eq, tn_add, tn_mul, Int.toNat_natCast, Int.reduceToNat, Option.some.injEq, Sum.inr.injEq, Sum.inl.injEq]
          all_goals try omega
          all_goals try exact (nx).weak rfl (by simp [lle] <;> omega)
      have l5 := L5 0 (by omega) h1 hx (fun k c q a1 a2 a3 a4 => hd k c q (by omega) a2 a3 a4) (fun d q a => absurd a (Nat.not_lt_zero _))
      rw [show ((n + 1 : Nat) : Int) - 1 = (n : Int) by omega]
      subst hE
      refine vsA_ok tk_X5_laysHits rfl 6 ?_
      simp only [at_X5_laysHits, mr_X5_laysHits, vsA, vcA, denA, lget, lset, lst1, lst2, lclr, argsA, restA, acats, acat, tcA, tcN, rzA, lle, List.length_cons, List.length_nil, Option.toList_some, Option.toList_none, List.cons_append, List.nil_append, eG, eM, eD, eC, eS, eQ, eH, if_true, if_false, Nat.reduceAdd, Nat.reduceLeDiff, Nat.reduceEqDiff, Nat.reduceLT, Nat.reduceSub, Int.reduceEq, Int.reduceLE, Int.reduceToNat, reduceCtorEq, reduceIte, Nat.reduceBEq, Int.reduceNeg, not_true, not_false_iff, true_and, and_true, true_or, or_true, false_or, or_false, forall_const, implies_true, Nat.le_refl, Int.toNat_natCast, Int.reduceLT, ne_eq, Fin.isValue, Nat.add_zero, nC_hrw, nS_hrw, nC_hwr, nS_hwr, hkd_hrw, hkd_hwr, fin4_0, fin4_1, fin4_2, fin4_3, fin2_0, fin2_1, ci0, ci1, cnn, false_implies, w32_eq, w64_eq]
      try simp (disch := omega) only [yc_lt, yc_le, yc_gt, yc_ge, yc_eq, w32_eq, w64_eq, tn_add, tn_mul, Int.toNat_natCast, Int.reduceToNat, not_true, not_false_iff, false_implies, forall_const, implies_true]
      repeat' (with_reducible first | apply And.intro | intro _)
      all_goals try omega
      all_goals try simp (disch := omega) only [w32_eq, w64_eq, tn_add, tn_mul, Int.toNat_natCast, Int.reduceToNat, Option.some.injEq, Sum.inr.injEq, Sum.inl.injEq]
      all_goals try omega
      all_goals try exact (l5).weak rfl (by simp [lle] <;> omega)
  have L1 : ∀ c, c ≤ 6 → ∀ h1, FrM [136, 138] [] h h1 → (∀ d q, d < c → q < ws.length → HtI h1 bec tbl ws tbl.length d q) → ExA E 2 [some (.inr (.inr (124))), some (.inl ((c : Int))), none, none, none, none, none, none, none] [] h1 := by
    refine lpI 6 fun c hc ihc h1 hx hd => ?_
    by_cases hc6 : c < 6
    · have ihc := ihc hc6
      have L2 : ∀ q, q ≤ ws.length → ∀ h1, FrM [136, 138] [] h h1 → (∀ d q, d < c → q < ws.length → HtI h1 bec tbl ws tbl.length d q) → (∀ r, r < q → HtI h1 bec tbl ws tbl.length c r) → ExA E 10 [some (.inr (.inr (124))), some (.inl ((c : Int))), some (.inl ((q : Int))), none, none, none, none, none, none] [] h1 := by
        refine lpI _ fun q hq' ihq h1 hx hd hd2 => ?_
        obtain ⟨hF1, hA1, hS1⟩ := KP h1 hx
        have cc1 := hx.2.1
        have hq1 := hA1.q
        by_cases hql : q < ws.length
        · have ihq := ihq hql
          have hrl : rnQ ws q (exl bec (tbl.drop tbl.length) c) = (nxQ ws q c, if htQ ws q c = true then 1 else 0) := by
            rw [List.drop_length]
            show ((rnQ ws (nxQ ws q c) []).1, (rnQ ws (nxQ ws q c) []).2 + if htQ ws q c = true then 1 else 0) = _
            simp [rnQ]
          have hnl := nxQ_lt (c := c) hql
          have ej : (6 * (6 * (tbl.length : Int) + (c : Int)) + (q : Int)).toNat = 6 * (6 * tbl.length + c) + q := by omega
          have hFb : ∀ v, FxA (hwr h1 136 (6 * (6 * tbl.length + c) + q) v) := fun v => hF1.frm (FrM.wc (cs := [136, 138]) (fs := []) FrP.rf (by decide) _ _) (by decide +kernel)
          have nx := ihq (hwr (hwr h1 136 (6 * (6 * tbl.length + c) + q) ((nxQ ws q c : Nat) : Int)) 138 (6 * (6 * tbl.length + c) + q) (((if htQ ws q c = true then 1 else 0) : Nat) : Int)) ((hx.wc (by decide) _ _).wc (by decide) _ _) (fun d r a1 a2 => WR h1 tbl.length c q _ _ tbl.length d r hc6 (by omega) (by omega) (by omega) (by omega) (hd d r a1 a2)) (fun r hr => by
            by_cases e : r = q
            · subst e
              unfold HtI
              rw [hrl]
              refine ⟨by rw [hdt_hwr, if_neg (by decide), hdt_hwr, if_pos rfl, fup_s], ?_⟩
              rw [hdt_hwr, if_pos rfl, fup_s]
              show _ = ((min endC (if htQ ws r c = true then 1 else 0) : Nat) : Int)
              split <;> rfl
            · exact WR h1 tbl.length c q _ _ tbl.length c r hc6 hc6 (by omega) (by omega) (by omega) (hd2 r (by omega)))
          have hFb' := (hFb ((nxQ ws q c : Nat) : Int)).m
          -- the search
          have L3 : ∀ b : Int, (b = if htQ ws q c = true then 1 else 0) → ∀ n, n ≤ ws.length → schN (fun n => rdB ws n q c) n = nxQ ws q c → ExA E 82 [some (.inr (.inr (124))), some (.inl ((c : Int))), some (.inl ((q : Int))), some (.inl ((6 * (6 * (tbl.length : Int) + (c : Int)) + (q : Int)))), some (.inl (b)), some (.inl ((n : Int))), none, none, none] [] h1 := by
            intro b hb
            have fin : ∀ n : Nat, n = nxQ ws q c → ExA E 104 [some (.inr (.inr (124))), some (.inl ((c : Int))), some (.inl ((q : Int))), some (.inl ((6 * (6 * (tbl.length : Int) + (c : Int)) + (q : Int)))), some (.inl (b)), some (.inl ((n : Int))), none, none, none] [] h1 := fun n hn => by
              subst hn
              by_cases qh : htQ ws q c = true
              · rw [if_pos qh] at hb nx
                subst hb
                generalize nxQ ws q c = z at *
                subst hE
                refine vsA_ok tk_X5_laysHits rfl 20 ?_
                simp only [at_X5_laysHits, mr_X5_laysHits, vsA, vcA, denA, lget, lset, lst1, lst2, lclr, argsA, restA, acats, acat, tcA, tcN, rzA, lle, List.length_cons, List.length_nil, Option.toList_some, Option.toList_none, List.cons_append, List.nil_append, eG, eM, eD, eC, eS, eQ, eH, if_true, if_false, Nat.reduceAdd, Nat.reduceLeDiff, Nat.reduceEqDiff, Nat.reduceLT, Nat.reduceSub, Int.reduceEq, Int.reduceLE, Int.reduceToNat, reduceCtorEq, reduceIte, Nat.reduceBEq, Int.reduceNeg, not_true, not_false_iff, true_and, and_true, true_or, or_true, false_or, or_false, forall_const, implies_true, Nat.le_refl, Int.toNat_natCast, Int.reduceLT, ne_eq, Fin.isValue, Nat.add_zero, nC_hrw, nS_hrw, nC_hwr, nS_hwr, hkd_hrw, hkd_hwr, fin4_0, fin4_1, fin4_2, fin4_3, fin2_0, fin2_1, ci0, ci1, cnn, false_implies, w32_eq, w64_eq, hF1.m, hFb', ej]
                try simp (disch := omega) only [yc_lt, yc_le, yc_gt, yc_ge, yc_eq, w32_eq, w64_eq, tn_add, tn_mul, Int.toNat_natCast, Int.reduceToNat, not_true, not_false_iff, false_implies, forall_const, implies_true]
                repeat' (with_reducible first | apply And.intro | intro _)
                all_goals try omega
                all_goals try simp (disch := omega) only [w32_eq, w64_eq, tn_add, tn_mul, Int.toNat_natCast, Int.reduceToNat, Option.some.injEq, Sum.inr.injEq, Sum.inl.injEq]
                all_goals try omega
                all_goals try exact (nx).weak rfl (by simp [lle] <;> omega)
              · rw [if_neg qh] at hb nx
                subst hb
                generalize nxQ ws q c = z at *
                subst hE
                refine vsA_ok tk_X5_laysHits rfl 20 ?_
                simp only [at_X5_laysHits, mr_X5_laysHits, vsA, vcA, denA, lget, lset, lst1, lst2, lclr, argsA, restA, acats, acat, tcA, tcN, rzA, lle, List.length_cons, List.length_nil, Option.toList_some, Option.toList_none, List.cons_append, List.nil_append, eG, eM, eD, eC, eS, eQ, eH, if_true, if_false, Nat.reduceAdd, Nat.reduceLeDiff, Nat.reduceEqDiff, Nat.reduceLT, Nat.reduceSub, Int.reduceEq, Int.reduceLE, Int.reduceToNat, reduceCtorEq, reduceIte, Nat.reduceBEq, Int.reduceNeg, not_true, not_false_iff, true_and, and_true, true_or, or_true, false_or, or_false, forall_const, implies_true, Nat.le_refl, Int.toNat_natCast, Int.reduceLT, ne_eq, Fin.isValue, Nat.add_zero, nC_hrw, nS_hrw, nC_hwr, nS_hwr, hkd_hrw, hkd_hwr, fin4_0, fin4_1, fin4_2, fin4_3, fin2_0, fin2_1, ci0, ci1, cnn, false_implies, w32_eq, w64_eq, hF1.m, hFb', ej]
                try simp (disch := omega) only [yc_lt, yc_le, yc_gt, yc_ge, yc_eq, w32_eq, w64_eq, tn_add, tn_mul, Int.toNat_natCast, Int.reduceToNat, not_true, not_false_iff, false_implies, forall_const, implies_true]
                repeat' (with_reducible first | apply And.intro | intro _)
                all_goals try omega
                all_goals try simp (disch := omega) only [w32_eq, w64_eq, tn_add, tn_mul, Int.toNat_natCast, Int.reduceToNat, Option.some.injEq, Sum.inr.injEq, Sum.inl.injEq]
                all_goals try omega
                all_goals try exact (nx).weak rfl (by simp [lle] <;> omega)
            intro n
            induction n with
            | zero =>
              intro hn hs
              have fin := fin 0 hs
              subst hE
              refine vsA_ok tk_X5_laysHits rfl 1 ?_
              simp only [at_X5_laysHits, mr_X5_laysHits, vsA, vcA, denA, lget, lset, lst1, lst2, lclr, argsA, restA, acats, acat, tcA, tcN, rzA, lle, List.length_cons, List.length_nil, Option.toList_some, Option.toList_none, List.cons_append, List.nil_append, eG, eM, eD, eC, eS, eQ, eH, if_true, if_false, Nat.reduceAdd, Nat.reduceLeDiff, Nat.reduceEqDiff, Nat.reduceLT, Nat.reduceSub, Int.reduceEq, Int.reduceLE, Int.reduceToNat, reduceCtorEq, reduceIte, Nat.reduceBEq, Int.reduceNeg, not_true, not_false_iff, true_and, and_true, true_or, or_true, false_or, or_false, forall_const, implies_true, Nat.le_refl, Int.toNat_natCast, Int.reduceLT, ne_eq, Fin.isValue, Nat.add_zero, nC_hrw, nS_hrw, nC_hwr, nS_hwr, hkd_hrw, hkd_hwr, fin4_0, fin4_1, fin4_2, fin4_3, fin2_0, fin2_1, ci0, ci1, cnn, false_implies, w32_eq, w64_eq]
              try simp (disch := omega) only [yc_lt, yc_le, yc_gt, yc_ge, yc_eq, w32_eq, w64_eq, tn_add, tn_mul, Int.toNat_natCast, Int.reduceToNat, not_true, not_false_iff, false_implies, forall_const, implies_true]
              repeat' (with_reducible first | apply And.intro | intro _)
              all_goals try omega
              all_goals try simp (disch := omega) only [w32_eq, w64_eq, tn_add, tn_mul, Int.toNat_natCast, Int.reduceToNat, Option.some.injEq, Sum.inr.injEq, Sum.inl.injEq]
              all_goals try omega
              all_goals try exact (fin).weak rfl (by simp [lle] <;> omega)
            | succ n ihn =>
              intro hn hs
              have hir := c_X5_isRead (G := G) hF1 hS1 h66 hl (n := n + 1) (q := q) (c := c) (by omega) hql hc6 hn
              by_cases qr : rdB ws (n + 1) q c = true
              · rw [if_pos qr] at hir
                have fin := fin (n + 1) (by
                  rw [← hs]
                  show n + 1 = if rdB ws (n + 1) q c = true then n + 1 else schN _ n
                  rw [if_pos qr])
                subst hE
                refine vsA_ok tk_X5_laysHits rfl 6 ?_
                simp only [at_X5_laysHits, mr_X5_laysHits, vsA, vcA, denA, lget, lset, lst1, lst2, lclr, argsA, restA, acats, acat, tcA, tcN, rzA, lle, List.length_cons, List.length_nil, Option.toList_some, Option.toList_none, List.cons_append, List.nil_append, eG, eM, eD, eC, eS, eQ, eH, if_true, if_false, Nat.reduceAdd, Nat.reduceLeDiff, Nat.reduceEqDiff, Nat.reduceLT, Nat.reduceSub, Int.reduceEq, Int.reduceLE, Int.reduceToNat, reduceCtorEq, reduceIte, Nat.reduceBEq, Int.reduceNeg, not_true, not_false_iff, true_and, and_true, true_or, or_true, false_or, or_false, forall_const, implies_true, Nat.le_refl, Int.toNat_natCast, Int.reduceLT, ne_eq, Fin.isValue, Nat.add_zero, nC_hrw, nS_hrw, nC_hwr, nS_hwr, hkd_hrw, hkd_hwr, fin4_0, fin4_1, fin4_2, fin4_3, fin2_0, fin2_1, ci0, ci1, cnn, false_implies, w32_eq, w64_eq, hF1.m]
                try simp (disch := omega) only [yc_lt, yc_le, yc_gt, yc_ge, yc_eq, w32_eq, w64_eq, tn_add, tn_mul, Int.toNat_natCast, Int.reduceToNat, not_true, not_false_iff, false_implies, forall_const, implies_true]
                repeat' (with_reducible first | apply And.intro | intro _)
                all_goals try omega
                all_goals try simp (disch := omega) only [w32_eq, w64_eq, tn_add, tn_mul, Int.toNat_natCast, Int.reduceToNat, Option.some.injEq, Sum.inr.injEq, Sum.inl.injEq]
                all_goals try omega
                refine ClA.pure (hir) (by first | exact Nat.le_of_ble_eq_true rfl | (simp only [eD]; omega)) (by first | exact Nat.le_refl _ | (simp only [eG, eD, eC, eS, eQ, eH, nC_hrw, nC_hwr, nS_hrw, nS_hwr, nC_hnw, nS_hnw]; omega)) (by first | exact Nat.le_refl _ | (simp only [eG, eD, eC, eS, eQ, eH, nC_hrw, nC_hwr, nS_hrw, nS_hwr, nC_hnw, nS_hnw]; omega)) ?_
                refine vsA_ok tk_X5_laysHits rfl 0 ?_
                simp only [at_X5_laysHits, mr_X5_laysHits, vsA, vcA, denA, lget, lset, lst1, lst2, lclr, argsA, restA, acats, acat, tcA, tcN, rzA, lle, List.length_cons, List.length_nil, Option.toList_some, Option.toList_none, List.cons_append, List.nil_append, eG, eM, eD, eC, eS, eQ, eH, if_true, if_false, Nat.reduceAdd, Nat.reduceLeDiff, Nat.reduceEqDiff, Nat.reduceLT, Nat.reduceSub, Int.reduceEq, Int.reduceLE, Int.reduceToNat, reduceCtorEq, reduceIte, Nat.reduceBEq, Int.reduceNeg, not_true, not_false_iff, true_and, and_true, true_or, or_true, false_or, or_false, forall_const, implies_true, Nat.le_refl, Int.toNat_natCast, Int.reduceLT, ne_eq, Fin.isValue, Nat.add_zero, nC_hrw, nS_hrw, nC_hwr, nS_hwr, hkd_hrw, hkd_hwr, fin4_0, fin4_1, fin4_2, fin4_3, fin2_0, fin2_1, ci0, ci1, cnn, false_implies, w32_eq, w64_eq]
                try simp (disch := omega) only [yc_lt, yc_le, yc_gt, yc_ge, yc_eq, w32_eq, w64_eq, tn_add, tn_mul, Int.toNat_natCast, Int.reduceToNat, not_true, not_false_iff, false_implies, forall_const, implies_true]
                repeat' (with_reducible first | apply And.intro | intro _)
                all_goals try omega
                all_goals try simp (disch := omega) only [w32_eq, w64_eq, tn_add, tn_mul, Int.toNat_natCast, Int.reduceToNat, Option.some.injEq, Sum.inr.injEq, Sum.inl.injEq]
                all_goals try omega
                all_goals try exact (fin).weak rfl (by simp [lle] <;> omega)
              · rw [if_neg qr] at hir
                have ihn := ihn (by omega) (by
                  rw [← hs]
                  show schN _ n = if rdB ws (n + 1) q c = true then n + 1 else schN _ n
                  rw [if_neg qr])
                rw [show (n : Int) = ((n + 1 : Nat) : Int) - 1 by omega] at ihn
                subst hE
                refine vsA_ok tk_X5_laysHits rfl 6 ?_
                simp only [at_X5_laysHits, mr_X5_laysHits, vsA, vcA, denA, lget, lset, lst1, lst2, lclr, argsA, restA, acats, acat, tcA, tcN, rzA, lle, List.length_cons, List.length_nil, Option.toList_some, Option.toList_none, List.cons_append, List.nil_append, eG, eM, eD, eC, eS, eQ, eH, if_true, if_false, Nat.reduceAdd, Nat.reduceLeDiff, Nat.reduceEqDiff, Nat.reduceLT, Nat.reduceSub, Int.reduceEq, Int.reduceLE, Int.reduceToNat, reduceCtorEq, reduceIte, Nat.reduceBEq, Int.reduceNeg, not_true, not_false_iff, true_and, and_true, true_or, or_true, false_or, or_false, forall_const, implies_true, Nat.le_refl, Int.toNat_natCast, Int.reduceLT, ne_eq, Fin.isValue, Nat.add_zero, nC_hrw, nS_hrw, nC_hwr, nS_hwr, hkd_hrw, hkd_hwr, fin4_0, fin4_1, fin4_2, fin4_3, fin2_0, fin2_1, ci0, ci1, cnn, false_implies, w32_eq, w64_eq, hF1.m]
                try simp (disch := omega) only [yc_lt, yc_le, yc_gt, yc_ge, yc_eq, w32_eq, w64_eq, tn_add, tn_mul, Int.toNat_natCast, Int.reduceToNat, not_true, not_false_iff, false_implies, forall_const, implies_true]
                repeat' (with_reducible first | apply And.intro | intro _)
                all_goals try omega
                all_goals try simp (disch := omega) only [w32_eq, w64_eq, tn_add, tn_mul, Int.toNat_natCast, Int.reduceToNat, Option.some.injEq, Sum.inr.injEq, Sum.inl.injEq]
                all_goals try omega
                refine ClA.pure (hir) (by first | exact Nat.le_of_ble_eq_true rfl | (simp only [eD]; omega)) (by first | exact Nat.le_refl _ | (simp only [eG, eD, eC, eS, eQ, eH, nC_hrw, nC_hwr, nS_hrw, nS_hwr, nC_hnw, nS_hnw]; omega)) (by first | exact Nat.le_refl _ | (simp only [eG, eD, eC, eS, eQ, eH, nC_hrw, nC_hwr, nS_hrw, nS_hwr, nC_hnw, nS_hnw]; omega)) ?_
                refine vsA_ok tk_X5_laysHits rfl 4 ?_
                simp only [at_X5_laysHits, mr_X5_laysHits, vsA, vcA, denA, lget, lset, lst1, lst2, lclr, argsA, restA, acats, acat, tcA, tcN, rzA, lle, List.length_cons, List.length_nil, Option.toList_some, Option.toList_none, List.cons_append, List.nil_append, eG, eM, eD, eC, eS, eQ, eH, if_true, if_false, Nat.reduceAdd, Nat.reduceLeDiff, Nat.reduceEqDiff, Nat.reduceLT, Nat.reduceSub, Int.reduceEq, Int.reduceLE, Int.reduceToNat, reduceCtorEq, reduceIte, Nat.reduceBEq, Int.reduceNeg, not_true, not_false_iff, true_and, and_true, true_or, or_true, false_or, or_false, forall_const, implies_true, Nat.le_refl, Int.toNat_natCast, Int.reduceLT, ne_eq, Fin.isValue, Nat.add_zero, nC_hrw, nS_hrw, nC_hwr, nS_hwr, hkd_hrw, hkd_hwr, fin4_0, fin4_1, fin4_2, fin4_3, fin2_0, fin2_1, ci0, ci1, cnn, false_implies, w32_eq, w64_eq]
                try simp (disch := omega) only [yc_lt, yc_le, yc_gt, yc_ge, yc_eq, w32_eq, w64_eq, tn_add, tn_mul, Int.toNat_natCast, Int.reduceToNat, not_true, not_false_iff, false_implies, forall_const, implies_true]
                repeat' (with_reducible first | apply And.intro | intro _)
                all_goals try omega
                all_goals try simp (disch := omega) only [w32_eq, w64_eq, tn_add, tn_mul, Int.toNat_natCast, Int.reduceToNat, Option.some.injEq, Sum.inr.injEq, Sum.inl.injEq]
                all_goals try omega
                all_goals try exact (ihn).weak rfl (by simp [lle] <;> omega)
          have e37 := hS1.2 q hql
          have hl6 := hl q hql
          by_cases q1 : q = ws.length - 1
          · by_cases q2 : ws.getD q 0 = c
            · have qh : htQ ws q c = true := by unfold htQ; rw [decide_eq_true_eq]; exact ⟨q1, q2⟩
              have l3 := L3 1 (by rw [if_pos qh]) (ws.length - 1) (by omega) (by unfold nxQ; rw [if_pos qh])
              rw [show ((ws.length - 1 : Nat) : Int) = (ws.length : Int) - 1 by omega] at l3
              rw [q2] at e37
              subst hE
              refine vsA_ok tk_X5_laysHits rfl 40 ?_
              simp only [at_X5_laysHits, mr_X5_laysHits, vsA, vcA, denA, lget, lset, lst1, lst2, lclr, argsA, restA, acats, acat, tcA, tcN, rzA, lle, List.length_cons, List.length_nil, Option.toList_some, Option.toList_none, List.cons_append, List.nil_append, eG, eM, eD, eC, eS, eQ, eH, if_true, if_false, Nat.reduceAdd, Nat.reduceLeDiff, Nat.reduceEqDiff, Nat.reduceLT, Nat.reduceSub, Int.reduceEq, Int.reduceLE, Int.reduceToNat, reduceCtorEq, reduceIte, Nat.reduceBEq, Int.reduceNeg, not_true, not_false_iff, true_and, and_true, true_or, or_true, false_or, or_false, forall_const, implies_true, Nat.le_refl, Int.toNat_natCast, Int.reduceLT, ne_eq, Fin.isValue, Nat.add_zero, nC_hrw, nS_hrw, nC_hwr, nS_hwr, hkd_hrw, hkd_hwr, fin4_0, fin4_1, fin4_2, fin4_3, fin2_0, fin2_1, ci0, ci1, cnn, false_implies, w32_eq, w64_eq, hF1.m, hS1.1, hq1, e37]
              try simp (disch := omega) only [yc_lt, yc_le, yc_gt, yc_ge, yc_eq, w32_eq, w64_eq, tn_add, tn_mul, Int.toNat_natCast, Int.reduceToNat, not_true, not_false_iff, false_implies, forall_const, implies_true]
              repeat' (with_reducible first | apply And.intro | intro _)
              all_goals try omega
              all_goals try simp (disch := omega) only [w32_eq, w64_eq, tn_add, tn_mul, Int.toNat_natCast, Int.reduceToNat, Option.some.injEq, Sum.inr.injEq, Sum.inl.injEq]
              all_goals try omega
              all_goals try exact (l3).weak rfl (by simp [lle] <;> omega)
            · have qh : ¬ htQ ws q c = true := by unfold htQ; rw [decide_eq_true_eq]; exact fun a => q2 a.2
              have l3 := L3 0 (by rw [if_neg qh]) (q + 1) (by omega) (by unfold nxQ; rw [if_neg qh])
              generalize ws.getD q 0 = x at *
              subst hE
              refine vsA_ok tk_X5_laysHits rfl 40 ?_
              simp only [at_X5_laysHits, mr_X5_laysHits, vsA, vcA, denA, lget, lset, lst1, lst2, lclr, argsA, restA, acats, acat, tcA, tcN, rzA, lle, List.length_cons, List.length_nil, Option.toList_some, Option.toList_none, List.cons_append, List.nil_append, eG, eM, eD, eC, eS, eQ, eH, if_true, if_false, Nat.reduceAdd, Nat.reduceLeDiff, Nat.reduceEqDiff, Nat.reduceLT, Nat.reduceSub, Int.reduceEq, Int.reduceLE, Int.reduceToNat, reduceCtorEq, reduceIte, Nat.reduceBEq, Int.reduceNeg, not_true, not_false_iff, true_and, and_true, true_or, or_true, false_or, or_false, forall_const, implies_true, Nat.le_refl, Int.toNat_natCast, Int.reduceLT, ne_eq, Fin.isValue, Nat.add_zero, nC_hrw, nS_hrw, nC_hwr, nS_hwr, hkd_hrw, hkd_hwr, fin4_0, fin4_1, fin4_2, fin4_3, fin2_0, fin2_1, ci0, ci1, cnn, false_implies, w32_eq, w64_eq, hF1.m, hS1.1, hq1, e37]
              try simp (disch := omega) only [yc_lt, yc_le, yc_gt, yc_ge, yc_eq, w32_eq, w64_eq, tn_add, tn_mul, Int.toNat_natCast, Int.reduceToNat, not_true, not_false_iff, false_implies, forall_const, implies_true]
              repeat' (with_reducible first | apply And.intro | intro _)
              all_goals try omega
              all_goals try simp (disch := omega) only [w32_eq, w64_eq, tn_add, tn_mul, Int.toNat_natCast, Int.reduceToNat, Option.some.injEq, Sum.inr.injEq, Sum.inl.injEq]
              all_goals try omega
              all_goals try exact (l3).weak rfl (by simp [lle] <;> omega)
          · have qh : ¬ htQ ws q c = true := by unfold htQ; rw [decide_eq_true_eq]; exact fun a => q1 a.1
            have l3 := L3 0 (by rw [if_neg qh]) (q + 1) (by omega) (by unfold nxQ; rw [if_neg qh])
            subst hE
            refine vsA_ok tk_X5_laysHits rfl 40 ?_
            simp only [at_X5_laysHits, mr_X5_laysHits, vsA, vcA, denA, lget, lset, lst1, lst2, lclr, argsA, restA, acats, acat, tcA, tcN, rzA, lle, List.length_cons, List.length_nil, Option.toList_some, Option.toList_none, List.cons_append, List.nil_append, eG, eM, eD, eC, eS, eQ, eH, if_true, if_false, Nat.reduceAdd, Nat.reduceLeDiff, Nat.reduceEqDiff, Nat.reduceLT, Nat.reduceSub, Int.reduceEq, Int.reduceLE, Int.reduceToNat, reduceCtorEq, reduceIte, Nat.reduceBEq, Int.reduceNeg, not_true, not_false_iff, true_and, and_true, true_or, or_true, false_or, or_false, forall_const, implies_true, Nat.le_refl, Int.toNat_natCast, Int.reduceLT, ne_eq, Fin.isValue, Nat.add_zero, nC_hrw, nS_hrw, nC_hwr, nS_hwr, hkd_hrw, hkd_hwr, fin4_0, fin4_1, fin4_2, fin4_3, fin2_0, fin2_1, ci0, ci1, cnn, false_implies, w32_eq, w64_eq, hF1.m, hS1.1, hq1, e37]
            try simp (disch := omega) only [yc_lt, yc_le, yc_gt, yc_ge, yc_eq, w32_eq, w64_eq, tn_add, tn_mul, Int.toNat_natCast, Int.reduceToNat, not_true, not_false_iff, false_implies, forall_const, implies_true]
            repeat' (with_reducible first | apply And.intro | intro _)
            all_goals try omega
            all_goals try simp (disch := omega) only [w32_eq, w64_eq, tn_add, tn_mul, Int.toNat_natCast, Int.reduceToNat, Option.some.injEq, Sum.inr.injEq, Sum.inl.injEq]
            all_goals try omega
            all_goals try exact (l3).weak rfl (by simp [lle] <;> omega)
        · have nx := ihc h1 hx (fun d r hd' hr => by
            by_cases e : d = c
            · rw [e]; exact hd2 r (by omega)
            · exact hd d r (by omega) hr)
          subst hE
          refine vsA_ok tk_X5_laysHits rfl 8 ?_
          simp only [at_X5_laysHits, mr_X5_laysHits, vsA, vcA, denA, lget, lset, lst1, lst2, lclr, argsA, restA, acats, acat, tcA, tcN, rzA, lle, List.length_cons, List.length_nil, Option.toList_some, Option.toList_none, List.cons_append, List.nil_append, eG, eM, eD, eC, eS, eQ, eH, if_true, if_false, Nat.reduceAdd, Nat.reduceLeDiff, Nat.reduceEqDiff, Nat.reduceLT, Nat.reduceSub, Int.reduceEq, Int.reduceLE, Int.reduceToNat, reduceCtorEq, reduceIte, Nat.reduceBEq, Int.reduceNeg, not_true, not_false_iff, true_and, and_true, true_or, or_true, false_or, or_false, forall_const, implies_true, Nat.le_refl, Int.toNat_natCast, Int.reduceLT, ne_eq, Fin.isValue, Nat.add_zero, nC_hrw, nS_hrw, nC_hwr, nS_hwr, hkd_hrw, hkd_hwr, fin4_0, fin4_1, fin4_2, fin4_3, fin2_0, fin2_1, ci0, ci1, cnn, false_implies, w32_eq, w64_eq, hF1.m, hS1.1]
          try simp (disch := omega) only [yc_lt, yc_le, yc_gt, yc_ge, yc_eq, w32_eq, w64_eq, tn_add, tn_mul, Int.toNat_natCast, Int.reduceToNat, not_true, not_false_iff, false_implies, forall_const, implies_true]
          repeat' (with_reducible first | apply And.intro | intro _)
          all_goals try omega
          all_goals try simp (disch := omega) only [w32_eq, w64_eq, tn_add, tn_mul, Int.toNat_natCast, Int.reduceToNat, Option.some.injEq, Sum.inr.injEq, Sum.inl.injEq]
          all_goals try omega
          all_goals try exact (nx).weak rfl (by simp [lle] <;> omega)
      have l2 := L2 0 (Nat.zero_le _) h1 hx hd (fun r hr => absurd hr (Nat.not_lt_zero _))
      subst hE
      refine vsA_ok tk_X5_laysHits rfl 6 ?_
      simp only [at_X5_laysHits, mr_X5_laysHits, vsA, vcA, denA, lget, lset, lst1, lst2, lclr, argsA, restA, acats, acat, tcA, tcN, rzA, lle, List.length_cons, List.length_nil, Option.toList_some, Option.toList_none, List.cons_append, List.nil_append, eG, eM, eD, eC, eS, eQ, eH, if_true, if_false, Nat.reduceAdd, Nat.reduceLeDiff, Nat.reduceEqDiff, Nat.reduceLT, Nat.reduceSub, Int.reduceEq, Int.reduceLE, Int.reduceToNat, reduceCtorEq, reduceIte, Nat.reduceBEq, Int.reduceNeg, not_true, not_false_iff, true_and, and_true, true_or, or_true, false_or, or_false, forall_const, implies_true, Nat.le_refl, Int.toNat_natCast, Int.reduceLT, ne_eq, Fin.isValue, Nat.add_zero, nC_hrw, nS_hrw, nC_hwr, nS_hwr, hkd_hrw, hkd_hwr, fin4_0, fin4_1, fin4_2, fin4_3, fin2_0, fin2_1, ci0, ci1, cnn, false_implies, w32_eq, w64_eq]
      try simp (disch := omega) only [yc_lt, yc_le, yc_gt, yc_ge, yc_eq, w32_eq, w64_eq, tn_add, tn_mul, Int.toNat_natCast, Int.reduceToNat, not_true, not_false_iff, false_implies, forall_const, implies_true]
      repeat' (with_reducible first | apply And.intro | intro _)
      all_goals try omega
      all_goals try simp (disch := omega) only [w32_eq, w64_eq, tn_add, tn_mul, Int.toNat_natCast, Int.reduceToNat, Option.some.injEq, Sum.inr.injEq, Sum.inl.injEq]
      all_goals try omega
      all_goals try exact (l2).weak rfl (by simp [lle] <;> omega)
    · have hc7 : c = 6 := by omega
      subst hc7
      obtain ⟨hF1, hA1, hS1⟩ := KP h1 hx
      have cc1 := hx.2.1
      have hq1 := hA1.q
      have l4 := L4 tbl.length (Nat.le_refl _) h1 hx (fun k c q a1 a2 a3 a4 => by rw [show k = tbl.length by omega]; exact hd c q a3 a4)
      subst hE
      refine vsA_ok tk_X5_laysHits rfl 12 ?_
      simp only [at_X5_laysHits, mr_X5_laysHits, vsA, vcA, denA, lget, lset, lst1, lst2, lclr, argsA, restA, acats, acat, tcA, tcN, rzA, lle, List.length_cons, List.length_nil, Option.toList_some, Option.toList_none, List.cons_append, List.nil_append, eG, eM, eD, eC, eS, eQ, eH, if_true, if_false, Nat.reduceAdd, Nat.reduceLeDiff, Nat.reduceEqDiff, Nat.reduceLT, Nat.reduceSub, Int.reduceEq, Int.reduceLE, Int.reduceToNat, reduceCtorEq, reduceIte, Nat.reduceBEq, Int.reduceNeg, not_true, not_false_iff, true_and, and_true, true_or, or_true, false_or, or_false, forall_const, implies_true, Nat.le_refl, Int.toNat_natCast, Int.reduceLT, ne_eq, Fin.isValue, Nat.add_zero, nC_hrw, nS_hrw, nC_hwr, nS_hwr, hkd_hrw, hkd_hwr, fin4_0, fin4_1, fin4_2, fin4_3, fin2_0, fin2_1, ci0, ci1, cnn, false_implies, w32_eq, w64_eq, hF1.m, hq1]
      try simp (disch := omega) only [yc_lt, yc_le, yc_gt, yc_ge, yc_eq, w32_eq, w64_eq, tn_add, tn_mul, Int.toNat_natCast, Int.reduceToNat, not_true, not_false_iff, false_implies, forall_const, implies_true]
      repeat' (with_reducible first | apply And.intro | intro _)
      all_goals try omega
      all_goals try simp (disch := omega) only [w32_eq, w64_eq, tn_add, tn_mul, Int.toNat_natCast, Int.reduceToNat, Option.some.injEq, Sum.inr.injEq, Sum.inl.injEq]
      all_goals try omega
      all_goals try exact (l4).weak rfl (by simp [lle] <;> omega)
  have l1 := L1 0 (by omega) h FrP.rf (fun d q a => absurd a (Nat.not_lt_zero _))
  subst hE
  refine vsA_ok tk_X5_laysHits rfl 6 ?_
  simp only [at_X5_laysHits, mr_X5_laysHits, vsA, vcA, denA, lget, lset, lst1, lst2, lclr, argsA, restA, acats, acat, tcA, tcN, rzA, lle, List.length_cons, List.length_nil, Option.toList_some, Option.toList_none, List.cons_append, List.nil_append, eG, eM, eD, eC, eS, eQ, eH, if_true, if_false, Nat.reduceAdd, Nat.reduceLeDiff, Nat.reduceEqDiff, Nat.reduceLT, Nat.reduceSub, Int.reduceEq, Int.reduceLE, Int.reduceToNat, reduceCtorEq, reduceIte, Nat.reduceBEq, Int.reduceNeg, not_true, not_false_iff, true_and, and_true, true_or, or_true, false_or, or_false, forall_const, implies_true, Nat.le_refl, Int.toNat_natCast, Int.reduceLT, ne_eq, Fin.isValue, Nat.add_zero, nC_hrw, nS_hrw, nC_hwr, nS_hwr, hkd_hrw, hkd_hwr, fin4_0, fin4_1, fin4_2, fin4_3, fin2_0, fin2_1, ci0, ci1, cnn, false_implies, w32_eq, w64_eq]
  try simp (disch := omega) only [yc_lt, yc_le, yc_gt, yc_ge, yc_eq, w32_eq, w64_eq, tn_add, tn_mul, Int.toNat_natCast, Int.reduceToNat, not_true, not_false_iff, false_implies, forall_const, implies_true]
  repeat' (with_reducible first | apply And.intro | intro _)
  all_goals try omega
  all_goals try simp (disch := omega) only [w32_eq, w64_eq, tn_add, tn_mul, Int.toNat_natCast, Int.reduceToNat, Option.some.injEq, Sum.inr.injEq, Sum.inl.injEq]
  all_goals try omega
  all_goals try exact (l1).weak rfl (by simp [lle] <;> omega)
end
def occP (w : WD) (t : Int) : Int := if wordF w t = 0 then ((ocN (wsN (trV w t)) (wrdS (wS w) (wA w)) : Nat) : Int) else wordF w t
def firOK (w : WD) (t z : Int) : Prop := if wordF w t = 0 then FirOK (wsN (trV w t)) (wrdS (wS w) (wA w)) z else z = wordF w t
theorem wordF_in (w : WD) (t : Int) : -6 ≤ wordF w t ∧ wordF w t ≤ 0 := by
  unfold wordF trF wfP
  repeat' split
  all_goals omega
theorem wordF_0 {w : WD} {t : Int} (h : wordF w t = 0) : ∃ n q, t = ((n : Nat) : Int) ∧ n < 4 ∧ wT w n = some q ∧ trV w t = q.2 ∧ (1 ≤ q.2.length ∧ q.2.length ≤ 6) ∧ ∀ i, i < q.2.length → 0 ≤ q.2.getD i 0 ∧ q.2.getD i 0 ≤ 5 := by
  unfold wordF at h
  split at h
  next q0 =>
    obtain ⟨n, q, e1, e2, e3, e4⟩ := trF_0 q0
    rw [e4] at h
    exact ⟨n, q, e1, e2, e3, e4, wfP_0 h⟩
  next q0 => exact absurd h q0
section
variable {G : GT} {h : AH} {w : WD} {N : Int}
theorem c_X5_occurs (hF : FxA h) (hM : MdC h w) (hW : WOK N w) (t : Int) (ht : In32 t) :
    CnA G mX5_occurs 4 0 0 [.inr (.inr (124)), .inl (t)] h (fun r h1 => r = some (.inr (.inl (occP w t))) ∧ MpC h h1 w) := by
  obtain ⟨x0, hF0, hM0⟩ := thr_0 hF hM
  have hfin : MpC h (hwr h 124 0 0) w := MpC.scr hF hM x0 (by decide) (by decide)
  have hno := c_X5_noWord (G := G) hF0 hM0 hW t ht
  have hin := wordF_in w t
  by_cases q0 : wordF w t = 0
  · rw [show occP w t = ((ocN (wsN (trV w t)) (wrdS (wS w) (wA w)) : Nat) : Int) from if_pos q0]
    rw [q0] at hno
    obtain ⟨n, q, rfl, hn, hq, hvv, hlen, hl5⟩ := wordF_0 q0
    rw [hvv]
    have hTM : TrM (hwr h 124 0 0) n q.2 := by
      have := hM0.2.2.2.2.2 n hn
      rw [hq] at this
      exact this.2
    generalize q.2 = vs at *
    have hA : AllC (hdt h 125) (sT (wS w)) (sB (wS w)) (sS (wS w)) (wA w).1 (wA w).2.1 (wA w).2.2 := hM.1.1.1
    have hL : (wrd (sB (wS w)) (sS (wS w)) (wA w).1).length ≤ 1000000000000 := hW.2.1.2.2.2.2
    refine CnA.of rfl (Nat.le_of_ble_eq_true rfl) ?_
    simp only [largs, lpad, mr_X5_occurs]
    refine vsA_ok tk_X5_occurs rfl 10 ?_
    simp only [at_X5_occurs, mr_X5_occurs, vsA, vcA, denA, lget, lset, lst1, lst2, lclr, argsA, restA, acats, acat, tcA, tcN, rzA, lle, List.length_cons, List.length_nil, Option.toList_some, Option.toList_none, List.cons_append, List.nil_append, eG, eM, eD, eC, eS, eQ, eH, if_true, if_false, Nat.reduceAdd, Nat.reduceLeDiff, Nat.reduceEqDiff, Nat.reduceLT, Nat.reduceSub, Int.reduceEq, Int.reduceLE, Int.reduceToNat, reduceCtorEq, reduceIte, Nat.reduceBEq, Int.reduceNeg, not_true, not_false_iff, true_and, and_true, true_or, or_true, false_or, or_false, forall_const, implies_true, Nat.le_refl, Int.toNat_natCast, Int.reduceLT, ne_eq, Fin.isValue, Nat.add_zero, nC_hrw, nS_hrw, nC_hwr, nS_hwr, hkd_hrw, hkd_hwr, fin4_0, fin4_1, fin4_2, fin4_3, fin2_0, fin2_1, ci0, ci1, cnn, false_implies, w32_eq, w64_eq, hF.m, hF0.m]
    try simp (disch := omega) only [yc_lt, yc_le, yc_gt, yc_ge, yc_eq, w32_eq, w64_eq, tn_add, tn_mul, Int.toNat_natCast, Int.reduceToNat, not_true, not_false_iff, false_implies, forall_const, implies_true]
    repeat' (with_reducible first | apply And.intro | intro _)
    all_goals try omega
    all_goals try simp (disch := omega) only [w32_eq, w64_eq, tn_add, tn_mul, Int.toNat_natCast, Int.reduceToNat, Option.some.injEq, Sum.inr.injEq, Sum.inl.injEq]
    all_goals try omega
    refine ClA.pure (hno) (by first | exact Nat.le_of_ble_eq_true rfl | (simp only [eD]; omega)) (by first | exact Nat.le_refl _ | (simp only [eG, eD, eC, eS, eQ, eH, nC_hrw, nC_hwr, nS_hrw, nS_hwr, nC_hnw, nS_hnw]; omega)) (by first | exact Nat.le_refl _ | (simp only [eG, eD, eC, eS, eQ, eH, nC_hrw, nC_hwr, nS_hrw, nS_hwr, nC_hnw, nS_hnw]; omega)) ?_
    refine vsA_ok tk_X5_occurs rfl 10 ?_
    simp only [at_X5_occurs, mr_X5_occurs, vsA, vcA, denA, lget, lset, lst1, lst2, lclr, argsA, restA, acats, acat, tcA, tcN, rzA, lle, List.length_cons, List.length_nil, Option.toList_some, Option.toList_none, List.cons_append, List.nil_append, eG, eM, eD, eC, eS, eQ, eH, if_true, if_false, Nat.reduceAdd, Nat.reduceLeDiff, Nat.reduceEqDiff, Nat.reduceLT, Nat.reduceSub, Int.reduceEq, Int.reduceLE, Int.reduceToNat, reduceCtorEq, reduceIte, Nat.reduceBEq, Int.reduceNeg, not_true, not_false_iff, true_and, and_true, true_or, or_true, false_or, or_false, forall_const, implies_true, Nat.le_refl, Int.toNat_natCast, Int.reduceLT, ne_eq, Fin.isValue, Nat.add_zero, nC_hrw, nS_hrw, nC_hwr, nS_hwr, hkd_hrw, hkd_hwr, fin4_0, fin4_1, fin4_2, fin4_3, fin2_0, fin2_1, ci0, ci1, cnn, false_implies, w32_eq, w64_eq, hF0.m]
    try simp (disch := omega) only [yc_lt, yc_le, yc_gt, yc_ge, yc_eq, w32_eq, w64_eq, tn_add, tn_mul, Int.toNat_natCast, Int.reduceToNat, not_true, not_false_iff, false_implies, forall_const, implies_true]
    repeat' (with_reducible first | apply And.intro | intro _)
    all_goals try omega
    all_goals try simp (disch := omega) only [w32_eq, w64_eq, tn_add, tn_mul, Int.toNat_natCast, Int.reduceToNat, Option.some.injEq, Sum.inr.injEq, Sum.inl.injEq]
    all_goals try omega
    refine ClA.of (c_X5_laysSpelling hF0 hTM hn hlen.2) (by first | exact Nat.le_of_ble_eq_true rfl | (simp only [eD]; omega)) (by first | exact Nat.le_refl _ | (simp only [eG, eD, eC, eS, eQ, eH, nC_hrw, nC_hwr, nS_hrw, nS_hwr, nC_hnw, nS_hnw]; omega)) (by first | exact Nat.le_refl _ | (simp only [eG, eD, eC, eS, eQ, eH, nC_hrw, nC_hwr, nS_hrw, nS_hwr, nC_hnw, nS_hnw]; omega)) ?_
    rintro _ h2 ⟨rfl, hx2, hS2⟩ - -
    obtain ⟨hSn, hwl, hw6⟩ := hS2.nat hl5
    have hx2' : FrM [136, 137, 138] [0, 29] h h2 := (FrM.up x0 (by decide) (by decide)).tr (FrM.up hx2 (by decide) (by decide))
    have hF2 := hF.frm hx2' (by decide +kernel)
    have c2 := hx2'.2.1
    have hA2 : AllC (hdt h2 125) (sT (wS w)) (sB (wS w)) (sS (wS w)) (wA w).1 (wA w).2.1 (wA w).2.2 := by rw [FrM.c hx2' (b := 125) (by decide) (by decide)]; exact hA
    refine vsA_ok tk_X5_occurs rfl 10 ?_
    simp only [at_X5_occurs, mr_X5_occurs, vsA, vcA, denA, lget, lset, lst1, lst2, lclr, argsA, restA, acats, acat, tcA, tcN, rzA, lle, List.length_cons, List.length_nil, Option.toList_some, Option.toList_none, List.cons_append, List.nil_append, eG, eM, eD, eC, eS, eQ, eH, if_true, if_false, Nat.reduceAdd, Nat.reduceLeDiff, Nat.reduceEqDiff, Nat.reduceLT, Nat.reduceSub, Int.reduceEq, Int.reduceLE, Int.reduceToNat, reduceCtorEq, reduceIte, Nat.reduceBEq, Int.reduceNeg, not_true, not_false_iff, true_and, and_true, true_or, or_true, false_or, or_false, forall_const, implies_true, Nat.le_refl, Int.toNat_natCast, Int.reduceLT, ne_eq, Fin.isValue, Nat.add_zero, nC_hrw, nS_hrw, nC_hwr, nS_hwr, hkd_hrw, hkd_hwr, fin4_0, fin4_1, fin4_2, fin4_3, fin2_0, fin2_1, ci0, ci1, cnn, false_implies, w32_eq, w64_eq, hF2.m]
    try simp (disch := omega) only [yc_lt, yc_le, yc_gt, yc_ge, yc_eq, w32_eq, w64_eq, tn_add, tn_mul, Int.toNat_natCast, Int.reduceToNat, not_true, not_false_iff, false_implies, forall_const, implies_true]
    repeat' (with_reducible first | apply And.intro | intro _)
    all_goals try omega
    all_goals try simp (disch := omega) only [w32_eq, w64_eq, tn_add, tn_mul, Int.toNat_natCast, Int.reduceToNat, Option.some.injEq, Sum.inr.injEq, Sum.inl.injEq]
    all_goals try omega
    refine ClA.of (c_X5_laysHits hF2 hA2 hSn (by omega) hw6) (by first | exact Nat.le_of_ble_eq_true rfl | (simp only [eD]; omega)) (by first | exact Nat.le_refl _ | (simp only [eG, eD, eC, eS, eQ, eH, nC_hrw, nC_hwr, nS_hrw, nS_hwr, nC_hnw, nS_hnw]; omega)) (by first | exact Nat.le_refl _ | (simp only [eG, eD, eC, eS, eQ, eH, nC_hrw, nC_hwr, nS_hrw, nS_hwr, nC_hnw, nS_hnw]; omega)) ?_
    rintro _ h3 ⟨rfl, hx3, hH⟩ - -
    have hx3' : FrM [136, 137, 138] [0, 29] h h3 := hx2'.tr (FrM.up hx3 (by decide) (by decide))
    have hF3 := hF.frm hx3' (by decide +kernel)
    have c3 := hx3'.2.1
    have hA3 : AllC (hdt h3 125) (sT (wS w)) (sB (wS w)) (sS (wS w)) (wA w).1 (wA w).2.1 (wA w).2.2 := by rw [FrM.c hx3' (b := 125) (by decide) (by decide)]; exact hA
    have hfin3 : MpC h h3 w := MpC.scr hF hM hx3' (by decide) (by decide)
    rw [← rnQ_ocN (by omega)]
    have hsz := hA3.sz
    have hq3 := hA3.q
    have hWd : wrdS (wS w) (wA w) = (sS (wS w)).flatMap (exl (sB (wS w)) (wA w).1) := rfl
    rw [hWd]
    have hL' : ((sS (wS w)).flatMap (exl (sB (wS w)) (wA w).1)).length ≤ 1000000000000 := hL
    generalize hE : ((G, mX5_occurs, _, _, _, _, h) : EV) = E
    have L1 : ∀ i, i ≤ (sS (wS w)).length → ExA E 35 [some (.inr (.inr (124))), some (.inl ((n : Int))), some (.inl (0)), some (.inl ((((rnQ (wsN vs) 0 (((sS (wS w)).take i).flatMap (exl (sB (wS w)) (wA w).1))).1 : Nat) : Int))), some (.inr (.inl ((((rnQ (wsN vs) 0 (((sS (wS w)).take i).flatMap (exl (sB (wS w)) (wA w).1))).2 : Nat) : Int)))), none, some (.inl ((i : Int))), none] [] h3 := by
      refine lpI _ fun i hi ih => ?_
      have hnow := rnQ_lt (ws := wsN vs) (((sS (wS w)).take i).flatMap (exl (sB (wS w)) (wA w).1)) 0 (by omega)
      by_cases hil : i < (sS (wS w)).length
      · have nx := ih hil
        rw [fm_takeS _ _ hil, rnQ_app] at nx
        have hd6 := hA3.std6 hil
        have hsd := hA3.sd hil
        have hdl := fm_len1 (exl (sB (wS w)) (wA w).1) (getD_mem hil)
        generalize rnQ (wsN vs) 0 (((sS (wS w)).take i).flatMap (exl (sB (wS w)) (wA w).1)) = st at *
        obtain ⟨now, sm⟩ := st
        generalize (sS (wS w)).getD i 0 = d at *
        have hnow : now < (wsN vs).length := hnow
        have hH := hH 0 d now (Nat.zero_le _) hd6 hnow
        have hle := rnQ_le (wsN vs) (exl (sB (wS w)) (wA w).1 d) now
        unfold HtI at hH
        rw [List.drop_zero, show 6 * (6 * 0 + d) + now = 6 * d + now by omega] at hH
        generalize rnQ (wsN vs) now (exl (sB (wS w)) (wA w).1 d) = st2 at *
        obtain ⟨now2, sm2⟩ := st2
        have hle : sm2 ≤ (exl (sB (wS w)) (wA w).1 d).length := hle
        obtain ⟨e36, e38⟩ := hH
        have he : endC = 9223372036854775807 := rfl
        rw [show ((min endC ((now2, sm2) : Nat × Nat).2 : Nat) : Int) = (sm2 : Int) by show ((min endC sm2 : Nat) : Int) = _; omega] at e38
        have nx : ExA E 35 [some (.inr (.inr (124))), some (.inl ((n : Int))), some (.inl (0)), some (.inl ((now2 : Int))), some (.inr (.inl (((sm + sm2 : Nat) : Int)))), none, some (.inl (((i + 1 : Nat) : Int))), none] [] h3 := nx
        have e3 : (3 + (i : Int)).toNat = 3 + i := by omega
        have ej : (6 * (d : Int) + (now : Int)).toNat = 6 * d + now := by omega
        have e36 : hdt h3 136 (6 * d + now) = (now2 : Int) := e36
        subst hE
        refine vsA_ok tk_X5_occurs rfl 40 ?_
        simp only [at_X5_occurs, mr_X5_occurs, vsA, vcA, denA, lget, lset, lst1, lst2, lclr, argsA, restA, acats, acat, tcA, tcN, rzA, lle, List.length_cons, List.length_nil, Option.toList_some, Option.toList_none, List.cons_append, List.nil_append, eG, eM, eD, eC, eS, eQ, eH, if_true, if_false, Nat.reduceAdd, Nat.reduceLeDiff, Nat.reduceEqDiff, Nat.reduceLT, Nat.reduceSub, Int.reduceEq, Int.reduceLE, Int.reduceToNat, reduceCtorEq, reduceIte, Nat.reduceBEq, Int.reduceNeg, not_true, not_false_iff, true_and, and_true, true_or, or_true, false_or, or_false, forall_const, implies_true, Nat.le_refl, Int.toNat_natCast, Int.reduceLT, ne_eq, Fin.isValue, Nat.add_zero, nC_hrw, nS_hrw, nC_hwr, nS_hwr, hkd_hrw, hkd_hwr, fin4_0, fin4_1, fin4_2, fin4_3, fin2_0, fin2_1, ci0, ci1, cnn, false_implies, w32_eq, w64_eq, hF3.m, hq3]
        try simp (disch := omega) only [yc_lt, yc_le, yc_gt, yc_ge, yc_eq, w32_eq, w64_eq, tn_add, tn_mul, Int.toNat_natCast, Int.reduceToNat, not_true, not_false_iff, false_implies, forall_const, implies_true, e3, hsd, ej, e36, e38]
        repeat' (with_reducible first | apply And.intro | intro _)
        all_goals try omega
        all_goals try simp (disch := omega) only [w32_eq, w64_eq, tn_add, tn_mul, Int.toNat_natCast, Int.reduceToNat, Option.some.injEq, Sum.inr.injEq, Sum.inl.injEq, e3, hsd, ej, e36, e38]
        all_goals try omega
        all_goals try exact (nx).weak rfl (by simp [lle] <;> omega)
      · have hin : i = (sS (wS w)).length := by omega
        subst hin
        rw [List.take_of_length_le (Nat.le_refl _)]
        generalize rnQ (wsN vs) 0 ((sS (wS w)).flatMap (exl (sB (wS w)) (wA w).1)) = st at *
        subst hE
        refine vsA_ok tk_X5_occurs rfl 10 ?_
        simp only [at_X5_occurs, mr_X5_occurs, vsA, vcA, denA, lget, lset, lst1, lst2, lclr, argsA, restA, acats, acat, tcA, tcN, rzA, lle, List.length_cons, List.length_nil, Option.toList_some, Option.toList_none, List.cons_append, List.nil_append, eG, eM, eD, eC, eS, eQ, eH, if_true, if_false, Nat.reduceAdd, Nat.reduceLeDiff, Nat.reduceEqDiff, Nat.reduceLT, Nat.reduceSub, Int.reduceEq, Int.reduceLE, Int.reduceToNat, reduceCtorEq, reduceIte, Nat.reduceBEq, Int.reduceNeg, not_true, not_false_iff, true_and, and_true, true_or, or_true, false_or, or_false, forall_const, implies_true, Nat.le_refl, Int.toNat_natCast, Int.reduceLT, ne_eq, Fin.isValue, Nat.add_zero, nC_hrw, nS_hrw, nC_hwr, nS_hwr, hkd_hrw, hkd_hwr, fin4_0, fin4_1, fin4_2, fin4_3, fin2_0, fin2_1, ci0, ci1, cnn, false_implies, w32_eq, w64_eq, hF3.m, hq3, c3]
        try simp (disch := omega) only [yc_lt, yc_le, yc_gt, yc_ge, yc_eq, w32_eq, w64_eq, tn_add, tn_mul, Int.toNat_natCast, Int.reduceToNat, not_true, not_false_iff, false_implies, forall_const, implies_true]
        repeat' (with_reducible first | apply And.intro | intro _)
        all_goals try omega
        all_goals try simp (disch := omega) only [w32_eq, w64_eq, tn_add, tn_mul, Int.toNat_natCast, Int.reduceToNat, Option.some.injEq, Sum.inr.injEq, Sum.inl.injEq]
        all_goals try omega
        all_goals first | rfl | exact hfin3
    have l1 := L1 0 (Nat.zero_le _)
    rw [List.take_zero, List.flatMap_nil, show rnQ (wsN vs) 0 [] = (0, 0) from rfl] at l1
    have l1 : ExA E 35 [some (.inr (.inr (124))), some (.inl ((n : Int))), some (.inl (0)), some (.inl (0)), some (.inr (.inl (0))), none, some (.inl (0)), none] [] h3 := l1
    subst hE
    refine vsA_ok tk_X5_occurs rfl 10 ?_
    simp only [at_X5_occurs, mr_X5_occurs, vsA, vcA, denA, lget, lset, lst1, lst2, lclr, argsA, restA, acats, acat, tcA, tcN, rzA, lle, List.length_cons, List.length_nil, Option.toList_some, Option.toList_none, List.cons_append, List.nil_append, eG, eM, eD, eC, eS, eQ, eH, if_true, if_false, Nat.reduceAdd, Nat.reduceLeDiff, Nat.reduceEqDiff, Nat.reduceLT, Nat.reduceSub, Int.reduceEq, Int.reduceLE, Int.reduceToNat, reduceCtorEq, reduceIte, Nat.reduceBEq, Int.reduceNeg, not_true, not_false_iff, true_and, and_true, true_or, or_true, false_or, or_false, forall_const, implies_true, Nat.le_refl, Int.toNat_natCast, Int.reduceLT, ne_eq, Fin.isValue, Nat.add_zero, nC_hrw, nS_hrw, nC_hwr, nS_hwr, hkd_hrw, hkd_hwr, fin4_0, fin4_1, fin4_2, fin4_3, fin2_0, fin2_1, ci0, ci1, cnn, false_implies, w32_eq, w64_eq]
    try simp (disch := omega) only [yc_lt, yc_le, yc_gt, yc_ge, yc_eq, w32_eq, w64_eq, tn_add, tn_mul, Int.toNat_natCast, Int.reduceToNat, not_true, not_false_iff, false_implies, forall_const, implies_true]
    repeat' (with_reducible first | apply And.intro | intro _)
    all_goals try omega
    all_goals try simp (disch := omega) only [w32_eq, w64_eq, tn_add, tn_mul, Int.toNat_natCast, Int.reduceToNat, Option.some.injEq, Sum.inr.injEq, Sum.inl.injEq]
    all_goals try omega
    all_goals try exact (l1).weak rfl (by simp [lle] <;> omega)
  · rw [show occP w t = wordF w t from if_neg q0]
    refine CnA.of rfl (Nat.le_of_ble_eq_true rfl) ?_
    simp only [largs, lpad, mr_X5_occurs]
    refine vsA_ok tk_X5_occurs rfl 20 ?_
    simp only [at_X5_occurs, mr_X5_occurs, vsA, vcA, denA, lget, lset, lst1, lst2, lclr, argsA, restA, acats, acat, tcA, tcN, rzA, lle, List.length_cons, List.length_nil, Option.toList_some, Option.toList_none, List.cons_append, List.nil_append, eG, eM, eD, eC, eS, eQ, eH, if_true, if_false, Nat.reduceAdd, Nat.reduceLeDiff, Nat.reduceEqDiff, Nat.reduceLT, Nat.reduceSub, Int.reduceEq, Int.reduceLE, Int.reduceToNat, reduceCtorEq, reduceIte, Nat.reduceBEq, Int.reduceNeg, not_true, not_false_iff, true_and, and_true, true_or, or_true, false_or, or_false, forall_const, implies_true, Nat.le_refl, Int.toNat_natCast, Int.reduceLT, ne_eq, Fin.isValue, Nat.add_zero, nC_hrw, nS_hrw, nC_hwr, nS_hwr, hkd_hrw, hkd_hwr, fin4_0, fin4_1, fin4_2, fin4_3, fin2_0, fin2_1, ci0, ci1, cnn, false_implies, w32_eq, w64_eq, hF.m, hF0.m]
    try simp (disch := omega) only [yc_lt, yc_le, yc_gt, yc_ge, yc_eq, w32_eq, w64_eq, tn_add, tn_mul, Int.toNat_natCast, Int.reduceToNat, not_true, not_false_iff, false_implies, forall_const, implies_true]
    repeat' (with_reducible first | apply And.intro | intro _)
    all_goals try omega
    all_goals try simp (disch := omega) only [w32_eq, w64_eq, tn_add, tn_mul, Int.toNat_natCast, Int.reduceToNat, Option.some.injEq, Sum.inr.injEq, Sum.inl.injEq]
    all_goals try omega
    refine ClA.pure (hno) (by first | exact Nat.le_of_ble_eq_true rfl | (simp only [eD]; omega)) (by first | exact Nat.le_refl _ | (simp only [eG, eD, eC, eS, eQ, eH, nC_hrw, nC_hwr, nS_hrw, nS_hwr, nC_hnw, nS_hnw]; omega)) (by first | exact Nat.le_refl _ | (simp only [eG, eD, eC, eS, eQ, eH, nC_hrw, nC_hwr, nS_hrw, nS_hwr, nC_hnw, nS_hnw]; omega)) ?_
    refine vsA_ok tk_X5_occurs rfl 20 ?_
    simp only [at_X5_occurs, mr_X5_occurs, vsA, vcA, denA, lget, lset, lst1, lst2, lclr, argsA, restA, acats, acat, tcA, tcN, rzA, lle, List.length_cons, List.length_nil, Option.toList_some, Option.toList_none, List.cons_append, List.nil_append, eG, eM, eD, eC, eS, eQ, eH, if_true, if_false, Nat.reduceAdd, Nat.reduceLeDiff, Nat.reduceEqDiff, Nat.reduceLT, Nat.reduceSub, Int.reduceEq, Int.reduceLE, Int.reduceToNat, reduceCtorEq, reduceIte, Nat.reduceBEq, Int.reduceNeg, not_true, not_false_iff, true_and, and_true, true_or, or_true, false_or, or_false, forall_const, implies_true, Nat.le_refl, Int.toNat_natCast, Int.reduceLT, ne_eq, Fin.isValue, Nat.add_zero, nC_hrw, nS_hrw, nC_hwr, nS_hwr, hkd_hrw, hkd_hwr, fin4_0, fin4_1, fin4_2, fin4_3, fin2_0, fin2_1, ci0, ci1, cnn, false_implies, w32_eq, w64_eq]
    try simp (disch := omega) only [yc_lt, yc_le, yc_gt, yc_ge, yc_eq, w32_eq, w64_eq, tn_add, tn_mul, Int.toNat_natCast, Int.reduceToNat, not_true, not_false_iff, false_implies, forall_const, implies_true]
    repeat' (with_reducible first | apply And.intro | intro _)
    all_goals try omega
    all_goals try simp (disch := omega) only [w32_eq, w64_eq, tn_add, tn_mul, Int.toNat_natCast, Int.reduceToNat, Option.some.injEq, Sum.inr.injEq, Sum.inl.injEq]
    all_goals try omega
    all_goals exact hfin
end
