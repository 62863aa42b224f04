/-! BYTES; THE REFERENCE: feed -/
set_option maxRecDepth 100000
theorem zand_255 (z : Int) : zand z 255 = z % 256 := by
  rw [zand_def]
  show ((Int32.ofInt z).toBitVec &&& (Int32.ofInt ((255 : Nat) : Int)).toBitVec).toInt = _
  rw [i32bv]
  have e1 : (Int32.ofInt z).toBitVec = BitVec.ofInt 32 z := rfl
  have e2 : (BitVec.ofInt 32 z).toNat = (z % 4294967296).toNat := BitVec.toNat_ofInt ..
  have e3 : ((Int32.ofInt z).toBitVec &&& BitVec.ofNat 32 255).toNat = (z % 256).toNat := by
    rw [BitVec.toNat_and, e1, e2, BitVec.toNat_ofNat, show (255 % 2 ^ 32 : Nat) = 2 ^ 8 - 1 from rfl, Nat.and_two_pow_sub_one_eq_mod]
    omega
  rw [bvInt e3 (by omega)]
  omega
/-- the j-th byte of an int -/
def bytP (v : Int) (j : Nat) : Nat := (v / ((2 ^ (24 - 8 * j) : Nat) : Int) % 256).toNat
theorem bytP_lt (v : Int) (j : Nat) : bytP v j < 256 := by
  unfold bytP
  omega
theorem byt_eq {v : Int} (hv : In32 v) {j : Nat} (hj : j < 4) : zand (zshr v ((24 - 8 * j : Nat) : Int)) 255 = ((bytP v j : Nat) : Int) := by
  rw [zand_255, zshr_eq v (by omega), w32_eq hv.1 hv.2]
  unfold bytP
  omega
def selF (a b c d e : Int) (k : Nat) : Int := if k < 4 then a else if k < 8 then b else if k < 12 then c else if k < 16 then d else e
def fdB (a b c d e : Int) (k : Nat) : Nat := bytP (selF a b c d e k) (k % 4)
def fdL (a b c d e : Int) : List Nat := (List.range 20).map (fdB a b c d e)
def setP (w : WD) (l : List Nat) : WD := (wL w, wA w, wU w, l, wF w, wT w, wI w)
theorem fdL_len (a b c d e : Int) : (fdL a b c d e).length = 20 := by simp [fdL]
theorem fdL_at (a b c d e : Int) {k : Nat} (hk : k < 20) : (fdL a b c d e).getD k 0 = fdB a b c d e k := by
  unfold fdL
  simp [hk]
theorem fd_app (l : List Nat) (a b c d e : Int) {j : Nat} (hj : j < l.length + 20) : (l ++ fdL a b c d e).getD j 0 = if j < l.length then l.getD j 0 else fdB a b c d e (j - l.length) := by
  by_cases q : j < l.length
  · rw [if_pos q]
    simp only [List.getD_eq_getElem?_getD]
    rw [List.getElem?_append_left q]
  · rw [if_neg q, ← fdL_at a b c d e (by omega)]
    simp only [List.getD_eq_getElem?_getD]
    rw [List.getElem?_append_right (by omega)]
def fedP (w : WD) : Int := if 900 < (wP w).length + 20 then -5 else ((wP w).length : Int) + 20
def fedW (w : WD) (a b c d e : Int) : WD := if 900 < (wP w).length + 20 then w else setP w (wP w ++ fdL a b c d e)
section
variable {G : GT} {h : AH} {w : WD} {N : Int}
theorem frA_127 (j : Nat) : frA 127 j = true := by
  unfold frA
  rw [List.all_eq_true]
  intro q hq
  have : ∀ q ∈ rFl, q.1 ≠ 127 := by decide +kernel
  have := this q hq
  simp [this]
theorem c_X5_feed (hF : FxA h) (hM : MdC h w) (hp : (wP w).length ≤ 900) (a b c d e : Int) (ha : In32 a) (hb : In32 b) (hc : In32 c) (hd : In32 d) (he : In32 e) :
    CnA G mX5_feed 1 0 0 [.inr (.inr (124)), .inl (a), .inl (b), .inl (c), .inl (d), .inl (e)] h (fun r h1 => r = some (.inl (fedP w)) ∧ MpC h h1 (fedW w a b c d e)) := by
  obtain ⟨x0, hF0, hM0⟩ := thr_0 hF hM
  have hfin : MpC h (hwr h 124 0 0) w := MpC.scr hF hM x0 (by decide) (by decide)
  have h5 := hM0.2.2.2.1.1
  unfold fedP fedW
  by_cases q : 900 < (wP w).length + 20
  · rw [if_pos q, if_pos q]
    refine CnA.of rfl (Nat.le_of_ble_eq_true rfl) ?_
    simp only [largs, lpad, mr_X5_feed]
    refine vsA_ok tk_X5_feed rfl 20 ?_
    simp only [at_X5_feed, mr_X5_feed, vsA, vcA, denA, lget, lset, lst1, lst2, lclr, argsA, restA, acats, acat, tcA, tcN, rzA, lle, List.length_cons, List.length_nil, Option.toList_some, Option.toList_none, List.cons_append, List.nil_append, eG, eM, eD, eC, eS, eQ, eH, if_true, if_false, Nat.reduceAdd, Nat.reduceLeDiff, Nat.reduceEqDiff, Nat.reduceLT, Nat.reduceSub, Int.reduceEq, Int.reduceLE, Int.reduceToNat, reduceCtorEq, reduceIte, Nat.reduceBEq, Int.reduceNeg, not_true, not_false_iff, true_and, and_true, true_or, or_true, false_or, or_false, forall_const, implies_true, Nat.le_refl, Int.toNat_natCast, Int.reduceLT, ne_eq, Fin.isValue, Nat.add_zero, nC_hrw, nS_hrw, nC_hwr, nS_hwr, hkd_hrw, hkd_hwr, fin4_0, fin4_1, fin4_2, fin4_3, fin2_0, fin2_1, ci0, ci1, cnn, false_implies, w32_eq, w64_eq, hF.m, hF0.m, h5]
    try simp (disch := omega) only [yc_lt, yc_le, yc_gt, yc_ge, yc_eq, w32_eq, w64_eq, tn_add, tn_mul, Int.toNat_natCast, Int.reduceToNat, not_true, not_false_iff, false_implies, forall_const, implies_true]
    repeat' (with_reducible first | apply And.intro | intro _)
    all_goals try omega
    all_goals try simp (disch := omega) only [w32_eq, w64_eq, tn_add, tn_mul, Int.toNat_natCast, Int.reduceToNat, Option.some.injEq, Sum.inr.injEq, Sum.inl.injEq]
    all_goals try omega
    all_goals exact hfin
  · rw [if_neg q, if_neg q]
    refine CnA.of rfl (Nat.le_of_ble_eq_true rfl) ?_
    simp only [largs, lpad, mr_X5_feed]
    generalize hE : ((G, mX5_feed, _, _, _, _, h) : EV) = E
    have L1 : ∀ k, k ≤ 20 → ∀ h1, FrP (fun b j => b = 127 ∨ b = 124 ∧ (j = 0 ∨ j = 5)) h h1 → hdt h1 124 5 = (((wP w).length + k : Nat) : Int) → (∀ j, j < (wP w).length + k → hdt h1 127 j = (((wP w ++ fdL a b c d e).getD j 0 : Nat) : Int)) →
        ExA E 24 [some (.inr (.inr (124))), some (.inl (a)), some (.inl (b)), some (.inl (c)), some (.inl (d)), some (.inl (e)), some (.inl ((k : Int))), none] [] h1 := by
      refine lpI 20 fun k hk ih h1 hx e5 hl => ?_
      have hF1 : FxA h1 := hF.fr hx fun q hq => by
        have : ∀ q ∈ rFl, ¬ (q.1 = 127 ∨ q.1 = 124 ∧ (q.2.1 = 0 ∨ q.2.1 = 5)) := by decide +kernel
        exact this q hq
      have c1 := hx.2.1
      by_cases hk20 : k < 20
      · have ih := ih hk20
        have Z : ∀ v, v = selF a b c d e k → In32 v → ExA E 77 [some (.inr (.inr (124))), some (.inl (a)), some (.inl (b)), some (.inl (c)), some (.inl (d)), some (.inl (e)), some (.inl ((k : Int))), none] [.inl v] h1 := by
          intro v hv hv32
          have hby := byt_eq hv32 (j := k % 4) (by omega)
          have hbe : bytP v (k % 4) = fdB a b c d e k := by rw [hv]; rfl
          rw [hbe] at hby
          have hx2 : FrP (fun b j => b = 127 ∨ b = 124 ∧ (j = 0 ∨ j = 5)) h (hwr (hwr h1 127 ((wP w).length + k) ((fdB a b c d e k : Nat) : Int)) 124 5 (((wP w).length + (k + 1) : Nat) : Int)) := (hx.wr (Or.inl rfl) _).wr (Or.inr ⟨rfl, Or.inr rfl⟩) _
          have nx := ih _ hx2 (by rw [hdt_hwr, if_pos rfl, fup_s]) (fun j hj => by
            rw [hdt_hwr, if_neg (by decide), hdt_hwr, if_pos rfl]
            by_cases e : j = (wP w).length + k
            · rw [e, fup_s, fd_app _ _ _ _ _ _ (by omega), if_neg (by omega), show (wP w).length + k - (wP w).length = k by omega]
            · rw [fup_n _ _ e]
              exact hl j (by omega))
          have em : (k : Int).tmod 4 = ((k % 4 : Nat) : Int) := tmod_nn (b := 4)
          have es : (24 : Int) - 8 * ((k % 4 : Nat) : Int) = ((24 - 8 * (k % 4) : Nat) : Int) := by omega
          have hF2 : FxA (hwr h1 127 ((wP w).length + k) ((fdB a b c d e k : Nat) : Int)) := hF1.hwr (frA_127 _) _
          have e52 : hdt (hwr h1 127 ((wP w).length + k) ((fdB a b c d e k : Nat) : Int)) 124 5 = (((wP w).length + k : Nat) : Int) := by rw [hdt_hwr, if_neg (by decide)]; exact e5
          have nx : ExA E 24 [some (.inr (.inr (124))), some (.inl (a)), some (.inl (b)), some (.inl (c)), some (.inl (d)), some (.inl (e)), some (.inl (((k + 1 : Nat) : Int))), none] [] (hwr (hwr h1 127 ((wP w).length + k) ((fdB a b c d e k : Nat) : Int)) 124 5 (((wP w).length + (k + 1) : Nat) : Int)) := nx
          rw [show (((wP w).length + (k + 1) : Nat) : Int) = (((wP w).length + k : Nat) : Int) + 1 by omega] at nx
          subst hE
          refine vsA_ok tk_X5_feed rfl 10 ?_
          simp only [at_X5_feed, mr_X5_feed, vsA, vcA, denA, lget, lset, lst1, lst2, lclr, argsA, restA, acats, acat, tcA, tcN, rzA, lle, List.length_cons, List.length_nil, Option.toList_some, Option.toList_none, List.cons_append, List.nil_append, eG, eM, eD, eC, eS, eQ, eH, if_true, if_false, Nat.reduceAdd, Nat.reduceLeDiff, Nat.reduceEqDiff, Nat.reduceLT, Nat.reduceSub, Int.reduceEq, Int.reduceLE, Int.reduceToNat, reduceCtorEq, reduceIte, Nat.reduceBEq, Int.reduceNeg, not_true, not_false_iff, true_and, and_true, true_or, or_true, false_or, or_false, forall_const, implies_true, Nat.le_refl, Int.toNat_natCast, Int.reduceLT, ne_eq, Fin.isValue, Nat.add_zero, nC_hrw, nS_hrw, nC_hwr, nS_hwr, hkd_hrw, hkd_hwr, fin4_0, fin4_1, fin4_2, fin4_3, fin2_0, fin2_1, ci0, ci1, cnn, false_implies, w32_eq, w64_eq, hF1.m, e5]
          try simp (disch := omega) only [yc_lt, yc_le, yc_gt, yc_ge, yc_eq, w32_eq, w64_eq, tn_add, tn_mul, Int.toNat_natCast, Int.reduceToNat, not_true, not_false_iff, false_implies, forall_const, implies_true]
          repeat' (with_reducible first | apply And.intro | intro _)
          all_goals try omega
          all_goals try simp (disch := omega) only [w32_eq, w64_eq, tn_add, tn_mul, Int.toNat_natCast, Int.reduceToNat, Option.some.injEq, Sum.inr.injEq, Sum.inl.injEq]
          all_goals try omega
          refine vsA_ok tk_X5_feed rfl 1 ?_
          simp only [at_X5_feed, mr_X5_feed, vsA, vcA, denA, lget, lset, lst1, lst2, lclr, argsA, restA, acats, acat, tcA, tcN, rzA, lle, List.length_cons, List.length_nil, Option.toList_some, Option.toList_none, List.cons_append, List.nil_append, eG, eM, eD, eC, eS, eQ, eH, if_true, if_false, Nat.reduceAdd, Nat.reduceLeDiff, Nat.reduceEqDiff, Nat.reduceLT, Nat.reduceSub, Int.reduceEq, Int.reduceLE, Int.reduceToNat, reduceCtorEq, reduceIte, Nat.reduceBEq, Int.reduceNeg, not_true, not_false_iff, true_and, and_true, true_or, or_true, false_or, or_false, forall_const, implies_true, Nat.le_refl, Int.toNat_natCast, Int.reduceLT, ne_eq, Fin.isValue, Nat.add_zero, nC_hrw, nS_hrw, nC_hwr, nS_hwr, hkd_hrw, hkd_hwr, fin4_0, fin4_1, fin4_2, fin4_3, fin2_0, fin2_1, ci0, ci1, cnn, false_implies, w32_eq, w64_eq]
          try simp (disch := omega) only [yc_lt, yc_le, yc_gt, yc_ge, yc_eq, w32_eq, w64_eq, tn_add, tn_mul, Int.toNat_natCast, Int.reduceToNat, not_true, not_false_iff, false_implies, forall_const, implies_true, em]
          repeat' (with_reducible first | apply And.intro | intro _)
          all_goals try omega
          all_goals try simp (disch := omega) only [w32_eq, w64_eq, tn_add, tn_mul, Int.toNat_natCast, Int.reduceToNat, Option.some.injEq, Sum.inr.injEq, Sum.inl.injEq, em]
          all_goals try omega
          rw [es]
          refine vsA_ok tk_X5_feed rfl 0 ?_
          simp only [at_X5_feed, mr_X5_feed, vsA, vcA, denA, lget, lset, lst1, lst2, lclr, argsA, restA, acats, acat, tcA, tcN, rzA, lle, List.length_cons, List.length_nil, Option.toList_some, Option.toList_none, List.cons_append, List.nil_append, eG, eM, eD, eC, eS, eQ, eH, if_true, if_false, Nat.reduceAdd, Nat.reduceLeDiff, Nat.reduceEqDiff, Nat.reduceLT, Nat.reduceSub, Int.reduceEq, Int.reduceLE, Int.reduceToNat, reduceCtorEq, reduceIte, Nat.reduceBEq, Int.reduceNeg, not_true, not_false_iff, true_and, and_true, true_or, or_true, false_or, or_false, forall_const, implies_true, Nat.le_refl, Int.toNat_natCast, Int.reduceLT, ne_eq, Fin.isValue, Nat.add_zero, nC_hrw, nS_hrw, nC_hwr, nS_hwr, hkd_hrw, hkd_hwr, fin4_0, fin4_1, fin4_2, fin4_3, fin2_0, fin2_1, ci0, ci1, cnn, false_implies, w32_eq, w64_eq]
          try simp (disch := omega) only [yc_lt, yc_le, yc_gt, yc_ge, yc_eq, w32_eq, w64_eq, tn_add, tn_mul, Int.toNat_natCast, Int.reduceToNat, not_true, not_false_iff, false_implies, forall_const, implies_true]
          repeat' (with_reducible first | apply And.intro | intro _)
          all_goals try omega
          all_goals try simp (disch := omega) only [w32_eq, w64_eq, tn_add, tn_mul, Int.toNat_natCast, Int.reduceToNat, Option.some.injEq, Sum.inr.injEq, Sum.inl.injEq]
          all_goals try omega
          generalize zshr v ((24 - 8 * (k % 4) : Nat) : Int) = y at *
          refine vsA_ok tk_X5_feed rfl 1 ?_
          simp only [at_X5_feed, mr_X5_feed, vsA, vcA, denA, lget, lset, lst1, lst2, lclr, argsA, restA, acats, acat, tcA, tcN, rzA, lle, List.length_cons, List.length_nil, Option.toList_some, Option.toList_none, List.cons_append, List.nil_append, eG, eM, eD, eC, eS, eQ, eH, if_true, if_false, Nat.reduceAdd, Nat.reduceLeDiff, Nat.reduceEqDiff, Nat.reduceLT, Nat.reduceSub, Int.reduceEq, Int.reduceLE, Int.reduceToNat, reduceCtorEq, reduceIte, Nat.reduceBEq, Int.reduceNeg, not_true, not_false_iff, true_and, and_true, true_or, or_true, false_or, or_false, forall_const, implies_true, Nat.le_refl, Int.toNat_natCast, Int.reduceLT, ne_eq, Fin.isValue, Nat.add_zero, nC_hrw, nS_hrw, nC_hwr, nS_hwr, hkd_hrw, hkd_hwr, fin4_0, fin4_1, fin4_2, fin4_3, fin2_0, fin2_1, ci0, ci1, cnn, false_implies, w32_eq, w64_eq]
          try simp (disch := omega) only [yc_lt, yc_le, yc_gt, yc_ge, yc_eq, w32_eq, w64_eq, tn_add, tn_mul, Int.toNat_natCast, Int.reduceToNat, not_true, not_false_iff, false_implies, forall_const, implies_true]
          repeat' (with_reducible first | apply And.intro | intro _)
          all_goals try omega
          all_goals try simp (disch := omega) only [w32_eq, w64_eq, tn_add, tn_mul, Int.toNat_natCast, Int.reduceToNat, Option.some.injEq, Sum.inr.injEq, Sum.inl.injEq]
          all_goals try omega
          rw [hby]
          refine vsA_ok tk_X5_feed rfl 20 ?_
          simp only [at_X5_feed, mr_X5_feed, vsA, vcA, denA, lget, lset, lst1, lst2, lclr, argsA, restA, acats, acat, tcA, tcN, rzA, lle, List.length_cons, List.length_nil, Option.toList_some, Option.toList_none, List.cons_append, List.nil_append, eG, eM, eD, eC, eS, eQ, eH, if_true, if_false, Nat.reduceAdd, Nat.reduceLeDiff, Nat.reduceEqDiff, Nat.reduceLT, Nat.reduceSub, Int.reduceEq, Int.reduceLE, Int.reduceToNat, reduceCtorEq, reduceIte, Nat.reduceBEq, Int.reduceNeg, not_true, not_false_iff, true_and, and_true, true_or, or_true, false_or, or_false, forall_const, implies_true, Nat.le_refl, Int.toNat_natCast, Int.reduceLT, ne_eq, Fin.isValue, Nat.add_zero, nC_hrw, nS_hrw, nC_hwr, nS_hwr, hkd_hrw, hkd_hwr, fin4_0, fin4_1, fin4_2, fin4_3, fin2_0, fin2_1, ci0, ci1, cnn, false_implies, w32_eq, w64_eq, hF1.m, hF2.m, e52]
          try simp (disch := omega) only [yc_lt, yc_le, yc_gt, yc_ge, yc_eq, w32_eq, w64_eq, tn_add, tn_mul, Int.toNat_natCast, Int.reduceToNat, not_true, not_false_iff, false_implies, forall_const, implies_true]
          repeat' (with_reducible first | apply And.intro | intro _)
          all_goals try omega
          all_goals try simp (disch := omega) only [w32_eq, w64_eq, tn_add, tn_mul, Int.toNat_natCast, Int.reduceToNat, Option.some.injEq, Sum.inr.injEq, Sum.inl.injEq]
          all_goals try omega
          all_goals try exact (nx).weak rfl (by simp [lle] <;> omega)
        have hsel : selF a b c d e k = if k < 4 then a else if k < 8 then b else if k < 12 then c else if k < 16 then d else e := rfl
        rcases (by omega : k < 4 ∨ (4 ≤ k ∧ k < 8) ∨ (8 ≤ k ∧ k < 12) ∨ (12 ≤ k ∧ k < 16) ∨ 16 ≤ k) with q1 | q1 | q1 | q1 | q1
        · rw [if_pos q1] at hsel
          have z := Z a hsel.symm ha
          subst hE
          refine vsA_ok tk_X5_feed rfl 7 ?_
          simp only [at_X5_feed, mr_X5_feed, vsA, vcA, denA, lget, lset, lst1, lst2, lclr, argsA, restA, acats, acat, tcA, tcN, rzA, lle, List.length_cons, List.length_nil, Option.toList_some, Option.toList_none, List.cons_append, List.nil_append, eG, eM, eD, eC, eS, eQ, eH, if_true, if_false, Nat.reduceAdd, Nat.reduceLeDiff, Nat.reduceEqDiff, Nat.reduceLT, Nat.reduceSub, Int.reduceEq, Int.reduceLE, Int.reduceToNat, reduceCtorEq, reduceIte, Nat.reduceBEq, Int.reduceNeg, not_true, not_false_iff, true_and, and_true, true_or, or_true, false_or, or_false, forall_const, implies_true, Nat.le_refl, Int.toNat_natCast, Int.reduceLT, ne_eq, Fin.isValue, Nat.add_zero, nC_hrw, nS_hrw, nC_hwr, nS_hwr, hkd_hrw, hkd_hwr, fin4_0, fin4_1, fin4_2, fin4_3, fin2_0, fin2_1, ci0, ci1, cnn, false_implies, w32_eq, w64_eq]
          try simp (disch := omega) only [yc_lt, yc_le, yc_gt, yc_ge, yc_eq, w32_eq, w64_eq, tn_add, tn_mul, Int.toNat_natCast, Int.reduceToNat, not_true, not_false_iff, false_implies, forall_const, implies_true]
          repeat' (with_reducible first | apply And.intro | intro _)
          all_goals try omega
          all_goals try simp (disch := omega) only [w32_eq, w64_eq, tn_add, tn_mul, Int.toNat_natCast, Int.reduceToNat, Option.some.injEq, Sum.inr.injEq, Sum.inl.injEq]
          all_goals try omega
          all_goals try exact (z).weak rfl (by simp [lle] <;> omega)
        · rw [if_neg (by omega), if_pos (by omega)] at hsel
          have z := Z b hsel.symm hb
          subst hE
          refine vsA_ok tk_X5_feed rfl 10 ?_
          simp only [at_X5_feed, mr_X5_feed, vsA, vcA, denA, lget, lset, lst1, lst2, lclr, argsA, restA, acats, acat, tcA, tcN, rzA, lle, List.length_cons, List.length_nil, Option.toList_some, Option.toList_none, List.cons_append, List.nil_append, eG, eM, eD, eC, eS, eQ, eH, if_true, if_false, Nat.reduceAdd, Nat.reduceLeDiff, Nat.reduceEqDiff, Nat.reduceLT, Nat.reduceSub, Int.reduceEq, Int.reduceLE, Int.reduceToNat, reduceCtorEq, reduceIte, Nat.reduceBEq, Int.reduceNeg, not_true, not_false_iff, true_and, and_true, true_or, or_true, false_or, or_false, forall_const, implies_true, Nat.le_refl, Int.toNat_natCast, Int.reduceLT, ne_eq, Fin.isValue, Nat.add_zero, nC_hrw, nS_hrw, nC_hwr, nS_hwr, hkd_hrw, hkd_hwr, fin4_0, fin4_1, fin4_2, fin4_3, fin2_0, fin2_1, ci0, ci1, cnn, false_implies, w32_eq, w64_eq]
          try simp (disch := omega) only [yc_lt, yc_le, yc_gt, yc_ge, yc_eq, w32_eq, w64_eq, tn_add, tn_mul, Int.toNat_natCast, Int.reduceToNat, not_true, not_false_iff, false_implies, forall_const, implies_true]
          repeat' (with_reducible first | apply And.intro | intro _)
          all_goals try omega
          all_goals try simp (disch := omega) only [w32_eq, w64_eq, tn_add, tn_mul, Int.toNat_natCast, Int.reduceToNat, Option.some.injEq, Sum.inr.injEq, Sum.inl.injEq]
          all_goals try omega
          all_goals try exact (z).weak rfl (by simp [lle] <;> omega)
        · rw [if_neg (by omega), if_neg (by omega), if_pos (by omega)] at hsel
          have z := Z c hsel.symm hc
          subst hE
          refine vsA_ok tk_X5_feed rfl 13 ?_
          simp only [at_X5_feed, mr_X5_feed, vsA, vcA, denA, lget, lset, lst1, lst2, lclr, argsA, restA, acats, acat, tcA, tcN, rzA, lle, List.length_cons, List.length_nil, Option.toList_some, Option.toList_none, List.cons_append, List.nil_append, eG, eM, eD, eC, eS, eQ, eH, if_true, if_false, Nat.reduceAdd, Nat.reduceLeDiff, Nat.reduceEqDiff, Nat.reduceLT, Nat.reduceSub, Int.reduceEq, Int.reduceLE, Int.reduceToNat, reduceCtorEq, reduceIte, Nat.reduceBEq, Int.reduceNeg, not_true, not_false_iff, true_and, and_true, true_or, or_true, false_or, or_false, forall_const, implies_true, Nat.le_refl, Int.toNat_natCast, Int.reduceLT, ne_eq, Fin.isValue, Nat.add_zero, nC_hrw, nS_hrw, nC_hwr, nS_hwr, hkd_hrw, hkd_hwr, fin4_0, fin4_1, fin4_2, fin4_3, fin2_0, fin2_1, ci0, ci1, cnn, false_implies, w32_eq, w64_eq]
          try simp (disch := omega) only [yc_lt, yc_le, yc_gt, yc_ge, yc_eq, w32_eq, w64_eq, tn_add, tn_mul, Int.toNat_natCast, Int.reduceToNat, not_true, not_false_iff, false_implies, forall_const, implies_true]
          repeat' (with_reducible first | apply And.intro | intro _)
          all_goals try omega
          all_goals try simp (disch := omega) only [w32_eq, w64_eq, tn_add, tn_mul, Int.toNat_natCast, Int.reduceToNat, Option.some.injEq, Sum.inr.injEq, Sum.inl.injEq]
          all_goals try omega
          all_goals try exact (z).weak rfl (by simp [lle] <;> omega)
        · rw [if_neg (by omega), if_neg (by omega), if_neg (by omega), if_pos (by omega)] at hsel
          have z := Z d hsel.symm hd
          subst hE
          refine vsA_ok tk_X5_feed rfl 16 ?_
          simp only [at_X5_feed, mr_X5_feed, vsA, vcA, denA, lget, lset, lst1, lst2, lclr, argsA, restA, acats, acat, tcA, tcN, rzA, lle, List.length_cons, List.length_nil, Option.toList_some, Option.toList_none, List.cons_append, List.nil_append, eG, eM, eD, eC, eS, eQ, eH, if_true, if_false, Nat.reduceAdd, Nat.reduceLeDiff, Nat.reduceEqDiff, Nat.reduceLT, Nat.reduceSub, Int.reduceEq, Int.reduceLE, Int.reduceToNat, reduceCtorEq, reduceIte, Nat.reduceBEq, Int.reduceNeg, not_true, not_false_iff, true_and, and_true, true_or, or_true, false_or, or_false, forall_const, implies_true, Nat.le_refl, Int.toNat_natCast, Int.reduceLT, ne_eq, Fin.isValue, Nat.add_zero, nC_hrw, nS_hrw, nC_hwr, nS_hwr, hkd_hrw, hkd_hwr, fin4_0, fin4_1, fin4_2, fin4_3, fin2_0, fin2_1, ci0, ci1, cnn, false_implies, w32_eq, w64_eq]
          try simp (disch := omega) only [yc_lt, yc_le, yc_gt, yc_ge, yc_eq, w32_eq, w64_eq, tn_add, tn_mul, Int.toNat_natCast, Int.reduceToNat, not_true, not_false_iff, false_implies, forall_const, implies_true]
          repeat' (with_reducible first | apply And.intro | intro _)
          all_goals try omega
          all_goals try simp (disch := omega) only [w32_eq, w64_eq, tn_add, tn_mul, Int.toNat_natCast, Int.reduceToNat, Option.some.injEq, Sum.inr.injEq, Sum.inl.injEq]
          all_goals try omega
          all_goals try exact (z).weak rfl (by simp [lle] <;> omega)
        · rw [if_neg (by omega), if_neg (by omega), if_neg (by omega), if_neg (by omega)] at hsel
          have z := Z e hsel.symm he
          subst hE
          refine vsA_ok tk_X5_feed rfl 15 ?_
          simp only [at_X5_feed, mr_X5_feed, vsA, vcA, denA, lget, lset, lst1, lst2, lclr, argsA, restA, acats, acat, tcA, tcN, rzA, lle, List.length_cons, List.length_nil, Option.toList_some, Option.toList_none, List.cons_append, List.nil_append, eG, eM, eD, eC, eS, eQ, eH, if_true, if_false, Nat.reduceAdd, Nat.reduceLeDiff, Nat.reduceEqDiff, Nat.reduceLT, Nat.reduceSub, Int.reduceEq, Int.reduceLE, Int.reduceToNat, reduceCtorEq, reduceIte, Nat.reduceBEq, Int.reduceNeg, not_true, not_false_iff, true_and, and_true, true_or, or_true, false_or, or_false, forall_const, implies_true, Nat.le_refl, Int.toNat_natCast, Int.reduceLT, ne_eq, Fin.isValue, Nat.add_zero, nC_hrw, nS_hrw, nC_hwr, nS_hwr, hkd_hrw, hkd_hwr, fin4_0, fin4_1, fin4_2, fin4_3, fin2_0, fin2_1, ci0, ci1, cnn, false_implies, w32_eq, w64_eq]
          try simp (disch := omega) only [yc_lt, yc_le, yc_gt, yc_ge, yc_eq, w32_eq, w64_eq, tn_add, tn_mul, Int.toNat_natCast, Int.reduceToNat, not_true, not_false_iff, false_implies, forall_const, implies_true]
          repeat' (with_reducible first | apply And.intro | intro _)
          all_goals try omega
          all_goals try simp (disch := omega) only [w32_eq, w64_eq, tn_add, tn_mul, Int.toNat_natCast, Int.reduceToNat, Option.some.injEq, Sum.inr.injEq, Sum.inl.injEq]
          all_goals try omega
          all_goals try exact (z).weak rfl (by simp [lle] <;> omega)
      · have hk21 : k = 20 := by omega
        subst hk21
        have hM1 : MdC h1 (setP w (wP w ++ fdL a b c d e)) := by
          obtain ⟨m1, m2, m3, m4, m5, m6⟩ := hM
          have n : ∀ b, b ≠ 127 → b ≠ 124 → hdt h1 b = hdt h b := fun b q1 q2 => hx.cell fun j z => by
            rcases z with z | z
            · exact q1 z
            · exact q2 z.1
          have n124 : ∀ j, j ≠ 0 → j ≠ 5 → hdt h1 124 j = hdt h 124 j := fun j q1 q2 => hx.2.2 124 j fun z => by
            rcases z with z | z
            · exact absurd z (by decide)
            · rcases z.2 with z | z
              · exact q1 z
              · exact q2 z
          refine ⟨by rw [n 125 (by decide) (by decide)]; exact m1, by rw [n 125 (by decide) (by decide)]; exact m2, fun i hi => ?_, ⟨?_, fun j hj => ?_⟩, by rw [n124 13 (by decide) (by decide), n124 14 (by decide) (by decide)]; exact m5, fun t ht => ?_⟩
          · have := m3 i hi
            show ImgM _ i (wI w i)
            unfold ImgM at this ⊢
            rw [n 125 (by decide) (by decide), n 126 (by decide) (by decide)]
            exact this
          · show hdt h1 124 5 = (((wP w ++ fdL a b c d e).length : Nat) : Int)
            rw [e5, List.length_append, fdL_len]
          · have hj : j < (wP w ++ fdL a b c d e).length := hj
            rw [List.length_append, fdL_len] at hj
            exact hl j hj
          · have := m6 t ht
            show TryM _ t (wT w t)
            unfold TryM TrM at this ⊢
            rw [n 150 (by decide) (by decide), n 151 (by decide) (by decide), n 152 (by decide) (by decide)]
            exact this
        have hfin1 : MpC h h1 (setP w (wP w ++ fdL a b c d e)) := ⟨hx.mono fun b j z => by rcases z with z | z; exact ⟨by omega, by omega⟩; exact ⟨by omega, by omega⟩, hF1, hM1⟩
        have e5' : hdt h1 124 5 = ((wP w).length : Int) + 20 := by rw [e5]; omega
        subst hE
        refine vsA_ok tk_X5_feed rfl 10 ?_
        simp only [at_X5_feed, mr_X5_feed, vsA, vcA, denA, lget, lset, lst1, lst2, lclr, argsA, restA, acats, acat, tcA, tcN, rzA, lle, List.length_cons, List.length_nil, Option.toList_some, Option.toList_none, List.cons_append, List.nil_append, eG, eM, eD, eC, eS, eQ, eH, if_true, if_false, Nat.reduceAdd, Nat.reduceLeDiff, Nat.reduceEqDiff, Nat.reduceLT, Nat.reduceSub, Int.reduceEq, Int.reduceLE, Int.reduceToNat, reduceCtorEq, reduceIte, Nat.reduceBEq, Int.reduceNeg, not_true, not_false_iff, true_and, and_true, true_or, or_true, false_or, or_false, forall_const, implies_true, Nat.le_refl, Int.toNat_natCast, Int.reduceLT, ne_eq, Fin.isValue, Nat.add_zero, nC_hrw, nS_hrw, nC_hwr, nS_hwr, hkd_hrw, hkd_hwr, fin4_0, fin4_1, fin4_2, fin4_3, fin2_0, fin2_1, ci0, ci1, cnn, false_implies, w32_eq, w64_eq, hF1.m, e5', c1]
        try simp (disch := omega) only [yc_lt, yc_le, yc_gt, yc_ge, yc_eq, w32_eq, w64_eq, tn_add, tn_mul, Int.toNat_natCast, Int.reduceToNat, not_true, not_false_iff, false_implies, forall_const, implies_true]
        repeat' (with_reducible first | apply And.intro | intro _)
        all_goals try omega
        all_goals try simp (disch := omega) only [w32_eq, w64_eq, tn_add, tn_mul, Int.toNat_natCast, Int.reduceToNat, Option.some.injEq, Sum.inr.injEq, Sum.inl.injEq]
        all_goals try omega
        all_goals first | rfl | exact hfin1
    have l1 := L1 0 (by omega) (hwr h 124 0 0) (FrP.rf.wr (Or.inr ⟨rfl, Or.inl rfl⟩) _) (by rw [h5]; rfl) (fun j hj => by
      rw [fd_app _ _ _ _ _ _ (by omega), if_pos (by omega)]
      exact hM0.2.2.2.1.2 j (by omega))
    subst hE
    refine vsA_ok tk_X5_feed rfl 20 ?_
    simp only [at_X5_feed, mr_X5_feed, vsA, vcA, denA, lget, lset, lst1, lst2, lclr, argsA, restA, acats, acat, tcA, tcN, rzA, lle, List.length_cons, List.length_nil, Option.toList_some, Option.toList_none, List.cons_append, List.nil_append, eG, eM, eD, eC, eS, eQ, eH, if_true, if_false, Nat.reduceAdd, Nat.reduceLeDiff, Nat.reduceEqDiff, Nat.reduceLT, Nat.reduceSub, Int.reduceEq, Int.reduceLE, Int.reduceToNat, reduceCtorEq, reduceIte, Nat.reduceBEq, Int.reduceNeg, not_true, not_false_iff, true_and, and_true, true_or, or_true, false_or, or_false, forall_const, implies_true, Nat.le_refl, Int.toNat_natCast, Int.reduceLT, ne_eq, Fin.isValue, Nat.add_zero, nC_hrw, nS_hrw, nC_hwr, nS_hwr, hkd_hrw, hkd_hwr, fin4_0, fin4_1, fin4_2, fin4_3, fin2_0, fin2_1, ci0, ci1, cnn, false_implies, w32_eq, w64_eq, hF.m, hF0.m, h5]
    try simp (disch := omega) only [yc_lt, yc_le, yc_gt, yc_ge, yc_eq, w32_eq, w64_eq, tn_add, tn_mul, Int.toNat_natCast, Int.reduceToNat, not_true, not_false_iff, false_implies, forall_const, implies_true]
    repeat' (with_reducible first | apply And.intro | intro _)
    all_goals try omega
    all_goals try simp (disch := omega) only [w32_eq, w64_eq, tn_add, tn_mul, Int.toNat_natCast, Int.reduceToNat, Option.some.injEq, Sum.inr.injEq, Sum.inl.injEq]
    all_goals try omega
    all_goals try exact (l1).weak rfl (by simp [lle] <;> omega)
end
