/-! THE REFERENCE: moons by which nights of themselves come to told lengths -/
set_option maxRecDepth 100000
/-- how many nights of itself come to lengths as told -/
def mooN (s : SP) : S3 → List Int → Nat
  | _, [] => 0
  | a, x :: xs => if whyS s a 0 = 0 ∧ (((wrdS s (goS s a 0)).length : Nat) : Int) = x then mooN s (goS s a 0) xs + 1 else 0
theorem mooN_t {s : SP} {a : S3} {x : Int} (xs : List Int) (q : whyS s a 0 = 0 ∧ (((wrdS s (goS s a 0)).length : Nat) : Int) = x) : mooN s a (x :: xs) = mooN s (goS s a 0) xs + 1 := if_pos q
theorem mooN_f {s : SP} {a : S3} {x : Int} (xs : List Int) (q : ¬ (whyS s a 0 = 0 ∧ (((wrdS s (goS s a 0)).length : Nat) : Int) = x)) : mooN s a (x :: xs) = 0 := if_neg q
theorem mooN_le (s : SP) : ∀ (vs : List Int) (a : S3), mooN s a vs ≤ vs.length
  | [], _ => Nat.le_refl _
  | x :: xs, a => by
    by_cases q : whyS s a 0 = 0 ∧ (((wrdS s (goS s a 0)).length : Nat) : Int) = x
    · rw [mooN_t xs q, List.length_cons]
      exact Nat.succ_le_succ (mooN_le s xs _)
    · rw [mooN_f xs q]
      exact Nat.zero_le _
abbrev mooM (s : SP) (a : S3) (vs : List Int) (n : Nat) : Nat := mskP (fun m => decide (mooN s (a.1, a.2.1, (m : Int)) vs = vs.length)) n
def mooP (w : WD) (t : Int) : Int := if longF w t 0 = 0 then ((mooM (wS w) (wA w) (trV w t) 10 : Nat) : Int) else longF w t 0
theorem mskP_31 {c : Nat → Bool} {n : Nat} (hn : n ≤ 31) : mskP c n < 2147483648 := by
  have h1 := mskP_lt c n
  have h2 : 2 ^ n ≤ 2 ^ 31 := Nat.pow_le_pow_right (by decide) hn
  omega
section
variable {G : GT} {h : AH} {w : WD} {N : Int}
theorem c_X5_moons (hF : FxA h) (hM : MdC h w) (hW : WOK N w) (hN : N < 2147470000) (t : Int) (ht : In32 t) :
    CnA G mX5_moons 9 0 0 [.inr (.inr (124)), .inl (t)] h (fun r h1 => r = some (.inl (mooP w t)) ∧ MpC h h1 w) := by
  obtain ⟨x0, hF0, hM0⟩ := thr_0 hF hM
  have hfin : MpC h (hwr h 124 0 0) w := MpC.scr hF hM x0 (by decide) (by decide)
  have hno := c_X5_noLong (G := G) hF0 hM0 hW t 0 ht ⟨by decide, by decide⟩
  have hin := longF_in w t 0
  by_cases q0 : longF w t 0 = 0
  · rw [show mooP w t = ((mooM (wS w) (wA w) (trV w t) 10 : Nat) : Int) from if_pos q0]
    rw [q0] at hno
    obtain ⟨n, q, rfl, hn, hq, hvv, hlen, hpos⟩ := longF_0 q0
    rw [hvv]
    have hTM : TrM (hwr h 124 0 0) n q.2 := by
      have := hM0.2.2.2.2.2 n hn
      rw [hq] at this
      exact this.2
    generalize q.2 = vs at *
    have hS := hW.1
    have hO := hW.2.1
    have eA0 : hdt (hwr h 124 0 0) 125 = hdt h 125 := by rw [hdt_hwr, if_neg (by decide)]
    have hQ := hM.1.1.1.q
    refine CnA.of rfl (Nat.le_of_ble_eq_true rfl) ?_
    simp only [largs, lpad, mr_X5_moons]
    generalize hE : ((G, mX5_moons, _, _, _, _, h) : EV) = E
    have L1 : ∀ (f g : Nat → Int), (∀ k, k < 3 → f k = hdt h 125 (111 + k)) → (∀ k, k < 60 → g k = hdt h 125 (145 + k)) → ∀ m, m ≤ 10 → ∀ h1 b, FrN h h1 → hdt h1 134 = f → hdt h1 135 = g → AllS (hdt h1 125) (wS w) b → (wA w).1 <+: b.1 → (∀ j, j < 111 ∨ 113 < j ∧ j < 145 ∨ 205 ≤ j → hdt h1 125 j = hdt h 125 j) →
        ExA E 31 [some (.inr (.inr (124))), some (.inl ((n : Int))), none, some (.inl (((mooM (wS w) (wA w) vs m : Nat) : Int))), some (.inl ((m : Int))), none] [] h1 := by
      intro f g hf hg
      refine lpI 10 fun m hm ihm h1 b hx e34 e35 hA1 hpre hsame => ?_
      have hF1 := hF.frn hx
      have c1 := hx.2.1
      have hmk : mooM (wS w) (wA w) vs m < 2147483648 := mskP_31 (by omega)
      by_cases hm9 : m < 10
      · have ihm := ihm hm9
        -- from 106 on
        have Z : ∀ h3 b3, FrN h h3 → hdt h3 134 = f → hdt h3 135 = g → AllS (hdt h3 125) (wS w) b3 → (wA w).1 <+: b3.1 → (∀ j, j < 111 ∨ 113 < j ∧ j < 145 ∨ 205 ≤ j → hdt h3 125 j = hdt h 125 j) →
            ExA E 106 [some (.inr (.inr (124))), some (.inl ((n : Int))), none, some (.inl (((mooM (wS w) (wA w) vs m : Nat) : Int))), some (.inl ((m : Int))), some (.inl (((mooN (wS w) ((wA w).1, (wA w).2.1, (m : Int)) vs : Nat) : Int)))] [] h3 := by
          intro h3 b3 hx3 a1 a2 a3 a4 a5
          have hF3 := hF.frn hx3
          have e151 : hdt h3 151 n = (vs.length : Int) := by rw [FrN.c hx3 (by decide) (by decide) (by decide)]; exact (congrFun (hdt_hwr h 124 151 0 0 ▸ rfl) n : hdt h 151 n = hdt (hwr h 124 0 0) 151 n).trans hTM.2.1
          have nx := ihm h3 b3 hx3 a1 a2 a3 a4 a5
          by_cases hc : mooN (wS w) ((wA w).1, (wA w).2.1, (m : Int)) vs = vs.length
          · rw [show mooM (wS w) (wA w) vs (m + 1) = mooM (wS w) (wA w) vs m ||| 2 ^ m from mskP_t (by simpa using hc)] at nx
            rw [hc]
            generalize mooM (wS w) (wA w) vs m = k at *
            subst hE
            refine vsA_ok tk_X5_moons rfl 8 ?_
            simp only [at_X5_moons, mr_X5_moons, vsA, vcA, denA, lget, lset, lst1, lst2, lclr, argsA, restA, acats, acat, tcA, tcN, rzA, lle, List.length_cons, List.length_nil, Option.toList_some, Option.toList_none, List.cons_append, List.nil_append, eG, eM, eD, eC, eS, eQ, eH, if_true, if_false, Nat.reduceAdd, Nat.reduceLeDiff, Nat.reduceEqDiff, Nat.reduceLT, Nat.reduceSub, Int.reduceEq, Int.reduceLE, Int.reduceToNat, reduceCtorEq, reduceIte, Nat.reduceBEq, Int.reduceNeg, not_true, not_false_iff, true_and, and_true, true_or, or_true, false_or, or_false, forall_const, implies_true, Nat.le_refl, Int.toNat_natCast, Int.reduceLT, ne_eq, Fin.isValue, Nat.add_zero, nC_hrw, nS_hrw, nC_hwr, nS_hwr, hkd_hrw, hkd_hwr, fin4_0, fin4_1, fin4_2, fin4_3, fin2_0, fin2_1, ci0, ci1, cnn, false_implies, w32_eq, w64_eq, hF3.m, e151]
            try simp (disch := omega) only [yc_lt, yc_le, yc_gt, yc_ge, yc_eq, w32_eq, w64_eq, tn_add, tn_mul, Int.toNat_natCast, Int.reduceToNat, not_true, not_false_iff, false_implies, forall_const, implies_true]
            repeat' (with_reducible first | apply And.intro | intro _)
            all_goals try omega
            all_goals try simp (disch := omega) only [w32_eq, w64_eq, tn_add, tn_mul, Int.toNat_natCast, Int.reduceToNat, Option.some.injEq, Sum.inr.injEq, Sum.inl.injEq]
            all_goals try omega
            refine vsA_ok tk_X5_moons rfl 1 ?_
            simp only [at_X5_moons, mr_X5_moons, vsA, vcA, denA, lget, lset, lst1, lst2, lclr, argsA, restA, acats, acat, tcA, tcN, rzA, lle, List.length_cons, List.length_nil, Option.toList_some, Option.toList_none, List.cons_append, List.nil_append, eG, eM, eD, eC, eS, eQ, eH, if_true, if_false, Nat.reduceAdd, Nat.reduceLeDiff, Nat.reduceEqDiff, Nat.reduceLT, Nat.reduceSub, Int.reduceEq, Int.reduceLE, Int.reduceToNat, reduceCtorEq, reduceIte, Nat.reduceBEq, Int.reduceNeg, not_true, not_false_iff, true_and, and_true, true_or, or_true, false_or, or_false, forall_const, implies_true, Nat.le_refl, Int.toNat_natCast, Int.reduceLT, ne_eq, Fin.isValue, Nat.add_zero, nC_hrw, nS_hrw, nC_hwr, nS_hwr, hkd_hrw, hkd_hwr, fin4_0, fin4_1, fin4_2, fin4_3, fin2_0, fin2_1, ci0, ci1, cnn, false_implies, w32_eq, w64_eq]
            try simp (disch := omega) only [yc_lt, yc_le, yc_gt, yc_ge, yc_eq, w32_eq, w64_eq, tn_add, tn_mul, Int.toNat_natCast, Int.reduceToNat, not_true, not_false_iff, false_implies, forall_const, implies_true]
            repeat' (with_reducible first | apply And.intro | intro _)
            all_goals try omega
            all_goals try simp (disch := omega) only [w32_eq, w64_eq, tn_add, tn_mul, Int.toNat_natCast, Int.reduceToNat, Option.some.injEq, Sum.inr.injEq, Sum.inl.injEq]
            all_goals try omega
            refine vsA_ok tk_X5_moons rfl 20 ?_
            simp only [at_X5_moons, mr_X5_moons, vsA, vcA, denA, lget, lset, lst1, lst2, lclr, argsA, restA, acats, acat, tcA, tcN, rzA, lle, List.length_cons, List.length_nil, Option.toList_some, Option.toList_none, List.cons_append, List.nil_append, eG, eM, eD, eC, eS, eQ, eH, if_true, if_false, Nat.reduceAdd, Nat.reduceLeDiff, Nat.reduceEqDiff, Nat.reduceLT, Nat.reduceSub, Int.reduceEq, Int.reduceLE, Int.reduceToNat, reduceCtorEq, reduceIte, Nat.reduceBEq, Int.reduceNeg, not_true, not_false_iff, true_and, and_true, true_or, or_true, false_or, or_false, forall_const, implies_true, Nat.le_refl, Int.toNat_natCast, Int.reduceLT, ne_eq, Fin.isValue, Nat.add_zero, nC_hrw, nS_hrw, nC_hwr, nS_hwr, hkd_hrw, hkd_hwr, fin4_0, fin4_1, fin4_2, fin4_3, fin2_0, fin2_1, ci0, ci1, cnn, false_implies, w32_eq, w64_eq]
            try simp (disch := omega) only [yc_lt, yc_le, yc_gt, yc_ge, yc_eq, w32_eq, w64_eq, tn_add, tn_mul, Int.toNat_natCast, Int.reduceToNat, not_true, not_false_iff, false_implies, forall_const, implies_true, zor_1]
            repeat' (with_reducible first | apply And.intro | intro _)
            all_goals try omega
            all_goals try simp (disch := omega) only [w32_eq, w64_eq, tn_add, tn_mul, Int.toNat_natCast, Int.reduceToNat, Option.some.injEq, Sum.inr.injEq, Sum.inl.injEq, zor_1]
            all_goals try omega
            all_goals try exact (nx).weak rfl (by simp [lle] <;> omega)
          · rw [show mooM (wS w) (wA w) vs (m + 1) = mooM (wS w) (wA w) vs m from mskP_f (by simpa using hc)] at nx
            have hle := mooN_le (wS w) vs ((wA w).1, (wA w).2.1, (m : Int))
            have h40 := hTM.1
            generalize mooM (wS w) (wA w) vs m = k at *
            generalize mooN (wS w) ((wA w).1, (wA w).2.1, (m : Int)) vs = cc at *
            subst hE
            refine vsA_ok tk_X5_moons rfl 7 ?_
            simp only [at_X5_moons, mr_X5_moons, vsA, vcA, denA, lget, lset, lst1, lst2, lclr, argsA, restA, acats, acat, tcA, tcN, rzA, lle, List.length_cons, List.length_nil, Option.toList_some, Option.toList_none, List.cons_append, List.nil_append, eG, eM, eD, eC, eS, eQ, eH, if_true, if_false, Nat.reduceAdd, Nat.reduceLeDiff, Nat.reduceEqDiff, Nat.reduceLT, Nat.reduceSub, Int.reduceEq, Int.reduceLE, Int.reduceToNat, reduceCtorEq, reduceIte, Nat.reduceBEq, Int.reduceNeg, not_true, not_false_iff, true_and, and_true, true_or, or_true, false_or, or_false, forall_const, implies_true, Nat.le_refl, Int.toNat_natCast, Int.reduceLT, ne_eq, Fin.isValue, Nat.add_zero, nC_hrw, nS_hrw, nC_hwr, nS_hwr, hkd_hrw, hkd_hwr, fin4_0, fin4_1, fin4_2, fin4_3, fin2_0, fin2_1, ci0, ci1, cnn, false_implies, w32_eq, w64_eq, hF3.m, e151]
            try simp (disch := omega) only [yc_lt, yc_le, yc_gt, yc_ge, yc_eq, w32_eq, w64_eq, tn_add, tn_mul, Int.toNat_natCast, Int.reduceToNat, not_true, not_false_iff, false_implies, forall_const, implies_true]
            repeat' (with_reducible first | apply And.intro | intro _)
            all_goals try omega
            all_goals try simp (disch := omega) only [w32_eq, w64_eq, tn_add, tn_mul, Int.toNat_natCast, Int.reduceToNat, Option.some.injEq, Sum.inr.injEq, Sum.inl.injEq]
            all_goals try omega
            refine vsA_ok tk_X5_moons rfl 20 ?_
            simp only [at_X5_moons, mr_X5_moons, vsA, vcA, denA, lget, lset, lst1, lst2, lclr, argsA, restA, acats, acat, tcA, tcN, rzA, lle, List.length_cons, List.length_nil, Option.toList_some, Option.toList_none, List.cons_append, List.nil_append, eG, eM, eD, eC, eS, eQ, eH, if_true, if_false, Nat.reduceAdd, Nat.reduceLeDiff, Nat.reduceEqDiff, Nat.reduceLT, Nat.reduceSub, Int.reduceEq, Int.reduceLE, Int.reduceToNat, reduceCtorEq, reduceIte, Nat.reduceBEq, Int.reduceNeg, not_true, not_false_iff, true_and, and_true, true_or, or_true, false_or, or_false, forall_const, implies_true, Nat.le_refl, Int.toNat_natCast, Int.reduceLT, ne_eq, Fin.isValue, Nat.add_zero, nC_hrw, nS_hrw, nC_hwr, nS_hwr, hkd_hrw, hkd_hwr, fin4_0, fin4_1, fin4_2, fin4_3, fin2_0, fin2_1, ci0, ci1, cnn, false_implies, w32_eq, w64_eq]
            try simp (disch := omega) only [yc_lt, yc_le, yc_gt, yc_ge, yc_eq, w32_eq, w64_eq, tn_add, tn_mul, Int.toNat_natCast, Int.reduceToNat, not_true, not_false_iff, false_implies, forall_const, implies_true, zor_0]
            repeat' (with_reducible first | apply And.intro | intro _)
            all_goals try omega
            all_goals try simp (disch := omega) only [w32_eq, w64_eq, tn_add, tn_mul, Int.toNat_natCast, Int.reduceToNat, Option.some.injEq, Sum.inr.injEq, Sum.inl.injEq, zor_0]
            all_goals try omega
            all_goals try exact (nx).weak rfl (by simp [lle] <;> omega)
        have L2 : ∀ i, i ≤ vs.length → ∀ h2 b2, FrN h h2 → hdt h2 134 = f → hdt h2 135 = g → AllS (hdt h2 125) (wS w) b2 → (wA w).1 <+: b2.1 → (∀ j, j < 111 ∨ 113 < j ∧ j < 145 ∨ 205 ≤ j → hdt h2 125 j = hdt h 125 j) → OKS (wS w) (N + (i : Nat)) b2 → i + mooN (wS w) b2 (vs.drop i) = mooN (wS w) ((wA w).1, (wA w).2.1, (m : Int)) vs →
            ExA E 54 [some (.inr (.inr (124))), some (.inl ((n : Int))), none, some (.inl (((mooM (wS w) (wA w) vs m : Nat) : Int))), some (.inl ((m : Int))), some (.inl ((i : Int)))] [] h2 := by
          refine lpI _ fun i hi ihi h2 b2 hx2 a1 a2 hA2 a4 a5 hO2 hte => ?_
          have hF2 := hF.frn hx2
          have c2 := hx2.2.1
          have e151 : hdt h2 151 n = (vs.length : Int) := by rw [FrN.c hx2 (by decide) (by decide) (by decide)]; exact (congrFun (hdt_hwr h 124 151 0 0 ▸ rfl) n : hdt h 151 n = hdt (hwr h 124 0 0) 151 n).trans hTM.2.1
          by_cases hil : i < vs.length
          · have ihi := ihi hil
            rw [drop_consI hil] at hte
            have hxi := hTM.2.2.2 _ (getD_memI hil)
            have hxn := hTM.2.2.1 i hil
            have e152 : hdt (hwr h 124 0 0) 152 = hdt h 152 := by rw [hdt_hwr, if_neg (by decide)]
            rw [e152] at hxn
            obtain ⟨hx1', hx2'⟩ := hxi
            have hry := why_in (wS w) b2 0
            generalize vs.getD i 0 = x at *
            by_cases qw : whyS (wS w) b2 0 = 0
            · have hto := (told0 (wS w) b2).trans qw
              have hby := (by_ok hS hO2.1 hto (by omega)).2
              have hO3 := hO2.go hS hto
              have h5 := hO3.2.2.2.2
              have hpre3 : (wA w).1 <+: (goS (wS w) b2 0).1 := by
                rw [go0]
                unfold byG
                split
                · exact a4
                · exact a4.trans (List.prefix_append _ _)
              subst hE
              refine vsA_ok tk_X5_moons rfl 5 ?_
              simp only [at_X5_moons, mr_X5_moons, vsA, vcA, denA, lget, lset, lst1, lst2, lclr, argsA, restA, acats, acat, tcA, tcN, rzA, lle, List.length_cons, List.length_nil, Option.toList_some, Option.toList_none, List.cons_append, List.nil_append, eG, eM, eD, eC, eS, eQ, eH, if_true, if_false, Nat.reduceAdd, Nat.reduceLeDiff, Nat.reduceEqDiff, Nat.reduceLT, Nat.reduceSub, Int.reduceEq, Int.reduceLE, Int.reduceToNat, reduceCtorEq, reduceIte, Nat.reduceBEq, Int.reduceNeg, not_true, not_false_iff, true_and, and_true, true_or, or_true, false_or, or_false, forall_const, implies_true, Nat.le_refl, Int.toNat_natCast, Int.reduceLT, ne_eq, Fin.isValue, Nat.add_zero, nC_hrw, nS_hrw, nC_hwr, nS_hwr, hkd_hrw, hkd_hwr, fin4_0, fin4_1, fin4_2, fin4_3, fin2_0, fin2_1, ci0, ci1, cnn, false_implies, w32_eq, w64_eq, hF2.m, e151]
              try simp (disch := omega) only [yc_lt, yc_le, yc_gt, yc_ge, yc_eq, w32_eq, w64_eq, tn_add, tn_mul, Int.toNat_natCast, Int.reduceToNat, not_true, not_false_iff, false_implies, forall_const, implies_true]
              repeat' (with_reducible first | apply And.intro | intro _)
              all_goals try omega
              all_goals try simp (disch := omega) only [w32_eq, w64_eq, tn_add, tn_mul, Int.toNat_natCast, Int.reduceToNat, Option.some.injEq, Sum.inr.injEq, Sum.inl.injEq]
              all_goals try omega
              refine vsA_ok tk_X5_moons rfl 5 ?_
              simp only [at_X5_moons, mr_X5_moons, vsA, vcA, denA, lget, lset, lst1, lst2, lclr, argsA, restA, acats, acat, tcA, tcN, rzA, lle, List.length_cons, List.length_nil, Option.toList_some, Option.toList_none, List.cons_append, List.nil_append, eG, eM, eD, eC, eS, eQ, eH, if_true, if_false, Nat.reduceAdd, Nat.reduceLeDiff, Nat.reduceEqDiff, Nat.reduceLT, Nat.reduceSub, Int.reduceEq, Int.reduceLE, Int.reduceToNat, reduceCtorEq, reduceIte, Nat.reduceBEq, Int.reduceNeg, not_true, not_false_iff, true_and, and_true, true_or, or_true, false_or, or_false, forall_const, implies_true, Nat.le_refl, Int.toNat_natCast, Int.reduceLT, ne_eq, Fin.isValue, Nat.add_zero, nC_hrw, nS_hrw, nC_hwr, nS_hwr, hkd_hrw, hkd_hwr, fin4_0, fin4_1, fin4_2, fin4_3, fin2_0, fin2_1, ci0, ci1, cnn, false_implies, w32_eq, w64_eq, hF2.m]
              try simp (disch := omega) only [yc_lt, yc_le, yc_gt, yc_ge, yc_eq, w32_eq, w64_eq, tn_add, tn_mul, Int.toNat_natCast, Int.reduceToNat, not_true, not_false_iff, false_implies, forall_const, implies_true]
              repeat' (with_reducible first | apply And.intro | intro _)
              all_goals try omega
              all_goals try simp (disch := omega) only [w32_eq, w64_eq, tn_add, tn_mul, Int.toNat_natCast, Int.reduceToNat, Option.some.injEq, Sum.inr.injEq, Sum.inl.injEq]
              all_goals try omega
              refine ClA.of (c_X5_whyNight (s := wS w) (a := b2) hF2 hA2 hS hO2 (by omega) (v := 0) (by omega)) (by first | exact Nat.le_of_ble_eq_true rfl | (simp only [eD]; omega)) (by first | exact Nat.le_refl _ | (simp only [eG, eD, eC, eS, eQ, eH, nC_hrw, nC_hwr, nS_hrw, nS_hwr, nC_hnw, nS_hnw]; omega)) (by first | exact Nat.le_refl _ | (simp only [eG, eD, eC, eS, eQ, eH, nC_hrw, nC_hwr, nS_hrw, nS_hwr, nC_hnw, nS_hnw]; omega)) ?_
              rintro _ h3 ⟨rfl, hf3, hp3⟩ - -
              have hx3 : FrN h h3 := hx2.tr (hf3.n (by decide) (by decide))
              have hF3 := hF.frn hx3
              have c3 := hx3.2.1
              have eA3 : hdt h3 125 = hdt h2 125 := FrM.c hf3 (by decide) (by decide)
              rw [qw]
              refine vsA_ok tk_X5_moons rfl 0 ?_
              simp only [at_X5_moons, mr_X5_moons, vsA, vcA, denA, lget, lset, lst1, lst2, lclr, argsA, restA, acats, acat, tcA, tcN, rzA, lle, List.length_cons, List.length_nil, Option.toList_some, Option.toList_none, List.cons_append, List.nil_append, eG, eM, eD, eC, eS, eQ, eH, if_true, if_false, Nat.reduceAdd, Nat.reduceLeDiff, Nat.reduceEqDiff, Nat.reduceLT, Nat.reduceSub, Int.reduceEq, Int.reduceLE, Int.reduceToNat, reduceCtorEq, reduceIte, Nat.reduceBEq, Int.reduceNeg, not_true, not_false_iff, true_and, and_true, true_or, or_true, false_or, or_false, forall_const, implies_true, Nat.le_refl, Int.toNat_natCast, Int.reduceLT, ne_eq, Fin.isValue, Nat.add_zero, nC_hrw, nS_hrw, nC_hwr, nS_hwr, hkd_hrw, hkd_hwr, fin4_0, fin4_1, fin4_2, fin4_3, fin2_0, fin2_1, ci0, ci1, cnn, false_implies, w32_eq, w64_eq]
              try simp (disch := omega) only [yc_lt, yc_le, yc_gt, yc_ge, yc_eq, w32_eq, w64_eq, tn_add, tn_mul, Int.toNat_natCast, Int.reduceToNat, not_true, not_false_iff, false_implies, forall_const, implies_true]
              repeat' (with_reducible first | apply And.intro | intro _)
              all_goals try omega
              all_goals try simp (disch := omega) only [w32_eq, w64_eq, tn_add, tn_mul, Int.toNat_natCast, Int.reduceToNat, Option.some.injEq, Sum.inr.injEq, Sum.inl.injEq]
              all_goals try omega
              refine vsA_ok tk_X5_moons rfl 5 ?_
              simp only [at_X5_moons, mr_X5_moons, vsA, vcA, denA, lget, lset, lst1, lst2, lclr, argsA, restA, acats, acat, tcA, tcN, rzA, lle, List.length_cons, List.length_nil, Option.toList_some, Option.toList_none, List.cons_append, List.nil_append, eG, eM, eD, eC, eS, eQ, eH, if_true, if_false, Nat.reduceAdd, Nat.reduceLeDiff, Nat.reduceEqDiff, Nat.reduceLT, Nat.reduceSub, Int.reduceEq, Int.reduceLE, Int.reduceToNat, reduceCtorEq, reduceIte, Nat.reduceBEq, Int.reduceNeg, not_true, not_false_iff, true_and, and_true, true_or, or_true, false_or, or_false, forall_const, implies_true, Nat.le_refl, Int.toNat_natCast, Int.reduceLT, ne_eq, Fin.isValue, Nat.add_zero, nC_hrw, nS_hrw, nC_hwr, nS_hwr, hkd_hrw, hkd_hwr, fin4_0, fin4_1, fin4_2, fin4_3, fin2_0, fin2_1, ci0, ci1, cnn, false_implies, w32_eq, w64_eq, hF3.m]
              try simp (disch := omega) only [yc_lt, yc_le, yc_gt, yc_ge, yc_eq, w32_eq, w64_eq, tn_add, tn_mul, Int.toNat_natCast, Int.reduceToNat, not_true, not_false_iff, false_implies, forall_const, implies_true]
              repeat' (with_reducible first | apply And.intro | intro _)
              all_goals try omega
              all_goals try simp (disch := omega) only [w32_eq, w64_eq, tn_add, tn_mul, Int.toNat_natCast, Int.reduceToNat, Option.some.injEq, Sum.inr.injEq, Sum.inl.injEq]
              all_goals try omega
              refine ClA.of (c_X5_goesNight hF3 (by rw [eA3]; exact hA2) (hp3 qw) hby) (by first | exact Nat.le_of_ble_eq_true rfl | (simp only [eD]; omega)) (by first | exact Nat.le_refl _ | (simp only [eG, eD, eC, eS, eQ, eH, nC_hrw, nC_hwr, nS_hrw, nS_hwr, nC_hnw, nS_hnw]; omega)) (by first | exact Nat.le_refl _ | (simp only [eG, eD, eC, eS, eQ, eH, nC_hrw, nC_hwr, nS_hrw, nS_hwr, nC_hnw, nS_hnw]; omega)) ?_
              rintro _ h4 ⟨rfl, hf4, e24, hA4⟩ - -
              rw [← go0] at hA4
              have hx4 : FrN h h4 := hx3.tr hf4.n
              have hF4 := hF.frn hx4
              have c4 := hx4.2.1
              refine vsA_ok tk_X5_moons rfl 20 ?_
              simp only [at_X5_moons, mr_X5_moons, vsA, vcA, denA, lget, lset, lst1, lst2, lclr, argsA, restA, acats, acat, tcA, tcN, rzA, lle, List.length_cons, List.length_nil, Option.toList_some, Option.toList_none, List.cons_append, List.nil_append, eG, eM, eD, eC, eS, eQ, eH, if_true, if_false, Nat.reduceAdd, Nat.reduceLeDiff, Nat.reduceEqDiff, Nat.reduceLT, Nat.reduceSub, Int.reduceEq, Int.reduceLE, Int.reduceToNat, reduceCtorEq, reduceIte, Nat.reduceBEq, Int.reduceNeg, not_true, not_false_iff, true_and, and_true, true_or, or_true, false_or, or_false, forall_const, implies_true, Nat.le_refl, Int.toNat_natCast, Int.reduceLT, ne_eq, Fin.isValue, Nat.add_zero, nC_hrw, nS_hrw, nC_hwr, nS_hwr, hkd_hrw, hkd_hwr, fin4_0, fin4_1, fin4_2, fin4_3, fin2_0, fin2_1, ci0, ci1, cnn, false_implies, w32_eq, w64_eq, hF4.m]
              try simp (disch := omega) only [yc_lt, yc_le, yc_gt, yc_ge, yc_eq, w32_eq, w64_eq, tn_add, tn_mul, Int.toNat_natCast, Int.reduceToNat, not_true, not_false_iff, false_implies, forall_const, implies_true]
              repeat' (with_reducible first | apply And.intro | intro _)
              all_goals try omega
              all_goals try simp (disch := omega) only [w32_eq, w64_eq, tn_add, tn_mul, Int.toNat_natCast, Int.reduceToNat, Option.some.injEq, Sum.inr.injEq, Sum.inl.injEq]
              all_goals try omega
              refine ClA.of (c_X5_lengthNow hF4 hA4.1 h5) (by first | exact Nat.le_of_ble_eq_true rfl | (simp only [eD]; omega)) (by first | exact Nat.le_refl _ | (simp only [eG, eD, eC, eS, eQ, eH, nC_hrw, nC_hwr, nS_hrw, nS_hwr, nC_hnw, nS_hnw]; omega)) (by first | exact Nat.le_refl _ | (simp only [eG, eD, eC, eS, eQ, eH, nC_hrw, nC_hwr, nS_hrw, nS_hwr, nC_hnw, nS_hnw]; omega)) ?_
              rintro _ h5' ⟨rfl, f5, rfl, hf5⟩ - -
              have hx5 : FrN h (hrw h4 130 f5) := hx4.rw (fun _ => Or.inl (by decide)) f5
              have hF5 := hF.frn hx5
              have n5 : ∀ b, b ≠ 130 → hdt (hrw h4 130 f5) b = hdt h4 b := fun b hb => hdt_hrw_n _ _ hb
              have e345 : hdt (hrw h4 130 f5) 134 = f := by rw [n5 _ (by decide), FrD.c hf4 (by decide) (by decide) (by decide), FrM.c hf3 (by decide) (by decide)]; exact a1
              have e355 : hdt (hrw h4 130 f5) 135 = g := by rw [n5 _ (by decide), FrD.c hf4 (by decide) (by decide) (by decide), FrM.c hf3 (by decide) (by decide)]; exact a2
              have e1525 : hdt (hrw h4 130 f5) 152 = hdt h 152 := FrN.c hx5 (by decide) (by decide) (by decide)
              have hsame5 : ∀ j, j < 111 ∨ 113 < j ∧ j < 145 ∨ 205 ≤ j → hdt (hrw h4 130 f5) 125 j = hdt h 125 j := fun j hj => by rw [n5 _ (by decide), FrD.a hf4 hj, eA3]; exact a5 j hj
              have hA5 : AllS (hdt (hrw h4 130 f5) 125) (wS w) (goS (wS w) b2 0) := by rw [n5 _ (by decide)]; exact hA4
              generalize hrw h4 130 f5 = h6 at *
              have ei : (40 * (n : Int) + (i : Int)).toNat = 40 * n + i := by omega
              by_cases ql : (((wrdS (wS w) (goS (wS w) b2 0)).length : Nat) : Int) = x
              · rw [mooN_t _ ⟨qw, ql⟩] at hte
                have nx := ihi h6 (goS (wS w) b2 0) hx5 e345 e355 hA5 hpre3 hsame5 (by
                  rw [show N + ((i + 1 : Nat) : Int) = N + (i : Nat) + 1 by omega]
                  exact hO3) (by omega)
                have ql' : (((wrd (sB (wS w)) (sS (wS w)) (goS (wS w) b2 0).1).length : Nat) : Int) = x := ql
                rw [ql']
                refine vsA_ok tk_X5_moons rfl 9 ?_
                simp only [at_X5_moons, mr_X5_moons, vsA, vcA, denA, lget, lset, lst1, lst2, lclr, argsA, restA, acats, acat, tcA, tcN, rzA, lle, List.length_cons, List.length_nil, Option.toList_some, Option.toList_none, List.cons_append, List.nil_append, eG, eM, eD, eC, eS, eQ, eH, if_true, if_false, Nat.reduceAdd, Nat.reduceLeDiff, Nat.reduceEqDiff, Nat.reduceLT, Nat.reduceSub, Int.reduceEq, Int.reduceLE, Int.reduceToNat, reduceCtorEq, reduceIte, Nat.reduceBEq, Int.reduceNeg, not_true, not_false_iff, true_and, and_true, true_or, or_true, false_or, or_false, forall_const, implies_true, Nat.le_refl, Int.toNat_natCast, Int.reduceLT, ne_eq, Fin.isValue, Nat.add_zero, nC_hrw, nS_hrw, nC_hwr, nS_hwr, hkd_hrw, hkd_hwr, fin4_0, fin4_1, fin4_2, fin4_3, fin2_0, fin2_1, ci0, ci1, cnn, false_implies, w32_eq, w64_eq, hF5.m, e1525, ei, hxn]
                try simp (disch := omega) only [yc_lt, yc_le, yc_gt, yc_ge, yc_eq, w32_eq, w64_eq, tn_add, tn_mul, Int.toNat_natCast, Int.reduceToNat, not_true, not_false_iff, false_implies, forall_const, implies_true]
                repeat' (with_reducible first | apply And.intro | intro _)
                all_goals try omega
                all_goals try simp (disch := omega) only [w32_eq, w64_eq, tn_add, tn_mul, Int.toNat_natCast, Int.reduceToNat, Option.some.injEq, Sum.inr.injEq, Sum.inl.injEq]
                all_goals try omega
                refine vsA_ok tk_X5_moons rfl 5 ?_
                simp only [at_X5_moons, mr_X5_moons, vsA, vcA, denA, lget, lset, lst1, lst2, lclr, argsA, restA, acats, acat, tcA, tcN, rzA, lle, List.length_cons, List.length_nil, Option.toList_some, Option.toList_none, List.cons_append, List.nil_append, eG, eM, eD, eC, eS, eQ, eH, if_true, if_false, Nat.reduceAdd, Nat.reduceLeDiff, Nat.reduceEqDiff, Nat.reduceLT, Nat.reduceSub, Int.reduceEq, Int.reduceLE, Int.reduceToNat, reduceCtorEq, reduceIte, Nat.reduceBEq, Int.reduceNeg, not_true, not_false_iff, true_and, and_true, true_or, or_true, false_or, or_false, forall_const, implies_true, Nat.le_refl, Int.toNat_natCast, Int.reduceLT, ne_eq, Fin.isValue, Nat.add_zero, nC_hrw, nS_hrw, nC_hwr, nS_hwr, hkd_hrw, hkd_hwr, fin4_0, fin4_1, fin4_2, fin4_3, fin2_0, fin2_1, ci0, ci1, cnn, false_implies, w32_eq, w64_eq]
                try simp (disch := omega) only [yc_lt, yc_le, yc_gt, yc_ge, yc_eq, w32_eq, w64_eq, tn_add, tn_mul, Int.toNat_natCast, Int.reduceToNat, not_true, not_false_iff, false_implies, forall_const, implies_true]
                repeat' (with_reducible first | apply And.intro | intro _)
                all_goals try omega
                all_goals try simp (disch := omega) only [w32_eq, w64_eq, tn_add, tn_mul, Int.toNat_natCast, Int.reduceToNat, Option.some.injEq, Sum.inr.injEq, Sum.inl.injEq]
                all_goals try omega
                all_goals try exact (nx).weak rfl (by simp [lle] <;> omega)
              · rw [mooN_f _ (fun z => ql z.2)] at hte
                have hii : i = mooN (wS w) ((wA w).1, (wA w).2.1, (m : Int)) vs := by omega
                have nx := Z h6 _ hx5 e345 e355 hA5 hpre3 hsame5
                rw [← hii] at nx
                have ql' : (((wrd (sB (wS w)) (sS (wS w)) (goS (wS w) b2 0).1).length : Nat) : Int) ≠ x := ql
                have h5'' : (wrd (sB (wS w)) (sS (wS w)) (goS (wS w) b2 0).1).length ≤ 1000000000000 := h5
                generalize (wrd (sB (wS w)) (sS (wS w)) (goS (wS w) b2 0).1).length = ll at *
                refine vsA_ok tk_X5_moons rfl 10 ?_
                simp only [at_X5_moons, mr_X5_moons, vsA, vcA, denA, lget, lset, lst1, lst2, lclr, argsA, restA, acats, acat, tcA, tcN, rzA, lle, List.length_cons, List.length_nil, Option.toList_some, Option.toList_none, List.cons_append, List.nil_append, eG, eM, eD, eC, eS, eQ, eH, if_true, if_false, Nat.reduceAdd, Nat.reduceLeDiff, Nat.reduceEqDiff, Nat.reduceLT, Nat.reduceSub, Int.reduceEq, Int.reduceLE, Int.reduceToNat, reduceCtorEq, reduceIte, Nat.reduceBEq, Int.reduceNeg, not_true, not_false_iff, true_and, and_true, true_or, or_true, false_or, or_false, forall_const, implies_true, Nat.le_refl, Int.toNat_natCast, Int.reduceLT, ne_eq, Fin.isValue, Nat.add_zero, nC_hrw, nS_hrw, nC_hwr, nS_hwr, hkd_hrw, hkd_hwr, fin4_0, fin4_1, fin4_2, fin4_3, fin2_0, fin2_1, ci0, ci1, cnn, false_implies, w32_eq, w64_eq, hF5.m, e1525, ei, hxn]
                try simp (disch := omega) only [yc_lt, yc_le, yc_gt, yc_ge, yc_eq, w32_eq, w64_eq, tn_add, tn_mul, Int.toNat_natCast, Int.reduceToNat, not_true, not_false_iff, false_implies, forall_const, implies_true]
                repeat' (with_reducible first | apply And.intro | intro _)
                all_goals try omega
                all_goals try simp (disch := omega) only [w32_eq, w64_eq, tn_add, tn_mul, Int.toNat_natCast, Int.reduceToNat, Option.some.injEq, Sum.inr.injEq, Sum.inl.injEq]
                all_goals try omega
                all_goals try exact (nx).weak rfl (by simp [lle] <;> omega)
            · rw [mooN_f _ (fun z => qw z.1)] at hte
              have hii : i = mooN (wS w) ((wA w).1, (wA w).2.1, (m : Int)) vs := by omega
              have Z := fun h3 => Z h3 b2
              rw [← hii] at Z
              subst hE
              refine vsA_ok tk_X5_moons rfl 5 ?_
              simp only [at_X5_moons, mr_X5_moons, vsA, vcA, denA, lget, lset, lst1, lst2, lclr, argsA, restA, acats, acat, tcA, tcN, rzA, lle, List.length_cons, List.length_nil, Option.toList_some, Option.toList_none, List.cons_append, List.nil_append, eG, eM, eD, eC, eS, eQ, eH, if_true, if_false, Nat.reduceAdd, Nat.reduceLeDiff, Nat.reduceEqDiff, Nat.reduceLT, Nat.reduceSub, Int.reduceEq, Int.reduceLE, Int.reduceToNat, reduceCtorEq, reduceIte, Nat.reduceBEq, Int.reduceNeg, not_true, not_false_iff, true_and, and_true, true_or, or_true, false_or, or_false, forall_const, implies_true, Nat.le_refl, Int.toNat_natCast, Int.reduceLT, ne_eq, Fin.isValue, Nat.add_zero, nC_hrw, nS_hrw, nC_hwr, nS_hwr, hkd_hrw, hkd_hwr, fin4_0, fin4_1, fin4_2, fin4_3, fin2_0, fin2_1, ci0, ci1, cnn, false_implies, w32_eq, w64_eq, hF2.m, e151]
              try simp (disch := omega) only [yc_lt, yc_le, yc_gt, yc_ge, yc_eq, w32_eq, w64_eq, tn_add, tn_mul, Int.toNat_natCast, Int.reduceToNat, not_true, not_false_iff, false_implies, forall_const, implies_true]
              repeat' (with_reducible first | apply And.intro | intro _)
              all_goals try omega
              all_goals try simp (disch := omega) only [w32_eq, w64_eq, tn_add, tn_mul, Int.toNat_natCast, Int.reduceToNat, Option.some.injEq, Sum.inr.injEq, Sum.inl.injEq]
              all_goals try omega
              refine vsA_ok tk_X5_moons rfl 5 ?_
              simp only [at_X5_moons, mr_X5_moons, vsA, vcA, denA, lget, lset, lst1, lst2, lclr, argsA, restA, acats, acat, tcA, tcN, rzA, lle, List.length_cons, List.length_nil, Option.toList_some, Option.toList_none, List.cons_append, List.nil_append, eG, eM, eD, eC, eS, eQ, eH, if_true, if_false, Nat.reduceAdd, Nat.reduceLeDiff, Nat.reduceEqDiff, Nat.reduceLT, Nat.reduceSub, Int.reduceEq, Int.reduceLE, Int.reduceToNat, reduceCtorEq, reduceIte, Nat.reduceBEq, Int.reduceNeg, not_true, not_false_iff, true_and, and_true, true_or, or_true, false_or, or_false, forall_const, implies_true, Nat.le_refl, Int.toNat_natCast, Int.reduceLT, ne_eq, Fin.isValue, Nat.add_zero, nC_hrw, nS_hrw, nC_hwr, nS_hwr, hkd_hrw, hkd_hwr, fin4_0, fin4_1, fin4_2, fin4_3, fin2_0, fin2_1, ci0, ci1, cnn, false_implies, w32_eq, w64_eq, hF2.m]
              try simp (disch := omega) only [yc_lt, yc_le, yc_gt, yc_ge, yc_eq, w32_eq, w64_eq, tn_add, tn_mul, Int.toNat_natCast, Int.reduceToNat, not_true, not_false_iff, false_implies, forall_const, implies_true]
              repeat' (with_reducible first | apply And.intro | intro _)
              all_goals try omega
              all_goals try simp (disch := omega) only [w32_eq, w64_eq, tn_add, tn_mul, Int.toNat_natCast, Int.reduceToNat, Option.some.injEq, Sum.inr.injEq, Sum.inl.injEq]
              all_goals try omega
              refine ClA.of (c_X5_whyNight (s := wS w) (a := b2) hF2 hA2 hS hO2 (by omega) (v := 0) (by omega)) (by first | exact Nat.le_of_ble_eq_true rfl | (simp only [eD]; omega)) (by first | exact Nat.le_refl _ | (simp only [eG, eD, eC, eS, eQ, eH, nC_hrw, nC_hwr, nS_hrw, nS_hwr, nC_hnw, nS_hnw]; omega)) (by first | exact Nat.le_refl _ | (simp only [eG, eD, eC, eS, eQ, eH, nC_hrw, nC_hwr, nS_hrw, nS_hwr, nC_hnw, nS_hnw]; omega)) ?_
              rintro _ h3 ⟨rfl, hf3, hp3⟩ - -
              have hx3 : FrN h h3 := hx2.tr (hf3.n (by decide) (by decide))
              have eA3 : hdt h3 125 = hdt h2 125 := FrM.c hf3 (by decide) (by decide)
              have nx := Z h3 hx3 ((FrM.c hf3 (by decide) (by decide)).trans a1) ((FrM.c hf3 (by decide) (by decide)).trans a2) (by rw [eA3]; exact hA2) a4 (fun j hj => by rw [eA3]; exact a5 j hj)
              refine vsA_ok tk_X5_moons rfl 0 ?_
              simp only [at_X5_moons, mr_X5_moons, vsA, vcA, denA, lget, lset, lst1, lst2, lclr, argsA, restA, acats, acat, tcA, tcN, rzA, lle, List.length_cons, List.length_nil, Option.toList_some, Option.toList_none, List.cons_append, List.nil_append, eG, eM, eD, eC, eS, eQ, eH, if_true, if_false, Nat.reduceAdd, Nat.reduceLeDiff, Nat.reduceEqDiff, Nat.reduceLT, Nat.reduceSub, Int.reduceEq, Int.reduceLE, Int.reduceToNat, reduceCtorEq, reduceIte, Nat.reduceBEq, Int.reduceNeg, not_true, not_false_iff, true_and, and_true, true_or, or_true, false_or, or_false, forall_const, implies_true, Nat.le_refl, Int.toNat_natCast, Int.reduceLT, ne_eq, Fin.isValue, Nat.add_zero, nC_hrw, nS_hrw, nC_hwr, nS_hwr, hkd_hrw, hkd_hwr, fin4_0, fin4_1, fin4_2, fin4_3, fin2_0, fin2_1, ci0, ci1, cnn, false_implies, w32_eq, w64_eq]
              try simp (disch := omega) only [yc_lt, yc_le, yc_gt, yc_ge, yc_eq, w32_eq, w64_eq, tn_add, tn_mul, Int.toNat_natCast, Int.reduceToNat, not_true, not_false_iff, false_implies, forall_const, implies_true]
              repeat' (with_reducible first | apply And.intro | intro _)
              all_goals try omega
              all_goals try simp (disch := omega) only [w32_eq, w64_eq, tn_add, tn_mul, Int.toNat_natCast, Int.reduceToNat, Option.some.injEq, Sum.inr.injEq, Sum.inl.injEq]
              all_goals try omega
              all_goals try exact (nx).weak rfl (by simp [lle] <;> omega)
          · have hii : i = vs.length := by omega
            have hz : mooN (wS w) b2 (vs.drop i) = 0 := by rw [hii, List.drop_length]; rfl
            have nx := Z h2 b2 hx2 a1 a2 hA2 a4 a5
            rw [← hte, hz, Nat.add_zero] at nx
            have h40 := hTM.1
            subst hE
            refine vsA_ok tk_X5_moons rfl 5 ?_
            simp only [at_X5_moons, mr_X5_moons, vsA, vcA, denA, lget, lset, lst1, lst2, lclr, argsA, restA, acats, acat, tcA, tcN, rzA, lle, List.length_cons, List.length_nil, Option.toList_some, Option.toList_none, List.cons_append, List.nil_append, eG, eM, eD, eC, eS, eQ, eH, if_true, if_false, Nat.reduceAdd, Nat.reduceLeDiff, Nat.reduceEqDiff, Nat.reduceLT, Nat.reduceSub, Int.reduceEq, Int.reduceLE, Int.reduceToNat, reduceCtorEq, reduceIte, Nat.reduceBEq, Int.reduceNeg, not_true, not_false_iff, true_and, and_true, true_or, or_true, false_or, or_false, forall_const, implies_true, Nat.le_refl, Int.toNat_natCast, Int.reduceLT, ne_eq, Fin.isValue, Nat.add_zero, nC_hrw, nS_hrw, nC_hwr, nS_hwr, hkd_hrw, hkd_hwr, fin4_0, fin4_1, fin4_2, fin4_3, fin2_0, fin2_1, ci0, ci1, cnn, false_implies, w32_eq, w64_eq, hF2.m, e151]
            try simp (disch := omega) only [yc_lt, yc_le, yc_gt, yc_ge, yc_eq, w32_eq, w64_eq, tn_add, tn_mul, Int.toNat_natCast, Int.reduceToNat, not_true, not_false_iff, false_implies, forall_const, implies_true]
            repeat' (with_reducible first | apply And.intro | intro _)
            all_goals try omega
            all_goals try simp (disch := omega) only [w32_eq, w64_eq, tn_add, tn_mul, Int.toNat_natCast, Int.reduceToNat, Option.some.injEq, Sum.inr.injEq, Sum.inl.injEq]
            all_goals try omega
            all_goals try exact (nx).weak rfl (by simp [lle] <;> omega)
        subst hE
        refine vsA_ok tk_X5_moons rfl 4 ?_
        simp only [at_X5_moons, mr_X5_moons, vsA, vcA, denA, lget, lset, lst1, lst2, lclr, argsA, restA, acats, acat, tcA, tcN, rzA, lle, List.length_cons, List.length_nil, Option.toList_some, Option.toList_none, List.cons_append, List.nil_append, eG, eM, eD, eC, eS, eQ, eH, if_true, if_false, Nat.reduceAdd, Nat.reduceLeDiff, Nat.reduceEqDiff, Nat.reduceLT, Nat.reduceSub, Int.reduceEq, Int.reduceLE, Int.reduceToNat, reduceCtorEq, reduceIte, Nat.reduceBEq, Int.reduceNeg, not_true, not_false_iff, true_and, and_true, true_or, or_true, false_or, or_false, forall_const, implies_true, Nat.le_refl, Int.toNat_natCast, Int.reduceLT, ne_eq, Fin.isValue, Nat.add_zero, nC_hrw, nS_hrw, nC_hwr, nS_hwr, hkd_hrw, hkd_hwr, fin4_0, fin4_1, fin4_2, fin4_3, fin2_0, fin2_1, ci0, ci1, cnn, false_implies, w32_eq, w64_eq, hF1.m]
        try simp (disch := omega) only [yc_lt, yc_le, yc_gt, yc_ge, yc_eq, w32_eq, w64_eq, tn_add, tn_mul, Int.toNat_natCast, Int.reduceToNat, not_true, not_false_iff, false_implies, forall_const, implies_true]
        repeat' (with_reducible first | apply And.intro | intro _)
        all_goals try omega
        all_goals try simp (disch := omega) only [w32_eq, w64_eq, tn_add, tn_mul, Int.toNat_natCast, Int.reduceToNat, Option.some.injEq, Sum.inr.injEq, Sum.inl.injEq]
        all_goals try omega
        refine ClA.of (c_X5_isAgain hF1) (by first | exact Nat.le_of_ble_eq_true rfl | (simp only [eD]; omega)) (by first | exact Nat.le_refl _ | (simp only [eG, eD, eC, eS, eQ, eH, nC_hrw, nC_hwr, nS_hrw, nS_hwr, nC_hnw, nS_hnw]; omega)) (by first | exact Nat.le_refl _ | (simp only [eG, eD, eC, eS, eQ, eH, nC_hrw, nC_hwr, nS_hrw, nS_hwr, nC_hnw, nS_hnw]; omega)) ?_
        rintro _ h2 ⟨rfl, f7, rfl, hf7, hg7⟩ - -
        rw [e34] at hf7
        have hx2 : FrN h (hrw h1 125 f7) := FrN.r125 hx (fun j hj => hg7 j (by omega))
        have hF2 := hF.frn hx2
        have hx3 : FrN h (hwr (hrw h1 125 f7) 125 111 (m : Int)) := hx2.wr (Or.inr (Or.inr ⟨rfl, by omega, by omega⟩)) _
        have e125 : hdt (hwr (hrw h1 125 f7) 125 111 (m : Int)) 125 = fup f7 111 (m : Int) := by rw [hdt_hwr, if_pos rfl, hdt_hrw_s]
        have hA3 : AllS (hdt (hwr (hrw h1 125 f7) 125 111 (m : Int)) 125) (wS w) ((wA w).1, (wA w).2.1, (m : Int)) := by
          rw [e125]
          refine hA1.re (fun j hj => ?_) hO.1 hO.2.1 (fup_s _ _ _) ?_ ?_ fun k hk => ?_
          · rw [fup_n _ _ (by omega)]; exact hg7 j (by omega)
          · rw [fup_n _ _ (by decide), show (112 : Nat) = 111 + 1 from rfl, hf7 1 (by decide), hf 1 (by decide)]; exact hQ.2.2.2.1
          · rw [fup_n _ _ (by decide), show (113 : Nat) = 111 + 2 from rfl, hf7 2 (by decide), hf 2 (by decide)]; exact hQ.2.2.2.2
          · have hk : k < (wA w).1.length := hk
            have hbl := hpre.length_le
            rw [fup_n _ _ (by omega), hg7 _ (by omega), hA1.1.by (by omega)]
            show _ = (((wA w).1.getD k 0 : Nat) : Int)
            rw [prefix_getD hpre hk]
        have l2 := L2 0 (Nat.zero_le _) (hwr (hrw h1 125 f7) 125 111 (m : Int)) ((wA w).1, (wA w).2.1, (m : Int)) hx3 (by rw [hdt_hwr, if_neg (by decide), hdt_hrw_n _ _ (by decide)]; exact e34) (by rw [hdt_hwr, if_neg (by decide), hdt_hrw_n _ _ (by decide)]; exact e35) hA3 (List.prefix_refl _) (fun j hj => by
          rw [e125, fup_n _ _ (by omega), hg7 j (by omega)]
          exact hsame j hj) ⟨hO.1, hO.2.1, by simpa using hO.2.2.1, ⟨by show (0 : Int) ≤ (m : Int); omega, by show (m : Int) ≤ 9; omega⟩, hO.2.2.2.2⟩ (by simp)
        refine vsA_ok tk_X5_moons rfl 10 ?_
        simp only [at_X5_moons, mr_X5_moons, vsA, vcA, denA, lget, lset, lst1, lst2, lclr, argsA, restA, acats, acat, tcA, tcN, rzA, lle, List.length_cons, List.length_nil, Option.toList_some, Option.toList_none, List.cons_append, List.nil_append, eG, eM, eD, eC, eS, eQ, eH, if_true, if_false, Nat.reduceAdd, Nat.reduceLeDiff, Nat.reduceEqDiff, Nat.reduceLT, Nat.reduceSub, Int.reduceEq, Int.reduceLE, Int.reduceToNat, reduceCtorEq, reduceIte, Nat.reduceBEq, Int.reduceNeg, not_true, not_false_iff, true_and, and_true, true_or, or_true, false_or, or_false, forall_const, implies_true, Nat.le_refl, Int.toNat_natCast, Int.reduceLT, ne_eq, Fin.isValue, Nat.add_zero, nC_hrw, nS_hrw, nC_hwr, nS_hwr, hkd_hrw, hkd_hwr, fin4_0, fin4_1, fin4_2, fin4_3, fin2_0, fin2_1, ci0, ci1, cnn, false_implies, w32_eq, w64_eq, hF2.m]
        try simp (disch := omega) only [yc_lt, yc_le, yc_gt, yc_ge, yc_eq, w32_eq, w64_eq, tn_add, tn_mul, Int.toNat_natCast, Int.reduceToNat, not_true, not_false_iff, false_implies, forall_const, implies_true]
        repeat' (with_reducible first | apply And.intro | intro _)
        all_goals try omega
        all_goals try simp (disch := omega) only [w32_eq, w64_eq, tn_add, tn_mul, Int.toNat_natCast, Int.reduceToNat, Option.some.injEq, Sum.inr.injEq, Sum.inl.injEq]
        all_goals try omega
        all_goals try exact (l2).weak rfl (by simp [lle] <;> omega)
      · have hm10 : m = 10 := by omega
        subst hm10
        subst hE
        refine vsA_ok tk_X5_moons rfl 4 ?_
        simp only [at_X5_moons, mr_X5_moons, vsA, vcA, denA, lget, lset, lst1, lst2, lclr, argsA, restA, acats, acat, tcA, tcN, rzA, lle, List.length_cons, List.length_nil, Option.toList_some, Option.toList_none, List.cons_append, List.nil_append, eG, eM, eD, eC, eS, eQ, eH, if_true, if_false, Nat.reduceAdd, Nat.reduceLeDiff, Nat.reduceEqDiff, Nat.reduceLT, Nat.reduceSub, Int.reduceEq, Int.reduceLE, Int.reduceToNat, reduceCtorEq, reduceIte, Nat.reduceBEq, Int.reduceNeg, not_true, not_false_iff, true_and, and_true, true_or, or_true, false_or, or_false, forall_const, implies_true, Nat.le_refl, Int.toNat_natCast, Int.reduceLT, ne_eq, Fin.isValue, Nat.add_zero, nC_hrw, nS_hrw, nC_hwr, nS_hwr, hkd_hrw, hkd_hwr, fin4_0, fin4_1, fin4_2, fin4_3, fin2_0, fin2_1, ci0, ci1, cnn, false_implies, w32_eq, w64_eq, hF1.m]
        try simp (disch := omega) only [yc_lt, yc_le, yc_gt, yc_ge, yc_eq, w32_eq, w64_eq, tn_add, tn_mul, Int.toNat_natCast, Int.reduceToNat, not_true, not_false_iff, false_implies, forall_const, implies_true]
        repeat' (with_reducible first | apply And.intro | intro _)
        all_goals try omega
        all_goals try simp (disch := omega) only [w32_eq, w64_eq, tn_add, tn_mul, Int.toNat_natCast, Int.reduceToNat, Option.some.injEq, Sum.inr.injEq, Sum.inl.injEq]
        all_goals try omega
        refine ClA.of (c_X5_isAgain hF1) (by first | exact Nat.le_of_ble_eq_true rfl | (simp only [eD]; omega)) (by first | exact Nat.le_refl _ | (simp only [eG, eD, eC, eS, eQ, eH, nC_hrw, nC_hwr, nS_hrw, nS_hwr, nC_hnw, nS_hnw]; omega)) (by first | exact Nat.le_refl _ | (simp only [eG, eD, eC, eS, eQ, eH, nC_hrw, nC_hwr, nS_hrw, nS_hwr, nC_hnw, nS_hnw]; omega)) ?_
        rintro _ h2 ⟨rfl, f7, rfl, hf7, hg7⟩ - -
        rw [e34] at hf7
        have hx2 : FrN h (hrw h1 125 f7) := FrN.r125 hx (fun j hj => hg7 j (by omega))
        have hF2 := hF.frn hx2
        refine vsA_ok tk_X5_moons rfl 4 ?_
        simp only [at_X5_moons, mr_X5_moons, vsA, vcA, denA, lget, lset, lst1, lst2, lclr, argsA, restA, acats, acat, tcA, tcN, rzA, lle, List.length_cons, List.length_nil, Option.toList_some, Option.toList_none, List.cons_append, List.nil_append, eG, eM, eD, eC, eS, eQ, eH, if_true, if_false, Nat.reduceAdd, Nat.reduceLeDiff, Nat.reduceEqDiff, Nat.reduceLT, Nat.reduceSub, Int.reduceEq, Int.reduceLE, Int.reduceToNat, reduceCtorEq, reduceIte, Nat.reduceBEq, Int.reduceNeg, not_true, not_false_iff, true_and, and_true, true_or, or_true, false_or, or_false, forall_const, implies_true, Nat.le_refl, Int.toNat_natCast, Int.reduceLT, ne_eq, Fin.isValue, Nat.add_zero, nC_hrw, nS_hrw, nC_hwr, nS_hwr, hkd_hrw, hkd_hwr, fin4_0, fin4_1, fin4_2, fin4_3, fin2_0, fin2_1, ci0, ci1, cnn, false_implies, w32_eq, w64_eq, hF2.m]
        try simp (disch := omega) only [yc_lt, yc_le, yc_gt, yc_ge, yc_eq, w32_eq, w64_eq, tn_add, tn_mul, Int.toNat_natCast, Int.reduceToNat, not_true, not_false_iff, false_implies, forall_const, implies_true]
        repeat' (with_reducible first | apply And.intro | intro _)
        all_goals try omega
        all_goals try simp (disch := omega) only [w32_eq, w64_eq, tn_add, tn_mul, Int.toNat_natCast, Int.reduceToNat, Option.some.injEq, Sum.inr.injEq, Sum.inl.injEq]
        all_goals try omega
        refine ClA.of (c_X5_isAgainBy hF2) (by first | exact Nat.le_of_ble_eq_true rfl | (simp only [eD]; omega)) (by first | exact Nat.le_refl _ | (simp only [eG, eD, eC, eS, eQ, eH, nC_hrw, nC_hwr, nS_hrw, nS_hwr, nC_hnw, nS_hnw]; omega)) (by first | exact Nat.le_refl _ | (simp only [eG, eD, eC, eS, eQ, eH, nC_hrw, nC_hwr, nS_hrw, nS_hwr, nC_hnw, nS_hnw]; omega)) ?_
        rintro _ h8 ⟨rfl, f8, rfl, hf8, hg8⟩ - -
        have hx8 : FrN h (hrw (hrw h1 125 f7) 125 f8) := FrN.r125 hx2 (fun j hj => by rw [hg8 j (by omega)])
        have e58 : hdt (hrw (hrw h1 125 f7) 125 f8) 125 = hdt h 125 := by
          rw [hdt_hrw_s]
          funext j
          rcases (by omega : (145 ≤ j ∧ j < 205) ∨ (111 ≤ j ∧ j ≤ 113) ∨ (j < 111 ∨ 113 < j ∧ j < 145 ∨ 205 ≤ j)) with q1 | q1 | q1
          · obtain ⟨k, rfl⟩ : ∃ k, j = 145 + k := ⟨j - 145, by omega⟩
            rw [hf8 k (by omega), hdt_hrw_n _ _ (by decide), e35, hg k (by omega)]
          · obtain ⟨k, rfl⟩ : ∃ k, j = 111 + k := ⟨j - 111, by omega⟩
            rw [hg8 _ (by omega), hdt_hrw_s, hf7 k (by omega), hf k (by omega)]
          · rw [hg8 j (by omega), hdt_hrw_s, hg7 j (by omega)]
            exact hsame j q1
        have hfin2 : MpC h (hrw (hrw h1 125 f7) 125 f8) w := by
          have := MpC.deed hF hM hx8 (a := wA w) (us := wU w) (by rw [e58]; exact hM.1.1) (by rw [e58]; exact hM.2.1)
          exact this
        refine vsA_ok tk_X5_moons rfl 4 ?_
        simp only [at_X5_moons, mr_X5_moons, vsA, vcA, denA, lget, lset, lst1, lst2, lclr, argsA, restA, acats, acat, tcA, tcN, rzA, lle, List.length_cons, List.length_nil, Option.toList_some, Option.toList_none, List.cons_append, List.nil_append, eG, eM, eD, eC, eS, eQ, eH, if_true, if_false, Nat.reduceAdd, Nat.reduceLeDiff, Nat.reduceEqDiff, Nat.reduceLT, Nat.reduceSub, Int.reduceEq, Int.reduceLE, Int.reduceToNat, reduceCtorEq, reduceIte, Nat.reduceBEq, Int.reduceNeg, not_true, not_false_iff, true_and, and_true, true_or, or_true, false_or, or_false, forall_const, implies_true, Nat.le_refl, Int.toNat_natCast, Int.reduceLT, ne_eq, Fin.isValue, Nat.add_zero, nC_hrw, nS_hrw, nC_hwr, nS_hwr, hkd_hrw, hkd_hwr, fin4_0, fin4_1, fin4_2, fin4_3, fin2_0, fin2_1, ci0, ci1, cnn, false_implies, w32_eq, w64_eq, c1]
        try simp (disch := omega) only [yc_lt, yc_le, yc_gt, yc_ge, yc_eq, w32_eq, w64_eq, tn_add, tn_mul, Int.toNat_natCast, Int.reduceToNat, not_true, not_false_iff, false_implies, forall_const, implies_true]
        repeat' (with_reducible first | apply And.intro | intro _)
        all_goals try omega
        all_goals try simp (disch := omega) only [w32_eq, w64_eq, tn_add, tn_mul, Int.toNat_natCast, Int.reduceToNat, Option.some.injEq, Sum.inr.injEq, Sum.inl.injEq]
        all_goals try omega
        all_goals first | rfl | exact hfin2
    subst hE
    refine vsA_ok tk_X5_moons rfl 20 ?_
    simp only [at_X5_moons, mr_X5_moons, vsA, vcA, denA, lget, lset, lst1, lst2, lclr, argsA, restA, acats, acat, tcA, tcN, rzA, lle, List.length_cons, List.length_nil, Option.toList_some, Option.toList_none, List.cons_append, List.nil_append, eG, eM, eD, eC, eS, eQ, eH, if_true, if_false, Nat.reduceAdd, Nat.reduceLeDiff, Nat.reduceEqDiff, Nat.reduceLT, Nat.reduceSub, Int.reduceEq, Int.reduceLE, Int.reduceToNat, reduceCtorEq, reduceIte, Nat.reduceBEq, Int.reduceNeg, not_true, not_false_iff, true_and, and_true, true_or, or_true, false_or, or_false, forall_const, implies_true, Nat.le_refl, Int.toNat_natCast, Int.reduceLT, ne_eq, Fin.isValue, Nat.add_zero, nC_hrw, nS_hrw, nC_hwr, nS_hwr, hkd_hrw, hkd_hwr, fin4_0, fin4_1, fin4_2, fin4_3, fin2_0, fin2_1, ci0, ci1, cnn, false_implies, w32_eq, w64_eq, hF.m, hF0.m]
    try simp (disch := omega) only [yc_lt, yc_le, yc_gt, yc_ge, yc_eq, w32_eq, w64_eq, tn_add, tn_mul, Int.toNat_natCast, Int.reduceToNat, not_true, not_false_iff, false_implies, forall_const, implies_true]
    repeat' (with_reducible first | apply And.intro | intro _)
    all_goals try omega
    all_goals try simp (disch := omega) only [w32_eq, w64_eq, tn_add, tn_mul, Int.toNat_natCast, Int.reduceToNat, Option.some.injEq, Sum.inr.injEq, Sum.inl.injEq]
    all_goals try omega
    refine ClA.pure (hno) (by first | exact Nat.le_of_ble_eq_true rfl | (simp only [eD]; omega)) (by first | exact Nat.le_refl _ | (simp only [eG, eD, eC, eS, eQ, eH, nC_hrw, nC_hwr, nS_hrw, nS_hwr, nC_hnw, nS_hnw]; omega)) (by first | exact Nat.le_refl _ | (simp only [eG, eD, eC, eS, eQ, eH, nC_hrw, nC_hwr, nS_hrw, nS_hwr, nC_hnw, nS_hnw]; omega)) ?_
    refine vsA_ok tk_X5_moons rfl 20 ?_
    simp only [at_X5_moons, mr_X5_moons, vsA, vcA, denA, lget, lset, lst1, lst2, lclr, argsA, restA, acats, acat, tcA, tcN, rzA, lle, List.length_cons, List.length_nil, Option.toList_some, Option.toList_none, List.cons_append, List.nil_append, eG, eM, eD, eC, eS, eQ, eH, if_true, if_false, Nat.reduceAdd, Nat.reduceLeDiff, Nat.reduceEqDiff, Nat.reduceLT, Nat.reduceSub, Int.reduceEq, Int.reduceLE, Int.reduceToNat, reduceCtorEq, reduceIte, Nat.reduceBEq, Int.reduceNeg, not_true, not_false_iff, true_and, and_true, true_or, or_true, false_or, or_false, forall_const, implies_true, Nat.le_refl, Int.toNat_natCast, Int.reduceLT, ne_eq, Fin.isValue, Nat.add_zero, nC_hrw, nS_hrw, nC_hwr, nS_hwr, hkd_hrw, hkd_hwr, fin4_0, fin4_1, fin4_2, fin4_3, fin2_0, fin2_1, ci0, ci1, cnn, false_implies, w32_eq, w64_eq, hF0.m]
    try simp (disch := omega) only [yc_lt, yc_le, yc_gt, yc_ge, yc_eq, w32_eq, w64_eq, tn_add, tn_mul, Int.toNat_natCast, Int.reduceToNat, not_true, not_false_iff, false_implies, forall_const, implies_true]
    repeat' (with_reducible first | apply And.intro | intro _)
    all_goals try omega
    all_goals try simp (disch := omega) only [w32_eq, w64_eq, tn_add, tn_mul, Int.toNat_natCast, Int.reduceToNat, Option.some.injEq, Sum.inr.injEq, Sum.inl.injEq]
    all_goals try omega
    refine ClA.of (c_X5_stores hF0) (by first | exact Nat.le_of_ble_eq_true rfl | (simp only [eD]; omega)) (by first | exact Nat.le_refl _ | (simp only [eG, eD, eC, eS, eQ, eH, nC_hrw, nC_hwr, nS_hrw, nS_hwr, nC_hnw, nS_hnw]; omega)) (by first | exact Nat.le_refl _ | (simp only [eG, eD, eC, eS, eQ, eH, nC_hrw, nC_hwr, nS_hrw, nS_hwr, nC_hnw, nS_hnw]; omega)) ?_
    rintro _ h2 ⟨rfl, f, rfl, hf⟩ - -
    rw [eA0] at hf
    have hx1 : FrN h (hrw (hwr h 124 0 0) 134 f) := (FrM.n x0 (by decide) (by decide)).rw (fun _ => Or.inl (by decide)) f
    have hF1 := hF.frn hx1
    have eA1 : hdt (hrw (hwr h 124 0 0) 134 f) 125 = hdt h 125 := by rw [hdt_hrw_n _ _ (by decide), eA0]
    refine vsA_ok tk_X5_moons rfl 20 ?_
    simp only [at_X5_moons, mr_X5_moons, vsA, vcA, denA, lget, lset, lst1, lst2, lclr, argsA, restA, acats, acat, tcA, tcN, rzA, lle, List.length_cons, List.length_nil, Option.toList_some, Option.toList_none, List.cons_append, List.nil_append, eG, eM, eD, eC, eS, eQ, eH, if_true, if_false, Nat.reduceAdd, Nat.reduceLeDiff, Nat.reduceEqDiff, Nat.reduceLT, Nat.reduceSub, Int.reduceEq, Int.reduceLE, Int.reduceToNat, reduceCtorEq, reduceIte, Nat.reduceBEq, Int.reduceNeg, not_true, not_false_iff, true_and, and_true, true_or, or_true, false_or, or_false, forall_const, implies_true, Nat.le_refl, Int.toNat_natCast, Int.reduceLT, ne_eq, Fin.isValue, Nat.add_zero, nC_hrw, nS_hrw, nC_hwr, nS_hwr, hkd_hrw, hkd_hwr, fin4_0, fin4_1, fin4_2, fin4_3, fin2_0, fin2_1, ci0, ci1, cnn, false_implies, w32_eq, w64_eq, hF1.m]
    try simp (disch := omega) only [yc_lt, yc_le, yc_gt, yc_ge, yc_eq, w32_eq, w64_eq, tn_add, tn_mul, Int.toNat_natCast, Int.reduceToNat, not_true, not_false_iff, false_implies, forall_const, implies_true]
    repeat' (with_reducible first | apply And.intro | intro _)
    all_goals try omega
    all_goals try simp (disch := omega) only [w32_eq, w64_eq, tn_add, tn_mul, Int.toNat_natCast, Int.reduceToNat, Option.some.injEq, Sum.inr.injEq, Sum.inl.injEq]
    all_goals try omega
    refine ClA.of (c_X5_storesBy hF1) (by first | exact Nat.le_of_ble_eq_true rfl | (simp only [eD]; omega)) (by first | exact Nat.le_refl _ | (simp only [eG, eD, eC, eS, eQ, eH, nC_hrw, nC_hwr, nS_hrw, nS_hwr, nC_hnw, nS_hnw]; omega)) (by first | exact Nat.le_refl _ | (simp only [eG, eD, eC, eS, eQ, eH, nC_hrw, nC_hwr, nS_hrw, nS_hwr, nC_hnw, nS_hnw]; omega)) ?_
    rintro _ h2 ⟨rfl, g, rfl, hg⟩ - -
    rw [eA1] at hg
    have hx2 : FrN h (hrw (hrw (hwr h 124 0 0) 134 f) 135 g) := hx1.rw (fun _ => Or.inl (by decide)) g
    have eA2 : hdt (hrw (hrw (hwr h 124 0 0) 134 f) 135 g) 125 = hdt h 125 := by rw [hdt_hrw_n _ _ (by decide), eA1]
    have l1 := L1 f g hf hg 0 (by omega) _ (wA w) hx2 (by rw [hdt_hrw_n _ _ (by decide), hdt_hrw_s]) (hdt_hrw_s _ _ _) (by rw [eA2]; exact hM.1.1) (List.prefix_refl _) (fun j _ => by rw [eA2])
    rw [show mooM (wS w) (wA w) vs 0 = 0 from rfl] at l1
    refine vsA_ok tk_X5_moons rfl 20 ?_
    simp only [at_X5_moons, mr_X5_moons, vsA, vcA, denA, lget, lset, lst1, lst2, lclr, argsA, restA, acats, acat, tcA, tcN, rzA, lle, List.length_cons, List.length_nil, Option.toList_some, Option.toList_none, List.cons_append, List.nil_append, eG, eM, eD, eC, eS, eQ, eH, if_true, if_false, Nat.reduceAdd, Nat.reduceLeDiff, Nat.reduceEqDiff, Nat.reduceLT, Nat.reduceSub, Int.reduceEq, Int.reduceLE, Int.reduceToNat, reduceCtorEq, reduceIte, Nat.reduceBEq, Int.reduceNeg, not_true, not_false_iff, true_and, and_true, true_or, or_true, false_or, or_false, forall_const, implies_true, Nat.le_refl, Int.toNat_natCast, Int.reduceLT, ne_eq, Fin.isValue, Nat.add_zero, nC_hrw, nS_hrw, nC_hwr, nS_hwr, hkd_hrw, hkd_hwr, fin4_0, fin4_1, fin4_2, fin4_3, fin2_0, fin2_1, ci0, ci1, cnn, false_implies, w32_eq, w64_eq]
    try simp (disch := omega) only [yc_lt, yc_le, yc_gt, yc_ge, yc_eq, w32_eq, w64_eq, tn_add, tn_mul, Int.toNat_natCast, Int.reduceToNat, not_true, not_false_iff, false_implies, forall_const, implies_true]
    repeat' (with_reducible first | apply And.intro | intro _)
    all_goals try omega
    all_goals try simp (disch := omega) only [w32_eq, w64_eq, tn_add, tn_mul, Int.toNat_natCast, Int.reduceToNat, Option.some.injEq, Sum.inr.injEq, Sum.inl.injEq]
    all_goals try omega
    all_goals try exact (l1).weak rfl (by simp [lle] <;> omega)
  · rw [show mooP w t = longF w t 0 from if_neg q0]
    refine CnA.of rfl (Nat.le_of_ble_eq_true rfl) ?_
    simp only [largs, lpad, mr_X5_moons]
    refine vsA_ok tk_X5_moons rfl 20 ?_
    simp only [at_X5_moons, mr_X5_moons, vsA, vcA, denA, lget, lset, lst1, lst2, lclr, argsA, restA, acats, acat, tcA, tcN, rzA, lle, List.length_cons, List.length_nil, Option.toList_some, Option.toList_none, List.cons_append, List.nil_append, eG, eM, eD, eC, eS, eQ, eH, if_true, if_false, Nat.reduceAdd, Nat.reduceLeDiff, Nat.reduceEqDiff, Nat.reduceLT, Nat.reduceSub, Int.reduceEq, Int.reduceLE, Int.reduceToNat, reduceCtorEq, reduceIte, Nat.reduceBEq, Int.reduceNeg, not_true, not_false_iff, true_and, and_true, true_or, or_true, false_or, or_false, forall_const, implies_true, Nat.le_refl, Int.toNat_natCast, Int.reduceLT, ne_eq, Fin.isValue, Nat.add_zero, nC_hrw, nS_hrw, nC_hwr, nS_hwr, hkd_hrw, hkd_hwr, fin4_0, fin4_1, fin4_2, fin4_3, fin2_0, fin2_1, ci0, ci1, cnn, false_implies, w32_eq, w64_eq, hF.m, hF0.m]
    try simp (disch := omega) only [yc_lt, yc_le, yc_gt, yc_ge, yc_eq, w32_eq, w64_eq, tn_add, tn_mul, Int.toNat_natCast, Int.reduceToNat, not_true, not_false_iff, false_implies, forall_const, implies_true]
    repeat' (with_reducible first | apply And.intro | intro _)
    all_goals try omega
    all_goals try simp (disch := omega) only [w32_eq, w64_eq, tn_add, tn_mul, Int.toNat_natCast, Int.reduceToNat, Option.some.injEq, Sum.inr.injEq, Sum.inl.injEq]
    all_goals try omega
    refine ClA.pure (hno) (by first | exact Nat.le_of_ble_eq_true rfl | (simp only [eD]; omega)) (by first | exact Nat.le_refl _ | (simp only [eG, eD, eC, eS, eQ, eH, nC_hrw, nC_hwr, nS_hrw, nS_hwr, nC_hnw, nS_hnw]; omega)) (by first | exact Nat.le_refl _ | (simp only [eG, eD, eC, eS, eQ, eH, nC_hrw, nC_hwr, nS_hrw, nS_hwr, nC_hnw, nS_hnw]; omega)) ?_
    refine vsA_ok tk_X5_moons rfl 20 ?_
    simp only [at_X5_moons, mr_X5_moons, vsA, vcA, denA, lget, lset, lst1, lst2, lclr, argsA, restA, acats, acat, tcA, tcN, rzA, lle, List.length_cons, List.length_nil, Option.toList_some, Option.toList_none, List.cons_append, List.nil_append, eG, eM, eD, eC, eS, eQ, eH, if_true, if_false, Nat.reduceAdd, Nat.reduceLeDiff, Nat.reduceEqDiff, Nat.reduceLT, Nat.reduceSub, Int.reduceEq, Int.reduceLE, Int.reduceToNat, reduceCtorEq, reduceIte, Nat.reduceBEq, Int.reduceNeg, not_true, not_false_iff, true_and, and_true, true_or, or_true, false_or, or_false, forall_const, implies_true, Nat.le_refl, Int.toNat_natCast, Int.reduceLT, ne_eq, Fin.isValue, Nat.add_zero, nC_hrw, nS_hrw, nC_hwr, nS_hwr, hkd_hrw, hkd_hwr, fin4_0, fin4_1, fin4_2, fin4_3, fin2_0, fin2_1, ci0, ci1, cnn, false_implies, w32_eq, w64_eq]
    try simp (disch := omega) only [yc_lt, yc_le, yc_gt, yc_ge, yc_eq, w32_eq, w64_eq, tn_add, tn_mul, Int.toNat_natCast, Int.reduceToNat, not_true, not_false_iff, false_implies, forall_const, implies_true]
    repeat' (with_reducible first | apply And.intro | intro _)
    all_goals try omega
    all_goals try simp (disch := omega) only [w32_eq, w64_eq, tn_add, tn_mul, Int.toNat_natCast, Int.reduceToNat, Option.some.injEq, Sum.inr.injEq, Sum.inl.injEq]
    all_goals try omega
    all_goals exact hfin
end
