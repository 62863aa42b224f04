/-! THE REFERENCE: nights, the moon, undoing -/
set_option maxRecDepth 100000
/-- so many nights of themselves, as long as they can be -/
def nigS (s : SP) : Nat → S3 → Nat × S3
  | 0, a => (0, a)
  | n + 1, a => if whyS s a 0 = 0 then ((nigS s n (goS s a 0)).1 + 1, (nigS s n (goS s a 0)).2) else (0, a)
theorem nigS_t {s : SP} {a : S3} (n : Nat) (q : whyS s a 0 = 0) : nigS s (n + 1) a = ((nigS s n (goS s a 0)).1 + 1, (nigS s n (goS s a 0)).2) := if_pos q
theorem nigS_f {s : SP} {a : S3} (n : Nat) (q : ¬ whyS s a 0 = 0) : nigS s (n + 1) a = (0, a) := if_neg q
theorem told0 (s : SP) (a : S3) : toldS s a 0 = whyS s a 0 := by unfold toldS; rw [if_pos (by omega)]
theorem go0 (s : SP) (a : S3) : goS s a 0 = byG a (byS s a 0) := by unfold goS; rw [if_neg (by omega)]
theorem nigS_ok {s : SP} (hs : StOK s) : ∀ (n : Nat) (a : S3) (N : Int), OKS s N a → (nigS s n a).1 ≤ n ∧ OKS s (N + (n : Nat)) (nigS s n a).2
  | 0, a, N, h => ⟨Nat.le_refl _, by simpa [nigS] using h⟩
  | n + 1, a, N, h => by
    by_cases q : whyS s a 0 = 0
    · rw [nigS_t n q]
      have := nigS_ok hs n (goS s a 0) (N + 1) (h.go hs ((told0 s a).trans q))
      refine ⟨by show (nigS s n (goS s a 0)).1 + 1 ≤ n + 1; omega, ?_⟩
      rw [show N + ((n + 1 : Nat) : Int) = N + 1 + (n : Nat) by omega]
      exact this.2
    · rw [nigS_f n q]
      refine ⟨Nat.zero_le _, h.1, h.2.1, ⟨h.2.2.1.1, ?_⟩, h.2.2.2.1, h.2.2.2.2⟩
      have := h.2.2.1.2
      show a.2.1 ≤ N + ((n + 1 : Nat) : Int)
      omega
theorem why_in (s : SP) (a : S3) (v : Int) : 0 ≤ whyS s a v ∧ whyS s a v ≤ 3 := by
  unfold whyS whyB
  repeat' split
  all_goals omega
section
variable {G : GT} {h : AH} {w : WD} {N : Int}
theorem c_X5_nights (hF : FxA h) (hM : MdC h w) (hW : WOK N w) (hN : N < 2147470000) (v : Int) (hv : In32 v) :
    CnA G mX5_nights 8 0 0 [.inr (.inr (124)), .inl (v)] h (fun r h1 => r = some (.inl (if 1 ≤ v ∧ v ≤ 60 then (((nigS (wS w) v.toNat (wA w)).1 : Nat) : Int) else -3)) ∧ MpC h h1 (if 1 ≤ v ∧ v ≤ 60 then if 0 < (nigS (wS w) v.toNat (wA w)).1 then setAU w (nigS (wS w) v.toNat (wA w)).2 (pushU (wU w) (wA w)) else w else w)) := by
  refine CnA.of rfl (Nat.le_of_ble_eq_true rfl) ?_
  simp only [largs, lpad, mr_X5_nights]
  obtain ⟨hv1, hv2⟩ := hv
  obtain ⟨x0, hF0, hM0⟩ := thr_0 hF hM
  have hS := hW.1
  have hO := hW.2.1
  by_cases hvt : 1 ≤ v ∧ v ≤ 60
  · rw [if_pos hvt]
    rw [if_pos hvt]
    obtain ⟨n, rfl⟩ : ∃ n : Nat, v = n := ⟨v.toNat, by omega⟩
    rw [Int.toNat_natCast]
    generalize hE : ((G, mX5_nights, _, _, _, _, h) : EV) = E
    have L1 : ∀ (f : Nat → Int), f 0 = (wA w).2.2 → f 1 = (wA w).2.1 → f 2 = ((wA w).1.length : Int) → ∀ k, k ≤ n → ∀ h1 b, FrN h h1 → AllS (hdt h1 125) (wS w) b → hdt h1 134 = f → UndC (hdt h1 125) ((wU w).map t3) → OKS (wS w) (N + (k : Nat)) b →
        (k + (nigS (wS w) (n - k) b).1, (nigS (wS w) (n - k) b).2) = ((nigS (wS w) n (wA w)).1, (nigS (wS w) n (wA w)).2) → ExA E 26 [some (.inr (.inr (124))), some (.inl ((n : Int))), some (.inl ((k : Int)))] [] h1 := by
      intro f f0 f1 f2
      refine lpI _ fun k hk ih h1 b hx hA1 e34 hU1 hO1 hte => ?_
      obtain ⟨te1, te2⟩ := Prod.mk.inj hte
      have hF1 := hF.frn hx
      have c1 := hx.2.1
      -- the end: from 49 on
      have Fin : ∀ h2, FrN h h2 → AllS (hdt h2 125) (wS w) b → hdt h2 134 = f → UndC (hdt h2 125) ((wU w).map t3) → (k, b) = ((nigS (wS w) n (wA w)).1, (nigS (wS w) n (wA w)).2) → ExA E 49 [some (.inr (.inr (124))), some (.inl ((n : Int))), some (.inl ((k : Int)))] [] h2 := by
        intro h2 hx2 hA2 e2 hU2 he
        obtain ⟨he1, he2⟩ := Prod.mk.inj he
        have hF2 := hF.frn hx2
        have c2 := hx2.2.1
        rw [← he1, ← he2] at hE
        by_cases hk0 : 0 < k
        · rw [if_pos hk0] at hE
          subst hE
          refine vsA_ok tk_X5_nights rfl 20 ?_
          simp only [at_X5_nights, mr_X5_nights, vsA, vcA, denA, lget, lset, lst1, lst2, lclr, argsA, restA, acats, acat, tcA, tcN, rzA, lle, List.length_cons, List.length_nil, Option.toList_some, Option.toList_none, List.cons_append, List.nil_append, eG, eM, eD, eC, eS, eQ, eH, if_true, if_false, Nat.reduceAdd, Nat.reduceLeDiff, Nat.reduceEqDiff, Nat.reduceLT, Nat.reduceSub, Int.reduceEq, Int.reduceLE, Int.reduceToNat, reduceCtorEq, reduceIte, Nat.reduceBEq, Int.reduceNeg, not_true, not_false_iff, true_and, and_true, true_or, or_true, false_or, or_false, forall_const, implies_true, Nat.le_refl, Int.toNat_natCast, Int.reduceLT, ne_eq, Fin.isValue, Nat.add_zero, nC_hrw, nS_hrw, nC_hwr, nS_hwr, hkd_hrw, hkd_hwr, fin4_0, fin4_1, fin4_2, fin4_3, fin2_0, fin2_1, ci0, ci1, cnn, false_implies, w32_eq, w64_eq, hF2.m]
          try simp (disch := omega) only [yc_lt, yc_le, yc_gt, yc_ge, yc_eq, w32_eq, w64_eq, tn_add, tn_mul, Int.toNat_natCast, Int.reduceToNat, not_true, not_false_iff, false_implies, forall_const, implies_true]
          repeat' (with_reducible first | apply And.intro | intro _)
          all_goals try omega
          all_goals try simp (disch := omega) only [w32_eq, w64_eq, tn_add, tn_mul, Int.toNat_natCast, Int.reduceToNat, Option.some.injEq, Sum.inr.injEq, Sum.inl.injEq]
          all_goals try omega
          refine ClA.of (c_X5_notes hF2 hU2) (by first | exact Nat.le_of_ble_eq_true rfl | (simp only [eD]; omega)) (by first | exact Nat.le_refl _ | (simp only [eG, eD, eC, eS, eQ, eH, nC_hrw, nC_hwr, nS_hrw, nS_hwr, nC_hnw, nS_hnw]; omega)) (by first | exact Nat.le_refl _ | (simp only [eG, eD, eC, eS, eQ, eH, nC_hrw, nC_hwr, nS_hrw, nS_hwr, nC_hnw, nS_hnw]; omega)) ?_
          rintro _ h4 ⟨rfl, g, rfl, hU4, hg⟩ - -
          rw [e2, f0, f1, f2] at hU4
          have hU4' : UndC g ((pushU (wU w) (wA w)).map t3) := by rw [pushU_t3]; exact hU4
          have hx4 : FrN h (hrw h2 125 g) := FrN.r125 hx2 (fun j hj => hg j (by omega))
          have e4 : hdt (hrw h2 125 g) 125 = g := hdt_hrw_s _ _ _
          have hfin : MpC h (hrw h2 125 g) (setAU w b (pushU (wU w) (wA w))) := MpC.deed hF hM hx4 (by rw [e4]; exact hA2.cong hg) (by rw [e4]; exact hU4')
          refine vsA_ok tk_X5_nights rfl 20 ?_
          simp only [at_X5_nights, mr_X5_nights, vsA, vcA, denA, lget, lset, lst1, lst2, lclr, argsA, restA, acats, acat, tcA, tcN, rzA, lle, List.length_cons, List.length_nil, Option.toList_some, Option.toList_none, List.cons_append, List.nil_append, eG, eM, eD, eC, eS, eQ, eH, if_true, if_false, Nat.reduceAdd, Nat.reduceLeDiff, Nat.reduceEqDiff, Nat.reduceLT, Nat.reduceSub, Int.reduceEq, Int.reduceLE, Int.reduceToNat, reduceCtorEq, reduceIte, Nat.reduceBEq, Int.reduceNeg, not_true, not_false_iff, true_and, and_true, true_or, or_true, false_or, or_false, forall_const, implies_true, Nat.le_refl, Int.toNat_natCast, Int.reduceLT, ne_eq, Fin.isValue, Nat.add_zero, nC_hrw, nS_hrw, nC_hwr, nS_hwr, hkd_hrw, hkd_hwr, fin4_0, fin4_1, fin4_2, fin4_3, fin2_0, fin2_1, ci0, ci1, cnn, false_implies, w32_eq, w64_eq, c2]
          try simp (disch := omega) only [yc_lt, yc_le, yc_gt, yc_ge, yc_eq, w32_eq, w64_eq, tn_add, tn_mul, Int.toNat_natCast, Int.reduceToNat, not_true, not_false_iff, false_implies, forall_const, implies_true]
          repeat' (with_reducible first | apply And.intro | intro _)
          all_goals try omega
          all_goals try simp (disch := omega) only [w32_eq, w64_eq, tn_add, tn_mul, Int.toNat_natCast, Int.reduceToNat, Option.some.injEq, Sum.inr.injEq, Sum.inl.injEq]
          all_goals try omega
          all_goals exact hfin
        · rw [if_neg hk0] at hE
          have hba : b = wA w := by
            have hk00 : k = 0 := by omega
            subst hk00
            have hz : (nigS (wS w) n (wA w)).1 = 0 := he1.symm
            cases n with
            | zero => rw [he2]; rfl
            | succ n =>
              by_cases q : whyS (wS w) (wA w) 0 = 0
              · rw [nigS_t n q] at hz
                simp at hz
              · rw [nigS_f n q] at he2
                exact he2
          have hfin : MpC h h2 w := by
            have := MpC.deed hF hM hx2 (a := wA w) (us := wU w) (by rw [← hba]; exact hA2) hU2
            exact this
          subst hE
          refine vsA_ok tk_X5_nights rfl 20 ?_
          simp only [at_X5_nights, mr_X5_nights, vsA, vcA, denA, lget, lset, lst1, lst2, lclr, argsA, restA, acats, acat, tcA, tcN, rzA, lle, List.length_cons, List.length_nil, Option.toList_some, Option.toList_none, List.cons_append, List.nil_append, eG, eM, eD, eC, eS, eQ, eH, if_true, if_false, Nat.reduceAdd, Nat.reduceLeDiff, Nat.reduceEqDiff, Nat.reduceLT, Nat.reduceSub, Int.reduceEq, Int.reduceLE, Int.reduceToNat, reduceCtorEq, reduceIte, Nat.reduceBEq, Int.reduceNeg, not_true, not_false_iff, true_and, and_true, true_or, or_true, false_or, or_false, forall_const, implies_true, Nat.le_refl, Int.toNat_natCast, Int.reduceLT, ne_eq, Fin.isValue, Nat.add_zero, nC_hrw, nS_hrw, nC_hwr, nS_hwr, hkd_hrw, hkd_hwr, fin4_0, fin4_1, fin4_2, fin4_3, fin2_0, fin2_1, ci0, ci1, cnn, false_implies, w32_eq, w64_eq, hF2.m, c2]
          try simp (disch := omega) only [yc_lt, yc_le, yc_gt, yc_ge, yc_eq, w32_eq, w64_eq, tn_add, tn_mul, Int.toNat_natCast, Int.reduceToNat, not_true, not_false_iff, false_implies, forall_const, implies_true]
          repeat' (with_reducible first | apply And.intro | intro _)
          all_goals try omega
          all_goals try simp (disch := omega) only [w32_eq, w64_eq, tn_add, tn_mul, Int.toNat_natCast, Int.reduceToNat, Option.some.injEq, Sum.inr.injEq, Sum.inl.injEq]
          all_goals try omega
          all_goals exact hfin
      by_cases hkl : k < n
      · obtain ⟨m, hm⟩ : ∃ m, n - k = m + 1 := ⟨n - k - 1, by omega⟩
        have hm2 : n - (k + 1) = m := by omega
        rw [hm] at te1 te2
        have hry := why_in (wS w) b 0
        by_cases q : whyS (wS w) b 0 = 0
        · rw [nigS_t m q] at te1 te2
          have hto := (told0 (wS w) b).trans q
          have hby := (by_ok hS hO1.1 hto (by omega)).2
          have ih := ih hkl
          rw [hm2] at ih
          subst hE
          refine vsA_ok tk_X5_nights rfl 20 ?_
          simp only [at_X5_nights, mr_X5_nights, vsA, vcA, denA, lget, lset, lst1, lst2, lclr, argsA, restA, acats, acat, tcA, tcN, rzA, lle, List.length_cons, List.length_nil, Option.toList_some, Option.toList_none, List.cons_append, List.nil_append, eG, eM, eD, eC, eS, eQ, eH, if_true, if_false, Nat.reduceAdd, Nat.reduceLeDiff, Nat.reduceEqDiff, Nat.reduceLT, Nat.reduceSub, Int.reduceEq, Int.reduceLE, Int.reduceToNat, reduceCtorEq, reduceIte, Nat.reduceBEq, Int.reduceNeg, not_true, not_false_iff, true_and, and_true, true_or, or_true, false_or, or_false, forall_const, implies_true, Nat.le_refl, Int.toNat_natCast, Int.reduceLT, ne_eq, Fin.isValue, Nat.add_zero, nC_hrw, nS_hrw, nC_hwr, nS_hwr, hkd_hrw, hkd_hwr, fin4_0, fin4_1, fin4_2, fin4_3, fin2_0, fin2_1, ci0, ci1, cnn, false_implies, w32_eq, w64_eq, hF1.m]
          try simp (disch := omega) only [yc_lt, yc_le, yc_gt, yc_ge, yc_eq, w32_eq, w64_eq, tn_add, tn_mul, Int.toNat_natCast, Int.reduceToNat, not_true, not_false_iff, false_implies, forall_const, implies_true]
          repeat' (with_reducible first | apply And.intro | intro _)
          all_goals try omega
          all_goals try simp (disch := omega) only [w32_eq, w64_eq, tn_add, tn_mul, Int.toNat_natCast, Int.reduceToNat, Option.some.injEq, Sum.inr.injEq, Sum.inl.injEq]
          all_goals try omega
          refine ClA.of (c_X5_whyNight (s := wS w) (a := b) hF1 hA1 hS hO1 (by omega) (v := 0) (by omega)) (by first | exact Nat.le_of_ble_eq_true rfl | (simp only [eD]; omega)) (by first | exact Nat.le_refl _ | (simp only [eG, eD, eC, eS, eQ, eH, nC_hrw, nC_hwr, nS_hrw, nS_hwr, nC_hnw, nS_hnw]; omega)) (by first | exact Nat.le_refl _ | (simp only [eG, eD, eC, eS, eQ, eH, nC_hrw, nC_hwr, nS_hrw, nS_hwr, nC_hnw, nS_hnw]; omega)) ?_
          rintro _ h2 ⟨rfl, hf2, hp2⟩ - -
          have hx2 : FrN h h2 := hx.tr (hf2.n (by decide) (by decide))
          have hF2 := hF.frn hx2
          have c2 := hx2.2.1
          have eA2 : hdt h2 125 = hdt h1 125 := FrM.c hf2 (by decide) (by decide)
          rw [q]
          refine vsA_ok tk_X5_nights rfl 20 ?_
          simp only [at_X5_nights, mr_X5_nights, vsA, vcA, denA, lget, lset, lst1, lst2, lclr, argsA, restA, acats, acat, tcA, tcN, rzA, lle, List.length_cons, List.length_nil, Option.toList_some, Option.toList_none, List.cons_append, List.nil_append, eG, eM, eD, eC, eS, eQ, eH, if_true, if_false, Nat.reduceAdd, Nat.reduceLeDiff, Nat.reduceEqDiff, Nat.reduceLT, Nat.reduceSub, Int.reduceEq, Int.reduceLE, Int.reduceToNat, reduceCtorEq, reduceIte, Nat.reduceBEq, Int.reduceNeg, not_true, not_false_iff, true_and, and_true, true_or, or_true, false_or, or_false, forall_const, implies_true, Nat.le_refl, Int.toNat_natCast, Int.reduceLT, ne_eq, Fin.isValue, Nat.add_zero, nC_hrw, nS_hrw, nC_hwr, nS_hwr, hkd_hrw, hkd_hwr, fin4_0, fin4_1, fin4_2, fin4_3, fin2_0, fin2_1, ci0, ci1, cnn, false_implies, w32_eq, w64_eq, hF2.m]
          try simp (disch := omega) only [yc_lt, yc_le, yc_gt, yc_ge, yc_eq, w32_eq, w64_eq, tn_add, tn_mul, Int.toNat_natCast, Int.reduceToNat, not_true, not_false_iff, false_implies, forall_const, implies_true]
          repeat' (with_reducible first | apply And.intro | intro _)
          all_goals try omega
          all_goals try simp (disch := omega) only [w32_eq, w64_eq, tn_add, tn_mul, Int.toNat_natCast, Int.reduceToNat, Option.some.injEq, Sum.inr.injEq, Sum.inl.injEq]
          all_goals try omega
          refine ClA.of (c_X5_goesNight hF2 (by rw [eA2]; exact hA1) (hp2 q) hby) (by first | exact Nat.le_of_ble_eq_true rfl | (simp only [eD]; omega)) (by first | exact Nat.le_refl _ | (simp only [eG, eD, eC, eS, eQ, eH, nC_hrw, nC_hwr, nS_hrw, nS_hwr, nC_hnw, nS_hnw]; omega)) (by first | exact Nat.le_refl _ | (simp only [eG, eD, eC, eS, eQ, eH, nC_hrw, nC_hwr, nS_hrw, nS_hwr, nC_hnw, nS_hnw]; omega)) ?_
          rintro _ h3 ⟨rfl, hf3, e24, hA3⟩ - -
          have hx3 : FrN h h3 := hx2.tr hf3.n
          have nx := ih h3 (goS (wS w) b 0) hx3 (by rw [go0]; exact hA3) ((FrD.c hf3 (by decide) (by decide) (by decide)).trans ((FrM.c hf2 (by decide) (by decide)).trans e34)) (UndC.d hf3 (by rw [eA2]; exact hU1)) (by
            have := hO1.go hS hto
            rw [show N + ((k + 1 : Nat) : Int) = N + (k : Nat) + 1 by omega]
            exact this) (by
            rw [← te1, ← te2]
            congr 1
            omega)
          refine vsA_ok tk_X5_nights rfl 20 ?_
          simp only [at_X5_nights, mr_X5_nights, vsA, vcA, denA, lget, lset, lst1, lst2, lclr, argsA, restA, acats, acat, tcA, tcN, rzA, lle, List.length_cons, List.length_nil, Option.toList_some, Option.toList_none, List.cons_append, List.nil_append, eG, eM, eD, eC, eS, eQ, eH, if_true, if_false, Nat.reduceAdd, Nat.reduceLeDiff, Nat.reduceEqDiff, Nat.reduceLT, Nat.reduceSub, Int.reduceEq, Int.reduceLE, Int.reduceToNat, reduceCtorEq, reduceIte, Nat.reduceBEq, Int.reduceNeg, not_true, not_false_iff, true_and, and_true, true_or, or_true, false_or, or_false, forall_const, implies_true, Nat.le_refl, Int.toNat_natCast, Int.reduceLT, ne_eq, Fin.isValue, Nat.add_zero, nC_hrw, nS_hrw, nC_hwr, nS_hwr, hkd_hrw, hkd_hwr, fin4_0, fin4_1, fin4_2, fin4_3, fin2_0, fin2_1, ci0, ci1, cnn, false_implies, w32_eq, w64_eq]
          try simp (disch := omega) only [yc_lt, yc_le, yc_gt, yc_ge, yc_eq, w32_eq, w64_eq, tn_add, tn_mul, Int.toNat_natCast, Int.reduceToNat, not_true, not_false_iff, false_implies, forall_const, implies_true]
          repeat' (with_reducible first | apply And.intro | intro _)
          all_goals try omega
          all_goals try simp (disch := omega) only [w32_eq, w64_eq, tn_add, tn_mul, Int.toNat_natCast, Int.reduceToNat, Option.some.injEq, Sum.inr.injEq, Sum.inl.injEq]
          all_goals try omega
          all_goals try exact (nx).weak rfl (by simp [lle] <;> omega)
        · rw [nigS_f m q] at te1 te2
          have fin := fun h2 a1 a2 a3 a4 => Fin h2 a1 a2 a3 a4 (by rw [← te1, ← te2]; rfl)
          subst hE
          refine vsA_ok tk_X5_nights rfl 20 ?_
          simp only [at_X5_nights, mr_X5_nights, vsA, vcA, denA, lget, lset, lst1, lst2, lclr, argsA, restA, acats, acat, tcA, tcN, rzA, lle, List.length_cons, List.length_nil, Option.toList_some, Option.toList_none, List.cons_append, List.nil_append, eG, eM, eD, eC, eS, eQ, eH, if_true, if_false, Nat.reduceAdd, Nat.reduceLeDiff, Nat.reduceEqDiff, Nat.reduceLT, Nat.reduceSub, Int.reduceEq, Int.reduceLE, Int.reduceToNat, reduceCtorEq, reduceIte, Nat.reduceBEq, Int.reduceNeg, not_true, not_false_iff, true_and, and_true, true_or, or_true, false_or, or_false, forall_const, implies_true, Nat.le_refl, Int.toNat_natCast, Int.reduceLT, ne_eq, Fin.isValue, Nat.add_zero, nC_hrw, nS_hrw, nC_hwr, nS_hwr, hkd_hrw, hkd_hwr, fin4_0, fin4_1, fin4_2, fin4_3, fin2_0, fin2_1, ci0, ci1, cnn, false_implies, w32_eq, w64_eq, hF1.m]
          try simp (disch := omega) only [yc_lt, yc_le, yc_gt, yc_ge, yc_eq, w32_eq, w64_eq, tn_add, tn_mul, Int.toNat_natCast, Int.reduceToNat, not_true, not_false_iff, false_implies, forall_const, implies_true]
          repeat' (with_reducible first | apply And.intro | intro _)
          all_goals try omega
          all_goals try simp (disch := omega) only [w32_eq, w64_eq, tn_add, tn_mul, Int.toNat_natCast, Int.reduceToNat, Option.some.injEq, Sum.inr.injEq, Sum.inl.injEq]
          all_goals try omega
          refine ClA.of (c_X5_whyNight (s := wS w) (a := b) hF1 hA1 hS hO1 (by omega) (v := 0) (by omega)) (by first | exact Nat.le_of_ble_eq_true rfl | (simp only [eD]; omega)) (by first | exact Nat.le_refl _ | (simp only [eG, eD, eC, eS, eQ, eH, nC_hrw, nC_hwr, nS_hrw, nS_hwr, nC_hnw, nS_hnw]; omega)) (by first | exact Nat.le_refl _ | (simp only [eG, eD, eC, eS, eQ, eH, nC_hrw, nC_hwr, nS_hrw, nS_hwr, nC_hnw, nS_hnw]; omega)) ?_
          rintro _ h2 ⟨rfl, hf2, hp2⟩ - -
          have hx2 : FrN h h2 := hx.tr (hf2.n (by decide) (by decide))
          have eA2 : hdt h2 125 = hdt h1 125 := FrM.c hf2 (by decide) (by decide)
          have nx := fin h2 hx2 (by rw [eA2]; exact hA1) ((FrM.c hf2 (by decide) (by decide)).trans e34) (by rw [eA2]; exact hU1)
          refine vsA_ok tk_X5_nights rfl 0 ?_
          simp only [at_X5_nights, mr_X5_nights, vsA, vcA, denA, lget, lset, lst1, lst2, lclr, argsA, restA, acats, acat, tcA, tcN, rzA, lle, List.length_cons, List.length_nil, Option.toList_some, Option.toList_none, List.cons_append, List.nil_append, eG, eM, eD, eC, eS, eQ, eH, if_true, if_false, Nat.reduceAdd, Nat.reduceLeDiff, Nat.reduceEqDiff, Nat.reduceLT, Nat.reduceSub, Int.reduceEq, Int.reduceLE, Int.reduceToNat, reduceCtorEq, reduceIte, Nat.reduceBEq, Int.reduceNeg, not_true, not_false_iff, true_and, and_true, true_or, or_true, false_or, or_false, forall_const, implies_true, Nat.le_refl, Int.toNat_natCast, Int.reduceLT, ne_eq, Fin.isValue, Nat.add_zero, nC_hrw, nS_hrw, nC_hwr, nS_hwr, hkd_hrw, hkd_hwr, fin4_0, fin4_1, fin4_2, fin4_3, fin2_0, fin2_1, ci0, ci1, cnn, false_implies, w32_eq, w64_eq]
          try simp (disch := omega) only [yc_lt, yc_le, yc_gt, yc_ge, yc_eq, w32_eq, w64_eq, tn_add, tn_mul, Int.toNat_natCast, Int.reduceToNat, not_true, not_false_iff, false_implies, forall_const, implies_true]
          repeat' (with_reducible first | apply And.intro | intro _)
          all_goals try omega
          all_goals try simp (disch := omega) only [w32_eq, w64_eq, tn_add, tn_mul, Int.toNat_natCast, Int.reduceToNat, Option.some.injEq, Sum.inr.injEq, Sum.inl.injEq]
          all_goals try omega
          all_goals try exact (nx).weak rfl (by simp [lle] <;> omega)
      · have hkn : k = n := by omega
        subst hkn
        rw [Nat.sub_self] at te1 te2
        have nx := Fin h1 hx hA1 e34 hU1 (by rw [← te1, ← te2]; rfl)
        subst hE
        refine vsA_ok tk_X5_nights rfl 2 ?_
        simp only [at_X5_nights, mr_X5_nights, vsA, vcA, denA, lget, lset, lst1, lst2, lclr, argsA, restA, acats, acat, tcA, tcN, rzA, lle, List.length_cons, List.length_nil, Option.toList_some, Option.toList_none, List.cons_append, List.nil_append, eG, eM, eD, eC, eS, eQ, eH, if_true, if_false, Nat.reduceAdd, Nat.reduceLeDiff, Nat.reduceEqDiff, Nat.reduceLT, Nat.reduceSub, Int.reduceEq, Int.reduceLE, Int.reduceToNat, reduceCtorEq, reduceIte, Nat.reduceBEq, Int.reduceNeg, not_true, not_false_iff, true_and, and_true, true_or, or_true, false_or, or_false, forall_const, implies_true, Nat.le_refl, Int.toNat_natCast, Int.reduceLT, ne_eq, Fin.isValue, Nat.add_zero, nC_hrw, nS_hrw, nC_hwr, nS_hwr, hkd_hrw, hkd_hwr, fin4_0, fin4_1, fin4_2, fin4_3, fin2_0, fin2_1, ci0, ci1, cnn, false_implies, w32_eq, w64_eq]
        try simp (disch := omega) only [yc_lt, yc_le, yc_gt, yc_ge, yc_eq, w32_eq, w64_eq, tn_add, tn_mul, Int.toNat_natCast, Int.reduceToNat, not_true, not_false_iff, false_implies, forall_const, implies_true]
        repeat' (with_reducible first | apply And.intro | intro _)
        all_goals try omega
        all_goals try simp (disch := omega) only [w32_eq, w64_eq, tn_add, tn_mul, Int.toNat_natCast, Int.reduceToNat, Option.some.injEq, Sum.inr.injEq, Sum.inl.injEq]
        all_goals try omega
        all_goals try exact (nx).weak rfl (by simp [lle] <;> omega)
    subst hE
    refine vsA_ok tk_X5_nights rfl 20 ?_
    simp only [at_X5_nights, mr_X5_nights, vsA, vcA, denA, lget, lset, lst1, lst2, lclr, argsA, restA, acats, acat, tcA, tcN, rzA, lle, List.length_cons, List.length_nil, Option.toList_some, Option.toList_none, List.cons_append, List.nil_append, eG, eM, eD, eC, eS, eQ, eH, if_true, if_false, Nat.reduceAdd, Nat.reduceLeDiff, Nat.reduceEqDiff, Nat.reduceLT, Nat.reduceSub, Int.reduceEq, Int.reduceLE, Int.reduceToNat, reduceCtorEq, reduceIte, Nat.reduceBEq, Int.reduceNeg, not_true, not_false_iff, true_and, and_true, true_or, or_true, false_or, or_false, forall_const, implies_true, Nat.le_refl, Int.toNat_natCast, Int.reduceLT, ne_eq, Fin.isValue, Nat.add_zero, nC_hrw, nS_hrw, nC_hwr, nS_hwr, hkd_hrw, hkd_hwr, fin4_0, fin4_1, fin4_2, fin4_3, fin2_0, fin2_1, ci0, ci1, cnn, false_implies, w32_eq, w64_eq, hF.m, hF0.m]
    try simp (disch := omega) only [yc_lt, yc_le, yc_gt, yc_ge, yc_eq, w32_eq, w64_eq, tn_add, tn_mul, Int.toNat_natCast, Int.reduceToNat, not_true, not_false_iff, false_implies, forall_const, implies_true]
    repeat' (with_reducible first | apply And.intro | intro _)
    all_goals try omega
    all_goals try simp (disch := omega) only [w32_eq, w64_eq, tn_add, tn_mul, Int.toNat_natCast, Int.reduceToNat, Option.some.injEq, Sum.inr.injEq, Sum.inl.injEq]
    all_goals try omega
    refine ClA.pure (c_X5_within_T _ (by omega) (by omega) (by omega) hvt) (by first | exact Nat.le_of_ble_eq_true rfl | (simp only [eD]; omega)) (by first | exact Nat.le_refl _ | (simp only [eG, eD, eC, eS, eQ, eH, nC_hrw, nC_hwr, nS_hrw, nS_hwr, nC_hnw, nS_hnw]; omega)) (by first | exact Nat.le_refl _ | (simp only [eG, eD, eC, eS, eQ, eH, nC_hrw, nC_hwr, nS_hrw, nS_hwr, nC_hnw, nS_hnw]; omega)) ?_
    refine vsA_ok tk_X5_nights rfl 20 ?_
    simp only [at_X5_nights, mr_X5_nights, vsA, vcA, denA, lget, lset, lst1, lst2, lclr, argsA, restA, acats, acat, tcA, tcN, rzA, lle, List.length_cons, List.length_nil, Option.toList_some, Option.toList_none, List.cons_append, List.nil_append, eG, eM, eD, eC, eS, eQ, eH, if_true, if_false, Nat.reduceAdd, Nat.reduceLeDiff, Nat.reduceEqDiff, Nat.reduceLT, Nat.reduceSub, Int.reduceEq, Int.reduceLE, Int.reduceToNat, reduceCtorEq, reduceIte, Nat.reduceBEq, Int.reduceNeg, not_true, not_false_iff, true_and, and_true, true_or, or_true, false_or, or_false, forall_const, implies_true, Nat.le_refl, Int.toNat_natCast, Int.reduceLT, ne_eq, Fin.isValue, Nat.add_zero, nC_hrw, nS_hrw, nC_hwr, nS_hwr, hkd_hrw, hkd_hwr, fin4_0, fin4_1, fin4_2, fin4_3, fin2_0, fin2_1, ci0, ci1, cnn, false_implies, w32_eq, w64_eq, hF0.m]
    try simp (disch := omega) only [yc_lt, yc_le, yc_gt, yc_ge, yc_eq, w32_eq, w64_eq, tn_add, tn_mul, Int.toNat_natCast, Int.reduceToNat, not_true, not_false_iff, false_implies, forall_const, implies_true]
    repeat' (with_reducible first | apply And.intro | intro _)
    all_goals try omega
    all_goals try simp (disch := omega) only [w32_eq, w64_eq, tn_add, tn_mul, Int.toNat_natCast, Int.reduceToNat, Option.some.injEq, Sum.inr.injEq, Sum.inl.injEq]
    all_goals try omega
    refine ClA.of (c_X5_stores hF0) (by first | exact Nat.le_of_ble_eq_true rfl | (simp only [eD]; omega)) (by first | exact Nat.le_refl _ | (simp only [eG, eD, eC, eS, eQ, eH, nC_hrw, nC_hwr, nS_hrw, nS_hwr, nC_hnw, nS_hnw]; omega)) (by first | exact Nat.le_refl _ | (simp only [eG, eD, eC, eS, eQ, eH, nC_hrw, nC_hwr, nS_hrw, nS_hwr, nC_hnw, nS_hnw]; omega)) ?_
    rintro _ h2 ⟨rfl, f, rfl, hf⟩ - -
    have hx2 : FrN h (hrw (hwr h 124 0 0) 134 f) := (FrM.n x0 (by decide) (by decide)).rw (fun _ => Or.inl (by decide)) f
    have eA2 : hdt (hrw (hwr h 124 0 0) 134 f) 125 = hdt h 125 := by rw [hdt_hrw_n _ _ (by decide), hdt_hwr, if_neg (by decide)]
    have eA0 : hdt (hwr h 124 0 0) 125 = hdt h 125 := by rw [hdt_hwr, if_neg (by decide)]
    have hq := hM.1.1.1.q
    have l1 := L1 f (by rw [hf 0 (by decide), eA0]; exact hq.2.2.1) (by rw [hf 1 (by decide), eA0]; exact hq.2.2.2.1) (by rw [hf 2 (by decide), eA0]; exact hq.2.2.2.2) 0 (Nat.zero_le _) (hrw (hwr h 124 0 0) 134 f) (wA w) hx2 (by rw [eA2]; exact hM.1.1) (hdt_hrw_s _ _ _) (by rw [eA2]; exact hM.2.1) (by simpa using hO) (by simp)
    refine vsA_ok tk_X5_nights rfl 20 ?_
    simp only [at_X5_nights, mr_X5_nights, vsA, vcA, denA, lget, lset, lst1, lst2, lclr, argsA, restA, acats, acat, tcA, tcN, rzA, lle, List.length_cons, List.length_nil, Option.toList_some, Option.toList_none, List.cons_append, List.nil_append, eG, eM, eD, eC, eS, eQ, eH, if_true, if_false, Nat.reduceAdd, Nat.reduceLeDiff, Nat.reduceEqDiff, Nat.reduceLT, Nat.reduceSub, Int.reduceEq, Int.reduceLE, Int.reduceToNat, reduceCtorEq, reduceIte, Nat.reduceBEq, Int.reduceNeg, not_true, not_false_iff, true_and, and_true, true_or, or_true, false_or, or_false, forall_const, implies_true, Nat.le_refl, Int.toNat_natCast, Int.reduceLT, ne_eq, Fin.isValue, Nat.add_zero, nC_hrw, nS_hrw, nC_hwr, nS_hwr, hkd_hrw, hkd_hwr, fin4_0, fin4_1, fin4_2, fin4_3, fin2_0, fin2_1, ci0, ci1, cnn, false_implies, w32_eq, w64_eq]
    try simp (disch := omega) only [yc_lt, yc_le, yc_gt, yc_ge, yc_eq, w32_eq, w64_eq, tn_add, tn_mul, Int.toNat_natCast, Int.reduceToNat, not_true, not_false_iff, false_implies, forall_const, implies_true]
    repeat' (with_reducible first | apply And.intro | intro _)
    all_goals try omega
    all_goals try simp (disch := omega) only [w32_eq, w64_eq, tn_add, tn_mul, Int.toNat_natCast, Int.reduceToNat, Option.some.injEq, Sum.inr.injEq, Sum.inl.injEq]
    all_goals try omega
    all_goals try exact (l1).weak rfl (by simp [lle] <;> omega)
  · rw [if_neg hvt, if_neg hvt]
    have hfin : MpC h (hwr h 124 0 0) w := MpC.scr hF hM x0 (by decide) (by decide)
    refine vsA_ok tk_X5_nights rfl 20 ?_
    simp only [at_X5_nights, mr_X5_nights, vsA, vcA, denA, lget, lset, lst1, lst2, lclr, argsA, restA, acats, acat, tcA, tcN, rzA, lle, List.length_cons, List.length_nil, Option.toList_some, Option.toList_none, List.cons_append, List.nil_append, eG, eM, eD, eC, eS, eQ, eH, if_true, if_false, Nat.reduceAdd, Nat.reduceLeDiff, Nat.reduceEqDiff, Nat.reduceLT, Nat.reduceSub, Int.reduceEq, Int.reduceLE, Int.reduceToNat, reduceCtorEq, reduceIte, Nat.reduceBEq, Int.reduceNeg, not_true, not_false_iff, true_and, and_true, true_or, or_true, false_or, or_false, forall_const, implies_true, Nat.le_refl, Int.toNat_natCast, Int.reduceLT, ne_eq, Fin.isValue, Nat.add_zero, nC_hrw, nS_hrw, nC_hwr, nS_hwr, hkd_hrw, hkd_hwr, fin4_0, fin4_1, fin4_2, fin4_3, fin2_0, fin2_1, ci0, ci1, cnn, false_implies, w32_eq, w64_eq, hF.m, hF0.m]
    try simp (disch := omega) only [yc_lt, yc_le, yc_gt, yc_ge, yc_eq, w32_eq, w64_eq, tn_add, tn_mul, Int.toNat_natCast, Int.reduceToNat, not_true, not_false_iff, false_implies, forall_const, implies_true]
    repeat' (with_reducible first | apply And.intro | intro _)
    all_goals try omega
    all_goals try simp (disch := omega) only [w32_eq, w64_eq, tn_add, tn_mul, Int.toNat_natCast, Int.reduceToNat, Option.some.injEq, Sum.inr.injEq, Sum.inl.injEq]
    all_goals try omega
    refine ClA.pure (c_X5_within_F _ (by omega) (by omega) (by omega) hvt) (by first | exact Nat.le_of_ble_eq_true rfl | (simp only [eD]; omega)) (by first | exact Nat.le_refl _ | (simp only [eG, eD, eC, eS, eQ, eH, nC_hrw, nC_hwr, nS_hrw, nS_hwr, nC_hnw, nS_hnw]; omega)) (by first | exact Nat.le_refl _ | (simp only [eG, eD, eC, eS, eQ, eH, nC_hrw, nC_hwr, nS_hrw, nS_hwr, nC_hnw, nS_hnw]; omega)) ?_
    refine vsA_ok tk_X5_nights rfl 20 ?_
    simp only [at_X5_nights, mr_X5_nights, vsA, vcA, denA, lget, lset, lst1, lst2, lclr, argsA, restA, acats, acat, tcA, tcN, rzA, lle, List.length_cons, List.length_nil, Option.toList_some, Option.toList_none, List.cons_append, List.nil_append, eG, eM, eD, eC, eS, eQ, eH, if_true, if_false, Nat.reduceAdd, Nat.reduceLeDiff, Nat.reduceEqDiff, Nat.reduceLT, Nat.reduceSub, Int.reduceEq, Int.reduceLE, Int.reduceToNat, reduceCtorEq, reduceIte, Nat.reduceBEq, Int.reduceNeg, not_true, not_false_iff, true_and, and_true, true_or, or_true, false_or, or_false, forall_const, implies_true, Nat.le_refl, Int.toNat_natCast, Int.reduceLT, ne_eq, Fin.isValue, Nat.add_zero, nC_hrw, nS_hrw, nC_hwr, nS_hwr, hkd_hrw, hkd_hwr, fin4_0, fin4_1, fin4_2, fin4_3, fin2_0, fin2_1, ci0, ci1, cnn, false_implies, w32_eq, w64_eq]
    try simp (disch := omega) only [yc_lt, yc_le, yc_gt, yc_ge, yc_eq, w32_eq, w64_eq, tn_add, tn_mul, Int.toNat_natCast, Int.reduceToNat, not_true, not_false_iff, false_implies, forall_const, implies_true]
    repeat' (with_reducible first | apply And.intro | intro _)
    all_goals try omega
    all_goals try simp (disch := omega) only [w32_eq, w64_eq, tn_add, tn_mul, Int.toNat_natCast, Int.reduceToNat, Option.some.injEq, Sum.inr.injEq, Sum.inl.injEq]
    all_goals try omega
    all_goals exact hfin
theorem c_X5_moon (hF : FxA h) (hM : MdC h w) (hW : WOK N w) (v : Int) (hv : In32 v) :
    CnA G mX5_moon 3 0 0 [.inr (.inr (124)), .inl (v)] h (fun r h1 => r = some (.inl (if 0 ≤ v ∧ v ≤ 9 then (wA w).2.2 else -11)) ∧ MpC h h1 (if 0 ≤ v ∧ v ≤ 9 then setAU w ((wA w).1, (wA w).2.1, v) (pushU (wU w) (wA w)) else w)) := by
  refine CnA.of rfl (Nat.le_of_ble_eq_true rfl) ?_
  simp only [largs, lpad, mr_X5_moon]
  obtain ⟨hv1, hv2⟩ := hv
  obtain ⟨x0, hF0, hM0⟩ := thr_0 hF hM
  by_cases hvt : 0 ≤ v ∧ v ≤ 9
  · rw [if_pos hvt, if_pos hvt]
    refine vsA_ok tk_X5_moon rfl 20 ?_
    simp only [at_X5_moon, mr_X5_moon, vsA, vcA, denA, lget, lset, lst1, lst2, lclr, argsA, restA, acats, acat, tcA, tcN, rzA, lle, List.length_cons, List.length_nil, Option.toList_some, Option.toList_none, List.cons_append, List.nil_append, eG, eM, eD, eC, eS, eQ, eH, if_true, if_false, Nat.reduceAdd, Nat.reduceLeDiff, Nat.reduceEqDiff, Nat.reduceLT, Nat.reduceSub, Int.reduceEq, Int.reduceLE, Int.reduceToNat, reduceCtorEq, reduceIte, Nat.reduceBEq, Int.reduceNeg, not_true, not_false_iff, true_and, and_true, true_or, or_true, false_or, or_false, forall_const, implies_true, Nat.le_refl, Int.toNat_natCast, Int.reduceLT, ne_eq, Fin.isValue, Nat.add_zero, nC_hrw, nS_hrw, nC_hwr, nS_hwr, hkd_hrw, hkd_hwr, fin4_0, fin4_1, fin4_2, fin4_3, fin2_0, fin2_1, ci0, ci1, cnn, false_implies, w32_eq, w64_eq, hF.m, hF0.m]
    try simp (disch := omega) only [yc_lt, yc_le, yc_gt, yc_ge, yc_eq, w32_eq, w64_eq, tn_add, tn_mul, Int.toNat_natCast, Int.reduceToNat, not_true, not_false_iff, false_implies, forall_const, implies_true]
    repeat' (with_reducible first | apply And.intro | intro _)
    all_goals try omega
    all_goals try simp (disch := omega) only [w32_eq, w64_eq, tn_add, tn_mul, Int.toNat_natCast, Int.reduceToNat, Option.some.injEq, Sum.inr.injEq, Sum.inl.injEq]
    all_goals try omega
    refine ClA.pure (c_X5_within_T _ (by omega) (by omega) (by omega) hvt) (by first | exact Nat.le_of_ble_eq_true rfl | (simp only [eD]; omega)) (by first | exact Nat.le_refl _ | (simp only [eG, eD, eC, eS, eQ, eH, nC_hrw, nC_hwr, nS_hrw, nS_hwr, nC_hnw, nS_hnw]; omega)) (by first | exact Nat.le_refl _ | (simp only [eG, eD, eC, eS, eQ, eH, nC_hrw, nC_hwr, nS_hrw, nS_hwr, nC_hnw, nS_hnw]; omega)) ?_
    refine vsA_ok tk_X5_moon rfl 20 ?_
    simp only [at_X5_moon, mr_X5_moon, vsA, vcA, denA, lget, lset, lst1, lst2, lclr, argsA, restA, acats, acat, tcA, tcN, rzA, lle, List.length_cons, List.length_nil, Option.toList_some, Option.toList_none, List.cons_append, List.nil_append, eG, eM, eD, eC, eS, eQ, eH, if_true, if_false, Nat.reduceAdd, Nat.reduceLeDiff, Nat.reduceEqDiff, Nat.reduceLT, Nat.reduceSub, Int.reduceEq, Int.reduceLE, Int.reduceToNat, reduceCtorEq, reduceIte, Nat.reduceBEq, Int.reduceNeg, not_true, not_false_iff, true_and, and_true, true_or, or_true, false_or, or_false, forall_const, implies_true, Nat.le_refl, Int.toNat_natCast, Int.reduceLT, ne_eq, Fin.isValue, Nat.add_zero, nC_hrw, nS_hrw, nC_hwr, nS_hwr, hkd_hrw, hkd_hwr, fin4_0, fin4_1, fin4_2, fin4_3, fin2_0, fin2_1, ci0, ci1, cnn, false_implies, w32_eq, w64_eq, hF0.m]
    try simp (disch := omega) only [yc_lt, yc_le, yc_gt, yc_ge, yc_eq, w32_eq, w64_eq, tn_add, tn_mul, Int.toNat_natCast, Int.reduceToNat, not_true, not_false_iff, false_implies, forall_const, implies_true]
    repeat' (with_reducible first | apply And.intro | intro _)
    all_goals try omega
    all_goals try simp (disch := omega) only [w32_eq, w64_eq, tn_add, tn_mul, Int.toNat_natCast, Int.reduceToNat, Option.some.injEq, Sum.inr.injEq, Sum.inl.injEq]
    all_goals try omega
    refine ClA.of (c_X5_stores hF0) (by first | exact Nat.le_of_ble_eq_true rfl | (simp only [eD]; omega)) (by first | exact Nat.le_refl _ | (simp only [eG, eD, eC, eS, eQ, eH, nC_hrw, nC_hwr, nS_hrw, nS_hwr, nC_hnw, nS_hnw]; omega)) (by first | exact Nat.le_refl _ | (simp only [eG, eD, eC, eS, eQ, eH, nC_hrw, nC_hwr, nS_hrw, nS_hwr, nC_hnw, nS_hnw]; omega)) ?_
    rintro _ h2 ⟨rfl, f, rfl, hf⟩ - -
    have hx2 : FrN h (hrw (hwr h 124 0 0) 134 f) := (FrM.n x0 (by decide) (by decide)).rw (fun _ => Or.inl (by decide)) f
    have eA2 : hdt (hrw (hwr h 124 0 0) 134 f) 125 = hdt h 125 := by rw [hdt_hrw_n _ _ (by decide), hdt_hwr, if_neg (by decide)]
    have eA0 : hdt (hwr h 124 0 0) 125 = hdt h 125 := by rw [hdt_hwr, if_neg (by decide)]
    have e34 : hdt (hrw (hwr h 124 0 0) 134 f) 134 = f := hdt_hrw_s _ _ _
    have hq := hM.1.1.1.q
    have f0 : f 0 = (wA w).2.2 := by rw [hf 0 (by decide), eA0]; exact hq.2.2.1
    have f1 : f 1 = (wA w).2.1 := by rw [hf 1 (by decide), eA0]; exact hq.2.2.2.1
    have f2 : f 2 = ((wA w).1.length : Int) := by rw [hf 2 (by decide), eA0]; exact hq.2.2.2.2
    generalize hrw (hwr h 124 0 0) 134 f = h2 at *
    have hF2 := hF.frn hx2
    have c2 := hx2.2.1
    have hx3 : FrN h (hwr h2 125 111 v) := hx2.wr (Or.inr (Or.inr ⟨rfl, by omega, by omega⟩)) v
    have hF3 := hF.frn hx3
    have e3 : hdt (hwr h2 125 111 v) 125 = fup (hdt h 125) 111 v := by rw [hdt_hwr, if_pos rfl, eA2]
    have hA3 : AllS (fup (hdt h 125) 111 v) (wS w) ((wA w).1, (wA w).2.1, v) := by
      refine hM.1.1.re (fun j hj => fup_n _ _ (by omega)) hM.1.1.1.2.1 hM.1.1.1.2.2.1 (fup_s _ _ _) ?_ ?_ fun k hk => ?_
      · rw [fup_n _ _ (by omega)]; exact hq.2.2.2.1
      · rw [fup_n _ _ (by omega)]; exact hq.2.2.2.2
      · rw [fup_n _ _ (by omega)]; exact hM.1.1.1.by hk
    have hU3 : UndC (fup (hdt h 125) 111 v) ((wU w).map t3) := by
      obtain ⟨u1, u2, u3⟩ := hM.2.1
      exact ⟨u1, by rw [fup_n _ _ (by omega)]; exact u2, fun i hi => by rw [fup_n _ _ (by omega), fup_n _ _ (by omega), fup_n _ _ (by omega)]; exact u3 i hi⟩
    refine vsA_ok tk_X5_moon rfl 20 ?_
    simp only [at_X5_moon, mr_X5_moon, vsA, vcA, denA, lget, lset, lst1, lst2, lclr, argsA, restA, acats, acat, tcA, tcN, rzA, lle, List.length_cons, List.length_nil, Option.toList_some, Option.toList_none, List.cons_append, List.nil_append, eG, eM, eD, eC, eS, eQ, eH, if_true, if_false, Nat.reduceAdd, Nat.reduceLeDiff, Nat.reduceEqDiff, Nat.reduceLT, Nat.reduceSub, Int.reduceEq, Int.reduceLE, Int.reduceToNat, reduceCtorEq, reduceIte, Nat.reduceBEq, Int.reduceNeg, not_true, not_false_iff, true_and, and_true, true_or, or_true, false_or, or_false, forall_const, implies_true, Nat.le_refl, Int.toNat_natCast, Int.reduceLT, ne_eq, Fin.isValue, Nat.add_zero, nC_hrw, nS_hrw, nC_hwr, nS_hwr, hkd_hrw, hkd_hwr, fin4_0, fin4_1, fin4_2, fin4_3, fin2_0, fin2_1, ci0, ci1, cnn, false_implies, w32_eq, w64_eq, hF2.m, hF3.m]
    try simp (disch := omega) only [yc_lt, yc_le, yc_gt, yc_ge, yc_eq, w32_eq, w64_eq, tn_add, tn_mul, Int.toNat_natCast, Int.reduceToNat, not_true, not_false_iff, false_implies, forall_const, implies_true]
    repeat' (with_reducible first | apply And.intro | intro _)
    all_goals try omega
    all_goals try simp (disch := omega) only [w32_eq, w64_eq, tn_add, tn_mul, Int.toNat_natCast, Int.reduceToNat, Option.some.injEq, Sum.inr.injEq, Sum.inl.injEq]
    all_goals try omega
    refine ClA.of (c_X5_notes hF3 (by rw [e3]; exact hU3)) (by first | exact Nat.le_of_ble_eq_true rfl | (simp only [eD]; omega)) (by first | exact Nat.le_refl _ | (simp only [eG, eD, eC, eS, eQ, eH, nC_hrw, nC_hwr, nS_hrw, nS_hwr, nC_hnw, nS_hnw]; omega)) (by first | exact Nat.le_refl _ | (simp only [eG, eD, eC, eS, eQ, eH, nC_hrw, nC_hwr, nS_hrw, nS_hwr, nC_hnw, nS_hnw]; omega)) ?_
    rintro _ h4 ⟨rfl, g, rfl, hU4, hg⟩ - -
    have e343 : hdt (hwr h2 125 111 v) 134 = f := by rw [hdt_hwr, if_neg (by decide)]; exact e34
    rw [e343, f0, f1, f2] at hU4
    have hU4' : UndC g ((pushU (wU w) (wA w)).map t3) := by rw [pushU_t3]; exact hU4
    have hx4 : FrN h (hrw (hwr h2 125 111 v) 125 g) := FrN.r125 hx3 (fun j hj => hg j (by omega))
    have hF4 := hF.frn hx4
    have e4 : hdt (hrw (hwr h2 125 111 v) 125 g) 125 = g := hdt_hrw_s _ _ _
    have e344 : hdt (hrw (hwr h2 125 111 v) 125 g) 134 0 = (wA w).2.2 := by rw [hdt_hrw_n _ _ (by decide), e343]; exact f0
    have hfin : MpC h (hrw (hwr h2 125 111 v) 125 g) (setAU w ((wA w).1, (wA w).2.1, v) (pushU (wU w) (wA w))) := MpC.deed hF hM hx4 (by rw [e4]; exact AllS.cong (f := hdt (hwr h2 125 111 v) 125) (by rw [e3]; exact hA3) hg) (by rw [e4]; exact hU4')
    refine vsA_ok tk_X5_moon rfl 20 ?_
    simp only [at_X5_moon, mr_X5_moon, vsA, vcA, denA, lget, lset, lst1, lst2, lclr, argsA, restA, acats, acat, tcA, tcN, rzA, lle, List.length_cons, List.length_nil, Option.toList_some, Option.toList_none, List.cons_append, List.nil_append, eG, eM, eD, eC, eS, eQ, eH, if_true, if_false, Nat.reduceAdd, Nat.reduceLeDiff, Nat.reduceEqDiff, Nat.reduceLT, Nat.reduceSub, Int.reduceEq, Int.reduceLE, Int.reduceToNat, reduceCtorEq, reduceIte, Nat.reduceBEq, Int.reduceNeg, not_true, not_false_iff, true_and, and_true, true_or, or_true, false_or, or_false, forall_const, implies_true, Nat.le_refl, Int.toNat_natCast, Int.reduceLT, ne_eq, Fin.isValue, Nat.add_zero, nC_hrw, nS_hrw, nC_hwr, nS_hwr, hkd_hrw, hkd_hwr, fin4_0, fin4_1, fin4_2, fin4_3, fin2_0, fin2_1, ci0, ci1, cnn, false_implies, w32_eq, w64_eq, hF4.m, e344, c2]
    try simp (disch := omega) only [yc_lt, yc_le, yc_gt, yc_ge, yc_eq, w32_eq, w64_eq, tn_add, tn_mul, Int.toNat_natCast, Int.reduceToNat, not_true, not_false_iff, false_implies, forall_const, implies_true]
    repeat' (with_reducible first | apply And.intro | intro _)
    all_goals try omega
    all_goals try simp (disch := omega) only [w32_eq, w64_eq, tn_add, tn_mul, Int.toNat_natCast, Int.reduceToNat, Option.some.injEq, Sum.inr.injEq, Sum.inl.injEq]
    all_goals try omega
    all_goals exact hfin
  · rw [if_neg hvt, if_neg hvt]
    have hfin : MpC h (hwr h 124 0 0) w := MpC.scr hF hM x0 (by decide) (by decide)
    refine vsA_ok tk_X5_moon rfl 20 ?_
    simp only [at_X5_moon, mr_X5_moon, vsA, vcA, denA, lget, lset, lst1, lst2, lclr, argsA, restA, acats, acat, tcA, tcN, rzA, lle, List.length_cons, List.length_nil, Option.toList_some, Option.toList_none, List.cons_append, List.nil_append, eG, eM, eD, eC, eS, eQ, eH, if_true, if_false, Nat.reduceAdd, Nat.reduceLeDiff, Nat.reduceEqDiff, Nat.reduceLT, Nat.reduceSub, Int.reduceEq, Int.reduceLE, Int.reduceToNat, reduceCtorEq, reduceIte, Nat.reduceBEq, Int.reduceNeg, not_true, not_false_iff, true_and, and_true, true_or, or_true, false_or, or_false, forall_const, implies_true, Nat.le_refl, Int.toNat_natCast, Int.reduceLT, ne_eq, Fin.isValue, Nat.add_zero, nC_hrw, nS_hrw, nC_hwr, nS_hwr, hkd_hrw, hkd_hwr, fin4_0, fin4_1, fin4_2, fin4_3, fin2_0, fin2_1, ci0, ci1, cnn, false_implies, w32_eq, w64_eq, hF.m, hF0.m]
    try simp (disch := omega) only [yc_lt, yc_le, yc_gt, yc_ge, yc_eq, w32_eq, w64_eq, tn_add, tn_mul, Int.toNat_natCast, Int.reduceToNat, not_true, not_false_iff, false_implies, forall_const, implies_true]
    repeat' (with_reducible first | apply And.intro | intro _)
    all_goals try omega
    all_goals try simp (disch := omega) only [w32_eq, w64_eq, tn_add, tn_mul, Int.toNat_natCast, Int.reduceToNat, Option.some.injEq, Sum.inr.injEq, Sum.inl.injEq]
    all_goals try omega
    refine ClA.pure (c_X5_within_F _ (by omega) (by omega) (by omega) hvt) (by first | exact Nat.le_of_ble_eq_true rfl | (simp only [eD]; omega)) (by first | exact Nat.le_refl _ | (simp only [eG, eD, eC, eS, eQ, eH, nC_hrw, nC_hwr, nS_hrw, nS_hwr, nC_hnw, nS_hnw]; omega)) (by first | exact Nat.le_refl _ | (simp only [eG, eD, eC, eS, eQ, eH, nC_hrw, nC_hwr, nS_hrw, nS_hwr, nC_hnw, nS_hnw]; omega)) ?_
    refine vsA_ok tk_X5_moon rfl 20 ?_
    simp only [at_X5_moon, mr_X5_moon, vsA, vcA, denA, lget, lset, lst1, lst2, lclr, argsA, restA, acats, acat, tcA, tcN, rzA, lle, List.length_cons, List.length_nil, Option.toList_some, Option.toList_none, List.cons_append, List.nil_append, eG, eM, eD, eC, eS, eQ, eH, if_true, if_false, Nat.reduceAdd, Nat.reduceLeDiff, Nat.reduceEqDiff, Nat.reduceLT, Nat.reduceSub, Int.reduceEq, Int.reduceLE, Int.reduceToNat, reduceCtorEq, reduceIte, Nat.reduceBEq, Int.reduceNeg, not_true, not_false_iff, true_and, and_true, true_or, or_true, false_or, or_false, forall_const, implies_true, Nat.le_refl, Int.toNat_natCast, Int.reduceLT, ne_eq, Fin.isValue, Nat.add_zero, nC_hrw, nS_hrw, nC_hwr, nS_hwr, hkd_hrw, hkd_hwr, fin4_0, fin4_1, fin4_2, fin4_3, fin2_0, fin2_1, ci0, ci1, cnn, false_implies, w32_eq, w64_eq]
    try simp (disch := omega) only [yc_lt, yc_le, yc_gt, yc_ge, yc_eq, w32_eq, w64_eq, tn_add, tn_mul, Int.toNat_natCast, Int.reduceToNat, not_true, not_false_iff, false_implies, forall_const, implies_true]
    repeat' (with_reducible first | apply And.intro | intro _)
    all_goals try omega
    all_goals try simp (disch := omega) only [w32_eq, w64_eq, tn_add, tn_mul, Int.toNat_natCast, Int.reduceToNat, Option.some.injEq, Sum.inr.injEq, Sum.inl.injEq]
    all_goals try omega
    all_goals exact hfin
end
