/-! THE SYSTEM: deeds of a state -/
set_option maxRecDepth 100000
theorem c_X0_in_T {G : GT} {v lo hi : Int} (h : AH) (hv : In64 v) (hl : In64 lo) (hh : In64 hi) (q : lo ≤ v ∧ v ≤ hi) : CnA G mX0_in 1 0 0 [.inr (.inl (v)), .inr (.inl (lo)), .inr (.inl (hi))] h (fun r h1 => r = some (.inl (1)) ∧ h1 = h) :=
  (c_X0_in v lo hi h).imp fun r h1 z => ⟨by rw [z.1, w64_eq hv.1 hv.2, w64_eq hl.1 hl.2, w64_eq hh.1 hh.2, if_pos q], z.2⟩
theorem c_X0_in_F {G : GT} {v lo hi : Int} (h : AH) (hv : In64 v) (hl : In64 lo) (hh : In64 hi) (q : ¬ (lo ≤ v ∧ v ≤ hi)) : CnA G mX0_in 1 0 0 [.inr (.inl (v)), .inr (.inl (lo)), .inr (.inl (hi))] h (fun r h1 => r = some (.inl (0)) ∧ h1 = h) :=
  (c_X0_in v lo hi h).imp fun r h1 z => ⟨by rw [z.1, w64_eq hv.1 hv.2, w64_eq hl.1 hl.2, w64_eq hh.1 hh.2, if_neg q], z.2⟩
theorem c_X5_within_T {G : GT} {v lo hi : Int} (h : AH) (hv : In64 v) (hl : In64 lo) (hh : In64 hi) (q : lo ≤ v ∧ v ≤ hi) : CnA G mX5_within 1 0 0 [.inr (.inl (v)), .inr (.inl (lo)), .inr (.inl (hi))] h (fun r h1 => r = some (.inl (1)) ∧ h1 = h) :=
  (c_X5_within v lo hi h).imp fun r h1 z => ⟨by rw [z.1, w64_eq hv.1 hv.2, w64_eq hl.1 hl.2, w64_eq hh.1 hh.2, if_pos q], z.2⟩
theorem c_X5_within_F {G : GT} {v lo hi : Int} (h : AH) (hv : In64 v) (hl : In64 lo) (hh : In64 hi) (q : ¬ (lo ≤ v ∧ v ≤ hi)) : CnA G mX5_within 1 0 0 [.inr (.inl (v)), .inr (.inl (lo)), .inr (.inl (hi))] h (fun r h1 => r = some (.inl (0)) ∧ h1 = h) :=
  (c_X5_within v lo hi h).imp fun r h1 z => ⟨by rw [z.1, w64_eq hv.1 hv.2, w64_eq hl.1 hl.2, w64_eq hh.1 hh.2, if_neg q], z.2⟩
/-- what deeds of a state write -/
abbrev sD (a S : Nat) : Nat → Prop := fun b => b = a ∨ b = a + 1 ∨ sW a S b
theorem sW_sD {a S b : Nat} (h : sW a S b) : sD a S b := Or.inr (Or.inr h)
/-- what stands is laid anew: the street stays -/
theorem WSL.re {h h1 : AH} {a S : Nat} {s : SP} {st st1 : S3} (hW : WSL h a S s st) (ho : OutA (fun b => b = a ∨ b = a + 1) h h1) (e0 : hdt h1 a 0 = hdt h a 0) (e1 : hdt h1 a 1 = hdt h a 1) (e2 : hdt h1 a 2 = hdt h a 2) (e6 : hdt h1 a 6 = hdt h a 6)
    (hl : st1.1.length ≤ 60) (h3 : ∀ t ∈ st1.1, t < 3) (f3 : hdt h1 a 3 = (st1.1.length : Int)) (f1 : ∀ k, k < st1.1.length → hdt h1 (a + 1) k = ((st1.1.getD k 0 : Nat) : Int)) (f4 : hdt h1 a 4 = st1.2.1) (f5 : hdt h1 a 5 = st1.2.2) : WSL h1 a S s st1 := by
  obtain ⟨⟨⟨⟨k0, k1, k2, k3, k4, k5, k6, k7⟩, -⟩, hS, r0, r1⟩, d1, d2⟩ := hW
  have hSK := hS.1
  have n : ∀ {b x}, hkd h b = x → x.1 ≠ 3 → x ≠ (100, 60) → ¬ (b = a ∨ b = a + 1) := fun {b x} e q1 q2 q => by
    rcases q with rfl | rfl
    · exact q1 (by rw [← e, k0])
    · exact q2 (e.symm.trans k5)
  have n' : ∀ {b x}, (hkd h b).1 = x → x ≠ 3 → x ≠ 100 → ¬ (b = a ∨ b = a + 1) := fun {b x} e q1 q2 => n (x := hkd h b) rfl (by rw [e]; exact q1) (fun q => q2 (by rw [← e, q]))
  have hS0 : hdt h1 S = hdt h S := ho.2.2 S (n' hSK.1 (by decide) (by decide))
  have hkk : ∀ b, (b = a ∨ b = a + 1) → (hkd h b).1 < 8 ∨ 14 < (hkd h b).1 := fun b hb => by
    rcases hb with rfl | rfl
    · omega
    · rw [k5]; exact Or.inr (by decide)
  refine ⟨⟨⟨⟨?_, ?_, ?_, ?_, ?_, ?_, ?_, ?_⟩, hl, f3, f1, h3, f4, f5⟩, hS.same (fun b hb => ⟨ho.1 b, ho.2.2 b ?_⟩) (ho.1 _), ?_, ?_⟩, by rw [hS0]; exact d1.out ho hkk, by rw [hS0]; exact d2.out ho hkk⟩
  · rw [ho.1]; exact k0
  · rw [e0]; exact k1
  · rw [e1]; exact k2
  · rw [e2]; exact k3
  · rw [e6]; exact k4
  · rw [ho.1]; exact k5
  · rw [ho.1]; exact k6
  · rw [ho.1]; exact k7
  · simp only [List.mem_cons, List.not_mem_nil, or_false] at hb
    rcases hb with rfl | rfl | rfl | rfl
    · exact n' hSK.1 (by decide) (by decide)
    · exact n hSK.2.2.2.2.2.1 (by decide) (by decide)
    · exact n hSK.2.2.2.2.2.2.1 (by decide) (by decide)
    · exact n hSK.2.2.2.2.2.2.2.1 (by decide) (by decide)
  · rw [ho.1]; exact r0
  · rw [ho.2.2 0 (n' r0 (by decide) (by decide))]; exact r1
theorem c_X2_goes {G : GT} {h : AH} {a S : Nat} {s : SP} {st : S3} {t : Int} (hW : WSL h a S s st) (ht : t = -1 ∨ 0 ≤ t ∧ t < 3 ∧ st.1.length < 60) :
    CnA G mX2_goes 1 0 0 [.inr (.inr ((a : Int))), .inl (t)] h (fun v h1 => v = none ∧ WSL h1 a S s (byG st t) ∧ OutA (fun b => b = a ∨ b = a + 1) h h1) := by
  refine CnA.of rfl (Nat.le_of_ble_eq_true rfl) ?_
  simp only [largs, lpad, mr_X2_goes]
  have hq := hW.1.q
  have hs := hW.1.sz
  have na : a + 1 ≠ a := by omega
  have na' : a ≠ a + 1 := by omega
  have htb := fun k hk => (hW.1.table (k := k) hk).1
  have ht3 := hW.1.1.2.2.2.2.1
  rcases ht with rfl | ⟨t0, t1, t2⟩
  · have hG : byG st (-1) = (st.1, st.2.1 + 1, st.2.2) := rfl
    rw [hG]
    have ho : OutA (fun b => b = a ∨ b = a + 1) h (hwr h a 4 (st.2.1 + 1)) := OutA.rf.tr (OutA.wr (Or.inl rfl) _)
    refine vsA_ok tk_X2_goes rfl 60 ?_
    simp only [at_X2_goes, mr_X2_goes, vsA, vcA, denA, lget, lset, lst1, lst2, lclr, argsA, restA, acats, acat, tcA, tcN, rzA, lle, List.length_cons, List.length_nil, Option.toList_some, Option.toList_none, List.cons_append, List.nil_append, eG, eM, eD, eC, eS, eQ, eH, if_true, if_false, Nat.reduceAdd, Nat.reduceLeDiff, Nat.reduceEqDiff, Nat.reduceLT, Nat.reduceSub, Int.reduceEq, Int.reduceLE, Int.reduceToNat, reduceCtorEq, reduceIte, Nat.reduceBEq, Int.reduceNeg, not_true, not_false_iff, true_and, and_true, true_or, or_true, false_or, or_false, forall_const, implies_true, Nat.le_refl, Int.toNat_natCast, Int.reduceLT, ne_eq, Fin.isValue, Nat.add_zero, nC_hrw, nS_hrw, nC_hwr, nS_hwr, hkd_hrw, hkd_hwr, fin4_0, fin4_1, fin4_2, fin4_3, fin2_0, fin2_1, ci0, ci1, cnn, false_implies, w32_eq, w64_eq, hq]
    try simp (disch := omega) only [yc_lt, yc_le, yc_gt, yc_ge, yc_eq, w32_eq, w64_eq, tn_add, tn_mul, Int.toNat_natCast, Int.reduceToNat, not_true, not_false_iff, false_implies, forall_const, implies_true]
    repeat' (with_reducible first | apply And.intro | intro _)
    all_goals try omega
    all_goals try simp (disch := omega) only [w32_eq, w64_eq, tn_add, tn_mul, Int.toNat_natCast, Int.reduceToNat, Option.some.injEq, Sum.inr.injEq, Sum.inl.injEq]
    all_goals try omega
    · refine hW.re ho ?_ ?_ ?_ ?_ hs.1 ht3 ?_ (fun k hk => ?_) ?_ ?_
      · rw [hdt_hwr, if_pos rfl, fup_n _ _ (by omega)]
      · rw [hdt_hwr, if_pos rfl, fup_n _ _ (by omega)]
      · rw [hdt_hwr, if_pos rfl, fup_n _ _ (by omega)]
      · rw [hdt_hwr, if_pos rfl, fup_n _ _ (by omega)]
      · rw [hdt_hwr, if_pos rfl, fup_n _ _ (by omega)]; exact hq.2.2.2.2.2.2.2.2.1
      · rw [hdt_hwr, if_neg na]; exact htb k hk
      · rw [hdt_hwr, if_pos rfl, fup_s]
      · rw [hdt_hwr, if_pos rfl, fup_n _ _ (by omega)]; exact hq.2.2.2.2.2.2.2.2.2.2.1
    all_goals exact ho
  · obtain ⟨n, rfl⟩ : ∃ n : Nat, t = n := ⟨t.toNat, by omega⟩
    have hG : byG st (n : Int) = (st.1 ++ [n], st.2.1 + 1, st.2.2) := by unfold byG; rw [if_neg (by omega)]; rfl
    rw [hG]
    generalize hE : ((G, mX2_goes, _, _, _, _, h) : EV) = E
    have ho : OutA (fun b => b = a ∨ b = a + 1) h (hwr (hwr (hwr h a 4 (st.2.1 + 1)) (a + 1) st.1.length (n : Int)) a 3 ((st.1.length : Int) + 1)) := ((OutA.wr (Or.inl rfl) _).tr (OutA.wr (Or.inr rfl) _)).tr (OutA.wr (Or.inl rfl) _)
    have hh : ∀ j, j ≠ 3 → j ≠ 4 → hdt (hwr (hwr (hwr h a 4 (st.2.1 + 1)) (a + 1) st.1.length (n : Int)) a 3 ((st.1.length : Int) + 1)) a j = hdt h a j := fun j h3 h4 => by
      rw [hdt_hwr, if_pos rfl, fup_n _ _ h3, hdt_hwr, if_neg na', hdt_hwr, if_pos rfl, fup_n _ _ h4]
    have hw := hW.re (st1 := (st.1 ++ [n], st.2.1 + 1, st.2.2)) ho (hh 0 (by decide) (by decide)) (hh 1 (by decide) (by decide)) (hh 2 (by decide) (by decide)) (hh 6 (by decide) (by decide)) (by show (st.1 ++ [n]).length ≤ 60; simp; omega)
      (fun x hx => by
        rcases List.mem_append.mp hx with hx | hx
        · exact ht3 x hx
        · have := List.mem_singleton.mp hx
          omega) (by rw [hdt_hwr, if_pos rfl, fup_s]; show _ = (((st.1 ++ [n]).length : Nat) : Int); simp) (fun k hk => by
        have hk : k < (st.1 ++ [n]).length := hk
        rw [List.length_append, List.length_singleton] at hk
        rw [hdt_hwr, if_neg na, hdt_hwr, if_pos rfl]
        show _ = (((st.1 ++ [n]).getD k 0 : Nat) : Int)
        by_cases e : k = st.1.length
        · subst e
          rw [fup_s]
          simp
        · rw [fup_n _ _ e, hdt_hwr, if_neg na, htb k (by omega), getD_appl _ (by omega)]) (by rw [hdt_hwr, if_pos rfl, fup_n _ _ (by decide), hdt_hwr, if_neg na', hdt_hwr, if_pos rfl, fup_s]) (by rw [hh 5 (by decide) (by decide)]; exact hq.2.2.2.2.2.2.2.2.2.2.1)
    have f1 : ∀ v, hdt (hwr h a 4 v) a 3 = (st.1.length : Int) := fun v => by rw [hdt_hwr, if_pos rfl, fup_n _ _ (by decide)]; exact hq.2.2.2.2.2.2.2.2.1
    have f2 : ∀ v, hdt (hwr h a 4 v) a 0 = ((a + 1 : Nat) : Int) := fun v => by rw [hdt_hwr, if_pos rfl, fup_n _ _ (by decide)]; exact hq.2.1
    have f3 : ∀ v w, hdt (hwr (hwr h a 4 v) (a + 1) st.1.length w) a 3 = (st.1.length : Int) := fun v w => by rw [hdt_hwr, if_neg na']; exact f1 v
    subst hE
    refine vsA_ok tk_X2_goes rfl 60 ?_
    simp only [at_X2_goes, mr_X2_goes, vsA, vcA, denA, lget, lset, lst1, lst2, lclr, argsA, restA, acats, acat, tcA, tcN, rzA, lle, List.length_cons, List.length_nil, Option.toList_some, Option.toList_none, List.cons_append, List.nil_append, eG, eM, eD, eC, eS, eQ, eH, if_true, if_false, Nat.reduceAdd, Nat.reduceLeDiff, Nat.reduceEqDiff, Nat.reduceLT, Nat.reduceSub, Int.reduceEq, Int.reduceLE, Int.reduceToNat, reduceCtorEq, reduceIte, Nat.reduceBEq, Int.reduceNeg, not_true, not_false_iff, true_and, and_true, true_or, or_true, false_or, or_false, forall_const, implies_true, Nat.le_refl, Int.toNat_natCast, Int.reduceLT, ne_eq, Fin.isValue, Nat.add_zero, nC_hrw, nS_hrw, nC_hwr, nS_hwr, hkd_hrw, hkd_hwr, fin4_0, fin4_1, fin4_2, fin4_3, fin2_0, fin2_1, ci0, ci1, cnn, false_implies, w32_eq, w64_eq, hq, f1, f2, f3]
    try simp (disch := omega) only [yc_lt, yc_le, yc_gt, yc_ge, yc_eq, w32_eq, w64_eq, tn_add, tn_mul, Int.toNat_natCast, Int.reduceToNat, not_true, not_false_iff, false_implies, forall_const, implies_true]
    repeat' (with_reducible first | apply And.intro | intro _)
    all_goals try omega
    all_goals try simp (disch := omega) only [w32_eq, w64_eq, tn_add, tn_mul, Int.toNat_natCast, Int.reduceToNat, Option.some.injEq, Sum.inr.injEq, Sum.inl.injEq]
    all_goals try omega
    all_goals exact ho
theorem c_X2_whyNight {G : GT} {h : AH} {a S : Nat} {s : SP} {st : S3} {N v : Int} (hW : WSL h a S s st) (hO : OKS s N st) (hN : N < 2147483648) (hv : In64 v) :
    CnA G mX2_whyNight 904 0 0 [.inr (.inr ((a : Int))), .inr (.inl (v))] h (fun r h1 => r = some (.inl (whyS s st v)) ∧ OutA (sW a S) h h1) := by
  refine CnA.of rfl (Nat.le_of_ble_eq_true rfl) ?_
  simp only [largs, lpad, mr_X2_whyNight]
  obtain ⟨hv1, hv2⟩ := hv
  have h5 := hO.2.2.2.2
  have hs := hW.1.sz
  have hpi : pkS s st = -1 ∨ 0 ≤ pkS s st ∧ pkS s st < 3 := by
    have := pkd_in (sT s) hs.2.2.2.1 (sP s) (sL s) (wdW st.2.1 st.2.2 (wrdS s st))
    unfold pkS
    omega
  refine vsA_ok tk_X2_whyNight rfl 20 ?_
  simp only [at_X2_whyNight, mr_X2_whyNight, vsA, vcA, denA, lget, lset, lst1, lst2, lclr, argsA, restA, acats, acat, tcA, tcN, rzA, lle, List.length_cons, List.length_nil, Option.toList_some, Option.toList_none, List.cons_append, List.nil_append, eG, eM, eD, eC, eS, eQ, eH, if_true, if_false, Nat.reduceAdd, Nat.reduceLeDiff, Nat.reduceEqDiff, Nat.reduceLT, Nat.reduceSub, Int.reduceEq, Int.reduceLE, Int.reduceToNat, reduceCtorEq, reduceIte, Nat.reduceBEq, Int.reduceNeg, not_true, not_false_iff, true_and, and_true, true_or, or_true, false_or, or_false, forall_const, implies_true, Nat.le_refl, Int.toNat_natCast, Int.reduceLT, ne_eq, Fin.isValue, Nat.add_zero, nC_hrw, nS_hrw, nC_hwr, nS_hwr, hkd_hrw, hkd_hwr, fin4_0, fin4_1, fin4_2, fin4_3, fin2_0, fin2_1, ci0, ci1, cnn, false_implies, w32_eq, w64_eq, hW.1.q]
  try simp (disch := omega) only [yc_lt, yc_le, yc_gt, yc_ge, yc_eq, w32_eq, w64_eq, tn_add, tn_mul, Int.toNat_natCast, Int.reduceToNat, not_true, not_false_iff, false_implies, forall_const, implies_true]
  repeat' (with_reducible first | apply And.intro | intro _)
  all_goals try omega
  all_goals try simp (disch := omega) only [w32_eq, w64_eq, tn_add, tn_mul, Int.toNat_natCast, Int.reduceToNat, Option.some.injEq, Sum.inr.injEq, Sum.inl.injEq]
  all_goals try omega
  by_cases hvt : 0 ≤ v ∧ v ≤ (sT s : Int)
  · have hw : whyS s st v = whyB (sB s) (sS s) st.1 (byS s st v) := by unfold whyS; rw [if_pos hvt]
    rw [hw]
    refine ClA.pure (c_X0_in_T _ (by omega) (by omega) (by omega) hvt) (by first | exact Nat.le_of_ble_eq_true rfl | (simp only [eD]; omega)) (by first | exact Nat.le_refl _ | (simp only [eG, eD, eC, eS, eQ, eH, nC_hrw, nC_hwr, nS_hrw, nS_hwr, nC_hnw, nS_hnw]; omega)) (by first | exact Nat.le_refl _ | (simp only [eG, eD, eC, eS, eQ, eH, nC_hrw, nC_hwr, nS_hrw, nS_hwr, nC_hnw, nS_hnw]; omega)) ?_
    by_cases hv0 : v = 0
    · have hby : byS s st v = pkS s st := by unfold byS; rw [if_pos hv0]
      rw [hby]
      refine vsA_ok tk_X2_whyNight rfl 20 ?_
      simp only [at_X2_whyNight, mr_X2_whyNight, vsA, vcA, denA, lget, lset, lst1, lst2, lclr, argsA, restA, acats, acat, tcA, tcN, rzA, lle, List.length_cons, List.length_nil, Option.toList_some, Option.toList_none, List.cons_append, List.nil_append, eG, eM, eD, eC, eS, eQ, eH, if_true, if_false, Nat.reduceAdd, Nat.reduceLeDiff, Nat.reduceEqDiff, Nat.reduceLT, Nat.reduceSub, Int.reduceEq, Int.reduceLE, Int.reduceToNat, reduceCtorEq, reduceIte, Nat.reduceBEq, Int.reduceNeg, not_true, not_false_iff, true_and, and_true, true_or, or_true, false_or, or_false, forall_const, implies_true, Nat.le_refl, Int.toNat_natCast, Int.reduceLT, ne_eq, Fin.isValue, Nat.add_zero, nC_hrw, nS_hrw, nC_hwr, nS_hwr, hkd_hrw, hkd_hwr, fin4_0, fin4_1, fin4_2, fin4_3, fin2_0, fin2_1, ci0, ci1, cnn, false_implies, w32_eq, w64_eq, hW.1.q]
      try simp (disch := omega) only [yc_lt, yc_le, yc_gt, yc_ge, yc_eq, w32_eq, w64_eq, tn_add, tn_mul, Int.toNat_natCast, Int.reduceToNat, not_true, not_false_iff, false_implies, forall_const, implies_true]
      repeat' (with_reducible first | apply And.intro | intro _)
      all_goals try omega
      all_goals try simp (disch := omega) only [w32_eq, w64_eq, tn_add, tn_mul, Int.toNat_natCast, Int.reduceToNat, Option.some.injEq, Sum.inr.injEq, Sum.inl.injEq]
      all_goals try omega
      refine ClA.of (c_X2_picked hW hO hN) (by first | exact Nat.le_of_ble_eq_true rfl | (simp only [eD]; omega)) (by first | exact Nat.le_refl _ | (simp only [eG, eD, eC, eS, eQ, eH, nC_hrw, nC_hwr, nS_hrw, nS_hwr, nC_hnw, nS_hnw]; omega)) (by first | exact Nat.le_refl _ | (simp only [eG, eD, eC, eS, eQ, eH, nC_hrw, nC_hwr, nS_hrw, nS_hwr, nC_hnw, nS_hnw]; omega)) ?_
      rintro _ g1 ⟨rfl, hO1⟩ hn1 hn2
      have hW1 := hW.outS hO1
      refine vsA_ok tk_X2_whyNight rfl 20 ?_
      simp only [at_X2_whyNight, mr_X2_whyNight, vsA, vcA, denA, lget, lset, lst1, lst2, lclr, argsA, restA, acats, acat, tcA, tcN, rzA, lle, List.length_cons, List.length_nil, Option.toList_some, Option.toList_none, List.cons_append, List.nil_append, eG, eM, eD, eC, eS, eQ, eH, if_true, if_false, Nat.reduceAdd, Nat.reduceLeDiff, Nat.reduceEqDiff, Nat.reduceLT, Nat.reduceSub, Int.reduceEq, Int.reduceLE, Int.reduceToNat, reduceCtorEq, reduceIte, Nat.reduceBEq, Int.reduceNeg, not_true, not_false_iff, true_and, and_true, true_or, or_true, false_or, or_false, forall_const, implies_true, Nat.le_refl, Int.toNat_natCast, Int.reduceLT, ne_eq, Fin.isValue, Nat.add_zero, nC_hrw, nS_hrw, nC_hwr, nS_hwr, hkd_hrw, hkd_hwr, fin4_0, fin4_1, fin4_2, fin4_3, fin2_0, fin2_1, ci0, ci1, cnn, false_implies, w32_eq, w64_eq, hW1.1.q]
      try simp (disch := omega) only [yc_lt, yc_le, yc_gt, yc_ge, yc_eq, w32_eq, w64_eq, tn_add, tn_mul, Int.toNat_natCast, Int.reduceToNat, not_true, not_false_iff, false_implies, forall_const, implies_true]
      repeat' (with_reducible first | apply And.intro | intro _)
      all_goals try omega
      all_goals try simp (disch := omega) only [w32_eq, w64_eq, tn_add, tn_mul, Int.toNat_natCast, Int.reduceToNat, Option.some.injEq, Sum.inr.injEq, Sum.inl.injEq]
      all_goals try omega
      refine ClA.of (c_X2_whyBy hW1.1 h5 hpi) (by first | exact Nat.le_of_ble_eq_true rfl | (simp only [eD]; omega)) (by first | exact Nat.le_refl _ | (simp only [eG, eD, eC, eS, eQ, eH, nC_hrw, nC_hwr, nS_hrw, nS_hwr, nC_hnw, nS_hnw]; omega)) (by first | exact Nat.le_refl _ | (simp only [eG, eD, eC, eS, eQ, eH, nC_hrw, nC_hwr, nS_hrw, nS_hwr, nC_hnw, nS_hnw]; omega)) ?_
      rintro _ g2 ⟨rfl, hO2⟩ hm1 hm2
      refine vsA_ok tk_X2_whyNight rfl 20 ?_
      simp only [at_X2_whyNight, mr_X2_whyNight, vsA, vcA, denA, lget, lset, lst1, lst2, lclr, argsA, restA, acats, acat, tcA, tcN, rzA, lle, List.length_cons, List.length_nil, Option.toList_some, Option.toList_none, List.cons_append, List.nil_append, eG, eM, eD, eC, eS, eQ, eH, if_true, if_false, Nat.reduceAdd, Nat.reduceLeDiff, Nat.reduceEqDiff, Nat.reduceLT, Nat.reduceSub, Int.reduceEq, Int.reduceLE, Int.reduceToNat, reduceCtorEq, reduceIte, Nat.reduceBEq, Int.reduceNeg, not_true, not_false_iff, true_and, and_true, true_or, or_true, false_or, or_false, forall_const, implies_true, Nat.le_refl, Int.toNat_natCast, Int.reduceLT, ne_eq, Fin.isValue, Nat.add_zero, nC_hrw, nS_hrw, nC_hwr, nS_hwr, hkd_hrw, hkd_hwr, fin4_0, fin4_1, fin4_2, fin4_3, fin2_0, fin2_1, ci0, ci1, cnn, false_implies, w32_eq, w64_eq]
      try simp (disch := omega) only [yc_lt, yc_le, yc_gt, yc_ge, yc_eq, w32_eq, w64_eq, tn_add, tn_mul, Int.toNat_natCast, Int.reduceToNat, not_true, not_false_iff, false_implies, forall_const, implies_true]
      repeat' (with_reducible first | apply And.intro | intro _)
      all_goals try omega
      all_goals try simp (disch := omega) only [w32_eq, w64_eq, tn_add, tn_mul, Int.toNat_natCast, Int.reduceToNat, Option.some.injEq, Sum.inr.injEq, Sum.inl.injEq]
      all_goals try omega
      all_goals first | rfl | exact hO1.tr hO2
    · have hby : byS s st v = v - 1 := by unfold byS; rw [if_neg hv0]
      rw [hby]
      refine vsA_ok tk_X2_whyNight rfl 20 ?_
      simp only [at_X2_whyNight, mr_X2_whyNight, vsA, vcA, denA, lget, lset, lst1, lst2, lclr, argsA, restA, acats, acat, tcA, tcN, rzA, lle, List.length_cons, List.length_nil, Option.toList_some, Option.toList_none, List.cons_append, List.nil_append, eG, eM, eD, eC, eS, eQ, eH, if_true, if_false, Nat.reduceAdd, Nat.reduceLeDiff, Nat.reduceEqDiff, Nat.reduceLT, Nat.reduceSub, Int.reduceEq, Int.reduceLE, Int.reduceToNat, reduceCtorEq, reduceIte, Nat.reduceBEq, Int.reduceNeg, not_true, not_false_iff, true_and, and_true, true_or, or_true, false_or, or_false, forall_const, implies_true, Nat.le_refl, Int.toNat_natCast, Int.reduceLT, ne_eq, Fin.isValue, Nat.add_zero, nC_hrw, nS_hrw, nC_hwr, nS_hwr, hkd_hrw, hkd_hwr, fin4_0, fin4_1, fin4_2, fin4_3, fin2_0, fin2_1, ci0, ci1, cnn, false_implies, w32_eq, w64_eq, hW.1.q]
      try simp (disch := omega) only [yc_lt, yc_le, yc_gt, yc_ge, yc_eq, w32_eq, w64_eq, tn_add, tn_mul, Int.toNat_natCast, Int.reduceToNat, not_true, not_false_iff, false_implies, forall_const, implies_true]
      repeat' (with_reducible first | apply And.intro | intro _)
      all_goals try omega
      all_goals try simp (disch := omega) only [w32_eq, w64_eq, tn_add, tn_mul, Int.toNat_natCast, Int.reduceToNat, Option.some.injEq, Sum.inr.injEq, Sum.inl.injEq]
      all_goals try omega
      refine ClA.of (c_X2_whyBy hW.1 h5 (t := v - 1) (by omega)) (by first | exact Nat.le_of_ble_eq_true rfl | (simp only [eD]; omega)) (by first | exact Nat.le_refl _ | (simp only [eG, eD, eC, eS, eQ, eH, nC_hrw, nC_hwr, nS_hrw, nS_hwr, nC_hnw, nS_hnw]; omega)) (by first | exact Nat.le_refl _ | (simp only [eG, eD, eC, eS, eQ, eH, nC_hrw, nC_hwr, nS_hrw, nS_hwr, nC_hnw, nS_hnw]; omega)) ?_
      rintro _ g2 ⟨rfl, hO2⟩ hm1 hm2
      refine vsA_ok tk_X2_whyNight rfl 20 ?_
      simp only [at_X2_whyNight, mr_X2_whyNight, vsA, vcA, denA, lget, lset, lst1, lst2, lclr, argsA, restA, acats, acat, tcA, tcN, rzA, lle, List.length_cons, List.length_nil, Option.toList_some, Option.toList_none, List.cons_append, List.nil_append, eG, eM, eD, eC, eS, eQ, eH, if_true, if_false, Nat.reduceAdd, Nat.reduceLeDiff, Nat.reduceEqDiff, Nat.reduceLT, Nat.reduceSub, Int.reduceEq, Int.reduceLE, Int.reduceToNat, reduceCtorEq, reduceIte, Nat.reduceBEq, Int.reduceNeg, not_true, not_false_iff, true_and, and_true, true_or, or_true, false_or, or_false, forall_const, implies_true, Nat.le_refl, Int.toNat_natCast, Int.reduceLT, ne_eq, Fin.isValue, Nat.add_zero, nC_hrw, nS_hrw, nC_hwr, nS_hwr, hkd_hrw, hkd_hwr, fin4_0, fin4_1, fin4_2, fin4_3, fin2_0, fin2_1, ci0, ci1, cnn, false_implies, w32_eq, w64_eq]
      try simp (disch := omega) only [yc_lt, yc_le, yc_gt, yc_ge, yc_eq, w32_eq, w64_eq, tn_add, tn_mul, Int.toNat_natCast, Int.reduceToNat, not_true, not_false_iff, false_implies, forall_const, implies_true]
      repeat' (with_reducible first | apply And.intro | intro _)
      all_goals try omega
      all_goals try simp (disch := omega) only [w32_eq, w64_eq, tn_add, tn_mul, Int.toNat_natCast, Int.reduceToNat, Option.some.injEq, Sum.inr.injEq, Sum.inl.injEq]
      all_goals try omega
      all_goals first | rfl | exact hO2
  · have hw : whyS s st v = 1 := by unfold whyS; rw [if_neg hvt]
    rw [hw]
    refine ClA.pure (c_X0_in_F _ (by omega) (by omega) (by omega) hvt) (by first | exact Nat.le_of_ble_eq_true rfl | (simp only [eD]; omega)) (by first | exact Nat.le_refl _ | (simp only [eG, eD, eC, eS, eQ, eH, nC_hrw, nC_hwr, nS_hrw, nS_hwr, nC_hnw, nS_hnw]; omega)) (by first | exact Nat.le_refl _ | (simp only [eG, eD, eC, eS, eQ, eH, nC_hrw, nC_hwr, nS_hrw, nS_hwr, nC_hnw, nS_hnw]; omega)) ?_
    refine vsA_ok tk_X2_whyNight rfl 20 ?_
    simp only [at_X2_whyNight, mr_X2_whyNight, vsA, vcA, denA, lget, lset, lst1, lst2, lclr, argsA, restA, acats, acat, tcA, tcN, rzA, lle, List.length_cons, List.length_nil, Option.toList_some, Option.toList_none, List.cons_append, List.nil_append, eG, eM, eD, eC, eS, eQ, eH, if_true, if_false, Nat.reduceAdd, Nat.reduceLeDiff, Nat.reduceEqDiff, Nat.reduceLT, Nat.reduceSub, Int.reduceEq, Int.reduceLE, Int.reduceToNat, reduceCtorEq, reduceIte, Nat.reduceBEq, Int.reduceNeg, not_true, not_false_iff, true_and, and_true, true_or, or_true, false_or, or_false, forall_const, implies_true, Nat.le_refl, Int.toNat_natCast, Int.reduceLT, ne_eq, Fin.isValue, Nat.add_zero, nC_hrw, nS_hrw, nC_hwr, nS_hwr, hkd_hrw, hkd_hwr, fin4_0, fin4_1, fin4_2, fin4_3, fin2_0, fin2_1, ci0, ci1, cnn, false_implies, w32_eq, w64_eq]
    try simp (disch := omega) only [yc_lt, yc_le, yc_gt, yc_ge, yc_eq, w32_eq, w64_eq, tn_add, tn_mul, Int.toNat_natCast, Int.reduceToNat, not_true, not_false_iff, false_implies, forall_const, implies_true]
    repeat' (with_reducible first | apply And.intro | intro _)
    all_goals try omega
    all_goals try simp (disch := omega) only [w32_eq, w64_eq, tn_add, tn_mul, Int.toNat_natCast, Int.reduceToNat, Option.some.injEq, Sum.inr.injEq, Sum.inl.injEq]
    all_goals try omega
    all_goals exact OutA.rf
theorem c_X2_whyTold {G : GT} {h : AH} {a S : Nat} {s : SP} {st : S3} {N v : Int} (hW : WSL h a S s st) (hO : OKS s N st) (hN : N < 2147483648) (hv : In64 v) :
    CnA G mX2_whyTold 905 0 0 [.inr (.inr ((a : Int))), .inr (.inl (v))] h (fun r h1 => r = some (.inl (toldS s st v)) ∧ OutA (sW a S) h h1) := by
  refine CnA.of rfl (Nat.le_of_ble_eq_true rfl) ?_
  simp only [largs, lpad, mr_X2_whyTold]
  obtain ⟨hv1, hv2⟩ := hv
  refine vsA_ok tk_X2_whyTold rfl 20 ?_
  simp only [at_X2_whyTold, mr_X2_whyTold, vsA, vcA, denA, lget, lset, lst1, lst2, lclr, argsA, restA, acats, acat, tcA, tcN, rzA, lle, List.length_cons, List.length_nil, Option.toList_some, Option.toList_none, List.cons_append, List.nil_append, eG, eM, eD, eC, eS, eQ, eH, if_true, if_false, Nat.reduceAdd, Nat.reduceLeDiff, Nat.reduceEqDiff, Nat.reduceLT, Nat.reduceSub, Int.reduceEq, Int.reduceLE, Int.reduceToNat, reduceCtorEq, reduceIte, Nat.reduceBEq, Int.reduceNeg, not_true, not_false_iff, true_and, and_true, true_or, or_true, false_or, or_false, forall_const, implies_true, Nat.le_refl, Int.toNat_natCast, Int.reduceLT, ne_eq, Fin.isValue, Nat.add_zero, nC_hrw, nS_hrw, nC_hwr, nS_hwr, hkd_hrw, hkd_hwr, fin4_0, fin4_1, fin4_2, fin4_3, fin2_0, fin2_1, ci0, ci1, cnn, false_implies, w32_eq, w64_eq, hW.1.q]
  try simp (disch := omega) only [yc_lt, yc_le, yc_gt, yc_ge, yc_eq, w32_eq, w64_eq, tn_add, tn_mul, Int.toNat_natCast, Int.reduceToNat, not_true, not_false_iff, false_implies, forall_const, implies_true]
  repeat' (with_reducible first | apply And.intro | intro _)
  all_goals try omega
  all_goals try simp (disch := omega) only [w32_eq, w64_eq, tn_add, tn_mul, Int.toNat_natCast, Int.reduceToNat, Option.some.injEq, Sum.inr.injEq, Sum.inl.injEq]
  all_goals try omega
  by_cases h9 : 0 ≤ v ∧ v ≤ 9
  · rw [show toldS s st v = whyS s st v by unfold toldS; rw [if_pos h9]]
    refine ClA.pure (c_X0_in_T _ (by omega) (by omega) (by omega) h9) (by first | exact Nat.le_of_ble_eq_true rfl | (simp only [eD]; omega)) (by first | exact Nat.le_refl _ | (simp only [eG, eD, eC, eS, eQ, eH, nC_hrw, nC_hwr, nS_hrw, nS_hwr, nC_hnw, nS_hnw]; omega)) (by first | exact Nat.le_refl _ | (simp only [eG, eD, eC, eS, eQ, eH, nC_hrw, nC_hwr, nS_hrw, nS_hwr, nC_hnw, nS_hnw]; omega)) ?_
    refine vsA_ok tk_X2_whyTold rfl 20 ?_
    simp only [at_X2_whyTold, mr_X2_whyTold, vsA, vcA, denA, lget, lset, lst1, lst2, lclr, argsA, restA, acats, acat, tcA, tcN, rzA, lle, List.length_cons, List.length_nil, Option.toList_some, Option.toList_none, List.cons_append, List.nil_append, eG, eM, eD, eC, eS, eQ, eH, if_true, if_false, Nat.reduceAdd, Nat.reduceLeDiff, Nat.reduceEqDiff, Nat.reduceLT, Nat.reduceSub, Int.reduceEq, Int.reduceLE, Int.reduceToNat, reduceCtorEq, reduceIte, Nat.reduceBEq, Int.reduceNeg, not_true, not_false_iff, true_and, and_true, true_or, or_true, false_or, or_false, forall_const, implies_true, Nat.le_refl, Int.toNat_natCast, Int.reduceLT, ne_eq, Fin.isValue, Nat.add_zero, nC_hrw, nS_hrw, nC_hwr, nS_hwr, hkd_hrw, hkd_hwr, fin4_0, fin4_1, fin4_2, fin4_3, fin2_0, fin2_1, ci0, ci1, cnn, false_implies, w32_eq, w64_eq, hW.1.q]
    try simp (disch := omega) only [yc_lt, yc_le, yc_gt, yc_ge, yc_eq, w32_eq, w64_eq, tn_add, tn_mul, Int.toNat_natCast, Int.reduceToNat, not_true, not_false_iff, false_implies, forall_const, implies_true]
    repeat' (with_reducible first | apply And.intro | intro _)
    all_goals try omega
    all_goals try simp (disch := omega) only [w32_eq, w64_eq, tn_add, tn_mul, Int.toNat_natCast, Int.reduceToNat, Option.some.injEq, Sum.inr.injEq, Sum.inl.injEq]
    all_goals try omega
    refine ClA.of (c_X2_whyNight hW hO hN ⟨hv1, hv2⟩) (by first | exact Nat.le_of_ble_eq_true rfl | (simp only [eD]; omega)) (by first | exact Nat.le_refl _ | (simp only [eG, eD, eC, eS, eQ, eH, nC_hrw, nC_hwr, nS_hrw, nS_hwr, nC_hnw, nS_hnw]; omega)) (by first | exact Nat.le_refl _ | (simp only [eG, eD, eC, eS, eQ, eH, nC_hrw, nC_hwr, nS_hrw, nS_hwr, nC_hnw, nS_hnw]; omega)) ?_
    rintro _ g1 ⟨rfl, hO1⟩ hn1 hn2
    refine vsA_ok tk_X2_whyTold rfl 20 ?_
    simp only [at_X2_whyTold, mr_X2_whyTold, vsA, vcA, denA, lget, lset, lst1, lst2, lclr, argsA, restA, acats, acat, tcA, tcN, rzA, lle, List.length_cons, List.length_nil, Option.toList_some, Option.toList_none, List.cons_append, List.nil_append, eG, eM, eD, eC, eS, eQ, eH, if_true, if_false, Nat.reduceAdd, Nat.reduceLeDiff, Nat.reduceEqDiff, Nat.reduceLT, Nat.reduceSub, Int.reduceEq, Int.reduceLE, Int.reduceToNat, reduceCtorEq, reduceIte, Nat.reduceBEq, Int.reduceNeg, not_true, not_false_iff, true_and, and_true, true_or, or_true, false_or, or_false, forall_const, implies_true, Nat.le_refl, Int.toNat_natCast, Int.reduceLT, ne_eq, Fin.isValue, Nat.add_zero, nC_hrw, nS_hrw, nC_hwr, nS_hwr, hkd_hrw, hkd_hwr, fin4_0, fin4_1, fin4_2, fin4_3, fin2_0, fin2_1, ci0, ci1, cnn, false_implies, w32_eq, w64_eq, hW.1.q]
    try simp (disch := omega) only [yc_lt, yc_le, yc_gt, yc_ge, yc_eq, w32_eq, w64_eq, tn_add, tn_mul, Int.toNat_natCast, Int.reduceToNat, not_true, not_false_iff, false_implies, forall_const, implies_true]
    repeat' (with_reducible first | apply And.intro | intro _)
    all_goals try omega
    all_goals try simp (disch := omega) only [w32_eq, w64_eq, tn_add, tn_mul, Int.toNat_natCast, Int.reduceToNat, Option.some.injEq, Sum.inr.injEq, Sum.inl.injEq]
    all_goals try omega
    all_goals exact hO1
  · by_cases h19 : 10 ≤ v ∧ v ≤ 19
    · rw [show toldS s st v = 0 by unfold toldS; rw [if_neg h9, if_pos h19]]
      refine ClA.pure (c_X0_in_F _ (by omega) (by omega) (by omega) h9) (by first | exact Nat.le_of_ble_eq_true rfl | (simp only [eD]; omega)) (by first | exact Nat.le_refl _ | (simp only [eG, eD, eC, eS, eQ, eH, nC_hrw, nC_hwr, nS_hrw, nS_hwr, nC_hnw, nS_hnw]; omega)) (by first | exact Nat.le_refl _ | (simp only [eG, eD, eC, eS, eQ, eH, nC_hrw, nC_hwr, nS_hrw, nS_hwr, nC_hnw, nS_hnw]; omega)) ?_
      refine vsA_ok tk_X2_whyTold rfl 20 ?_
      simp only [at_X2_whyTold, mr_X2_whyTold, vsA, vcA, denA, lget, lset, lst1, lst2, lclr, argsA, restA, acats, acat, tcA, tcN, rzA, lle, List.length_cons, List.length_nil, Option.toList_some, Option.toList_none, List.cons_append, List.nil_append, eG, eM, eD, eC, eS, eQ, eH, if_true, if_false, Nat.reduceAdd, Nat.reduceLeDiff, Nat.reduceEqDiff, Nat.reduceLT, Nat.reduceSub, Int.reduceEq, Int.reduceLE, Int.reduceToNat, reduceCtorEq, reduceIte, Nat.reduceBEq, Int.reduceNeg, not_true, not_false_iff, true_and, and_true, true_or, or_true, false_or, or_false, forall_const, implies_true, Nat.le_refl, Int.toNat_natCast, Int.reduceLT, ne_eq, Fin.isValue, Nat.add_zero, nC_hrw, nS_hrw, nC_hwr, nS_hwr, hkd_hrw, hkd_hwr, fin4_0, fin4_1, fin4_2, fin4_3, fin2_0, fin2_1, ci0, ci1, cnn, false_implies, w32_eq, w64_eq, hW.1.q]
      try simp (disch := omega) only [yc_lt, yc_le, yc_gt, yc_ge, yc_eq, w32_eq, w64_eq, tn_add, tn_mul, Int.toNat_natCast, Int.reduceToNat, not_true, not_false_iff, false_implies, forall_const, implies_true]
      repeat' (with_reducible first | apply And.intro | intro _)
      all_goals try omega
      all_goals try simp (disch := omega) only [w32_eq, w64_eq, tn_add, tn_mul, Int.toNat_natCast, Int.reduceToNat, Option.some.injEq, Sum.inr.injEq, Sum.inl.injEq]
      all_goals try omega
      refine ClA.pure (c_X0_in_T _ (by omega) (by omega) (by omega) h19) (by first | exact Nat.le_of_ble_eq_true rfl | (simp only [eD]; omega)) (by first | exact Nat.le_refl _ | (simp only [eG, eD, eC, eS, eQ, eH, nC_hrw, nC_hwr, nS_hrw, nS_hwr, nC_hnw, nS_hnw]; omega)) (by first | exact Nat.le_refl _ | (simp only [eG, eD, eC, eS, eQ, eH, nC_hrw, nC_hwr, nS_hrw, nS_hwr, nC_hnw, nS_hnw]; omega)) ?_
      refine vsA_ok tk_X2_whyTold rfl 20 ?_
      simp only [at_X2_whyTold, mr_X2_whyTold, vsA, vcA, denA, lget, lset, lst1, lst2, lclr, argsA, restA, acats, acat, tcA, tcN, rzA, lle, List.length_cons, List.length_nil, Option.toList_some, Option.toList_none, List.cons_append, List.nil_append, eG, eM, eD, eC, eS, eQ, eH, if_true, if_false, Nat.reduceAdd, Nat.reduceLeDiff, Nat.reduceEqDiff, Nat.reduceLT, Nat.reduceSub, Int.reduceEq, Int.reduceLE, Int.reduceToNat, reduceCtorEq, reduceIte, Nat.reduceBEq, Int.reduceNeg, not_true, not_false_iff, true_and, and_true, true_or, or_true, false_or, or_false, forall_const, implies_true, Nat.le_refl, Int.toNat_natCast, Int.reduceLT, ne_eq, Fin.isValue, Nat.add_zero, nC_hrw, nS_hrw, nC_hwr, nS_hwr, hkd_hrw, hkd_hwr, fin4_0, fin4_1, fin4_2, fin4_3, fin2_0, fin2_1, ci0, ci1, cnn, false_implies, w32_eq, w64_eq, hW.1.q]
      try simp (disch := omega) only [yc_lt, yc_le, yc_gt, yc_ge, yc_eq, w32_eq, w64_eq, tn_add, tn_mul, Int.toNat_natCast, Int.reduceToNat, not_true, not_false_iff, false_implies, forall_const, implies_true]
      repeat' (with_reducible first | apply And.intro | intro _)
      all_goals try omega
      all_goals try simp (disch := omega) only [w32_eq, w64_eq, tn_add, tn_mul, Int.toNat_natCast, Int.reduceToNat, Option.some.injEq, Sum.inr.injEq, Sum.inl.injEq]
      all_goals try omega
      all_goals exact OutA.rf
    · rw [show toldS s st v = 1 by unfold toldS; rw [if_neg h9, if_neg h19]]
      refine ClA.pure (c_X0_in_F _ (by omega) (by omega) (by omega) h9) (by first | exact Nat.le_of_ble_eq_true rfl | (simp only [eD]; omega)) (by first | exact Nat.le_refl _ | (simp only [eG, eD, eC, eS, eQ, eH, nC_hrw, nC_hwr, nS_hrw, nS_hwr, nC_hnw, nS_hnw]; omega)) (by first | exact Nat.le_refl _ | (simp only [eG, eD, eC, eS, eQ, eH, nC_hrw, nC_hwr, nS_hrw, nS_hwr, nC_hnw, nS_hnw]; omega)) ?_
      refine vsA_ok tk_X2_whyTold rfl 20 ?_
      simp only [at_X2_whyTold, mr_X2_whyTold, vsA, vcA, denA, lget, lset, lst1, lst2, lclr, argsA, restA, acats, acat, tcA, tcN, rzA, lle, List.length_cons, List.length_nil, Option.toList_some, Option.toList_none, List.cons_append, List.nil_append, eG, eM, eD, eC, eS, eQ, eH, if_true, if_false, Nat.reduceAdd, Nat.reduceLeDiff, Nat.reduceEqDiff, Nat.reduceLT, Nat.reduceSub, Int.reduceEq, Int.reduceLE, Int.reduceToNat, reduceCtorEq, reduceIte, Nat.reduceBEq, Int.reduceNeg, not_true, not_false_iff, true_and, and_true, true_or, or_true, false_or, or_false, forall_const, implies_true, Nat.le_refl, Int.toNat_natCast, Int.reduceLT, ne_eq, Fin.isValue, Nat.add_zero, nC_hrw, nS_hrw, nC_hwr, nS_hwr, hkd_hrw, hkd_hwr, fin4_0, fin4_1, fin4_2, fin4_3, fin2_0, fin2_1, ci0, ci1, cnn, false_implies, w32_eq, w64_eq, hW.1.q]
      try simp (disch := omega) only [yc_lt, yc_le, yc_gt, yc_ge, yc_eq, w32_eq, w64_eq, tn_add, tn_mul, Int.toNat_natCast, Int.reduceToNat, not_true, not_false_iff, false_implies, forall_const, implies_true]
      repeat' (with_reducible first | apply And.intro | intro _)
      all_goals try omega
      all_goals try simp (disch := omega) only [w32_eq, w64_eq, tn_add, tn_mul, Int.toNat_natCast, Int.reduceToNat, Option.some.injEq, Sum.inr.injEq, Sum.inl.injEq]
      all_goals try omega
      refine ClA.pure (c_X0_in_F _ (by omega) (by omega) (by omega) h19) (by first | exact Nat.le_of_ble_eq_true rfl | (simp only [eD]; omega)) (by first | exact Nat.le_refl _ | (simp only [eG, eD, eC, eS, eQ, eH, nC_hrw, nC_hwr, nS_hrw, nS_hwr, nC_hnw, nS_hnw]; omega)) (by first | exact Nat.le_refl _ | (simp only [eG, eD, eC, eS, eQ, eH, nC_hrw, nC_hwr, nS_hrw, nS_hwr, nC_hnw, nS_hnw]; omega)) ?_
      refine vsA_ok tk_X2_whyTold rfl 20 ?_
      simp only [at_X2_whyTold, mr_X2_whyTold, vsA, vcA, denA, lget, lset, lst1, lst2, lclr, argsA, restA, acats, acat, tcA, tcN, rzA, lle, List.length_cons, List.length_nil, Option.toList_some, Option.toList_none, List.cons_append, List.nil_append, eG, eM, eD, eC, eS, eQ, eH, if_true, if_false, Nat.reduceAdd, Nat.reduceLeDiff, Nat.reduceEqDiff, Nat.reduceLT, Nat.reduceSub, Int.reduceEq, Int.reduceLE, Int.reduceToNat, reduceCtorEq, reduceIte, Nat.reduceBEq, Int.reduceNeg, not_true, not_false_iff, true_and, and_true, true_or, or_true, false_or, or_false, forall_const, implies_true, Nat.le_refl, Int.toNat_natCast, Int.reduceLT, ne_eq, Fin.isValue, Nat.add_zero, nC_hrw, nS_hrw, nC_hwr, nS_hwr, hkd_hrw, hkd_hwr, fin4_0, fin4_1, fin4_2, fin4_3, fin2_0, fin2_1, ci0, ci1, cnn, false_implies, w32_eq, w64_eq, hW.1.q]
      try simp (disch := omega) only [yc_lt, yc_le, yc_gt, yc_ge, yc_eq, w32_eq, w64_eq, tn_add, tn_mul, Int.toNat_natCast, Int.reduceToNat, not_true, not_false_iff, false_implies, forall_const, implies_true]
      repeat' (with_reducible first | apply And.intro | intro _)
      all_goals try omega
      all_goals try simp (disch := omega) only [w32_eq, w64_eq, tn_add, tn_mul, Int.toNat_natCast, Int.reduceToNat, Option.some.injEq, Sum.inr.injEq, Sum.inl.injEq]
      all_goals try omega
      all_goals exact OutA.rf
