/-! states: the letter of a place -/
set_option maxRecDepth 100000
theorem swt_len {bec : Nat → Nat → List Nat} (ts : List Nat) (c : Nat) : swt bigC bec lnW ts c = min bigC (exl bec ts c).length := by
  rw [swt_eq bigC bec lnW (fun c => show 1 ≤ bigC by decide), wsm_one]
theorem exl_cons (bec : Nat → Nat → List Nat) {tbl : List Nat} {k : Nat} (hk : k < tbl.length) (c : Nat) : exl bec (tbl.drop k) c = (bec (tbl.getD k 0) c).flatMap (exl bec (tbl.drop (k + 1))) := by
  rw [drop_cons hk]
  rfl
/-- letterAt(place) -/
theorem c_X2_letterAt {G : GT} {h : AH} {a S T p : Nat} {bec : Nat → Nat → List Nat} {std tbl : List Nat} {nights moon : Int} (hW : WSt h a S T bec std tbl nights moon) (hL : (wrd bec std tbl).length ≤ 1000000000000) (hp : p < (wrd bec std tbl).length) :
    CnA G mX2_letterAt 5 0 0 [.inr (.inr (a : Int)), .inr (.inl (p : Int))] h (fun v h1 => v = some (.inl (((wrd bec std tbl).getD p 0 : Nat) : Int)) ∧ OutA (sW a S) h h1) := by
  refine CnA.of rfl (Nat.le_of_ble_eq_true rfl) ?_
  simp only [largs, lpad, mr_X2_letterAt]
  have hb : bigC = 4000000000000 := rfl
  refine vsA_ok tk_X2_letterAt rfl 40 ?_
  simp only [at_X2_letterAt, mr_X2_letterAt, vsA, vcA, denA, lget, lset, lst1, lst2, lclr, argsA, restA, acats, acat, tcA, tcN, rzA, lle, List.length_cons, List.length_nil, Option.toList_some, Option.toList_none, List.cons_append, List.nil_append, eG, eM, eD, eC, eS, eQ, eH, if_true, if_false, Nat.reduceAdd, Nat.reduceLeDiff, Nat.reduceEqDiff, Nat.reduceLT, Nat.reduceSub, Int.reduceEq, Int.reduceLE, Int.reduceToNat, reduceCtorEq, reduceIte, Nat.reduceBEq, Int.reduceNeg, not_true, not_false_iff, true_and, and_true, true_or, or_true, false_or, or_false, forall_const, implies_true, Nat.le_refl, Int.toNat_natCast, Int.reduceLT, ne_eq, Fin.isValue, Nat.add_zero, nC_hrw, nS_hrw, nC_hwr, nS_hwr, hkd_hrw, hkd_hwr, fin4_0, fin4_1, fin4_2, fin4_3, fin2_0, fin2_1, ci0, ci1, cnn, false_implies, w32_eq, w64_eq, hW.q]
  repeat (refine And.intro ?_ ?_; · first | omega | assumption | (simp; done))
  refine ClA.of (c_X2_lays (g := lnW) hW.1 hW.2.1 hW.2.2 (Or.inl rfl) (by omega) (fun _ => Nat.le_refl _) (fun c hc => by simp)) (Nat.le_of_ble_eq_true rfl) (Nat.le_refl _) (Nat.le_refl _) ?_
  rintro _ h1 ⟨rfl, f, he, hf⟩ hn1 hn2
  have hO : OutA (sW a S) h h1 := by rw [he]; exact OutA.row (Or.inl rfl) f
  have hW1 := hW.outS hO
  have hrow : ∀ k c, k ≤ tbl.length → c < 6 → hdt h1 (a + 2) (6 * k + c) = ((min bigC (exl bec (tbl.drop k) c).length : Nat) : Int) := fun k c hk hc => by
    rw [he, hdt_hrw_s, hf k c hk hc, swt_len]
  clear he hf
  have hs := hW1.sz
  have hb6 : ∀ t c, t < 3 → c < 6 → ∀ d ∈ bec t c, d < 6 := fun t c ht hc => (hW1.bec ht hc).2
  generalize hE : ((G, mX2_letterAt, _, _, _, _, h) : EV) = E
  have L2 : ∀ y k x q, k + y = tbl.length → x < 6 → q < (exl bec (tbl.drop k) x).length → (exl bec (tbl.drop k) x).length ≤ 1000000000000 → (wrd bec std tbl).getD p 0 = (exl bec (tbl.drop k) x).getD q 0 →
      ExA E 82 [some (.inr (.inr (a : Int))), some (.inr (.inl (p : Int))), none, some (.inr (.inl (q : Int))), none, none, some (.inl (x : Int)), some (.inl (k : Int)), none] [] h1 := by
    intro y
    induction y with
    | zero =>
      intro k x q hk hx hql hle hw
      have hkl : k = tbl.length := by omega
      subst hkl
      rw [List.drop_length] at hql hw
      have hq0 : q = 0 := by simp [exl] at hql; omega
      subst hq0
      have hw : (wrd bec std tbl).getD p 0 = x := hw
      subst hE
      refine vsA_ok tk_X2_letterAt rfl 40 ?_
      simp only [at_X2_letterAt, mr_X2_letterAt, vsA, vcA, denA, lget, lset, lst1, lst2, lclr, argsA, restA, acats, acat, tcA, tcN, rzA, lle, List.length_cons, List.length_nil, Option.toList_some, Option.toList_none, List.cons_append, List.nil_append, eG, eM, eD, eC, eS, eQ, eH, if_true, if_false, Nat.reduceAdd, Nat.reduceLeDiff, Nat.reduceEqDiff, Nat.reduceLT, Nat.reduceSub, Int.reduceEq, Int.reduceLE, Int.reduceToNat, reduceCtorEq, reduceIte, Nat.reduceBEq, Int.reduceNeg, not_true, not_false_iff, true_and, and_true, true_or, or_true, false_or, or_false, forall_const, implies_true, Nat.le_refl, Int.toNat_natCast, Int.reduceLT, ne_eq, Fin.isValue, Nat.add_zero, nC_hrw, nS_hrw, nC_hwr, nS_hwr, hkd_hrw, hkd_hwr, fin4_0, fin4_1, fin4_2, fin4_3, fin2_0, fin2_1, ci0, ci1, cnn, false_implies, w32_eq, w64_eq, hW1.q, hn1, hn2, hw]
      simp (disch := omega) only [w32_eq]
      refine ⟨fun _ => hO, fun q => absurd (by omega) q⟩
    | succ y ih =>
      intro k x q hk hx hql hle hw
      have htk := hW1.table (k := k) (by omega)
      rw [exl_cons bec (show k < tbl.length by omega)] at hql hw hle
      have L3 : ∀ z c q2, c + z = (bec (tbl.getD k 0) x).length → ((((bec (tbl.getD k 0) x).take c).map fun d => (exl bec (tbl.drop (k + 1)) d).length).sum) + q2 = q →
          ExA E 94 [some (.inr (.inr (a : Int))), some (.inr (.inl (p : Int))), none, some (.inr (.inl (q2 : Int))), none, none, some (.inl (x : Int)), some (.inl (k : Int)), some (.inl (c : Int))] [] h1 := by
        intro z
        induction z with
        | zero =>
          intro c q2 hc hsum
          have hci := fm_in (exl bec (tbl.drop (k + 1))) (bec (tbl.getD k 0) x) (i := c) (p := q) (by omega) hql (by omega)
          omega
        | succ z ihz =>
          intro c q2 hc hsum
          have hci : c < (bec (tbl.getD k 0) x).length := by omega
          have hd6 := (hW1.bec htk.2 hx).2 _ (getD_mem hci)
          have h4 := (hW1.bec htk.2 hx).1
          have hdl := fm_len1 (exl bec (tbl.drop (k + 1))) (getD_mem hci)
          have hch := hW1.child (G := G) htk.2 hx hci
          have hro := hrow (k + 1) _ (by omega) hd6
          have hts := take_sum (fun d => (exl bec (tbl.drop (k + 1)) d).length) (bec (tbl.getD k 0) x) hci
          have hat := fun hh => fm_at (exl bec (tbl.drop (k + 1))) (bec (tbl.getD k 0) x) (i := c) (q := q2) hci hh
          have e2 : (6 * ((k : Int) + 1) + (((bec (tbl.getD k 0) x).getD c 0 : Nat) : Int)).toNat = 6 * (k + 1) + (bec (tbl.getD k 0) x).getD c 0 := by omega
          generalize hd : (bec (tbl.getD k 0) x).getD c 0 = d at *
          have nxt := ih (k + 1) d q2 (by omega) hd6
          have nx3 := fun hh => ihz (c + 1) (q2 - (exl bec (tbl.drop (k + 1)) d).length) (by omega) hh
          subst hE
          refine vsA_ok tk_X2_letterAt rfl 40 ?_
          simp only [at_X2_letterAt, mr_X2_letterAt, vsA, vcA, denA, lget, lset, lst1, lst2, lclr, argsA, restA, acats, acat, tcA, tcN, rzA, lle, List.length_cons, List.length_nil, Option.toList_some, Option.toList_none, List.cons_append, List.nil_append, eG, eM, eD, eC, eS, eQ, eH, if_true, if_false, Nat.reduceAdd, Nat.reduceLeDiff, Nat.reduceEqDiff, Nat.reduceLT, Nat.reduceSub, Int.reduceEq, Int.reduceLE, Int.reduceToNat, reduceCtorEq, reduceIte, Nat.reduceBEq, Int.reduceNeg, not_true, not_false_iff, true_and, and_true, true_or, or_true, false_or, or_false, forall_const, implies_true, Nat.le_refl, Int.toNat_natCast, Int.reduceLT, ne_eq, Fin.isValue, Nat.add_zero, nC_hrw, nS_hrw, nC_hwr, nS_hwr, hkd_hrw, hkd_hwr, fin4_0, fin4_1, fin4_2, fin4_3, fin2_0, fin2_1, ci0, ci1, cnn, false_implies, w32_eq, w64_eq, hW1.q, htk.1]
          repeat (refine And.intro ?_ ?_; · first | omega | assumption | (simp; done))
          refine ClA.pure (hch) (Nat.le_of_ble_eq_true rfl) (Nat.le_of_eq hn1) (Nat.le_of_eq hn2) ?_
          refine vsA_ok tk_X2_letterAt rfl 40 ?_
          simp only [at_X2_letterAt, mr_X2_letterAt, vsA, vcA, denA, lget, lset, lst1, lst2, lclr, argsA, restA, acats, acat, tcA, tcN, rzA, lle, List.length_cons, List.length_nil, Option.toList_some, Option.toList_none, List.cons_append, List.nil_append, eG, eM, eD, eC, eS, eQ, eH, if_true, if_false, Nat.reduceAdd, Nat.reduceLeDiff, Nat.reduceEqDiff, Nat.reduceLT, Nat.reduceSub, Int.reduceEq, Int.reduceLE, Int.reduceToNat, reduceCtorEq, reduceIte, Nat.reduceBEq, Int.reduceNeg, not_true, not_false_iff, true_and, and_true, true_or, or_true, false_or, or_false, forall_const, implies_true, Nat.le_refl, Int.toNat_natCast, Int.reduceLT, ne_eq, Fin.isValue, Nat.add_zero, nC_hrw, nS_hrw, nC_hwr, nS_hwr, hkd_hrw, hkd_hwr, fin4_0, fin4_1, fin4_2, fin4_3, fin2_0, fin2_1, ci0, ci1, cnn, false_implies, w32_eq, w64_eq, hW1.q, htk.1, e2, hro]
          repeat (refine And.intro ?_ ?_; · first | omega | assumption | (simp; done))
          simp only [yc_lt, yc_le, yc_gt, yc_ge, yc_eq]
          simp (disch := omega) only [w64_eq]
          refine ⟨fun hlt => ?_, fun hge => ?_⟩
          · repeat (refine And.intro ?_ ?_; · first | omega | assumption | (simp; done))
            refine ClA.pure (hch) (Nat.le_of_ble_eq_true rfl) (Nat.le_of_eq hn1) (Nat.le_of_eq hn2) ?_
            refine vsA_ok tk_X2_letterAt rfl 40 ?_
            simp only [at_X2_letterAt, mr_X2_letterAt, vsA, vcA, denA, lget, lset, lst1, lst2, lclr, argsA, restA, acats, acat, tcA, tcN, rzA, lle, List.length_cons, List.length_nil, Option.toList_some, Option.toList_none, List.cons_append, List.nil_append, eG, eM, eD, eC, eS, eQ, eH, if_true, if_false, Nat.reduceAdd, Nat.reduceLeDiff, Nat.reduceEqDiff, Nat.reduceLT, Nat.reduceSub, Int.reduceEq, Int.reduceLE, Int.reduceToNat, reduceCtorEq, reduceIte, Nat.reduceBEq, Int.reduceNeg, not_true, not_false_iff, true_and, and_true, true_or, or_true, false_or, or_false, forall_const, implies_true, Nat.le_refl, Int.toNat_natCast, Int.reduceLT, ne_eq, Fin.isValue, Nat.add_zero, nC_hrw, nS_hrw, nC_hwr, nS_hwr, hkd_hrw, hkd_hwr, fin4_0, fin4_1, fin4_2, fin4_3, fin2_0, fin2_1, ci0, ci1, cnn, false_implies, w32_eq, w64_eq, hW1.q]
            have hlt' : q2 < (exl bec (tbl.drop (k + 1)) d).length := by omega
            exact (nxt hlt' (by omega) (by rw [hw, ← hsum, hat hlt'])).weak rfl (by simp [lle] <;> omega)
          · repeat (refine And.intro ?_ ?_; · first | omega | assumption | (simp; done))
            refine ClA.pure (hch) (Nat.le_of_ble_eq_true rfl) (Nat.le_of_eq hn1) (Nat.le_of_eq hn2) ?_
            refine vsA_ok tk_X2_letterAt rfl 40 ?_
            simp only [at_X2_letterAt, mr_X2_letterAt, vsA, vcA, denA, lget, lset, lst1, lst2, lclr, argsA, restA, acats, acat, tcA, tcN, rzA, lle, List.length_cons, List.length_nil, Option.toList_some, Option.toList_none, List.cons_append, List.nil_append, eG, eM, eD, eC, eS, eQ, eH, if_true, if_false, Nat.reduceAdd, Nat.reduceLeDiff, Nat.reduceEqDiff, Nat.reduceLT, Nat.reduceSub, Int.reduceEq, Int.reduceLE, Int.reduceToNat, reduceCtorEq, reduceIte, Nat.reduceBEq, Int.reduceNeg, not_true, not_false_iff, true_and, and_true, true_or, or_true, false_or, or_false, forall_const, implies_true, Nat.le_refl, Int.toNat_natCast, Int.reduceLT, ne_eq, Fin.isValue, Nat.add_zero, nC_hrw, nS_hrw, nC_hwr, nS_hwr, hkd_hrw, hkd_hwr, fin4_0, fin4_1, fin4_2, fin4_3, fin2_0, fin2_1, ci0, ci1, cnn, false_implies, w32_eq, w64_eq, hW1.q, e2, hro]
            repeat (refine And.intro ?_ ?_; · first | omega | assumption | (simp; done))
            exact (nx3 (by rw [hts]; omega)).weak rfl (by simp [lle] <;> omega)
      have l3 := L3 _ 0 q (Nat.zero_add _) (by simp)
      subst hE
      refine vsA_ok tk_X2_letterAt rfl 40 ?_
      simp only [at_X2_letterAt, mr_X2_letterAt, vsA, vcA, denA, lget, lset, lst1, lst2, lclr, argsA, restA, acats, acat, tcA, tcN, rzA, lle, List.length_cons, List.length_nil, Option.toList_some, Option.toList_none, List.cons_append, List.nil_append, eG, eM, eD, eC, eS, eQ, eH, if_true, if_false, Nat.reduceAdd, Nat.reduceLeDiff, Nat.reduceEqDiff, Nat.reduceLT, Nat.reduceSub, Int.reduceEq, Int.reduceLE, Int.reduceToNat, reduceCtorEq, reduceIte, Nat.reduceBEq, Int.reduceNeg, not_true, not_false_iff, true_and, and_true, true_or, or_true, false_or, or_false, forall_const, implies_true, Nat.le_refl, Int.toNat_natCast, Int.reduceLT, ne_eq, Fin.isValue, Nat.add_zero, nC_hrw, nS_hrw, nC_hwr, nS_hwr, hkd_hrw, hkd_hwr, fin4_0, fin4_1, fin4_2, fin4_3, fin2_0, fin2_1, ci0, ci1, cnn, false_implies, w32_eq, w64_eq, hW1.q]
      simp (disch := omega) only [w32_eq]
      refine ⟨fun q => absurd q (by omega), fun _ => l3⟩
  have L1 : ∀ z i q, i + z = std.length → ((std.take i).map fun d => (exl bec tbl d).length).sum + q = p →
      ExA E 14 [some (.inr (.inr (a : Int))), some (.inr (.inl (p : Int))), none, some (.inr (.inl (q : Int))), none, some (.inl (i : Int)), none, none, none] [] h1 := by
    intro z
    induction z with
    | zero =>
      intro i q hi hsum
      have hci := fm_in (exl bec tbl) std (i := i) (p := p) (by omega) hp (by omega)
      omega
    | succ z ihz =>
      intro i q hi hsum
      have hci : i < std.length := by omega
      have hst := hW1.stand hci
      have hdl : (exl bec tbl (std.getD i 0)).length ≤ (wrd bec std tbl).length := fm_len1 (exl bec tbl) (getD_mem hci)
      have hro := hrow 0 (std.getD i 0) (Nat.zero_le _) hst.2
      rw [List.drop_zero, Nat.mul_zero, Nat.zero_add] at hro
      have hts := take_sum (fun d => (exl bec tbl d).length) std hci
      have hat := fun hh => fm_at (exl bec tbl) std (i := i) (q := q) hci hh
      generalize hd : std.getD i 0 = d at *
      have nxt := L2 tbl.length 0 d q (Nat.zero_add _) hst.2
      rw [List.drop_zero] at nxt
      have nx1 := fun hh => ihz (i + 1) (q - (exl bec tbl d).length) (by omega) hh
      subst hE
      refine vsA_ok tk_X2_letterAt rfl 60 ?_
      simp only [at_X2_letterAt, mr_X2_letterAt, vsA, vcA, denA, lget, lset, lst1, lst2, lclr, argsA, restA, acats, acat, tcA, tcN, rzA, lle, List.length_cons, List.length_nil, Option.toList_some, Option.toList_none, List.cons_append, List.nil_append, eG, eM, eD, eC, eS, eQ, eH, if_true, if_false, Nat.reduceAdd, Nat.reduceLeDiff, Nat.reduceEqDiff, Nat.reduceLT, Nat.reduceSub, Int.reduceEq, Int.reduceLE, Int.reduceToNat, reduceCtorEq, reduceIte, Nat.reduceBEq, Int.reduceNeg, not_true, not_false_iff, true_and, and_true, true_or, or_true, false_or, or_false, forall_const, implies_true, Nat.le_refl, Int.toNat_natCast, Int.reduceLT, ne_eq, Fin.isValue, Nat.add_zero, nC_hrw, nS_hrw, nC_hwr, nS_hwr, hkd_hrw, hkd_hwr, fin4_0, fin4_1, fin4_2, fin4_3, fin2_0, fin2_1, ci0, ci1, cnn, false_implies, w32_eq, w64_eq, hW1.q, hst.1, hro]
      repeat (refine And.intro ?_ ?_; · first | omega | assumption | (simp; done))
      simp only [yc_lt, yc_le, yc_gt, yc_ge, yc_eq]
      simp (disch := omega) only [w64_eq]
      refine ⟨fun hlt => ?_, fun hge => ?_⟩
      · repeat (refine And.intro ?_ ?_; · first | omega | assumption | (simp; done))
        have hlt' : q < (exl bec tbl d).length := by omega
        exact (nxt hlt' (by omega) (by rw [← hsum]; exact hat hlt')).weak rfl (by simp [lle] <;> omega)
      · repeat (refine And.intro ?_ ?_; · first | omega | assumption | (simp; done))
        exact (nx1 (by rw [hts]; omega)).weak rfl (by simp [lle] <;> omega)
  have l1 := L1 _ 0 p (Nat.zero_add _) (by simp)
  subst hE
  refine vsA_ok tk_X2_letterAt rfl 40 ?_
  simp only [at_X2_letterAt, mr_X2_letterAt, vsA, vcA, denA, lget, lset, lst1, lst2, lclr, argsA, restA, acats, acat, tcA, tcN, rzA, lle, List.length_cons, List.length_nil, Option.toList_some, Option.toList_none, List.cons_append, List.nil_append, eG, eM, eD, eC, eS, eQ, eH, if_true, if_false, Nat.reduceAdd, Nat.reduceLeDiff, Nat.reduceEqDiff, Nat.reduceLT, Nat.reduceSub, Int.reduceEq, Int.reduceLE, Int.reduceToNat, reduceCtorEq, reduceIte, Nat.reduceBEq, Int.reduceNeg, not_true, not_false_iff, true_and, and_true, true_or, or_true, false_or, or_false, forall_const, implies_true, Nat.le_refl, Int.toNat_natCast, Int.reduceLT, ne_eq, Fin.isValue, Nat.add_zero, nC_hrw, nS_hrw, nC_hwr, nS_hwr, hkd_hrw, hkd_hwr, fin4_0, fin4_1, fin4_2, fin4_3, fin2_0, fin2_1, ci0, ci1, cnn, false_implies, w32_eq, w64_eq, hW1.q]
  exact l1
