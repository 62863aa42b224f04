/-! the system's states: lengths, how many of a letter -/
set_option maxRecDepth 100000
def StK (h : AH) (a : Nat) : Prop := (hkd h a).1 = 3 ∧ hdt h a 0 = ((a + 1 : Nat) : Int) ∧ hdt h a 1 = ((a + 2 : Nat) : Int) ∧ hdt h a 2 = ((a + 3 : Nat) : Int) ∧ hdt h a 6 = 0 ∧ hkd h (a + 1) = (100, 60) ∧ hkd h (a + 2) = (101, 366) ∧ hkd h (a + 3) = (101, 366)
def StC (h : AH) (a : Nat) (tbl : List Nat) (nights moon : Int) : Prop := StK h a ∧ tbl.length ≤ 60 ∧ hdt h a 3 = (tbl.length : Int) ∧ (∀ k, k < tbl.length → hdt h (a + 1) k = ((tbl.getD k 0 : Nat) : Int)) ∧ (∀ t ∈ tbl, t < 3) ∧ hdt h a 4 = nights ∧ hdt h a 5 = moon
/-- the root object: its street -/
def RtC (h : AH) (S : Nat) : Prop := (hkd h 0).1 = 1 ∧ hdt h 0 0 = ((S : Nat) : Int)
abbrev bigC : Nat := 4000000000000
theorem c_X2_lays {G : GT} {h : AH} {a r S T : Nat} {bec : Nat → Nat → List Nat} {std tbl : List Nat} {nights moon letter : Int} {g : Nat → Nat} (hSt : StC h a tbl nights moon) (hS : StrC h S T bec std) (hRt : RtC h S) (hr : r = a + 2 ∨ r = a + 3) (hl : -1 ≤ letter ∧ letter ≤ 5) (hg1 : ∀ c, g c ≤ 1) (hg : ∀ c : Nat, c < 6 → g c = if letter = -1 ∨ letter = (c : Int) then 1 else 0) :
    CnA G mX2_lays 3 0 0 [.inr (.inr (a : Int)), .inr (.inr (r : Int)), .inl letter] h (fun v h1 => v = none ∧ ∃ f, h1 = hrw h r f ∧ ∀ k c, k ≤ tbl.length → c < 6 → f (6 * k + c) = ((swt bigC bec g (tbl.drop k) c : Nat) : Int)) := by
  refine CnA.of rfl (Nat.le_of_ble_eq_true rfl) ?_
  simp only [largs, lpad, mr_X2_lays]
  obtain ⟨⟨k0, k1, k2, k3, k4, k5, k6, k7⟩, hlen, hlv, htb, ht3, -⟩ := hSt
  obtain ⟨r0, r1⟩ := hRt
  have kr : hkd h r = (101, 366) := by rcases hr with rfl | rfl <;> assumption
  have n0 : 0 ≠ r := ne_kd r0 (by rw [kr]) (by decide)
  have na : a ≠ r := ne_kd k0 (by rw [kr]) (by decide)
  have n1 : a + 1 ≠ r := ne_kd (by rw [k5]) (by rw [kr]) (by decide)
  have hSK := hS.1
  have sk0 := hSK.1
  have s0 : S ≠ r := ne_kd hSK.1 (by rw [kr]) (by decide)
  have s1 : S + 1 ≠ r := ne_kd (by rw [hSK.2.2.2.2.2.1]) (by rw [kr]) (by decide)
  have s2 : S + 2 ≠ r := ne_kd (by rw [hSK.2.2.2.2.2.2.1]) (by rw [kr]) (by decide)
  have s3 : S + 3 ≠ r := ne_kd (by rw [hSK.2.2.2.2.2.2.2.1]) (by rw [kr]) (by decide)
  have hgB : ∀ c, g c ≤ bigC := fun c => Nat.le_trans (hg1 c) (by decide)
  have hSr : ∀ f, StrC (hrw h r f) S T bec std := fun f => hS.hrw s0 s1 s2 s3 f
  generalize hE : ((G, mX2_lays, _, _, _, _, h) : EV) = E
  have L3 : ∀ n f, n ≤ tbl.length → (∀ k c, n ≤ k → k ≤ tbl.length → c < 6 → f (6 * k + c) = ((swt bigC bec g (tbl.drop k) c : Nat) : Int)) →
      ExA E 47 [some (.inr (.inr (a : Int))), some (.inr (.inr (r : Int))), some (.inl letter), some (.inl ((n : Int) - 1)), none, none, none, none] [] (hrw h r f) := by
    intro n
    induction n with
    | zero =>
      intro f hn hf
      subst hE
      refine vsA_ok tk_X2_lays rfl 40 ?_
      simp only [at_X2_lays, mr_X2_lays, vsA, vcA, denA, lget, lset, lst1, lst2, lclr, argsA, restA, acats, acat, tcA, tcN, rzA, lle, List.length_cons, List.length_nil, Option.toList_some, Option.toList_none, List.cons_append, List.nil_append, eG, eM, eD, eC, eS, eQ, eH, if_true, if_false, Nat.reduceAdd, Nat.reduceLeDiff, Nat.reduceEqDiff, Nat.reduceLT, Nat.reduceSub, Int.reduceEq, Int.reduceLE, Int.reduceToNat, reduceCtorEq, reduceIte, Nat.reduceBEq, Int.reduceNeg, not_true, not_false_iff, true_and, and_true, true_or, or_true, false_or, or_false, forall_const, implies_true, Nat.le_refl, Int.toNat_natCast, Int.reduceLT, ne_eq, Fin.isValue, Nat.add_zero, nC_hrw, nS_hrw, nC_hwr, nS_hwr, hkd_hrw, hkd_hwr, fin4_0, fin4_1, fin4_2, fin4_3, fin2_0, fin2_1, ci0, ci1, cnn, false_implies, w32_eq, w64_eq]
      simp (disch := omega) only [w32_eq]
      exact ⟨fun _ => ⟨f, rfl, fun k c hk hc => hf k c (Nat.zero_le _) hk hc⟩, fun q => absurd (by omega) q⟩
    | succ n ih =>
      intro f hn hf
      have hnt := ht3 _ (getD_mem (k := n) (l := tbl) (by omega))
      have L2 : ∀ x c f, c + x = 6 → (∀ k d, n < k → k ≤ tbl.length → d < 6 → f (6 * k + d) = ((swt bigC bec g (tbl.drop k) d : Nat) : Int)) → (∀ d, d < c → f (6 * n + d) = ((swt bigC bec g (tbl.drop n) d : Nat) : Int)) →
          ExA E 54 [some (.inr (.inr (a : Int))), some (.inr (.inr (r : Int))), some (.inl letter), some (.inl (n : Int)), some (.inl (c : Int)), none, none, none] [] (hrw h r f) := by
        intro x
        induction x with
        | zero =>
          intro c f hc hf1 hf2
          have := ih f (by omega) (fun k d h1 h2 h3 => by
            by_cases e : k = n
            · subst e
              exact hf2 d (by omega)
            · exact hf1 k d (by omega) h2 h3)
          subst hE
          refine vsA_ok tk_X2_lays rfl 40 ?_
          simp only [at_X2_lays, mr_X2_lays, vsA, vcA, denA, lget, lset, lst1, lst2, lclr, argsA, restA, acats, acat, tcA, tcN, rzA, lle, List.length_cons, List.length_nil, Option.toList_some, Option.toList_none, List.cons_append, List.nil_append, eG, eM, eD, eC, eS, eQ, eH, if_true, if_false, Nat.reduceAdd, Nat.reduceLeDiff, Nat.reduceEqDiff, Nat.reduceLT, Nat.reduceSub, Int.reduceEq, Int.reduceLE, Int.reduceToNat, reduceCtorEq, reduceIte, Nat.reduceBEq, Int.reduceNeg, not_true, not_false_iff, true_and, and_true, true_or, or_true, false_or, or_false, forall_const, implies_true, Nat.le_refl, Int.toNat_natCast, Int.reduceLT, ne_eq, Fin.isValue, Nat.add_zero, nC_hrw, nS_hrw, nC_hwr, nS_hwr, hkd_hrw, hkd_hwr, fin4_0, fin4_1, fin4_2, fin4_3, fin2_0, fin2_1, ci0, ci1, cnn, false_implies, w32_eq, w64_eq]
          simp (disch := omega) only [w32_eq]
          exact ⟨fun _ => this.weak rfl (by simp [lle] <;> omega), fun q => absurd (by omega) q⟩
        | succ x ihx =>
          intro c f hc hf1 hf2
          have L1 : ∀ y i, i + y = (bec (tbl.getD n 0) c).length → ExA E 67 [some (.inr (.inr (a : Int))), some (.inr (.inr (r : Int))), some (.inl letter), some (.inl (n : Int)), some (.inl (c : Int)), some (.inr (.inl ((((bec (tbl.getD n 0) c).take i).map (swt bigC bec g (tbl.drop (n + 1)))).sum : Nat))), none, some (.inl (i : Int))] [] (hrw h r f) := by
            intro y i hi
            have hB := hS.2.1.2.2.2 (tbl.getD n 0) c hnt (by omega)
            have hsum0 : ∀ i, (((bec (tbl.getD n 0) c).take i).map (swt bigC bec g (tbl.drop (n + 1)))).sum ≤ 4 * bigC := by
              intro i
              refine Nat.le_trans (sum_le _ bigC (fun d => swt_le bigC bec g hgB _ d) _) (Nat.mul_le_mul_right _ ?_)
              rw [List.length_take]
              omega
            induction y generalizing i with
            | zero =>
              have hsum := hsum0 i
              have hti : (bec (tbl.getD n 0) c).take i = bec (tbl.getD n 0) c := by rw [List.take_of_length_le (by omega)]
              have nx := ihx (c + 1) (fup f (6 * n + c) ((swt bigC bec g (tbl.drop n) c : Nat) : Int)) (by omega) (fun k d h1 h2 h3 => by
                rw [fup_n _ _ (by omega)]
                exact hf1 k d h1 h2 h3) (fun d hd => by
                by_cases e : d = c
                · subst e
                  rw [fup_s]
                · rw [fup_n _ _ (by omega)]
                  exact hf2 d (by omega))
              subst hE
              refine vsA_ok tk_X2_lays rfl 40 ?_
              simp only [at_X2_lays, mr_X2_lays, vsA, vcA, denA, lget, lset, lst1, lst2, lclr, argsA, restA, acats, acat, tcA, tcN, rzA, lle, List.length_cons, List.length_nil, Option.toList_some, Option.toList_none, List.cons_append, List.nil_append, eG, eM, eD, eC, eS, eQ, eH, if_true, if_false, Nat.reduceAdd, Nat.reduceLeDiff, Nat.reduceEqDiff, Nat.reduceLT, Nat.reduceSub, Int.reduceEq, Int.reduceLE, Int.reduceToNat, reduceCtorEq, reduceIte, Nat.reduceBEq, Int.reduceNeg, not_true, not_false_iff, true_and, and_true, true_or, or_true, false_or, or_false, forall_const, implies_true, Nat.le_refl, Int.toNat_natCast, Int.reduceLT, ne_eq, Fin.isValue, Nat.add_zero, nC_hrw, nS_hrw, nC_hwr, nS_hwr, hkd_hrw, hkd_hwr, fin4_0, fin4_1, fin4_2, fin4_3, fin2_0, fin2_1, ci0, ci1, cnn, false_implies, w32_eq, w64_eq, hdt_hrw_n _ _ na, hdt_hrw_n _ _ n0, hdt_hrw_n _ _ n1, k0, k1, k4, k5, r0, r1, htb n (by omega)]
              repeat (refine And.intro ?_ ?_; · first | omega | assumption | (simp; done))
              refine ClA.pure (c_X1_manyOf (c := c) (hSr f) hnt (by omega)) (Nat.le_of_ble_eq_true rfl) (Nat.le_refl _) (Nat.le_refl _) ?_
              refine vsA_ok tk_X2_lays rfl 40 ?_
              simp only [at_X2_lays, mr_X2_lays, vsA, vcA, denA, lget, lset, lst1, lst2, lclr, argsA, restA, acats, acat, tcA, tcN, rzA, lle, List.length_cons, List.length_nil, Option.toList_some, Option.toList_none, List.cons_append, List.nil_append, eG, eM, eD, eC, eS, eQ, eH, if_true, if_false, Nat.reduceAdd, Nat.reduceLeDiff, Nat.reduceEqDiff, Nat.reduceLT, Nat.reduceSub, Int.reduceEq, Int.reduceLE, Int.reduceToNat, reduceCtorEq, reduceIte, Nat.reduceBEq, Int.reduceNeg, not_true, not_false_iff, true_and, and_true, true_or, or_true, false_or, or_false, forall_const, implies_true, Nat.le_refl, Int.toNat_natCast, Int.reduceLT, ne_eq, Fin.isValue, Nat.add_zero, nC_hrw, nS_hrw, nC_hwr, nS_hwr, hkd_hrw, hkd_hwr, fin4_0, fin4_1, fin4_2, fin4_3, fin2_0, fin2_1, ci0, ci1, cnn, false_implies, w32_eq, w64_eq, k0, k1]
              simp (disch := omega) only [w32_eq]
              refine ⟨fun _ => ?_, fun q => absurd (by omega) q⟩
              repeat (refine And.intro ?_ ?_; · first | omega | assumption | (simp; done))
              refine ClA.pure (c_J2_min _ _ _) (Nat.le_of_ble_eq_true rfl) (Nat.le_refl _) (Nat.le_refl _) ?_
              rw [hti] at hsum ⊢
              have e0 : swt bigC bec g (tbl.drop n) c = min bigC ((bec (tbl.getD n 0) c).map (swt bigC bec g (tbl.drop (n + 1)))).sum := by
                rw [drop_cons (show n < tbl.length by omega)]
                rfl
              have hbig : bigC = 4000000000000 := rfl
              generalize ((bec (tbl.getD n 0) c).map (swt bigC bec g (tbl.drop (n + 1)))).sum = sm at hsum e0 ⊢
              have e1 : (if w64 4000000000000 ≤ w64 (sm : Int) then (4000000000000 : Int) else (sm : Int)) = ((swt bigC bec g (tbl.drop n) c : Nat) : Int) := by
                rw [w64_eq (by omega) (by omega), w64_eq (by omega) (by omega), e0]
                split <;> omega
              rw [e1]
              have e2 : (6 * (n : Int) + (c : Int)).toNat = 6 * n + c := by omega
              refine vsA_ok tk_X2_lays rfl 40 ?_
              simp only [at_X2_lays, mr_X2_lays, vsA, vcA, denA, lget, lset, lst1, lst2, lclr, argsA, restA, acats, acat, tcA, tcN, rzA, lle, List.length_cons, List.length_nil, Option.toList_some, Option.toList_none, List.cons_append, List.nil_append, eG, eM, eD, eC, eS, eQ, eH, if_true, if_false, Nat.reduceAdd, Nat.reduceLeDiff, Nat.reduceEqDiff, Nat.reduceLT, Nat.reduceSub, Int.reduceEq, Int.reduceLE, Int.reduceToNat, reduceCtorEq, reduceIte, Nat.reduceBEq, Int.reduceNeg, not_true, not_false_iff, true_and, and_true, true_or, or_true, false_or, or_false, forall_const, implies_true, Nat.le_refl, Int.toNat_natCast, Int.reduceLT, ne_eq, Fin.isValue, Nat.add_zero, nC_hrw, nS_hrw, nC_hwr, nS_hwr, hkd_hrw, hkd_hwr, fin4_0, fin4_1, fin4_2, fin4_3, fin2_0, fin2_1, ci0, ci1, cnn, false_implies, w32_eq, w64_eq, k0, k1, kr, e2]
              repeat (refine And.intro ?_ ?_; · first | omega | assumption | (simp; done))
              have e3 : hwr (hrw h r f) r (6 * n + c) ((swt bigC bec g (tbl.drop n) c : Nat) : Int) = hrw h r (fup f (6 * n + c) ((swt bigC bec g (tbl.drop n) c : Nat) : Int)) := by
                unfold hwr
                rw [hrw_hrw, hdt_hrw_s]
              rw [e3]
              exact nx.weak rfl (by simp [lle] <;> omega)
            | succ y ihy =>
              have nx := ihy (i + 1) (by omega)
              subst hE
              refine vsA_ok tk_X2_lays rfl 40 ?_
              simp only [at_X2_lays, mr_X2_lays, vsA, vcA, denA, lget, lset, lst1, lst2, lclr, argsA, restA, acats, acat, tcA, tcN, rzA, lle, List.length_cons, List.length_nil, Option.toList_some, Option.toList_none, List.cons_append, List.nil_append, eG, eM, eD, eC, eS, eQ, eH, if_true, if_false, Nat.reduceAdd, Nat.reduceLeDiff, Nat.reduceEqDiff, Nat.reduceLT, Nat.reduceSub, Int.reduceEq, Int.reduceLE, Int.reduceToNat, reduceCtorEq, reduceIte, Nat.reduceBEq, Int.reduceNeg, not_true, not_false_iff, true_and, and_true, true_or, or_true, false_or, or_false, forall_const, implies_true, Nat.le_refl, Int.toNat_natCast, Int.reduceLT, ne_eq, Fin.isValue, Nat.add_zero, nC_hrw, nS_hrw, nC_hwr, nS_hwr, hkd_hrw, hkd_hwr, fin4_0, fin4_1, fin4_2, fin4_3, fin2_0, fin2_1, ci0, ci1, cnn, false_implies, w32_eq, w64_eq, hdt_hrw_n _ _ na, hdt_hrw_n _ _ n0, hdt_hrw_n _ _ n1, k0, k1, k4, k5, r0, r1, htb n (by omega)]
              repeat (refine And.intro ?_ ?_; · first | omega | assumption | (simp; done))
              refine ClA.pure (c_X1_manyOf (c := c) (hSr f) hnt (by omega)) (Nat.le_of_ble_eq_true rfl) (Nat.le_refl _) (Nat.le_refl _) ?_
              refine vsA_ok tk_X2_lays rfl 40 ?_
              simp only [at_X2_lays, mr_X2_lays, vsA, vcA, denA, lget, lset, lst1, lst2, lclr, argsA, restA, acats, acat, tcA, tcN, rzA, lle, List.length_cons, List.length_nil, Option.toList_some, Option.toList_none, List.cons_append, List.nil_append, eG, eM, eD, eC, eS, eQ, eH, if_true, if_false, Nat.reduceAdd, Nat.reduceLeDiff, Nat.reduceEqDiff, Nat.reduceLT, Nat.reduceSub, Int.reduceEq, Int.reduceLE, Int.reduceToNat, reduceCtorEq, reduceIte, Nat.reduceBEq, Int.reduceNeg, not_true, not_false_iff, true_and, and_true, true_or, or_true, false_or, or_false, forall_const, implies_true, Nat.le_refl, Int.toNat_natCast, Int.reduceLT, ne_eq, Fin.isValue, Nat.add_zero, nC_hrw, nS_hrw, nC_hwr, nS_hwr, hkd_hrw, hkd_hwr, fin4_0, fin4_1, fin4_2, fin4_3, fin2_0, fin2_1, ci0, ci1, cnn, false_implies, w32_eq, w64_eq, hdt_hrw_n _ _ na, hdt_hrw_n _ _ n0, hdt_hrw_n _ _ n1, k0, k1, k4, k5, r0, r1, htb n (by omega)]
              simp (disch := omega) only [w32_eq]
              refine ⟨fun q => absurd q (by omega), fun _ => ?_⟩
              repeat (refine And.intro ?_ ?_; · first | omega | assumption | (simp; done))
              refine ClA.pure (c_X1_child (c := c) (hSr f) hnt (by omega) (show i < _ by omega)) (Nat.le_of_ble_eq_true rfl) (Nat.le_refl _) (Nat.le_refl _) ?_
              have hd6 := hB.2 _ (getD_mem (show i < (bec (tbl.getD n 0) c).length by omega))
              have e2 : (6 * ((n : Int) + 1) + (((bec (tbl.getD n 0) c).getD i 0 : Nat) : Int)).toNat = 6 * (n + 1) + (bec (tbl.getD n 0) c).getD i 0 := by omega
              refine vsA_ok tk_X2_lays rfl 40 ?_
              simp only [at_X2_lays, mr_X2_lays, vsA, vcA, denA, lget, lset, lst1, lst2, lclr, argsA, restA, acats, acat, tcA, tcN, rzA, lle, List.length_cons, List.length_nil, Option.toList_some, Option.toList_none, List.cons_append, List.nil_append, eG, eM, eD, eC, eS, eQ, eH, if_true, if_false, Nat.reduceAdd, Nat.reduceLeDiff, Nat.reduceEqDiff, Nat.reduceLT, Nat.reduceSub, Int.reduceEq, Int.reduceLE, Int.reduceToNat, reduceCtorEq, reduceIte, Nat.reduceBEq, Int.reduceNeg, not_true, not_false_iff, true_and, and_true, true_or, or_true, false_or, or_false, forall_const, implies_true, Nat.le_refl, Int.toNat_natCast, Int.reduceLT, ne_eq, Fin.isValue, Nat.add_zero, nC_hrw, nS_hrw, nC_hwr, nS_hwr, hkd_hrw, hkd_hwr, fin4_0, fin4_1, fin4_2, fin4_3, fin2_0, fin2_1, ci0, ci1, cnn, false_implies, w32_eq, w64_eq, k0, k1, kr, e2, hdt_hrw_s, hf1 (n + 1) _ (Nat.lt_succ_self n) (show n + 1 ≤ tbl.length by omega) hd6]
              repeat (refine And.intro ?_ ?_; · first | omega | assumption | (simp; done))
              have e3 := take_sum (swt bigC bec g (tbl.drop (n + 1))) (bec (tbl.getD n 0) c) (show i < _ by omega)
              rw [e3] at nx
              exact nx.weak rfl (by simp [lle] <;> omega)
          have l1 := L1 _ 0 (Nat.zero_add _)
          subst hE
          refine vsA_ok tk_X2_lays rfl 40 ?_
          simp only [at_X2_lays, mr_X2_lays, vsA, vcA, denA, lget, lset, lst1, lst2, lclr, argsA, restA, acats, acat, tcA, tcN, rzA, lle, List.length_cons, List.length_nil, Option.toList_some, Option.toList_none, List.cons_append, List.nil_append, eG, eM, eD, eC, eS, eQ, eH, if_true, if_false, Nat.reduceAdd, Nat.reduceLeDiff, Nat.reduceEqDiff, Nat.reduceLT, Nat.reduceSub, Int.reduceEq, Int.reduceLE, Int.reduceToNat, reduceCtorEq, reduceIte, Nat.reduceBEq, Int.reduceNeg, not_true, not_false_iff, true_and, and_true, true_or, or_true, false_or, or_false, forall_const, implies_true, Nat.le_refl, Int.toNat_natCast, Int.reduceLT, ne_eq, Fin.isValue, Nat.add_zero, nC_hrw, nS_hrw, nC_hwr, nS_hwr, hkd_hrw, hkd_hwr, fin4_0, fin4_1, fin4_2, fin4_3, fin2_0, fin2_1, ci0, ci1, cnn, false_implies, w32_eq, w64_eq]
          simp (disch := omega) only [w32_eq]
          exact ⟨fun q => absurd q (by omega), fun _ => l1⟩
      have l2 := L2 6 0 f rfl (fun k d h1 h2 h3 => hf k d (by omega) h2 h3) (fun d hd => by omega)
      subst hE
      refine vsA_ok tk_X2_lays rfl 40 ?_
      simp only [at_X2_lays, mr_X2_lays, vsA, vcA, denA, lget, lset, lst1, lst2, lclr, argsA, restA, acats, acat, tcA, tcN, rzA, lle, List.length_cons, List.length_nil, Option.toList_some, Option.toList_none, List.cons_append, List.nil_append, eG, eM, eD, eC, eS, eQ, eH, if_true, if_false, Nat.reduceAdd, Nat.reduceLeDiff, Nat.reduceEqDiff, Nat.reduceLT, Nat.reduceSub, Int.reduceEq, Int.reduceLE, Int.reduceToNat, reduceCtorEq, reduceIte, Nat.reduceBEq, Int.reduceNeg, not_true, not_false_iff, true_and, and_true, true_or, or_true, false_or, or_false, forall_const, implies_true, Nat.le_refl, Int.toNat_natCast, Int.reduceLT, ne_eq, Fin.isValue, Nat.add_zero, nC_hrw, nS_hrw, nC_hwr, nS_hwr, hkd_hrw, hkd_hwr, fin4_0, fin4_1, fin4_2, fin4_3, fin2_0, fin2_1, ci0, ci1, cnn, false_implies, w32_eq, w64_eq]
      simp (disch := omega) only [w32_eq]
      exact ⟨fun q => absurd q (by omega), fun _ => l2.weak rfl (by simp [lle] <;> omega)⟩
  have L0 : ∀ x i f, i + x = 6 → (∀ c, c < i → f (6 * tbl.length + c) = ((g c : Nat) : Int)) → ExA E 2 [some (.inr (.inr (a : Int))), some (.inr (.inr (r : Int))), some (.inl letter), some (.inl (i : Int)), none, none, none, none] [] (hrw h r f) := by
    intro x
    induction x with
    | zero =>
      intro i f hi hf
      have nx := L3 tbl.length f (Nat.le_refl _) (fun k c h1 h2 h3 => by
        have : k = tbl.length := by omega
        subst this
        rw [hf c (by omega), List.drop_length]
        rfl)
      subst hE
      refine vsA_ok tk_X2_lays rfl 40 ?_
      simp only [at_X2_lays, mr_X2_lays, vsA, vcA, denA, lget, lset, lst1, lst2, lclr, argsA, restA, acats, acat, tcA, tcN, rzA, lle, List.length_cons, List.length_nil, Option.toList_some, Option.toList_none, List.cons_append, List.nil_append, eG, eM, eD, eC, eS, eQ, eH, if_true, if_false, Nat.reduceAdd, Nat.reduceLeDiff, Nat.reduceEqDiff, Nat.reduceLT, Nat.reduceSub, Int.reduceEq, Int.reduceLE, Int.reduceToNat, reduceCtorEq, reduceIte, Nat.reduceBEq, Int.reduceNeg, not_true, not_false_iff, true_and, and_true, true_or, or_true, false_or, or_false, forall_const, implies_true, Nat.le_refl, Int.toNat_natCast, Int.reduceLT, ne_eq, Fin.isValue, Nat.add_zero, nC_hrw, nS_hrw, nC_hwr, nS_hwr, hkd_hrw, hkd_hwr, fin4_0, fin4_1, fin4_2, fin4_3, fin2_0, fin2_1, ci0, ci1, cnn, false_implies, w32_eq, w64_eq, k0, k1, hlv, hdt_hrw_n _ _ na]
      simp (disch := omega) only [w32_eq]
      refine ⟨fun _ => ?_, fun q => absurd (by omega) q⟩
      repeat (refine And.intro ?_ ?_; · first | omega | assumption | (simp; done))
      exact nx.weak rfl (by simp [lle] <;> omega)
    | succ x ih =>
      intro i f hi hf
      have nx := ih (i + 1) (fup f (6 * tbl.length + i) ((g i : Nat) : Int)) (by omega) (fun c hc => by
        by_cases e : c = i
        · subst e
          rw [fup_s]
        · rw [fup_n _ _ (by omega)]
          exact hf c (by omega))
      have hgi := hg i (by omega)
      subst hE
      have e2 : (6 * (tbl.length : Int) + (i : Int)).toNat = 6 * tbl.length + i := by omega
      have e3 : ∀ v, hwr (hrw h r f) r (6 * tbl.length + i) v = hrw h r (fup f (6 * tbl.length + i) v) := fun v => by
        unfold hwr
        rw [hrw_hrw, hdt_hrw_s]
      refine vsA_ok tk_X2_lays rfl 40 ?_
      simp only [at_X2_lays, mr_X2_lays, vsA, vcA, denA, lget, lset, lst1, lst2, lclr, argsA, restA, acats, acat, tcA, tcN, rzA, lle, List.length_cons, List.length_nil, Option.toList_some, Option.toList_none, List.cons_append, List.nil_append, eG, eM, eD, eC, eS, eQ, eH, if_true, if_false, Nat.reduceAdd, Nat.reduceLeDiff, Nat.reduceEqDiff, Nat.reduceLT, Nat.reduceSub, Int.reduceEq, Int.reduceLE, Int.reduceToNat, reduceCtorEq, reduceIte, Nat.reduceBEq, Int.reduceNeg, not_true, not_false_iff, true_and, and_true, true_or, or_true, false_or, or_false, forall_const, implies_true, Nat.le_refl, Int.toNat_natCast, Int.reduceLT, ne_eq, Fin.isValue, Nat.add_zero, nC_hrw, nS_hrw, nC_hwr, nS_hwr, hkd_hrw, hkd_hwr, fin4_0, fin4_1, fin4_2, fin4_3, fin2_0, fin2_1, ci0, ci1, cnn, false_implies, w32_eq, w64_eq, k0, k1, kr, hlv, hdt_hrw_n _ _ na, e2, e3]
      simp (disch := omega) only [w32_eq]
      refine ⟨fun q => absurd q (by omega), fun _ => ?_⟩
      have hnn : (0 : Int) ≤ 6 * (tbl.length : Int) + (i : Int) ∧ 6 * (tbl.length : Int) + (i : Int) < ((366 : Nat) : Int) := by omega
      refine ⟨fun q1 => ⟨hnn.1, hnn.2, ?_⟩, fun q1 => ⟨fun q2 => ⟨hnn.1, hnn.2, ?_⟩, fun q2 => ⟨hnn.1, hnn.2, ?_⟩⟩⟩
      · rw [if_pos (by omega)] at hgi
        rw [hgi] at nx
        exact nx.weak rfl (by simp [lle] <;> omega)
      · rw [if_neg (by omega)] at hgi
        rw [hgi] at nx
        exact nx.weak rfl (by simp [lle] <;> omega)
      · rw [if_pos (by omega)] at hgi
        rw [hgi] at nx
        exact nx.weak rfl (by simp [lle] <;> omega)
  have l0 := L0 6 0 (hdt h r) rfl (fun c hc => by omega)
  rw [hrw_self] at l0
  subst hE
  refine vsA_ok tk_X2_lays rfl 40 ?_
  simp only [at_X2_lays, mr_X2_lays, vsA, vcA, denA, lget, lset, lst1, lst2, lclr, argsA, restA, acats, acat, tcA, tcN, rzA, lle, List.length_cons, List.length_nil, Option.toList_some, Option.toList_none, List.cons_append, List.nil_append, eG, eM, eD, eC, eS, eQ, eH, if_true, if_false, Nat.reduceAdd, Nat.reduceLeDiff, Nat.reduceEqDiff, Nat.reduceLT, Nat.reduceSub, Int.reduceEq, Int.reduceLE, Int.reduceToNat, reduceCtorEq, reduceIte, Nat.reduceBEq, Int.reduceNeg, not_true, not_false_iff, true_and, and_true, true_or, or_true, false_or, or_false, forall_const, implies_true, Nat.le_refl, Int.toNat_natCast, Int.reduceLT, ne_eq, Fin.isValue, Nat.add_zero, nC_hrw, nS_hrw, nC_hwr, nS_hwr, hkd_hrw, hkd_hwr, fin4_0, fin4_1, fin4_2, fin4_3, fin2_0, fin2_1, ci0, ci1, cnn, false_implies, w32_eq, w64_eq]
  exact l0
