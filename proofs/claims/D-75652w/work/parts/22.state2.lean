/-! states: the walk's facts together; lengths and counts of the whole -/
set_option maxRecDepth 100000
/-- a state a over the street at S -/
def WSt (h : AH) (a S T : Nat) (bec : Nat → Nat → List Nat) (std tbl : List Nat) (nights moon : Int) : Prop := StC h a tbl nights moon ∧ StrC h S T bec std ∧ RtC h S
theorem WSt.row {h : AH} {a S T r : Nat} {bec : Nat → Nat → List Nat} {std tbl : List Nat} {nights moon : Int} (hW : WSt h a S T bec std tbl nights moon) (hr : (hkd h r).1 = 101) (f : Nat → Int) : WSt (hrw h r f) a S T bec std tbl nights moon := by
  obtain ⟨⟨⟨k0, k1, k2, k3, k4, k5, k6, k7⟩, hlen, hlv, htb, ht3, hn, hm⟩, hS, r0, r1⟩ := hW
  have n0 : 0 ≠ r := ne_kd r0 hr (by decide)
  have na : a ≠ r := ne_kd k0 hr (by decide)
  have n1 : a + 1 ≠ r := ne_kd (by rw [k5]) hr (by decide)
  have hSK := hS.1
  have s0 : S ≠ r := ne_kd hSK.1 hr (by decide)
  have s1 : S + 1 ≠ r := ne_kd (by rw [hSK.2.2.2.2.2.1]) hr (by decide)
  have s2 : S + 2 ≠ r := ne_kd (by rw [hSK.2.2.2.2.2.2.1]) hr (by decide)
  have s3 : S + 3 ≠ r := ne_kd (by rw [hSK.2.2.2.2.2.2.2.1]) hr (by decide)
  refine ⟨⟨⟨k0, ?_, ?_, ?_, ?_, k5, k6, k7⟩, hlen, ?_, ?_, ht3, ?_, ?_⟩, hS.hrw s0 s1 s2 s3 f, r0, ?_⟩
  · rw [hdt_hrw_n _ _ na]; exact k1
  · rw [hdt_hrw_n _ _ na]; exact k2
  · rw [hdt_hrw_n _ _ na]; exact k3
  · rw [hdt_hrw_n _ _ na]; exact k4
  · rw [hdt_hrw_n _ _ na]; exact hlv
  · rw [hdt_hrw_n _ _ n1]; exact htb
  · rw [hdt_hrw_n _ _ na]; exact hn
  · rw [hdt_hrw_n _ _ na]; exact hm
  · rw [hdt_hrw_n _ _ n0]; exact r1
/-- what a walk reads -/
theorem WSt.q {h : AH} {a S T : Nat} {bec : Nat → Nat → List Nat} {std tbl : List Nat} {nights moon : Int} (hW : WSt h a S T bec std tbl nights moon) :
    (hkd h a).1 = 3 ∧ hdt h a 0 = ((a + 1 : Nat) : Int) ∧ hdt h a 1 = ((a + 2 : Nat) : Int) ∧ hdt h a 2 = ((a + 3 : Nat) : Int) ∧ hdt h a 6 = 0 ∧ hkd h (a + 1) = (100, 60) ∧ hkd h (a + 2) = (101, 366) ∧ hkd h (a + 3) = (101, 366) ∧ hdt h a 3 = (tbl.length : Int) ∧ hdt h a 4 = nights ∧ hdt h a 5 = moon ∧
    (hkd h 0).1 = 1 ∧ hdt h 0 0 = ((S : Nat) : Int) ∧ (hkd h S).1 = 2 ∧ hdt h S 0 = ((S + 1 : Nat) : Int) ∧ hkd h (S + 1) = (100, 12) ∧ hdt h S 4 = (T : Int) ∧ hdt h S 6 = (std.length : Int) := by
  obtain ⟨⟨⟨k0, k1, k2, k3, k4, k5, k6, k7⟩, hlen, hlv, htb, ht3, hn, hm⟩, hS, r0, r1⟩ := hW
  exact ⟨k0, k1, k2, k3, k4, k5, k6, k7, hlv, hn, hm, r0, r1, hS.1.1, hS.1.2.1, hS.1.2.2.2.2.2.1, hS.2.2.1, hS.2.2.2.1⟩
theorem WSt.stand {h : AH} {a S T : Nat} {bec : Nat → Nat → List Nat} {std tbl : List Nat} {nights moon : Int} (hW : WSt h a S T bec std tbl nights moon) {i : Nat} (hi : i < std.length) : hdt h (S + 1) i = ((std.getD i 0 : Nat) : Int) ∧ std.getD i 0 < 6 :=
  ⟨hW.2.1.2.2.2.2.1 i hi, hW.2.1.2.1.2.2.1.2.2 _ (getD_mem hi)⟩
theorem WSt.table {h : AH} {a S T : Nat} {bec : Nat → Nat → List Nat} {std tbl : List Nat} {nights moon : Int} (hW : WSt h a S T bec std tbl nights moon) {k : Nat} (hk : k < tbl.length) : hdt h (a + 1) k = ((tbl.getD k 0 : Nat) : Int) ∧ tbl.getD k 0 < 3 :=
  ⟨hW.1.2.2.2.1 k hk, hW.1.2.2.2.2.1 _ (getD_mem hk)⟩
theorem WSt.sz {h : AH} {a S T : Nat} {bec : Nat → Nat → List Nat} {std tbl : List Nat} {nights moon : Int} (hW : WSt h a S T bec std tbl nights moon) : tbl.length ≤ 60 ∧ 1 ≤ std.length ∧ std.length ≤ 12 ∧ 1 ≤ T ∧ T ≤ 3 :=
  ⟨hW.1.2.1, hW.2.1.2.1.2.2.1.1, hW.2.1.2.1.2.2.1.2.1, hW.2.1.2.1.1, hW.2.1.2.1.2.1⟩
theorem c_X2_allOf {G : GT} {h : AH} {a S T r : Nat} {bec : Nat → Nat → List Nat} {std tbl : List Nat} {nights moon : Int} {w : Nat → Nat} (hW : WSt h a S T bec std tbl nights moon) (hr : r = a + 2 ∨ r = a + 3) (hw : ∀ c, c < 6 → hdt h r c = ((w c : Nat) : Int)) :
    CnA G mX2_allOf 1 0 0 [.inr (.inr (a : Int)), .inr (.inr (r : Int))] h (fun v h1 => v = some (.inr (.inl (((std.map w).sum : Nat) : Int))) ∧ h1 = h) := by
  refine CnA.of rfl (Nat.le_of_ble_eq_true rfl) ?_
  simp only [largs, lpad, mr_X2_allOf]
  have hq := hW.q
  have hs := hW.sz
  have kr : hkd h r = (101, 366) := by rcases hr with rfl | rfl <;> simp only [hq]
  generalize hE : ((G, mX2_allOf, _, _, _, _, h) : EV) = E
  have L1 : ∀ x i, i + x = std.length → ExA E 5 [some (.inr (.inr (a : Int))), some (.inr (.inr (r : Int))), some (.inr (.inl ((((std.take i).map w).sum : Nat) : Int))), none, some (.inl (i : Int))] [] h := by
    intro x
    induction x with
    | zero =>
      intro i hi
      have e : std.take i = std := List.take_of_length_le (by omega)
      rw [e]
      subst hE
      refine vsA_ok tk_X2_allOf rfl 40 ?_
      simp only [at_X2_allOf, mr_X2_allOf, vsA, vcA, denA, lget, lset, lst1, lst2, lclr, argsA, restA, acats, acat, tcA, tcN, rzA, lle, List.length_cons, List.length_nil, Option.toList_some, Option.toList_none, List.cons_append, List.nil_append, eG, eM, eD, eC, eS, eQ, eH, if_true, if_false, Nat.reduceAdd, Nat.reduceLeDiff, Nat.reduceEqDiff, Nat.reduceLT, Nat.reduceSub, Int.reduceEq, Int.reduceLE, Int.reduceToNat, reduceCtorEq, reduceIte, Nat.reduceBEq, Int.reduceNeg, not_true, not_false_iff, true_and, and_true, true_or, or_true, false_or, or_false, forall_const, implies_true, Nat.le_refl, Int.toNat_natCast, Int.reduceLT, ne_eq, Fin.isValue, Nat.add_zero, nC_hrw, nS_hrw, nC_hwr, nS_hwr, hkd_hrw, hkd_hwr, fin4_0, fin4_1, fin4_2, fin4_3, fin2_0, fin2_1, ci0, ci1, cnn, false_implies, w32_eq, w64_eq, hq]
      simp (disch := omega) only [w32_eq]
      exact fun q => absurd (by omega) q
    | succ x ih =>
      intro i hi
      have nx := ih (i + 1) (by omega)
      rw [take_sum w std (by omega)] at nx
      have hst := hW.stand (i := i) (by omega)
      subst hE
      refine vsA_ok tk_X2_allOf rfl 40 ?_
      simp only [at_X2_allOf, mr_X2_allOf, vsA, vcA, denA, lget, lset, lst1, lst2, lclr, argsA, restA, acats, acat, tcA, tcN, rzA, lle, List.length_cons, List.length_nil, Option.toList_some, Option.toList_none, List.cons_append, List.nil_append, eG, eM, eD, eC, eS, eQ, eH, if_true, if_false, Nat.reduceAdd, Nat.reduceLeDiff, Nat.reduceEqDiff, Nat.reduceLT, Nat.reduceSub, Int.reduceEq, Int.reduceLE, Int.reduceToNat, reduceCtorEq, reduceIte, Nat.reduceBEq, Int.reduceNeg, not_true, not_false_iff, true_and, and_true, true_or, or_true, false_or, or_false, forall_const, implies_true, Nat.le_refl, Int.toNat_natCast, Int.reduceLT, ne_eq, Fin.isValue, Nat.add_zero, nC_hrw, nS_hrw, nC_hwr, nS_hwr, hkd_hrw, hkd_hwr, fin4_0, fin4_1, fin4_2, fin4_3, fin2_0, fin2_1, ci0, ci1, cnn, false_implies, w32_eq, w64_eq, hq, hst.1, kr, hw _ hst.2]
      simp (disch := omega) only [w32_eq]
      refine ⟨fun q => absurd q (by omega), fun _ => ?_⟩
      repeat (refine And.intro ?_ ?_; · first | omega | assumption | (simp; done))
      exact nx.weak rfl (by simp [lle] <;> omega)
  have l1 := L1 _ 0 (Nat.zero_add _)
  subst hE
  refine vsA_ok tk_X2_allOf rfl 40 ?_
  simp only [at_X2_allOf, mr_X2_allOf, vsA, vcA, denA, lget, lset, lst1, lst2, lclr, argsA, restA, acats, acat, tcA, tcN, rzA, lle, List.length_cons, List.length_nil, Option.toList_some, Option.toList_none, List.cons_append, List.nil_append, eG, eM, eD, eC, eS, eQ, eH, if_true, if_false, Nat.reduceAdd, Nat.reduceLeDiff, Nat.reduceEqDiff, Nat.reduceLT, Nat.reduceSub, Int.reduceEq, Int.reduceLE, Int.reduceToNat, reduceCtorEq, reduceIte, Nat.reduceBEq, Int.reduceNeg, not_true, not_false_iff, true_and, and_true, true_or, or_true, false_or, or_false, forall_const, implies_true, Nat.le_refl, Int.toNat_natCast, Int.reduceLT, ne_eq, Fin.isValue, Nat.add_zero, nC_hrw, nS_hrw, nC_hwr, nS_hwr, hkd_hrw, hkd_hwr, fin4_0, fin4_1, fin4_2, fin4_3, fin2_0, fin2_1, ci0, ci1, cnn, false_implies, w32_eq, w64_eq]
  exact l1
/-- the lengths of letters, night by night, cut off -/
theorem WSt.child {G : GT} {h : AH} {a S T : Nat} {bec : Nat → Nat → List Nat} {std tbl : List Nat} {nights moon : Int} (hW : WSt h a S T bec std tbl nights moon) {t c i : Nat} (ht : t < 3) (hc : c < 6) (hi : i < (bec t c).length) : CnA G mX1_child 1 0 0 [.inr (.inr (S : Int)), .inl (t : Int), .inl (c : Int), .inl (i : Int)] h (fun r h1 => r = some (.inl ((((bec t c).getD i 0 : Nat)) : Int)) ∧ h1 = h) := c_X1_child hW.2.1 ht hc hi
theorem WSt.bec {h : AH} {a S T : Nat} {bec : Nat → Nat → List Nat} {std tbl : List Nat} {nights moon : Int} (hW : WSt h a S T bec std tbl nights moon) {t c : Nat} (ht : t < 3) (hc : c < 6) : (bec t c).length ≤ 4 ∧ ∀ d ∈ bec t c, d < 6 := hW.2.1.2.1.2.2.2 t c ht hc
abbrev lnW : Nat → Nat := fun _ => 1
abbrev ctW (x : Nat) : Nat → Nat := fun c => if c = x then 1 else 0
theorem sum_swt {bec : Nat → Nat → List Nat} {std tbl : List Nat} (g : Nat → Nat) (hg : ∀ c, g c ≤ 1) (hl : wsm g (wrd bec std tbl) ≤ bigC) : (std.map (swt bigC bec g tbl)).sum = wsm g (wrd bec std tbl) := by
  have e : std.map (swt bigC bec g tbl) = std.map fun d => min bigC (wsm g (exl bec tbl d)) := List.map_congr_left fun d _ => swt_eq bigC bec g (fun c => Nat.le_trans (hg c) (by decide)) tbl d
  rw [e]
  unfold wrd at hl ⊢
  rw [wsm_flatMap] at hl ⊢
  have key : ∀ l : List Nat, (l.map fun d => wsm g (exl bec tbl d)).sum ≤ bigC → (l.map fun d => min bigC (wsm g (exl bec tbl d))).sum = (l.map fun d => wsm g (exl bec tbl d)).sum := by
    intro l
    induction l with
    | nil => intro _; rfl
    | cons x t ih =>
      intro h
      simp only [List.map_cons, List.sum_cons] at h ⊢
      have := ih (by omega)
      omega
  exact key std hl
/-- what a state's questions write: its rows, and the words of the street -/
abbrev sW (a S : Nat) : Nat → Prop := fun b => b = a + 2 ∨ b = a + 3 ∨ b = S + 4
theorem WSt.out {h h1 : AH} {a S T : Nat} {bec : Nat → Nat → List Nat} {std tbl : List Nat} {nights moon : Int} (hW : WSt h a S T bec std tbl nights moon) {A : Nat → Prop} (ho : OutA A h h1) (h0 : ¬ A 0) (ha : ¬ A a) (ha1 : ¬ A (a + 1)) (hS0 : ¬ A S) (hS1 : ¬ A (S + 1)) (hS2 : ¬ A (S + 2)) (hS3 : ¬ A (S + 3)) : WSt h1 a S T bec std tbl nights moon := by
  obtain ⟨hk, hn, hd⟩ := ho
  obtain ⟨hSt, hS, r0, r1⟩ := hW
  refine ⟨?_, hS.same (fun b hb => ⟨hk b, hd b ?_⟩) (hk _), ?_⟩
  · unfold StC StK at hSt ⊢
    simp only [hk, hd a ha, hd (a + 1) ha1]
    exact hSt
  · simp only [List.mem_cons, List.not_mem_nil, or_false] at hb
    rcases hb with rfl | rfl | rfl | rfl <;> assumption
  · exact ⟨by rw [hk]; exact r0, by rw [hd 0 h0]; exact r1⟩
theorem WSt.outS {h h1 : AH} {a S T : Nat} {bec : Nat → Nat → List Nat} {std tbl : List Nat} {nights moon : Int} (hW : WSt h a S T bec std tbl nights moon) (ho : OutA (sW a S) h h1) : WSt h1 a S T bec std tbl nights moon := by
  have hW0 := hW
  obtain ⟨⟨⟨k0, k1, k2, k3, k4, k5, k6, k7⟩, -⟩, ⟨⟨s0, s1, s2, s3, s4, s5, s6, s7, s8⟩, -⟩, r0, -⟩ := hW
  have g : ∀ {b x}, hkd h b = x → x.1 ≠ 101 → x ≠ (100, 5) → ¬ sW a S b := fun {b x} e e1 e2 q => by
    rcases q with q | q | q
    · rw [q, k6] at e
      exact e1 (by rw [← e])
    · rw [q, k7] at e
      exact e1 (by rw [← e])
    · rw [q, s8] at e
      exact e2 e.symm
  have g' : ∀ {b x}, (hkd h b).1 = x → x ≠ 101 → x ≠ 100 → ¬ sW a S b := fun {b x} e e1 e2 => g (x := hkd h b) rfl (by rw [e]; exact e1) (fun q => e2 (by rw [← e, q]))
  exact WSt.out hW0 ho (g' r0 (by decide) (by decide)) (g' k0 (by decide) (by decide)) (g k5 (by decide) (by decide)) (g' s0 (by decide) (by decide)) (g s5 (by decide) (by decide)) (g s6 (by decide) (by decide)) (g s7 (by decide) (by decide))
/-- length(): the length; the row of lengths is laid anew -/
theorem c_X2_length {G : GT} {h : AH} {a S T : Nat} {bec : Nat → Nat → List Nat} {std tbl : List Nat} {nights moon : Int} (hW : WSt h a S T bec std tbl nights moon) (hL : (wrd bec std tbl).length ≤ bigC) :
    CnA G mX2_length 4 0 0 [.inr (.inr (a : Int))] h (fun v h1 => v = some (.inr (.inl (((wrd bec std tbl).length : Nat) : Int))) ∧ OutA (sW a S) h h1) := by
  refine CnA.of rfl (Nat.le_of_ble_eq_true rfl) ?_
  simp only [largs, lpad, mr_X2_length]
  have hq := hW.q
  have hb : bigC = 4000000000000 := rfl
  refine vsA_ok tk_X2_length rfl 40 ?_
  simp only [at_X2_length, mr_X2_length, vsA, vcA, denA, lget, lset, lst1, lst2, lclr, argsA, restA, acats, acat, tcA, tcN, rzA, lle, List.length_cons, List.length_nil, Option.toList_some, Option.toList_none, List.cons_append, List.nil_append, eG, eM, eD, eC, eS, eQ, eH, if_true, if_false, Nat.reduceAdd, Nat.reduceLeDiff, Nat.reduceEqDiff, Nat.reduceLT, Nat.reduceSub, Int.reduceEq, Int.reduceLE, Int.reduceToNat, reduceCtorEq, reduceIte, Nat.reduceBEq, Int.reduceNeg, not_true, not_false_iff, true_and, and_true, true_or, or_true, false_or, or_false, forall_const, implies_true, Nat.le_refl, Int.toNat_natCast, Int.reduceLT, ne_eq, Fin.isValue, Nat.add_zero, nC_hrw, nS_hrw, nC_hwr, nS_hwr, hkd_hrw, hkd_hwr, fin4_0, fin4_1, fin4_2, fin4_3, fin2_0, fin2_1, ci0, ci1, cnn, false_implies, w32_eq, w64_eq, hq]
  repeat (refine And.intro ?_ ?_; · first | omega | assumption | (simp; done))
  refine ClA.of (c_X2_lays (g := lnW) hW.1 hW.2.1 hW.2.2 (Or.inl rfl) (by omega) (fun _ => Nat.le_refl _) (fun c hc => by simp)) (Nat.le_of_ble_eq_true rfl) (Nat.le_refl _) (Nat.le_refl _) ?_
  rintro _ _ ⟨rfl, f, rfl, hf⟩ - -
  have hW1 := hW.row (r := a + 2) (by simp only [hq]) f
  have hq1 := hW1.q
  have hw : ∀ c, c < 6 → hdt (hrw h (a + 2) f) (a + 2) c = ((swt bigC bec lnW tbl c : Nat) : Int) := fun c hc => by
    rw [hdt_hrw_s]
    have := hf 0 c (Nat.zero_le _) hc
    simpa using this
  refine vsA_ok tk_X2_length rfl 40 ?_
  simp only [at_X2_length, mr_X2_length, vsA, vcA, denA, lget, lset, lst1, lst2, lclr, argsA, restA, acats, acat, tcA, tcN, rzA, lle, List.length_cons, List.length_nil, Option.toList_some, Option.toList_none, List.cons_append, List.nil_append, eG, eM, eD, eC, eS, eQ, eH, if_true, if_false, Nat.reduceAdd, Nat.reduceLeDiff, Nat.reduceEqDiff, Nat.reduceLT, Nat.reduceSub, Int.reduceEq, Int.reduceLE, Int.reduceToNat, reduceCtorEq, reduceIte, Nat.reduceBEq, Int.reduceNeg, not_true, not_false_iff, true_and, and_true, true_or, or_true, false_or, or_false, forall_const, implies_true, Nat.le_refl, Int.toNat_natCast, Int.reduceLT, ne_eq, Fin.isValue, Nat.add_zero, nC_hrw, nS_hrw, nC_hwr, nS_hwr, hkd_hrw, hkd_hwr, fin4_0, fin4_1, fin4_2, fin4_3, fin2_0, fin2_1, ci0, ci1, cnn, false_implies, w32_eq, w64_eq, hq1]
  repeat (refine And.intro ?_ ?_; · first | omega | assumption | (simp; done))
  refine ClA.of (c_X2_allOf hW1 (Or.inl rfl) hw) (Nat.le_of_ble_eq_true rfl) (Nat.le_refl _) (Nat.le_refl _) ?_
  rintro _ _ ⟨rfl, rfl⟩ - -
  have e := sum_swt (bec := bec) (std := std) (tbl := tbl) lnW (fun _ => Nat.le_refl _) (by rw [wsm_one]; exact hL)
  rw [wsm_one] at e
  rw [e]
  refine vsA_ok tk_X2_length rfl 40 ?_
  simp only [at_X2_length, mr_X2_length, vsA, vcA, denA, lget, lset, lst1, lst2, lclr, argsA, restA, acats, acat, tcA, tcN, rzA, lle, List.length_cons, List.length_nil, Option.toList_some, Option.toList_none, List.cons_append, List.nil_append, eG, eM, eD, eC, eS, eQ, eH, if_true, if_false, Nat.reduceAdd, Nat.reduceLeDiff, Nat.reduceEqDiff, Nat.reduceLT, Nat.reduceSub, Int.reduceEq, Int.reduceLE, Int.reduceToNat, reduceCtorEq, reduceIte, Nat.reduceBEq, Int.reduceNeg, not_true, not_false_iff, true_and, and_true, true_or, or_true, false_or, or_false, forall_const, implies_true, Nat.le_refl, Int.toNat_natCast, Int.reduceLT, ne_eq, Fin.isValue, Nat.add_zero, nC_hrw, nS_hrw, nC_hwr, nS_hwr, hkd_hrw, hkd_hwr, fin4_0, fin4_1, fin4_2, fin4_3, fin2_0, fin2_1, ci0, ci1, cnn, false_implies, w32_eq, w64_eq]
  exact OutA.row (Or.inl rfl) f
theorem ctW_le (x c : Nat) : ctW x c ≤ 1 := by
  unfold ctW
  split <;> omega
/-- manyOf(letter): how many of a letter there are -/
theorem c_X2_manyOf {G : GT} {h : AH} {a S T x : Nat} {bec : Nat → Nat → List Nat} {std tbl : List Nat} {nights moon : Int} (hW : WSt h a S T bec std tbl nights moon) (hL : (wrd bec std tbl).length ≤ bigC) (hx : x < 6) :
    CnA G mX2_manyOf 4 0 0 [.inr (.inr (a : Int)), .inl (x : Int)] h (fun v h1 => v = some (.inr (.inl (((wrd bec std tbl).count x : Nat) : Int))) ∧ OutA (sW a S) h h1) := by
  refine CnA.of rfl (Nat.le_of_ble_eq_true rfl) ?_
  simp only [largs, lpad, mr_X2_manyOf]
  have hq := hW.q
  have hb : bigC = 4000000000000 := rfl
  refine vsA_ok tk_X2_manyOf rfl 40 ?_
  simp only [at_X2_manyOf, mr_X2_manyOf, vsA, vcA, denA, lget, lset, lst1, lst2, lclr, argsA, restA, acats, acat, tcA, tcN, rzA, lle, List.length_cons, List.length_nil, Option.toList_some, Option.toList_none, List.cons_append, List.nil_append, eG, eM, eD, eC, eS, eQ, eH, if_true, if_false, Nat.reduceAdd, Nat.reduceLeDiff, Nat.reduceEqDiff, Nat.reduceLT, Nat.reduceSub, Int.reduceEq, Int.reduceLE, Int.reduceToNat, reduceCtorEq, reduceIte, Nat.reduceBEq, Int.reduceNeg, not_true, not_false_iff, true_and, and_true, true_or, or_true, false_or, or_false, forall_const, implies_true, Nat.le_refl, Int.toNat_natCast, Int.reduceLT, ne_eq, Fin.isValue, Nat.add_zero, nC_hrw, nS_hrw, nC_hwr, nS_hwr, hkd_hrw, hkd_hwr, fin4_0, fin4_1, fin4_2, fin4_3, fin2_0, fin2_1, ci0, ci1, cnn, false_implies, w32_eq, w64_eq, hq]
  repeat (refine And.intro ?_ ?_; · first | omega | assumption | (simp; done))
  refine ClA.of (c_X2_lays (g := ctW x) hW.1 hW.2.1 hW.2.2 (Or.inr rfl) (by omega) (ctW_le x) (fun c hc => by
    unfold ctW
    by_cases e : c = x
    · rw [if_pos e, if_pos (Or.inr (by omega))]
    · rw [if_neg e, if_neg (by omega)])) (Nat.le_of_ble_eq_true rfl) (Nat.le_refl _) (Nat.le_refl _) ?_
  rintro _ _ ⟨rfl, f, rfl, hf⟩ - -
  have hW1 := hW.row (r := a + 3) (by simp only [hq]) f
  have hq1 := hW1.q
  have hw : ∀ c, c < 6 → hdt (hrw h (a + 3) f) (a + 3) c = ((swt bigC bec (ctW x) tbl c : Nat) : Int) := fun c hc => by
    rw [hdt_hrw_s]
    have := hf 0 c (Nat.zero_le _) hc
    simpa using this
  refine vsA_ok tk_X2_manyOf rfl 40 ?_
  simp only [at_X2_manyOf, mr_X2_manyOf, vsA, vcA, denA, lget, lset, lst1, lst2, lclr, argsA, restA, acats, acat, tcA, tcN, rzA, lle, List.length_cons, List.length_nil, Option.toList_some, Option.toList_none, List.cons_append, List.nil_append, eG, eM, eD, eC, eS, eQ, eH, if_true, if_false, Nat.reduceAdd, Nat.reduceLeDiff, Nat.reduceEqDiff, Nat.reduceLT, Nat.reduceSub, Int.reduceEq, Int.reduceLE, Int.reduceToNat, reduceCtorEq, reduceIte, Nat.reduceBEq, Int.reduceNeg, not_true, not_false_iff, true_and, and_true, true_or, or_true, false_or, or_false, forall_const, implies_true, Nat.le_refl, Int.toNat_natCast, Int.reduceLT, ne_eq, Fin.isValue, Nat.add_zero, nC_hrw, nS_hrw, nC_hwr, nS_hwr, hkd_hrw, hkd_hwr, fin4_0, fin4_1, fin4_2, fin4_3, fin2_0, fin2_1, ci0, ci1, cnn, false_implies, w32_eq, w64_eq, hq1]
  repeat (refine And.intro ?_ ?_; · first | omega | assumption | (simp; done))
  refine ClA.of (c_X2_allOf hW1 (Or.inr rfl) hw) (Nat.le_of_ble_eq_true rfl) (Nat.le_refl _) (Nat.le_refl _) ?_
  rintro _ _ ⟨rfl, rfl⟩ - -
  have e := sum_swt (bec := bec) (std := std) (tbl := tbl) (ctW x) (ctW_le x) (by rw [wsm_cnt]; exact Nat.le_trans List.count_le_length hL)
  rw [wsm_cnt] at e
  rw [e]
  refine vsA_ok tk_X2_manyOf rfl 40 ?_
  simp only [at_X2_manyOf, mr_X2_manyOf, vsA, vcA, denA, lget, lset, lst1, lst2, lclr, argsA, restA, acats, acat, tcA, tcN, rzA, lle, List.length_cons, List.length_nil, Option.toList_some, Option.toList_none, List.cons_append, List.nil_append, eG, eM, eD, eC, eS, eQ, eH, if_true, if_false, Nat.reduceAdd, Nat.reduceLeDiff, Nat.reduceEqDiff, Nat.reduceLT, Nat.reduceSub, Int.reduceEq, Int.reduceLE, Int.reduceToNat, reduceCtorEq, reduceIte, Nat.reduceBEq, Int.reduceNeg, not_true, not_false_iff, true_and, and_true, true_or, or_true, false_or, or_false, forall_const, implies_true, Nat.le_refl, Int.toNat_natCast, Int.reduceLT, ne_eq, Fin.isValue, Nat.add_zero, nC_hrw, nS_hrw, nC_hwr, nS_hwr, hkd_hrw, hkd_hwr, fin4_0, fin4_1, fin4_2, fin4_3, fin2_0, fin2_1, ci0, ci1, cnn, false_implies, w32_eq, w64_eq]
  exact OutA.row (Or.inr (Or.inl rfl)) f
