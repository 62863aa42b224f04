/-! the system's streets: what lies in the cells of one, what is read of it -/
set_option maxRecDepth 100000
/-- the street at cell S: its object and its first three arrays -/
def StrK (h : AH) (S : Nat) : Prop := (hkd h S).1 = 2 ∧ hdt h S 0 = ((S + 1 : Nat) : Int) ∧ hdt h S 1 = ((S + 2 : Nat) : Int) ∧ hdt h S 2 = ((S + 3 : Nat) : Int) ∧ hdt h S 3 = ((S + 4 : Nat) : Int) ∧ hkd h (S + 1) = (100, 12) ∧ hkd h (S + 2) = (100, 72) ∧ hkd h (S + 3) = (100, 18) ∧ hkd h (S + 4) = (100, 5)
/-- rules and the first word -/
def BecOK (T : Nat) (bec : Nat → Nat → List Nat) (std : List Nat) : Prop := 1 ≤ T ∧ T ≤ 3 ∧ (1 ≤ std.length ∧ std.length ≤ 12 ∧ ∀ c ∈ std, c < 6) ∧ ∀ t c, t < 3 → c < 6 → (bec t c).length ≤ 4 ∧ ∀ d ∈ bec t c, d < 6
def StrC (h : AH) (S T : Nat) (bec : Nat → Nat → List Nat) (std : List Nat) : Prop := StrK h S ∧ BecOK T bec std ∧ hdt h S 4 = (T : Int) ∧ hdt h S 6 = (std.length : Int) ∧ (∀ i, i < std.length → hdt h (S + 1) i = ((std.getD i 0 : Nat) : Int)) ∧
  (∀ t c, t < 3 → c < 6 → hdt h (S + 3) (6 * t + c) = ((bec t c).length : Int)) ∧ ∀ t c i, t < 3 → c < 6 → i < (bec t c).length → hdt h (S + 2) (4 * (6 * t + c) + i) = (((bec t c).getD i 0 : Nat) : Int)
/-- the cells are as they were -/
def SameA (h h1 : AH) (l : List Nat) : Prop := ∀ b ∈ l, hkd h1 b = hkd h b ∧ hdt h1 b = hdt h b
theorem StrC.same {h h1 : AH} {S T : Nat} {bec : Nat → Nat → List Nat} {std : List Nat} (hS : StrC h S T bec std) (hq : SameA h h1 [S, S + 1, S + 2, S + 3]) (h4 : hkd h1 (S + 4) = hkd h (S + 4)) : StrC h1 S T bec std := by
  obtain ⟨a0, b0⟩ := hq S (by simp)
  obtain ⟨a1, b1⟩ := hq (S + 1) (by simp)
  obtain ⟨a2, b2⟩ := hq (S + 2) (by simp)
  obtain ⟨a3, b3⟩ := hq (S + 3) (by simp)
  unfold StrC StrK at hS ⊢
  rw [a0, a1, a2, a3, b0, b1, b2, b3, h4]
  exact hS
theorem StrC.hrw {h : AH} {S T r : Nat} {bec : Nat → Nat → List Nat} {std : List Nat} (hS : StrC h S T bec std) (n0 : S ≠ r) (n1 : S + 1 ≠ r) (n2 : S + 2 ≠ r) (n3 : S + 3 ≠ r) (f : Nat → Int) : StrC (hrw h r f) S T bec std := by
  refine hS.same (fun b hb => ⟨hkd_hrw _ _ _ _, hdt_hrw_n _ _ ?_⟩) (hkd_hrw _ _ _ _)
  simp only [List.mem_cons, List.not_mem_nil, or_false] at hb
  rcases hb with rfl | rfl | rfl | rfl <;> assumption
theorem c_X1_manyOf {G : GT} {h : AH} {S T t c : Nat} {bec : Nat → Nat → List Nat} {std : List Nat} (hS : StrC h S T bec std) (ht : t < 3) (hc : c < 6) : CnA G mX1_manyOf 1 0 0 [.inr (.inr (S : Int)), .inl (t : Int), .inl (c : Int)] h (fun r h1 => r = some (.inl ((bec t c).length : Int)) ∧ h1 = h) := by
  refine CnA.of rfl (Nat.le_of_ble_eq_true rfl) ?_
  simp only [largs, lpad, mr_X1_manyOf]
  refine vsA_ok tk_X1_manyOf rfl 40 ?_
  simp only [at_X1_manyOf, mr_X1_manyOf, vsA, vcA, denA, lget, lset, lst1, lst2, lclr, argsA, restA, acats, acat, tcA, tcN, rzA, lle, List.length_cons, List.length_nil, Option.toList_some, Option.toList_none, List.cons_append, List.nil_append, eG, eM, eD, eC, eS, eQ, eH, if_true, if_false, Nat.reduceAdd, Nat.reduceLeDiff, Nat.reduceEqDiff, Nat.reduceLT, Nat.reduceSub, Int.reduceEq, Int.reduceLE, Int.reduceToNat, reduceCtorEq, reduceIte, Nat.reduceBEq, Int.reduceNeg, not_true, not_false_iff, true_and, and_true, true_or, or_true, false_or, or_false, forall_const, implies_true, Nat.le_refl, Int.toNat_natCast, Int.reduceLT, ne_eq, Fin.isValue, Nat.add_zero, nC_hrw, nS_hrw, nC_hwr, nS_hwr, hkd_hrw, hkd_hwr, fin4_0, fin4_1, fin4_2, fin4_3, fin2_0, fin2_1, ci0, ci1, cnn, false_implies, w32_eq, w64_eq]
  obtain ⟨⟨k1, k2, k3, k4, k5, k6, k7, k8, k9⟩, hB, -, -, -, hM, -⟩ := hS
  have e1 : (6 * (t : Int) + c).toNat = 6 * t + c := by omega
  simp only [k1, k4, k8, e1, Int.toNat_natCast, hM t c ht hc]
  simp
  omega
theorem c_X1_child {G : GT} {h : AH} {S T t c i : Nat} {bec : Nat → Nat → List Nat} {std : List Nat} (hS : StrC h S T bec std) (ht : t < 3) (hc : c < 6) (hi : i < (bec t c).length) : CnA G mX1_child 1 0 0 [.inr (.inr (S : Int)), .inl (t : Int), .inl (c : Int), .inl (i : Int)] h (fun r h1 => r = some (.inl ((((bec t c).getD i 0 : Nat)) : Int)) ∧ h1 = h) := by
  refine CnA.of rfl (Nat.le_of_ble_eq_true rfl) ?_
  simp only [largs, lpad, mr_X1_child]
  refine vsA_ok tk_X1_child rfl 40 ?_
  simp only [at_X1_child, mr_X1_child, vsA, vcA, denA, lget, lset, lst1, lst2, lclr, argsA, restA, acats, acat, tcA, tcN, rzA, lle, List.length_cons, List.length_nil, Option.toList_some, Option.toList_none, List.cons_append, List.nil_append, eG, eM, eD, eC, eS, eQ, eH, if_true, if_false, Nat.reduceAdd, Nat.reduceLeDiff, Nat.reduceEqDiff, Nat.reduceLT, Nat.reduceSub, Int.reduceEq, Int.reduceLE, Int.reduceToNat, reduceCtorEq, reduceIte, Nat.reduceBEq, Int.reduceNeg, not_true, not_false_iff, true_and, and_true, true_or, or_true, false_or, or_false, forall_const, implies_true, Nat.le_refl, Int.toNat_natCast, Int.reduceLT, ne_eq, Fin.isValue, Nat.add_zero, nC_hrw, nS_hrw, nC_hwr, nS_hwr, hkd_hrw, hkd_hwr, fin4_0, fin4_1, fin4_2, fin4_3, fin2_0, fin2_1, ci0, ci1, cnn, false_implies, w32_eq, w64_eq]
  obtain ⟨⟨k1, k2, k3, k4, k5, k6, k7, k8, k9⟩, hB, -, -, -, hM, hch⟩ := hS
  have e1 : (4 * (6 * (t : Int) + c) + i).toNat = 4 * (6 * t + c) + i := by omega
  have h4 := (hB.2.2.2 t c ht hc).1
  simp only [k1, k3, k7, e1, Int.toNat_natCast, hch t c i ht hc hi]
  simp
  omega
