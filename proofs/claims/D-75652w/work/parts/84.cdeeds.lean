/-! THE SYSTEM: what deeds keep -/
set_option maxRecDepth 100000
def stL : List Nat := [6, 10, 16, 20, 24, 28, 32, 36, 40, 44, 48, 52, 116, 120]
theorem rF_st : ∀ a ∈ stL, ∀ q ∈ rFl, q.1 = a → (q.2.1 = 0 ∧ q.2.2 = a + 1) ∨ (q.2.1 = 1 ∧ q.2.2 = a + 2) ∨ (q.2.1 = 2 ∧ q.2.2 = a + 3) ∨ (q.2.1 = 6 ∧ q.2.2 = 0) := by decide +kernel
theorem rF_no : ∀ a ∈ stL, ∀ q ∈ rFl, q.1 ≠ a + 1 ∧ q.1 ≠ a + 2 ∧ q.1 ≠ a + 3 := by decide +kernel
theorem rF_5 : ∀ q ∈ rFl, q.1 ≠ 5 ∧ q.1 < 153 := by decide +kernel
/-- a state was laid anew: what is fixed stays -/
theorem FxA.d {h h1 : AH} {a S : Nat} (hF : FxA h) (ho : OutA (sD a S) h h1) (hS : S = 1 ∨ 153 ≤ S) (ha : a ∈ stL) (hk : StK h1 a) : FxA h1 := by
  refine ⟨by rw [ho.2.1]; exact hF.1, fun i hi => by rw [ho.1]; exact hF.2.1 i hi, fun q hq => ?_⟩
  obtain ⟨-, k1, k2, k3, k4, -⟩ := hk
  by_cases e : q.1 = a
  · rcases rF_st a ha q hq e with ⟨e1, e2⟩ | ⟨e1, e2⟩ | ⟨e1, e2⟩ | ⟨e1, e2⟩
    · rw [e, e1, e2]; exact k1
    · rw [e, e1, e2]; exact k2
    · rw [e, e1, e2]; exact k3
    · rw [e, e1, e2]; exact k4
  · have h1 := rF_no a ha q hq
    have h5 := rF_5 q hq
    rw [ho.2.2 q.1 (fun z => by
      rcases z with z | z | z | z | z <;> omega)]
    exact hF.2.2 q hq
theorem FrX.tr {h h1 h2 : AH} (x : FrX h h1) (y : FrX h1 h2) : FrX h h2 := ⟨Nat.le_trans x.1 y.1, fun b hb => (y.2.1 b (Nat.lt_of_lt_of_le hb x.1)).trans (x.2.1 b hb), fun b b1 b2 => (y.2.2 b b1 b2).trans (x.2.2 b b1 b2)⟩
theorem CqC.tr {h h1 h2 : AH} {w w2 : WD} {S S2 : Nat} {I C I2 C2 : Nat → Nat} (x : CqC h h1 w S I C) (y : CqC h1 h2 w2 S2 I2 C2) : CqC h h2 w2 S2 I2 C2 := ⟨x.1.tr y.1, y.2.1, y.2.2⟩
theorem CqC.trp {h h1 h2 : AH} {w w2 : WD} {S : Nat} {I C : Nat → Nat} (x : CqC h h1 w S I C) (y : CpC h1 h2 w2) : CpC h h2 w2 := ⟨x.1.tr y.1, y.2⟩
/-- deeds: what stands and what can be undone is laid anew -/
theorem CqC.deed {h h1 : AH} {w : WD} {S : Nat} {I C : Nat → Nat} {a : S3} {us : List S3} (hC : CmC h w S I C) (hF : FxA h) (hF1 : FxA h1) (hn : nN h1 = nN h) (hk : ∀ b, hkd h1 b = hkd h b)
    (hd : ∀ b, b ≠ 0 → ¬ (6 ≤ b ∧ b ≤ 13) → ¬ (16 ≤ b ∧ b ≤ 108) → b ≠ S + 4 → hdt h1 b = hdt h b) (h0 : ∀ j, j ∈ [0, 4, 5, 6] → hdt h1 0 j = hdt h 0 j)
    (hs : StC h1 6 a.1 a.2.1 a.2.2) (hu : UndH h1 us) : CqC h h1 (setAU w a us) S I C := by
  obtain ⟨m1, m2, m3, m4, ⟨m8, m9⟩, ⟨m10, m11⟩, m12, m13, m14, m15⟩ := hC
  have hS4 := m1.1.1.2.2.2.2.2.2.2.2
  have hSS := m1.2.2.2.2.1
  have hn4 := m1.2.2.2.2.2
  have h153 := hF.1
  have key : ∀ X q, StlC h X q → StlC h1 X q := fun X q hX => by
    have hXX := hX.2.2.2.2.1
    have hXn := hX.2.2.2.2.2
    obtain ⟨-, -, -, -, -, y1, y2, y3, -⟩ := hX.1.1
    refine hX.keep (Nat.le_of_eq hn.symm) (fun b _ => hk b) fun b hb z => ?_
    have hb4 : b ≠ S + 4 := fun e => by
      rw [e, hS4] at z
      rcases z with z | z | z | z | z
      · exact absurd z (by decide)
      · exact absurd z.2 (by decide)
      · rw [← z, hS4] at y1; exact absurd y1 (by decide)
      · rw [← z, hS4] at y2; exact absurd y2 (by decide)
      · rw [← z, hS4] at y3; exact absurd y3 (by decide)
    have hfix : ∀ b, b < 153 → (6 ≤ b ∧ b ≤ 13 ∨ 16 ≤ b ∧ b ≤ 108 ∨ b = 0) → (kF b).1 ≠ 2 ∧ ¬ (8 ≤ (kF b).1 ∧ (kF b).1 ≤ 14) := by decide +kernel
    have hz : ¬ (6 ≤ b ∧ b ≤ 13 ∨ 16 ≤ b ∧ b ≤ 108 ∨ b = 0) := fun q => by
      have hbb : b < 153 := by omega
      obtain ⟨f1, f2⟩ := hfix b hbb q
      rw [← hF.2.1 b hbb] at f1 f2
      rcases z with z | z | z | z | z
      · exact f1 z
      · exact f2 z
      · omega
      · omega
      · omega
    exact hd b (by omega) (by omega) (by omega) hb4
  have hCt : ∀ t, t < 4 → wT w t ≠ none → hdt h1 (C t) = hdt h (C t) := fun t ht hne => by
    have h2 := (m14 t ht hne).1
    have h3 := m12 t ht
    cases hw : wT w t with
    | none => exact absurd hw hne
    | some q =>
      rw [hw] at h3
      have := h3.2.1
      exact hd _ (by omega) (by omega) (by omega) (fun e => h2 ⟨by omega, by omega⟩)
  have fx : ∀ b, 109 ≤ b → b < 153 → hdt h1 b = hdt h b := fun b b1 b2 => hd b (by omega) (by omega) (by omega) (by omega)
  refine ⟨⟨Nat.le_of_eq hn.symm, fun b _ => hk b, fun b b1 b2 => fx b (by omega) b2⟩, hF1, key S _ m1, by rw [h0 0 (by decide)]; exact m2, hs, hu, ⟨by rw [h0 4 (by decide)]; exact m8, fun j hj => by rw [hd 14 (by omega) (by omega) (by omega) (by omega)]; exact m9 j hj⟩, ⟨by rw [h0 5 (by decide)]; exact m10, by rw [h0 6 (by decide)]; exact m11⟩, fun t ht => ?_, fun i hi => ?_, m14, m15⟩
  · have := m12 t ht
    show TryH h1 t (wT w t) (C t)
    cases hw : wT w t with
    | none =>
      rw [hw] at this
      show hdt h1 (110 + t) 0 = -1
      rw [fx _ (by omega) (by omega)]
      exact this
    | some q =>
      rw [hw] at this
      obtain ⟨a1, a2, a3, a4, a5⟩ := this
      exact ⟨by rw [fx _ (by omega) (by omega)]; exact a1, a2, by rw [hn]; exact a3, by rw [hk]; exact a4, fun i hi => by rw [hCt t ht (by rw [hw]; simp)]; exact a5 i hi⟩
  · have := m13 i hi
    show ImgH h1 i (wI w i) (I i)
    cases hw : wI w i with
    | none =>
      rw [hw] at this
      show hdt h1 114 i = -1
      rw [fx _ (by omega) (by omega)]
      exact this
    | some q =>
      rw [hw] at this
      obtain ⟨a1, a2, a3⟩ := this
      exact ⟨by rw [fx _ (by omega) (by omega)]; exact a1, key _ _ a2, a3.keep (hk _) (hk _) (hk _) (hk _) (fx _ (by omega) (by omega)) (fx _ (by omega) (by omega))⟩
section
variable {G : GT} {h : AH}
theorem c_J2_maxI (a b : Int) (ha : In32 a) (hb : In32 b) : CnA G mJ2_max 1 0 0 [.inl (a), .inl (b)] h (fun r h1 => r = some (.inl (max a b)) ∧ h1 = h) := by
  obtain ⟨ha1, ha2⟩ := ha
  obtain ⟨hb1, hb2⟩ := hb
  refine CnA.ofF (by decide +kernel) (Nat.le_of_ble_eq_true rfl) ?_
  simp only [largs, lpad, mr_J2_max]
  refine vsA_ok tk_J2_max rfl 10 ?_
  simp only [at_J2_max, mr_J2_max, vsA, vcA, denA, lget, lset, lst1, lst2, lclr, argsA, restA, acats, acat, tcA, tcN, rzA, lle, List.length_cons, List.length_nil, Option.toList_some, Option.toList_none, List.cons_append, List.nil_append, eG, eM, eD, eC, eS, eQ, eH, if_true, if_false, Nat.reduceAdd, Nat.reduceLeDiff, Nat.reduceEqDiff, Nat.reduceLT, Nat.reduceSub, Int.reduceEq, Int.reduceLE, Int.reduceToNat, reduceCtorEq, reduceIte, Nat.reduceBEq, Int.reduceNeg, not_true, not_false_iff, true_and, and_true, true_or, or_true, false_or, or_false, forall_const, implies_true, Nat.le_refl, Int.toNat_natCast, Int.reduceLT, ne_eq, Fin.isValue, Nat.add_zero, nC_hrw, nS_hrw, nC_hwr, nS_hwr, hkd_hrw, hkd_hwr, fin4_0, fin4_1, fin4_2, fin4_3, fin2_0, fin2_1, ci0, ci1, cnn, false_implies, w32_eq, w64_eq]
  try simp (disch := omega) only [yc_lt, yc_le, yc_gt, yc_ge, yc_eq, w32_eq, w64_eq, tn_add, tn_mul, Int.toNat_natCast, Int.reduceToNat, not_true, not_false_iff, false_implies, forall_const, implies_true]
  repeat' (with_reducible first | apply And.intro | intro _)
  all_goals try omega
  all_goals try simp (disch := omega) only [w32_eq, w64_eq, tn_add, tn_mul, Int.toNat_natCast, Int.reduceToNat, Option.some.injEq, Sum.inr.injEq, Sum.inl.injEq]
  all_goals try omega
theorem c_J2_minI (a b : Int) (ha : In32 a) (hb : In32 b) : CnA G mJ2_min 1 0 0 [.inl (a), .inl (b)] h (fun r h1 => r = some (.inl (min a b)) ∧ h1 = h) := by
  obtain ⟨ha1, ha2⟩ := ha
  obtain ⟨hb1, hb2⟩ := hb
  refine CnA.ofF (by decide +kernel) (Nat.le_of_ble_eq_true rfl) ?_
  simp only [largs, lpad, mr_J2_min]
  refine vsA_ok tk_J2_min rfl 10 ?_
  simp only [at_J2_min, mr_J2_min, vsA, vcA, denA, lget, lset, lst1, lst2, lclr, argsA, restA, acats, acat, tcA, tcN, rzA, lle, List.length_cons, List.length_nil, Option.toList_some, Option.toList_none, List.cons_append, List.nil_append, eG, eM, eD, eC, eS, eQ, eH, if_true, if_false, Nat.reduceAdd, Nat.reduceLeDiff, Nat.reduceEqDiff, Nat.reduceLT, Nat.reduceSub, Int.reduceEq, Int.reduceLE, Int.reduceToNat, reduceCtorEq, reduceIte, Nat.reduceBEq, Int.reduceNeg, not_true, not_false_iff, true_and, and_true, true_or, or_true, false_or, or_false, forall_const, implies_true, Nat.le_refl, Int.toNat_natCast, Int.reduceLT, ne_eq, Fin.isValue, Nat.add_zero, nC_hrw, nS_hrw, nC_hwr, nS_hwr, hkd_hrw, hkd_hwr, fin4_0, fin4_1, fin4_2, fin4_3, fin2_0, fin2_1, ci0, ci1, cnn, false_implies, w32_eq, w64_eq]
  try simp (disch := omega) only [yc_lt, yc_le, yc_gt, yc_ge, yc_eq, w32_eq, w64_eq, tn_add, tn_mul, Int.toNat_natCast, Int.reduceToNat, not_true, not_false_iff, false_implies, forall_const, implies_true]
  repeat' (with_reducible first | apply And.intro | intro _)
  all_goals try omega
  all_goals try simp (disch := omega) only [w32_eq, w64_eq, tn_add, tn_mul, Int.toNat_natCast, Int.reduceToNat, Option.some.injEq, Sum.inr.injEq, Sum.inl.injEq]
  all_goals try omega
end
