/-! THE REFERENCE: rows of nights that come to a length; by turns -/
set_option maxRecDepth 100000
theorem smN_congr {f g : Nat → Nat} : ∀ n, (∀ i, i < n → f i = g i) → smN f n = smN g n
  | 0, _ => rfl
  | n + 1, h => by
    show smN f n + f n = smN g n + g n
    rw [smN_congr n fun i hi => h i (by omega), h n (by omega)]
theorem smN_le {f g : Nat → Nat} : ∀ n, (∀ i, i < n → f i ≤ g i) → smN f n ≤ smN g n
  | 0, _ => Nat.le_refl _
  | n + 1, h => Nat.add_le_add (smN_le n fun i hi => h i (by omega)) (h n (by omega))
theorem smN_add (f g : Nat → Nat) : ∀ n, smN (fun i => f i + g i) n = smN f n + smN g n
  | 0 => rfl
  | n + 1 => by
    show smN _ n + (f n + g n) = smN f n + f n + (smN g n + g n)
    rw [smN_add f g n]
    omega
theorem smN_mul (k : Nat) (f : Nat → Nat) : ∀ n, smN (fun i => k * f i) n = k * smN f n
  | 0 => rfl
  | n + 1 => by
    show smN _ n + k * f n = k * (smN f n + f n)
    rw [smN_mul k f n, Nat.mul_add]
theorem smN_swap (q : Nat → Nat → Nat) (m : Nat) : ∀ n, smN (fun d => smN (fun c => q c d) m) n = smN (fun c => smN (q c) n) m
  | 0 => by
    show 0 = _
    have : ∀ m, smN (fun c => smN (q c) 0) m = 0 := by
      intro m
      induction m with
      | zero => rfl
      | succ m ih => show smN _ m + 0 = 0; rw [ih]
    exact (this m).symm
  | n + 1 => by
    show smN _ n + smN (fun c => q c n) m = smN (fun c => smN (q c) n + q c n) m
    rw [smN_swap q m n, smN_add]
theorem smN_cnt (l : List Nat) : ∀ n, smN (fun d => l.count d) n ≤ l.length := by
  induction l with
  | nil =>
    intro n
    have : smN (fun d => ([] : List Nat).count d) n = 0 := by
      induction n with
      | zero => rfl
      | succ n ih => show smN _ n + 0 = 0; rw [ih]
    omega
  | cons x t ih =>
    intro n
    have h1 : smN (fun d => (x :: t).count d) n = smN (fun d => t.count d) n + smN (fun d => if x = d then 1 else 0) n := by
      rw [← smN_add]
      exact smN_congr n fun i _ => by rw [List.count_cons]; simp
    have h2 : ∀ n, smN (fun d => if x = d then 1 else 0) n ≤ 1 ∧ (n ≤ x → smN (fun d => if x = d then 1 else 0) n = 0) := by
      intro n
      induction n with
      | zero => exact ⟨Nat.zero_le _, fun _ => rfl⟩
      | succ n ih2 =>
        constructor
        · show smN _ n + (if x = n then 1 else 0) ≤ 1
          split
          next e => rw [ih2.2 (by omega)]; omega
          next => exact ih2.1
        · intro q
          show smN _ n + (if x = n then 1 else 0) = 0
          rw [if_neg (by omega), ih2.2 (by omega)]
    have := ih n
    have := (h2 n).1
    rw [h1, List.length_cons]
    omega
theorem lnV_nx {bec : Nat → Nat → List Nat} {t : Nat} (hb : ∀ c, c < 6 → (bec t c).length ≤ 4) (v : Nat → Nat) : lnV (nxV bec t v) ≤ 4 * lnV v := by
  unfold lnV nxV
  rw [smN_swap, ← smN_mul]
  refine smN_le 6 fun c hc => ?_
  rw [smN_mul, Nat.mul_comm 4]
  exact Nat.mul_le_mul_left _ (Nat.le_trans (smN_cnt _ 6) (hb c hc))
/-- how many rows of so many nights come to a length -/
def rwsP (bec : Nat → Nat → List Nat) (T : Nat) (n : Int) : Nat → (Nat → Nat) → Nat
  | 0, v => if ((lnV v : Nat) : Int) = n then 1 else 0
  | k + 1, v => smN (fun t => rwsP bec T n k (nxV bec t v)) T
theorem rwsP_le (bec : Nat → Nat → List Nat) {T : Nat} (hT : T ≤ 3) (n : Int) : ∀ (k : Nat) (v : Nat → Nat), rwsP bec T n k v ≤ 3 ^ k
  | 0, v => by unfold rwsP; split <;> simp
  | k + 1, v => by
    have h1 : smN (fun t => rwsP bec T n k (nxV bec t v)) T ≤ smN (fun _ => 3 ^ k) T := smN_le T fun t _ => rwsP_le bec hT n k _
    have h2 : ∀ m, smN (fun _ => 3 ^ k) m = m * 3 ^ k := by
      intro m
      induction m with
      | zero => simp [smN]
      | succ m ih => show smN _ m + 3 ^ k = _; rw [ih, Nat.add_mul, Nat.one_mul]
    have h3 : T * 3 ^ k ≤ 3 * 3 ^ k := Nat.mul_le_mul_right _ hT
    show smN (fun t => rwsP bec T n k (nxV bec t v)) T ≤ 3 ^ (k + 1)
    rw [Nat.pow_succ, Nat.mul_comm (3 ^ k)]
    rw [h2] at h1
    omega
/-- the best of those that are told in turn -/
def trB (g : Nat) (F : Nat → Nat) : Nat → Nat
  | 0 => 0
  | t + 1 => if t = 0 ∨ g % 2 = 0 ∧ trB g F t < F t ∨ g % 2 = 1 ∧ F t < trB g F t then F t else trB g F t
def trnP (bec : Nat → Nat → List Nat) (T : Nat) : Nat → Nat → (Nat → Nat) → Nat
  | 0, _, v => lnV v
  | k + 1, g, v => trB g (fun t => trnP bec T k (g + 1) (nxV bec t v)) T
theorem trB_le {g B : Nat} {F : Nat → Nat} : ∀ T, (∀ t, t < T → F t ≤ B) → trB g F T ≤ B
  | 0, _ => Nat.zero_le _
  | t + 1, h => by
    unfold trB
    split
    · exact h t (by omega)
    · exact trB_le t fun i hi => h i (by omega)
theorem trnP_le {bec : Nat → Nat → List Nat} {T : Nat} (hb : ∀ t c, t < T → c < 6 → (bec t c).length ≤ 4) : ∀ (k g : Nat) (v : Nat → Nat), trnP bec T k g v ≤ lnV v * 4 ^ k
  | 0, g, v => by simp [trnP]
  | k + 1, g, v => by
    refine trB_le T fun t ht => ?_
    have h1 := trnP_le hb k (g + 1) (nxV bec t v)
    have h2 := lnV_nx (hb t · ht) v
    have h3 := Nat.mul_le_mul_right (4 ^ k) h2
    have h4 : 4 * lnV v * 4 ^ k = lnV v * 4 ^ (k + 1) := by rw [Nat.pow_succ, Nat.mul_comm 4, Nat.mul_assoc, Nat.mul_comm 4]
    omega
section
variable {G : GT} {T : Nat} {bec : Nat → Nat → List Nat} {std tbl : List Nat} {nights moon : Int}
theorem nx_bd {bec : Nat → Nat → List Nat} {t : Nat} {v : Nat → Nat} {k : Nat} (hb : ∀ c, c < 6 → (bec t c).length ≤ 4) (h : lnV v * 4 ^ (k + 1) ≤ 1000000000000000000) : lnV (nxV bec t v) * 4 ^ k ≤ 1000000000000000000 := by
  have h3 := Nat.mul_le_mul_right (4 ^ k) (lnV_nx hb v)
  have h4 : 4 * lnV v * 4 ^ k = lnV v * 4 ^ (k + 1) := by rw [Nat.pow_succ, Nat.mul_comm 4, Nat.mul_assoc, Nat.mul_comm 4]
  omega
theorem ln_bd {v : Nat → Nat} {k : Nat} (h : lnV v * 4 ^ k ≤ 1000000000000000000) : lnV v ≤ 1000000000000000000 := by
  have h1 : 0 < 4 ^ k := Nat.pos_of_ne_zero (by simp)
  have h2 := Nat.mul_le_mul_left (lnV v) h1
  omega
theorem c_X5_rowsFrom {n : Int} (hn : In64 n) : ∀ (k : Nat) (h : AH) (g : Nat) (gz nz : Int) (v : Nat → Nat), FxA h → AllC (hdt h 125) T bec std tbl nights moon → k ≤ 7 → g + k < 13 → gz = (g : Int) → nz = ((g + k : Nat) : Int) → (∀ c, c < 6 → hdt h 141 (6 * g + c) = ((v c : Nat) : Int)) → lnV v * 4 ^ k ≤ 1000000000000000000 →
    CnA G mX5_rowsFrom (k + 4) 0 0 [.inr (.inr (124)), .inr (.inl (n)), .inl (gz), .inl (nz)] h (fun r h1 => r = some (.inl (((rwsP bec T n k v : Nat) : Int))) ∧ ∃ f, h1 = hrw h 141 f ∧ ∀ j, j < 6 * (g + 1) → f j = hdt h 141 j) := by
  intro k
  induction k with
  | zero =>
    intro h g gz nz v hF hA hk7 hgk hgz hnz hv hb
    subst hgz hnz
    obtain ⟨hn1, hn2⟩ := hn
    have hl := ln_bd hb
    show CnA G mX5_rowsFrom (0 + 4) 0 0 _ h (fun r h1 => r = some (.inl ((((if ((lnV v : Nat) : Int) = n then 1 else 0) : Nat) : Int))) ∧ ∃ f, h1 = hrw h 141 f ∧ ∀ j, j < 6 * (g + 1) → f j = hdt h 141 j)
    refine CnA.of rfl (Nat.le_of_ble_eq_true rfl) ?_
    simp only [largs, lpad, mr_X5_rowsFrom]
    by_cases q : ((lnV v : Nat) : Int) = n
    · rw [if_pos q]
      refine vsA_ok tk_X5_rowsFrom rfl 6 ?_
      simp only [at_X5_rowsFrom, mr_X5_rowsFrom, vsA, vcA, denA, lget, lset, lst1, lst2, lclr, argsA, restA, acats, acat, tcA, tcN, rzA, lle, List.length_cons, List.length_nil, Option.toList_some, Option.toList_none, List.cons_append, List.nil_append, eG, eM, eD, eC, eS, eQ, eH, if_true, if_false, Nat.reduceAdd, Nat.reduceLeDiff, Nat.reduceEqDiff, Nat.reduceLT, Nat.reduceSub, Int.reduceEq, Int.reduceLE, Int.reduceToNat, reduceCtorEq, reduceIte, Nat.reduceBEq, Int.reduceNeg, not_true, not_false_iff, true_and, and_true, true_or, or_true, false_or, or_false, forall_const, implies_true, Nat.le_refl, Int.toNat_natCast, Int.reduceLT, ne_eq, Fin.isValue, Nat.add_zero, nC_hrw, nS_hrw, nC_hwr, nS_hwr, hkd_hrw, hkd_hwr, fin4_0, fin4_1, fin4_2, fin4_3, fin2_0, fin2_1, ci0, ci1, cnn, false_implies, w32_eq, w64_eq, hF.m]
      try simp (disch := omega) only [yc_lt, yc_le, yc_gt, yc_ge, yc_eq, w32_eq, w64_eq, tn_add, tn_mul, Int.toNat_natCast, Int.reduceToNat, not_true, not_false_iff, false_implies, forall_const, implies_true]
      repeat' (with_reducible first | apply And.intro | intro _)
      all_goals try omega
      all_goals try simp (disch := omega) only [w32_eq, w64_eq, tn_add, tn_mul, Int.toNat_natCast, Int.reduceToNat, Option.some.injEq, Sum.inr.injEq, Sum.inl.injEq]
      all_goals try omega
      refine ClA.pure (c_X5_longIn hF (by omega) hv) (by first | exact Nat.le_of_ble_eq_true rfl | (simp only [eD]; omega)) (by first | exact Nat.le_refl _ | (simp only [eG, eD, eC, eS, eQ, eH, nC_hrw, nC_hwr, nS_hrw, nS_hwr, nC_hnw, nS_hnw]; omega)) (by first | exact Nat.le_refl _ | (simp only [eG, eD, eC, eS, eQ, eH, nC_hrw, nC_hwr, nS_hrw, nS_hwr, nC_hnw, nS_hnw]; omega)) ?_
      refine vsA_ok tk_X5_rowsFrom rfl 20 ?_
      simp only [at_X5_rowsFrom, mr_X5_rowsFrom, vsA, vcA, denA, lget, lset, lst1, lst2, lclr, argsA, restA, acats, acat, tcA, tcN, rzA, lle, List.length_cons, List.length_nil, Option.toList_some, Option.toList_none, List.cons_append, List.nil_append, eG, eM, eD, eC, eS, eQ, eH, if_true, if_false, Nat.reduceAdd, Nat.reduceLeDiff, Nat.reduceEqDiff, Nat.reduceLT, Nat.reduceSub, Int.reduceEq, Int.reduceLE, Int.reduceToNat, reduceCtorEq, reduceIte, Nat.reduceBEq, Int.reduceNeg, not_true, not_false_iff, true_and, and_true, true_or, or_true, false_or, or_false, forall_const, implies_true, Nat.le_refl, Int.toNat_natCast, Int.reduceLT, ne_eq, Fin.isValue, Nat.add_zero, nC_hrw, nS_hrw, nC_hwr, nS_hwr, hkd_hrw, hkd_hwr, fin4_0, fin4_1, fin4_2, fin4_3, fin2_0, fin2_1, ci0, ci1, cnn, false_implies, w32_eq, w64_eq]
      try simp (disch := omega) only [yc_lt, yc_le, yc_gt, yc_ge, yc_eq, w32_eq, w64_eq, tn_add, tn_mul, Int.toNat_natCast, Int.reduceToNat, not_true, not_false_iff, false_implies, forall_const, implies_true]
      repeat' (with_reducible first | apply And.intro | intro _)
      all_goals try omega
      all_goals try simp (disch := omega) only [w32_eq, w64_eq, tn_add, tn_mul, Int.toNat_natCast, Int.reduceToNat, Option.some.injEq, Sum.inr.injEq, Sum.inl.injEq]
      all_goals try omega
      exact ⟨hdt h 141, (hrw_self _ _).symm, fun j _ => rfl⟩
    · rw [if_neg q]
      refine vsA_ok tk_X5_rowsFrom rfl 6 ?_
      simp only [at_X5_rowsFrom, mr_X5_rowsFrom, vsA, vcA, denA, lget, lset, lst1, lst2, lclr, argsA, restA, acats, acat, tcA, tcN, rzA, lle, List.length_cons, List.length_nil, Option.toList_some, Option.toList_none, List.cons_append, List.nil_append, eG, eM, eD, eC, eS, eQ, eH, if_true, if_false, Nat.reduceAdd, Nat.reduceLeDiff, Nat.reduceEqDiff, Nat.reduceLT, Nat.reduceSub, Int.reduceEq, Int.reduceLE, Int.reduceToNat, reduceCtorEq, reduceIte, Nat.reduceBEq, Int.reduceNeg, not_true, not_false_iff, true_and, and_true, true_or, or_true, false_or, or_false, forall_const, implies_true, Nat.le_refl, Int.toNat_natCast, Int.reduceLT, ne_eq, Fin.isValue, Nat.add_zero, nC_hrw, nS_hrw, nC_hwr, nS_hwr, hkd_hrw, hkd_hwr, fin4_0, fin4_1, fin4_2, fin4_3, fin2_0, fin2_1, ci0, ci1, cnn, false_implies, w32_eq, w64_eq, hF.m]
      try simp (disch := omega) only [yc_lt, yc_le, yc_gt, yc_ge, yc_eq, w32_eq, w64_eq, tn_add, tn_mul, Int.toNat_natCast, Int.reduceToNat, not_true, not_false_iff, false_implies, forall_const, implies_true]
      repeat' (with_reducible first | apply And.intro | intro _)
      all_goals try omega
      all_goals try simp (disch := omega) only [w32_eq, w64_eq, tn_add, tn_mul, Int.toNat_natCast, Int.reduceToNat, Option.some.injEq, Sum.inr.injEq, Sum.inl.injEq]
      all_goals try omega
      refine ClA.pure (c_X5_longIn hF (by omega) hv) (by first | exact Nat.le_of_ble_eq_true rfl | (simp only [eD]; omega)) (by first | exact Nat.le_refl _ | (simp only [eG, eD, eC, eS, eQ, eH, nC_hrw, nC_hwr, nS_hrw, nS_hwr, nC_hnw, nS_hnw]; omega)) (by first | exact Nat.le_refl _ | (simp only [eG, eD, eC, eS, eQ, eH, nC_hrw, nC_hwr, nS_hrw, nS_hwr, nC_hnw, nS_hnw]; omega)) ?_
      refine vsA_ok tk_X5_rowsFrom rfl 20 ?_
      simp only [at_X5_rowsFrom, mr_X5_rowsFrom, vsA, vcA, denA, lget, lset, lst1, lst2, lclr, argsA, restA, acats, acat, tcA, tcN, rzA, lle, List.length_cons, List.length_nil, Option.toList_some, Option.toList_none, List.cons_append, List.nil_append, eG, eM, eD, eC, eS, eQ, eH, if_true, if_false, Nat.reduceAdd, Nat.reduceLeDiff, Nat.reduceEqDiff, Nat.reduceLT, Nat.reduceSub, Int.reduceEq, Int.reduceLE, Int.reduceToNat, reduceCtorEq, reduceIte, Nat.reduceBEq, Int.reduceNeg, not_true, not_false_iff, true_and, and_true, true_or, or_true, false_or, or_false, forall_const, implies_true, Nat.le_refl, Int.toNat_natCast, Int.reduceLT, ne_eq, Fin.isValue, Nat.add_zero, nC_hrw, nS_hrw, nC_hwr, nS_hwr, hkd_hrw, hkd_hwr, fin4_0, fin4_1, fin4_2, fin4_3, fin2_0, fin2_1, ci0, ci1, cnn, false_implies, w32_eq, w64_eq]
      try simp (disch := omega) only [yc_lt, yc_le, yc_gt, yc_ge, yc_eq, w32_eq, w64_eq, tn_add, tn_mul, Int.toNat_natCast, Int.reduceToNat, not_true, not_false_iff, false_implies, forall_const, implies_true]
      repeat' (with_reducible first | apply And.intro | intro _)
      all_goals try omega
      all_goals try simp (disch := omega) only [w32_eq, w64_eq, tn_add, tn_mul, Int.toNat_natCast, Int.reduceToNat, Option.some.injEq, Sum.inr.injEq, Sum.inl.injEq]
      all_goals try omega
      exact ⟨hdt h 141, (hrw_self _ _).symm, fun j _ => rfl⟩
  | succ k ih =>
    intro h g gz nz v hF hA hk7 hgk hgz hnz hv hb
    subst hgz hnz
    have hs := hA.sz
    have hq := hA.q
    have hFr : ∀ f, FxA (hrw h 141 f) := fun f => hF.hrw (by decide +kernel) f
    have eA : ∀ f, hdt (hrw h 141 f) 125 = hdt h 125 := fun f => hdt_hrw_n _ _ (by decide)
    have h3k : ∀ t, rwsP bec T n k (nxV bec t v) ≤ 729 := fun t => Nat.le_trans (rwsP_le bec hs.2.2.2.2 n k _) (Nat.le_trans (Nat.pow_le_pow_right (by decide) (show k ≤ 6 by omega)) (by decide))
    have hsm : ∀ m, m ≤ 3 → smN (fun t => rwsP bec T n k (nxV bec t v)) m ≤ 729 * m := by
      intro m
      induction m with
      | zero => intro _; exact Nat.zero_le _
      | succ m ihm =>
        intro hm
        have := ihm (by omega)
        have := h3k m
        show smN (fun t => rwsP bec T n k (nxV bec t v)) m + rwsP bec T n k (nxV bec m v) ≤ 729 * (m + 1)
        omega
    show CnA G mX5_rowsFrom (k + 1 + 4) 0 0 _ h (fun r h1 => r = some (.inl (((smN (fun t => rwsP bec T n k (nxV bec t v)) T : Nat) : Int))) ∧ ∃ f, h1 = hrw h 141 f ∧ ∀ j, j < 6 * (g + 1) → f j = hdt h 141 j)
    refine CnA.of rfl (Nat.le_of_ble_eq_true rfl) ?_
    simp only [largs, lpad, mr_X5_rowsFrom]
    generalize hE : ((G, mX5_rowsFrom, _, _, _, _, h) : EV) = E
    have L1 : ∀ t, t ≤ T → ∀ f : Nat → Int, (∀ j, j < 6 * (g + 1) → f j = hdt h 141 j) → ExA E 28 [some (.inr (.inr (124))), some (.inr (.inl (n))), none, some (.inl ((g : Int))), some (.inl (((g + (k + 1) : Nat) : Int))), some (.inl (((smN (fun t => rwsP bec T n k (nxV bec t v)) t : Nat) : Int))), some (.inl ((t : Int)))] [] (hrw h 141 f) := by
      refine lpI _ fun t ht iht f hf => ?_
      have hsmt := hsm t (by omega)
      by_cases htT : t < T
      · have ht3 : t < 3 := by omega
        have iht := iht htT
        have h3t := h3k t
        have hbd := nx_bd (fun c hc => (hA.b4 ht3 hc).1) hb (t := t)
        have nx0 : ∀ f : Nat → Int, (∀ j, j < 6 * (g + 1) → f j = hdt h 141 j) → ExA E 28 [some (.inr (.inr (124))), some (.inr (.inl (n))), none, some (.inl ((g : Int))), some (.inl (((g + (k + 1) : Nat) : Int))), some (.inl (((smN (fun t => rwsP bec T n k (nxV bec t v)) t + rwsP bec T n k (nxV bec t v) : Nat) : Int))), some (.inl (((t + 1 : Nat) : Int)))] [] (hrw h 141 f) := iht
        subst hE
        refine vsA_ok tk_X5_rowsFrom rfl 20 ?_
        simp only [at_X5_rowsFrom, mr_X5_rowsFrom, vsA, vcA, denA, lget, lset, lst1, lst2, lclr, argsA, restA, acats, acat, tcA, tcN, rzA, lle, List.length_cons, List.length_nil, Option.toList_some, Option.toList_none, List.cons_append, List.nil_append, eG, eM, eD, eC, eS, eQ, eH, if_true, if_false, Nat.reduceAdd, Nat.reduceLeDiff, Nat.reduceEqDiff, Nat.reduceLT, Nat.reduceSub, Int.reduceEq, Int.reduceLE, Int.reduceToNat, reduceCtorEq, reduceIte, Nat.reduceBEq, Int.reduceNeg, not_true, not_false_iff, true_and, and_true, true_or, or_true, false_or, or_false, forall_const, implies_true, Nat.le_refl, Int.toNat_natCast, Int.reduceLT, ne_eq, Fin.isValue, Nat.add_zero, nC_hrw, nS_hrw, nC_hwr, nS_hwr, hkd_hrw, hkd_hwr, fin4_0, fin4_1, fin4_2, fin4_3, fin2_0, fin2_1, ci0, ci1, cnn, false_implies, w32_eq, w64_eq, (hFr f).m, eA, hq]
        try simp (disch := omega) only [yc_lt, yc_le, yc_gt, yc_ge, yc_eq, w32_eq, w64_eq, tn_add, tn_mul, Int.toNat_natCast, Int.reduceToNat, not_true, not_false_iff, false_implies, forall_const, implies_true]
        repeat' (with_reducible first | apply And.intro | intro _)
        all_goals try omega
        all_goals try simp (disch := omega) only [w32_eq, w64_eq, tn_add, tn_mul, Int.toNat_natCast, Int.reduceToNat, Option.some.injEq, Sum.inr.injEq, Sum.inl.injEq]
        all_goals try omega
        refine ClA.of (c_X5_goesMany (hFr f) (by rw [eA]; exact hA) (g := g) (t := t) (v := v) (by omega) ht3 (fun c hc => by rw [hdt_hrw_s, hf _ (by omega)]; exact hv c hc)) (by first | exact Nat.le_of_ble_eq_true rfl | (simp only [eD]; omega)) (by first | exact Nat.le_refl _ | (simp only [eG, eD, eC, eS, eQ, eH, nC_hrw, nC_hwr, nS_hrw, nS_hwr, nC_hnw, nS_hnw]; omega)) (by first | exact Nat.le_refl _ | (simp only [eG, eD, eC, eS, eQ, eH, nC_hrw, nC_hwr, nS_hrw, nS_hwr, nC_hnw, nS_hnw]; omega)) ?_
        rintro _ h2 ⟨rfl, f2, rfl, hf2, hg2⟩ - -
        rw [hrw_hrw]
        refine vsA_ok tk_X5_rowsFrom rfl 20 ?_
        simp only [at_X5_rowsFrom, mr_X5_rowsFrom, vsA, vcA, denA, lget, lset, lst1, lst2, lclr, argsA, restA, acats, acat, tcA, tcN, rzA, lle, List.length_cons, List.length_nil, Option.toList_some, Option.toList_none, List.cons_append, List.nil_append, eG, eM, eD, eC, eS, eQ, eH, if_true, if_false, Nat.reduceAdd, Nat.reduceLeDiff, Nat.reduceEqDiff, Nat.reduceLT, Nat.reduceSub, Int.reduceEq, Int.reduceLE, Int.reduceToNat, reduceCtorEq, reduceIte, Nat.reduceBEq, Int.reduceNeg, not_true, not_false_iff, true_and, and_true, true_or, or_true, false_or, or_false, forall_const, implies_true, Nat.le_refl, Int.toNat_natCast, Int.reduceLT, ne_eq, Fin.isValue, Nat.add_zero, nC_hrw, nS_hrw, nC_hwr, nS_hwr, hkd_hrw, hkd_hwr, fin4_0, fin4_1, fin4_2, fin4_3, fin2_0, fin2_1, ci0, ci1, cnn, false_implies, w32_eq, w64_eq, (hFr f2).m]
        try simp (disch := omega) only [yc_lt, yc_le, yc_gt, yc_ge, yc_eq, w32_eq, w64_eq, tn_add, tn_mul, Int.toNat_natCast, Int.reduceToNat, not_true, not_false_iff, false_implies, forall_const, implies_true]
        repeat' (with_reducible first | apply And.intro | intro _)
        all_goals try omega
        all_goals try simp (disch := omega) only [w32_eq, w64_eq, tn_add, tn_mul, Int.toNat_natCast, Int.reduceToNat, Option.some.injEq, Sum.inr.injEq, Sum.inl.injEq]
        all_goals try omega
        refine ClA.of (ih (hrw h 141 f2) (g + 1) _ _ (nxV bec t v) (hFr f2) (by rw [eA]; exact hA) (by omega) (by omega) (by omega) (by omega) (fun d hd => by rw [hdt_hrw_s]; exact hf2 d hd) hbd) (by first | exact Nat.le_of_ble_eq_true rfl | (simp only [eD]; omega)) (by first | exact Nat.le_refl _ | (simp only [eG, eD, eC, eS, eQ, eH, nC_hrw, nC_hwr, nS_hrw, nS_hwr, nC_hnw, nS_hnw]; omega)) (by first | exact Nat.le_refl _ | (simp only [eG, eD, eC, eS, eQ, eH, nC_hrw, nC_hwr, nS_hrw, nS_hwr, nC_hnw, nS_hnw]; omega)) ?_
        rintro _ h3 ⟨rfl, f3, rfl, hf3⟩ - -
        rw [hrw_hrw]
        have nx := nx0 f3 (fun j hj => by rw [hf3 j (by omega), hdt_hrw_s, hg2 j (by omega), hdt_hrw_s]; exact hf j hj)
        refine vsA_ok tk_X5_rowsFrom rfl 20 ?_
        simp only [at_X5_rowsFrom, mr_X5_rowsFrom, vsA, vcA, denA, lget, lset, lst1, lst2, lclr, argsA, restA, acats, acat, tcA, tcN, rzA, lle, List.length_cons, List.length_nil, Option.toList_some, Option.toList_none, List.cons_append, List.nil_append, eG, eM, eD, eC, eS, eQ, eH, if_true, if_false, Nat.reduceAdd, Nat.reduceLeDiff, Nat.reduceEqDiff, Nat.reduceLT, Nat.reduceSub, Int.reduceEq, Int.reduceLE, Int.reduceToNat, reduceCtorEq, reduceIte, Nat.reduceBEq, Int.reduceNeg, not_true, not_false_iff, true_and, and_true, true_or, or_true, false_or, or_false, forall_const, implies_true, Nat.le_refl, Int.toNat_natCast, Int.reduceLT, ne_eq, Fin.isValue, Nat.add_zero, nC_hrw, nS_hrw, nC_hwr, nS_hwr, hkd_hrw, hkd_hwr, fin4_0, fin4_1, fin4_2, fin4_3, fin2_0, fin2_1, ci0, ci1, cnn, false_implies, w32_eq, w64_eq]
        try simp (disch := omega) only [yc_lt, yc_le, yc_gt, yc_ge, yc_eq, w32_eq, w64_eq, tn_add, tn_mul, Int.toNat_natCast, Int.reduceToNat, not_true, not_false_iff, false_implies, forall_const, implies_true]
        repeat' (with_reducible first | apply And.intro | intro _)
        all_goals try omega
        all_goals try simp (disch := omega) only [w32_eq, w64_eq, tn_add, tn_mul, Int.toNat_natCast, Int.reduceToNat, Option.some.injEq, Sum.inr.injEq, Sum.inl.injEq]
        all_goals try omega
        all_goals try exact (nx).weak rfl (by simp [lle] <;> omega)
      · have htT : t = T := by omega
        subst htT
        subst hE
        refine vsA_ok tk_X5_rowsFrom rfl 20 ?_
        simp only [at_X5_rowsFrom, mr_X5_rowsFrom, vsA, vcA, denA, lget, lset, lst1, lst2, lclr, argsA, restA, acats, acat, tcA, tcN, rzA, lle, List.length_cons, List.length_nil, Option.toList_some, Option.toList_none, List.cons_append, List.nil_append, eG, eM, eD, eC, eS, eQ, eH, if_true, if_false, Nat.reduceAdd, Nat.reduceLeDiff, Nat.reduceEqDiff, Nat.reduceLT, Nat.reduceSub, Int.reduceEq, Int.reduceLE, Int.reduceToNat, reduceCtorEq, reduceIte, Nat.reduceBEq, Int.reduceNeg, not_true, not_false_iff, true_and, and_true, true_or, or_true, false_or, or_false, forall_const, implies_true, Nat.le_refl, Int.toNat_natCast, Int.reduceLT, ne_eq, Fin.isValue, Nat.add_zero, nC_hrw, nS_hrw, nC_hwr, nS_hwr, hkd_hrw, hkd_hwr, fin4_0, fin4_1, fin4_2, fin4_3, fin2_0, fin2_1, ci0, ci1, cnn, false_implies, w32_eq, w64_eq, (hFr f).m, eA, hq]
        try simp (disch := omega) only [yc_lt, yc_le, yc_gt, yc_ge, yc_eq, w32_eq, w64_eq, tn_add, tn_mul, Int.toNat_natCast, Int.reduceToNat, not_true, not_false_iff, false_implies, forall_const, implies_true]
        repeat' (with_reducible first | apply And.intro | intro _)
        all_goals try omega
        all_goals try simp (disch := omega) only [w32_eq, w64_eq, tn_add, tn_mul, Int.toNat_natCast, Int.reduceToNat, Option.some.injEq, Sum.inr.injEq, Sum.inl.injEq]
        all_goals try omega
        exact ⟨f, rfl, hf⟩
    have l1 := L1 0 (Nat.zero_le _) (hdt h 141) (fun j _ => rfl)
    rw [hrw_self, show smN (fun t => rwsP bec T n k (nxV bec t v)) 0 = 0 from rfl] at l1
    subst hE
    refine vsA_ok tk_X5_rowsFrom rfl 20 ?_
    simp only [at_X5_rowsFrom, mr_X5_rowsFrom, vsA, vcA, denA, lget, lset, lst1, lst2, lclr, argsA, restA, acats, acat, tcA, tcN, rzA, lle, List.length_cons, List.length_nil, Option.toList_some, Option.toList_none, List.cons_append, List.nil_append, eG, eM, eD, eC, eS, eQ, eH, if_true, if_false, Nat.reduceAdd, Nat.reduceLeDiff, Nat.reduceEqDiff, Nat.reduceLT, Nat.reduceSub, Int.reduceEq, Int.reduceLE, Int.reduceToNat, reduceCtorEq, reduceIte, Nat.reduceBEq, Int.reduceNeg, not_true, not_false_iff, true_and, and_true, true_or, or_true, false_or, or_false, forall_const, implies_true, Nat.le_refl, Int.toNat_natCast, Int.reduceLT, ne_eq, Fin.isValue, Nat.add_zero, nC_hrw, nS_hrw, nC_hwr, nS_hwr, hkd_hrw, hkd_hwr, fin4_0, fin4_1, fin4_2, fin4_3, fin2_0, fin2_1, ci0, ci1, cnn, false_implies, w32_eq, w64_eq]
    try simp (disch := omega) only [yc_lt, yc_le, yc_gt, yc_ge, yc_eq, w32_eq, w64_eq, tn_add, tn_mul, Int.toNat_natCast, Int.reduceToNat, not_true, not_false_iff, false_implies, forall_const, implies_true]
    repeat' (with_reducible first | apply And.intro | intro _)
    all_goals try omega
    all_goals try simp (disch := omega) only [w32_eq, w64_eq, tn_add, tn_mul, Int.toNat_natCast, Int.reduceToNat, Option.some.injEq, Sum.inr.injEq, Sum.inl.injEq]
    all_goals try omega
    all_goals try exact (l1).weak rfl (by simp [lle] <;> omega)
theorem c_X5_turnedFrom : ∀ (k : Nat) (h : AH) (g : Nat) (gz nz : Int) (v : Nat → Nat), FxA h → AllC (hdt h 125) T bec std tbl nights moon → g + k < 13 → gz = (g : Int) → nz = ((g + k : Nat) : Int) → (∀ c, c < 6 → hdt h 141 (6 * g + c) = ((v c : Nat) : Int)) → lnV v * 4 ^ k ≤ 1000000000000000000 →
    CnA G mX5_turnedFrom (k + 4) 0 0 [.inr (.inr (124)), .inl (gz), .inl (nz)] h (fun r h1 => r = some (.inr (.inl (((trnP bec T k g v : Nat) : Int)))) ∧ ∃ f, h1 = hrw h 141 f ∧ ∀ j, j < 6 * (g + 1) → f j = hdt h 141 j) := by
  intro k
  induction k with
  | zero =>
    intro h g gz nz v hF hA hgk hgz hnz hv hb
    subst hgz hnz
    show CnA G mX5_turnedFrom (0 + 4) 0 0 _ h (fun r h1 => r = some (.inr (.inl (((lnV v : Nat) : Int)))) ∧ ∃ f, h1 = hrw h 141 f ∧ ∀ j, j < 6 * (g + 1) → f j = hdt h 141 j)
    refine CnA.of rfl (Nat.le_of_ble_eq_true rfl) ?_
    simp only [largs, lpad, mr_X5_turnedFrom]
    refine vsA_ok tk_X5_turnedFrom rfl 6 ?_
    simp only [at_X5_turnedFrom, mr_X5_turnedFrom, vsA, vcA, denA, lget, lset, lst1, lst2, lclr, argsA, restA, acats, acat, tcA, tcN, rzA, lle, List.length_cons, List.length_nil, Option.toList_some, Option.toList_none, List.cons_append, List.nil_append, eG, eM, eD, eC, eS, eQ, eH, if_true, if_false, Nat.reduceAdd, Nat.reduceLeDiff, Nat.reduceEqDiff, Nat.reduceLT, Nat.reduceSub, Int.reduceEq, Int.reduceLE, Int.reduceToNat, reduceCtorEq, reduceIte, Nat.reduceBEq, Int.reduceNeg, not_true, not_false_iff, true_and, and_true, true_or, or_true, false_or, or_false, forall_const, implies_true, Nat.le_refl, Int.toNat_natCast, Int.reduceLT, ne_eq, Fin.isValue, Nat.add_zero, nC_hrw, nS_hrw, nC_hwr, nS_hwr, hkd_hrw, hkd_hwr, fin4_0, fin4_1, fin4_2, fin4_3, fin2_0, fin2_1, ci0, ci1, cnn, false_implies, w32_eq, w64_eq, hF.m]
    try simp (disch := omega) only [yc_lt, yc_le, yc_gt, yc_ge, yc_eq, w32_eq, w64_eq, tn_add, tn_mul, Int.toNat_natCast, Int.reduceToNat, not_true, not_false_iff, false_implies, forall_const, implies_true]
    repeat' (with_reducible first | apply And.intro | intro _)
    all_goals try omega
    all_goals try simp (disch := omega) only [w32_eq, w64_eq, tn_add, tn_mul, Int.toNat_natCast, Int.reduceToNat, Option.some.injEq, Sum.inr.injEq, Sum.inl.injEq]
    all_goals try omega
    refine ClA.pure (c_X5_longIn hF (by omega) hv) (by first | exact Nat.le_of_ble_eq_true rfl | (simp only [eD]; omega)) (by first | exact Nat.le_refl _ | (simp only [eG, eD, eC, eS, eQ, eH, nC_hrw, nC_hwr, nS_hrw, nS_hwr, nC_hnw, nS_hnw]; omega)) (by first | exact Nat.le_refl _ | (simp only [eG, eD, eC, eS, eQ, eH, nC_hrw, nC_hwr, nS_hrw, nS_hwr, nC_hnw, nS_hnw]; omega)) ?_
    refine vsA_ok tk_X5_turnedFrom rfl 20 ?_
    simp only [at_X5_turnedFrom, mr_X5_turnedFrom, vsA, vcA, denA, lget, lset, lst1, lst2, lclr, argsA, restA, acats, acat, tcA, tcN, rzA, lle, List.length_cons, List.length_nil, Option.toList_some, Option.toList_none, List.cons_append, List.nil_append, eG, eM, eD, eC, eS, eQ, eH, if_true, if_false, Nat.reduceAdd, Nat.reduceLeDiff, Nat.reduceEqDiff, Nat.reduceLT, Nat.reduceSub, Int.reduceEq, Int.reduceLE, Int.reduceToNat, reduceCtorEq, reduceIte, Nat.reduceBEq, Int.reduceNeg, not_true, not_false_iff, true_and, and_true, true_or, or_true, false_or, or_false, forall_const, implies_true, Nat.le_refl, Int.toNat_natCast, Int.reduceLT, ne_eq, Fin.isValue, Nat.add_zero, nC_hrw, nS_hrw, nC_hwr, nS_hwr, hkd_hrw, hkd_hwr, fin4_0, fin4_1, fin4_2, fin4_3, fin2_0, fin2_1, ci0, ci1, cnn, false_implies, w32_eq, w64_eq]
    try simp (disch := omega) only [yc_lt, yc_le, yc_gt, yc_ge, yc_eq, w32_eq, w64_eq, tn_add, tn_mul, Int.toNat_natCast, Int.reduceToNat, not_true, not_false_iff, false_implies, forall_const, implies_true]
    repeat' (with_reducible first | apply And.intro | intro _)
    all_goals try omega
    all_goals try simp (disch := omega) only [w32_eq, w64_eq, tn_add, tn_mul, Int.toNat_natCast, Int.reduceToNat, Option.some.injEq, Sum.inr.injEq, Sum.inl.injEq]
    all_goals try omega
    exact ⟨hdt h 141, (hrw_self _ _).symm, fun j _ => rfl⟩
  | succ k ih =>
    intro h g gz nz v hF hA hgk hgz hnz hv hb
    subst hgz hnz
    have hs := hA.sz
    have hq := hA.q
    have hFr : ∀ f, FxA (hrw h 141 f) := fun f => hF.hrw (by decide +kernel) f
    have eA : ∀ f, hdt (hrw h 141 f) 125 = hdt h 125 := fun f => hdt_hrw_n _ _ (by decide)
    have hbt : ∀ t c, t < T → c < 6 → (bec t c).length ≤ 4 := fun t c ht hc => (hA.b4 (by omega) hc).1
    have hle : ∀ t, t < T → trnP bec T k (g + 1) (nxV bec t v) ≤ 1000000000000000000 := fun t ht => Nat.le_trans (trnP_le hbt k (g + 1) (nxV bec t v)) (nx_bd (hbt t · ht) hb)
    show CnA G mX5_turnedFrom (k + 1 + 4) 0 0 _ h (fun r h1 => r = some (.inr (.inl (((trB g (fun t => trnP bec T k (g + 1) (nxV bec t v)) T : Nat) : Int)))) ∧ ∃ f, h1 = hrw h 141 f ∧ ∀ j, j < 6 * (g + 1) → f j = hdt h 141 j)
    generalize hFF : (fun t => trnP bec T k (g + 1) (nxV bec t v)) = FF
    have hFt : ∀ t, trnP bec T k (g + 1) (nxV bec t v) = FF t := fun t => by rw [← hFF]
    have emd : (g : Int).tmod 2 = ((g % 2 : Nat) : Int) := tmod_nn (b := 2)
    refine CnA.of rfl (Nat.le_of_ble_eq_true rfl) ?_
    simp only [largs, lpad, mr_X5_turnedFrom]
    generalize hE : ((G, mX5_turnedFrom, _, _, _, _, h) : EV) = E
    have L1 : ∀ t, t ≤ T → ∀ f : Nat → Int, (∀ j, j < 6 * (g + 1) → f j = hdt h 141 j) → ExA E 16 [some (.inr (.inr (124))), some (.inl ((g : Int))), some (.inl (((g + (k + 1) : Nat) : Int))), some (.inr (.inl (((trB g FF t : Nat) : Int)))), none, some (.inl ((t : Int))), none, none] [] (hrw h 141 f) := by
      refine lpI _ fun t ht iht f hf => ?_
      by_cases htT : t < T
      · have ht3 : t < 3 := by omega
        have iht := iht htT
        have hbd := nx_bd (fun c hc => (hA.b4 ht3 hc).1) hb (t := t)
        have hFb : FF t ≤ 1000000000000000000 := by rw [← hFt]; exact hle t htT
        have hBb : trB g FF t ≤ 1000000000000000000 := trB_le t fun i hi => by rw [← hFt]; exact hle i (by omega)
        have nx0 : ∀ f : Nat → Int, (∀ j, j < 6 * (g + 1) → f j = hdt h 141 j) → ExA E 16 [some (.inr (.inr (124))), some (.inl ((g : Int))), some (.inl (((g + (k + 1) : Nat) : Int))), some (.inr (.inl ((((if t = 0 ∨ g % 2 = 0 ∧ trB g FF t < FF t ∨ g % 2 = 1 ∧ FF t < trB g FF t then FF t else trB g FF t) : Nat) : Int)))), none, some (.inl (((t + 1 : Nat) : Int))), none, none] [] (hrw h 141 f) := iht
        subst hE
        refine vsA_ok tk_X5_turnedFrom rfl 20 ?_
        simp only [at_X5_turnedFrom, mr_X5_turnedFrom, vsA, vcA, denA, lget, lset, lst1, lst2, lclr, argsA, restA, acats, acat, tcA, tcN, rzA, lle, List.length_cons, List.length_nil, Option.toList_some, Option.toList_none, List.cons_append, List.nil_append, eG, eM, eD, eC, eS, eQ, eH, if_true, if_false, Nat.reduceAdd, Nat.reduceLeDiff, Nat.reduceEqDiff, Nat.reduceLT, Nat.reduceSub, Int.reduceEq, Int.reduceLE, Int.reduceToNat, reduceCtorEq, reduceIte, Nat.reduceBEq, Int.reduceNeg, not_true, not_false_iff, true_and, and_true, true_or, or_true, false_or, or_false, forall_const, implies_true, Nat.le_refl, Int.toNat_natCast, Int.reduceLT, ne_eq, Fin.isValue, Nat.add_zero, nC_hrw, nS_hrw, nC_hwr, nS_hwr, hkd_hrw, hkd_hwr, fin4_0, fin4_1, fin4_2, fin4_3, fin2_0, fin2_1, ci0, ci1, cnn, false_implies, w32_eq, w64_eq, (hFr f).m, eA, hq]
        try simp (disch := omega) only [yc_lt, yc_le, yc_gt, yc_ge, yc_eq, w32_eq, w64_eq, tn_add, tn_mul, Int.toNat_natCast, Int.reduceToNat, not_true, not_false_iff, false_implies, forall_const, implies_true]
        repeat' (with_reducible first | apply And.intro | intro _)
        all_goals try omega
        all_goals try simp (disch := omega) only [w32_eq, w64_eq, tn_add, tn_mul, Int.toNat_natCast, Int.reduceToNat, Option.some.injEq, Sum.inr.injEq, Sum.inl.injEq]
        all_goals try omega
        refine ClA.of (c_X5_goesMany (hFr f) (by rw [eA]; exact hA) (g := g) (t := t) (v := v) (by omega) ht3 (fun c hc => by rw [hdt_hrw_s, hf _ (by omega)]; exact hv c hc)) (by first | exact Nat.le_of_ble_eq_true rfl | (simp only [eD]; omega)) (by first | exact Nat.le_refl _ | (simp only [eG, eD, eC, eS, eQ, eH, nC_hrw, nC_hwr, nS_hrw, nS_hwr, nC_hnw, nS_hnw]; omega)) (by first | exact Nat.le_refl _ | (simp only [eG, eD, eC, eS, eQ, eH, nC_hrw, nC_hwr, nS_hrw, nS_hwr, nC_hnw, nS_hnw]; omega)) ?_
        rintro _ h2 ⟨rfl, f2, rfl, hf2, hg2⟩ - -
        rw [hrw_hrw]
        refine vsA_ok tk_X5_turnedFrom rfl 20 ?_
        simp only [at_X5_turnedFrom, mr_X5_turnedFrom, vsA, vcA, denA, lget, lset, lst1, lst2, lclr, argsA, restA, acats, acat, tcA, tcN, rzA, lle, List.length_cons, List.length_nil, Option.toList_some, Option.toList_none, List.cons_append, List.nil_append, eG, eM, eD, eC, eS, eQ, eH, if_true, if_false, Nat.reduceAdd, Nat.reduceLeDiff, Nat.reduceEqDiff, Nat.reduceLT, Nat.reduceSub, Int.reduceEq, Int.reduceLE, Int.reduceToNat, reduceCtorEq, reduceIte, Nat.reduceBEq, Int.reduceNeg, not_true, not_false_iff, true_and, and_true, true_or, or_true, false_or, or_false, forall_const, implies_true, Nat.le_refl, Int.toNat_natCast, Int.reduceLT, ne_eq, Fin.isValue, Nat.add_zero, nC_hrw, nS_hrw, nC_hwr, nS_hwr, hkd_hrw, hkd_hwr, fin4_0, fin4_1, fin4_2, fin4_3, fin2_0, fin2_1, ci0, ci1, cnn, false_implies, w32_eq, w64_eq, (hFr f2).m]
        try simp (disch := omega) only [yc_lt, yc_le, yc_gt, yc_ge, yc_eq, w32_eq, w64_eq, tn_add, tn_mul, Int.toNat_natCast, Int.reduceToNat, not_true, not_false_iff, false_implies, forall_const, implies_true]
        repeat' (with_reducible first | apply And.intro | intro _)
        all_goals try omega
        all_goals try simp (disch := omega) only [w32_eq, w64_eq, tn_add, tn_mul, Int.toNat_natCast, Int.reduceToNat, Option.some.injEq, Sum.inr.injEq, Sum.inl.injEq]
        all_goals try omega
        refine ClA.of (ih (hrw h 141 f2) (g + 1) _ _ (nxV bec t v) (hFr f2) (by rw [eA]; exact hA) (by omega) (by omega) (by omega) (fun d hd => by rw [hdt_hrw_s]; exact hf2 d hd) hbd) (by first | exact Nat.le_of_ble_eq_true rfl | (simp only [eD]; omega)) (by first | exact Nat.le_refl _ | (simp only [eG, eD, eC, eS, eQ, eH, nC_hrw, nC_hwr, nS_hrw, nS_hwr, nC_hnw, nS_hnw]; omega)) (by first | exact Nat.le_refl _ | (simp only [eG, eD, eC, eS, eQ, eH, nC_hrw, nC_hwr, nS_hrw, nS_hwr, nC_hnw, nS_hnw]; omega)) ?_
        rintro _ h3 ⟨rfl, f3, rfl, hf3⟩ - -
        rw [hrw_hrw, hFt]
        have nx := nx0 f3 (fun j hj => by rw [hf3 j (by omega), hdt_hrw_s, hg2 j (by omega), hdt_hrw_s]; exact hf j hj)
        generalize FF t = F1 at *
        generalize trB g FF t = B1 at *
        by_cases hc : t = 0 ∨ g % 2 = 0 ∧ B1 < F1 ∨ g % 2 = 1 ∧ F1 < B1
        · rw [if_pos hc] at nx
          refine vsA_ok tk_X5_turnedFrom rfl 40 ?_
          simp only [at_X5_turnedFrom, mr_X5_turnedFrom, vsA, vcA, denA, lget, lset, lst1, lst2, lclr, argsA, restA, acats, acat, tcA, tcN, rzA, lle, List.length_cons, List.length_nil, Option.toList_some, Option.toList_none, List.cons_append, List.nil_append, eG, eM, eD, eC, eS, eQ, eH, if_true, if_false, Nat.reduceAdd, Nat.reduceLeDiff, Nat.reduceEqDiff, Nat.reduceLT, Nat.reduceSub, Int.reduceEq, Int.reduceLE, Int.reduceToNat, reduceCtorEq, reduceIte, Nat.reduceBEq, Int.reduceNeg, not_true, not_false_iff, true_and, and_true, true_or, or_true, false_or, or_false, forall_const, implies_true, Nat.le_refl, Int.toNat_natCast, Int.reduceLT, ne_eq, Fin.isValue, Nat.add_zero, nC_hrw, nS_hrw, nC_hwr, nS_hwr, hkd_hrw, hkd_hwr, fin4_0, fin4_1, fin4_2, fin4_3, fin2_0, fin2_1, ci0, ci1, cnn, false_implies, w32_eq, w64_eq]
          try simp (disch := omega) only [yc_lt, yc_le, yc_gt, yc_ge, yc_eq, w32_eq, w64_eq, tn_add, tn_mul, Int.toNat_natCast, Int.reduceToNat, not_true, not_false_iff, false_implies, forall_const, implies_true, emd]
          repeat' (with_reducible first | apply And.intro | intro _)
          all_goals try omega
          all_goals try simp (disch := omega) only [w32_eq, w64_eq, tn_add, tn_mul, Int.toNat_natCast, Int.reduceToNat, Option.some.injEq, Sum.inr.injEq, Sum.inl.injEq, emd]
          all_goals try omega
          all_goals try exact (nx).weak rfl (by simp [lle] <;> omega)
        · rw [if_neg hc] at nx
          refine vsA_ok tk_X5_turnedFrom rfl 40 ?_
          simp only [at_X5_turnedFrom, mr_X5_turnedFrom, vsA, vcA, denA, lget, lset, lst1, lst2, lclr, argsA, restA, acats, acat, tcA, tcN, rzA, lle, List.length_cons, List.length_nil, Option.toList_some, Option.toList_none, List.cons_append, List.nil_append, eG, eM, eD, eC, eS, eQ, eH, if_true, if_false, Nat.reduceAdd, Nat.reduceLeDiff, Nat.reduceEqDiff, Nat.reduceLT, Nat.reduceSub, Int.reduceEq, Int.reduceLE, Int.reduceToNat, reduceCtorEq, reduceIte, Nat.reduceBEq, Int.reduceNeg, not_true, not_false_iff, true_and, and_true, true_or, or_true, false_or, or_false, forall_const, implies_true, Nat.le_refl, Int.toNat_natCast, Int.reduceLT, ne_eq, Fin.isValue, Nat.add_zero, nC_hrw, nS_hrw, nC_hwr, nS_hwr, hkd_hrw, hkd_hwr, fin4_0, fin4_1, fin4_2, fin4_3, fin2_0, fin2_1, ci0, ci1, cnn, false_implies, w32_eq, w64_eq]
          try simp (disch := omega) only [yc_lt, yc_le, yc_gt, yc_ge, yc_eq, w32_eq, w64_eq, tn_add, tn_mul, Int.toNat_natCast, Int.reduceToNat, not_true, not_false_iff, false_implies, forall_const, implies_true, emd]
          repeat' (with_reducible first | apply And.intro | intro _)
          all_goals try omega
          all_goals try simp (disch := omega) only [w32_eq, w64_eq, tn_add, tn_mul, Int.toNat_natCast, Int.reduceToNat, Option.some.injEq, Sum.inr.injEq, Sum.inl.injEq, emd]
          all_goals try omega
          all_goals try exact (nx).weak rfl (by simp [lle] <;> omega)
      · have htT : t = T := by omega
        subst htT
        subst hE
        refine vsA_ok tk_X5_turnedFrom rfl 20 ?_
        simp only [at_X5_turnedFrom, mr_X5_turnedFrom, vsA, vcA, denA, lget, lset, lst1, lst2, lclr, argsA, restA, acats, acat, tcA, tcN, rzA, lle, List.length_cons, List.length_nil, Option.toList_some, Option.toList_none, List.cons_append, List.nil_append, eG, eM, eD, eC, eS, eQ, eH, if_true, if_false, Nat.reduceAdd, Nat.reduceLeDiff, Nat.reduceEqDiff, Nat.reduceLT, Nat.reduceSub, Int.reduceEq, Int.reduceLE, Int.reduceToNat, reduceCtorEq, reduceIte, Nat.reduceBEq, Int.reduceNeg, not_true, not_false_iff, true_and, and_true, true_or, or_true, false_or, or_false, forall_const, implies_true, Nat.le_refl, Int.toNat_natCast, Int.reduceLT, ne_eq, Fin.isValue, Nat.add_zero, nC_hrw, nS_hrw, nC_hwr, nS_hwr, hkd_hrw, hkd_hwr, fin4_0, fin4_1, fin4_2, fin4_3, fin2_0, fin2_1, ci0, ci1, cnn, false_implies, w32_eq, w64_eq, (hFr f).m, eA, hq]
        try simp (disch := omega) only [yc_lt, yc_le, yc_gt, yc_ge, yc_eq, w32_eq, w64_eq, tn_add, tn_mul, Int.toNat_natCast, Int.reduceToNat, not_true, not_false_iff, false_implies, forall_const, implies_true]
        repeat' (with_reducible first | apply And.intro | intro _)
        all_goals try omega
        all_goals try simp (disch := omega) only [w32_eq, w64_eq, tn_add, tn_mul, Int.toNat_natCast, Int.reduceToNat, Option.some.injEq, Sum.inr.injEq, Sum.inl.injEq]
        all_goals try omega
        exact ⟨f, rfl, hf⟩
    have l1 := L1 0 (Nat.zero_le _) (hdt h 141) (fun j _ => rfl)
    rw [hrw_self, show trB g FF 0 = 0 from rfl] at l1
    subst hE
    refine vsA_ok tk_X5_turnedFrom rfl 20 ?_
    simp only [at_X5_turnedFrom, mr_X5_turnedFrom, vsA, vcA, denA, lget, lset, lst1, lst2, lclr, argsA, restA, acats, acat, tcA, tcN, rzA, lle, List.length_cons, List.length_nil, Option.toList_some, Option.toList_none, List.cons_append, List.nil_append, eG, eM, eD, eC, eS, eQ, eH, if_true, if_false, Nat.reduceAdd, Nat.reduceLeDiff, Nat.reduceEqDiff, Nat.reduceLT, Nat.reduceSub, Int.reduceEq, Int.reduceLE, Int.reduceToNat, reduceCtorEq, reduceIte, Nat.reduceBEq, Int.reduceNeg, not_true, not_false_iff, true_and, and_true, true_or, or_true, false_or, or_false, forall_const, implies_true, Nat.le_refl, Int.toNat_natCast, Int.reduceLT, ne_eq, Fin.isValue, Nat.add_zero, nC_hrw, nS_hrw, nC_hwr, nS_hwr, hkd_hrw, hkd_hwr, fin4_0, fin4_1, fin4_2, fin4_3, fin2_0, fin2_1, ci0, ci1, cnn, false_implies, w32_eq, w64_eq]
    try simp (disch := omega) only [yc_lt, yc_le, yc_gt, yc_ge, yc_eq, w32_eq, w64_eq, tn_add, tn_mul, Int.toNat_natCast, Int.reduceToNat, not_true, not_false_iff, false_implies, forall_const, implies_true]
    repeat' (with_reducible first | apply And.intro | intro _)
    all_goals try omega
    all_goals try simp (disch := omega) only [w32_eq, w64_eq, tn_add, tn_mul, Int.toNat_natCast, Int.reduceToNat, Option.some.injEq, Sum.inr.injEq, Sum.inl.injEq]
    all_goals try omega
    all_goals try exact (l1).weak rfl (by simp [lle] <;> omega)
end
