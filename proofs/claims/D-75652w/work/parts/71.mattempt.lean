/-! SORTING, HOW MANY ARE ALIKE; THE REFERENCE: attempt -/
set_option maxRecDepth 100000
/-- how often a number stands among the first n -/
def cnF (f : Nat → Int) (n : Nat) (v : Int) : Nat := smN (fun i => if f i = v then 1 else 0) n
theorem cnF_s (f : Nat → Int) (n : Nat) (v : Int) : cnF f (n + 1) v = cnF f n v + if f n = v then 1 else 0 := rfl
theorem cnF_congr {f g : Nat → Int} (n : Nat) (v : Int) (h : ∀ i, i < n → f i = g i) : cnF f n v = cnF g n v := smN_congr n fun i hi => by rw [h i hi]
theorem cnF_le (f : Nat → Int) (v : Int) : ∀ n, cnF f n v ≤ n
  | 0 => Nat.le_refl _
  | n + 1 => by
    rw [cnF_s]
    have := cnF_le f v n
    split <;> omega
theorem cnF_fup (f : Nat → Int) {i : Nat} (x v : Int) : ∀ n, i < n → cnF (fup f i x) n v + (if f i = v then 1 else 0) = cnF f n v + if x = v then 1 else 0
  | 0, h => by omega
  | n + 1, h => by
    rw [cnF_s, cnF_s]
    by_cases e : i = n
    · subst e
      rw [cnF_congr (g := f) i v (fun j hj => fup_n f x (show j ≠ i by omega)), fup_s]
      omega
    · have := cnF_fup f (i := i) x v n (by omega)
      rw [fup_n _ _ (show n ≠ i by omega)]
      omega
theorem cnF_move (f : Nat → Int) {i k n : Nat} (x v : Int) (hi : i < n) (hk : k < n) (hik : k ≠ i) : cnF (fup (fup f i (f k)) k x) n v = cnF (fup f i x) n v := by
  have h1 := cnF_fup (fup f i (f k)) (i := k) x v n hk
  have h2 := cnF_fup f (i := i) (f k) v n hi
  have h3 := cnF_fup f (i := i) x v n hi
  rw [fup_n _ _ hik] at h1
  omega
theorem cnF_0 {f : Nat → Int} {v : Int} : ∀ n, (∀ i, i < n → f i ≠ v) → cnF f n v = 0
  | 0, _ => rfl
  | n + 1, h => by
    rw [cnF_s, cnF_0 n (fun i hi => h i (by omega)), if_neg (h n (by omega))]
def SrtF (f : Nat → Int) (n : Nat) : Prop := ∀ i, i + 1 < n → f i ≤ f (i + 1)
theorem SrtF.le {f : Nat → Int} {n : Nat} (h : SrtF f n) {j : Nat} (hj : j < n) : ∀ i, i ≤ j → f i ≤ f j := by
  induction j with
  | zero => intro i hi; rw [show i = 0 by omega]; exact Int.le_refl _
  | succ j ih =>
    intro i hi
    by_cases e : i = j + 1
    · rw [e]; exact Int.le_refl _
    · exact Int.le_trans (ih (by omega) i (by omega)) (h j (by omega))
/-- the greatest of counts -/
def IsMx (c : Int → Nat) (B : Nat) : Prop := (∀ v, c v ≤ B) ∧ ∃ v, c v = B
theorem IsMx.un {c : Int → Nat} {A B : Nat} (h1 : IsMx c A) (h2 : IsMx c B) : A = B := by
  obtain ⟨a1, v, a2⟩ := h1
  obtain ⟨b1, u, b2⟩ := h2
  have := a1 u
  have := b1 v
  omega
noncomputable def mxC (c : Int → Nat) : Nat := Classical.epsilon fun B => IsMx c B
theorem mxC_eq {c : Int → Nat} {B : Nat} (h : IsMx c B) : mxC c = B := (Classical.epsilon_spec (p := fun B => IsMx c B) ⟨B, h⟩).un h
/-- the length of the run that ends, the greatest run -/
def rnR (f : Nat → Int) : Nat → Nat
  | 0 => 0
  | k + 1 => if 0 < k ∧ f k = f (k - 1) then rnR f k + 1 else 1
def rnM (f : Nat → Int) : Nat → Nat
  | 0 => 0
  | k + 1 => if rnM f k < rnR f (k + 1) then rnR f (k + 1) else rnM f k
theorem rn_ok (f : Nat → Int) : ∀ n, SrtF f n → (∀ v, cnF f n v ≤ rnM f n) ∧ (∃ v, cnF f n v = rnM f n) ∧ (0 < n → rnR f n = cnF f n (f (n - 1)))
  | 0, _ => ⟨fun _ => Nat.le_refl _, ⟨0, rfl⟩, fun h => absurd h (Nat.not_lt_zero _)⟩
  | n + 1, h => by
    have hs : SrtF f n := fun i hi => h i (by omega)
    obtain ⟨h1, ⟨u, h2⟩, h3⟩ := rn_ok f n hs
    have hr : rnR f (n + 1) = cnF f (n + 1) (f n) := by
      rw [cnF_s, if_pos rfl]
      show (if 0 < n ∧ f n = f (n - 1) then rnR f n + 1 else 1) = _
      by_cases q : 0 < n ∧ f n = f (n - 1)
      · rw [if_pos q, h3 q.1, ← q.2]
      · rw [if_neg q, cnF_0 n]
        intro i hi e
        have a1 := hs.le (show n - 1 < n by omega) i (by omega)
        have a2 := h (n - 1) (by omega)
        rw [show n - 1 + 1 = n by omega] at a2
        exact q ⟨by omega, by omega⟩
    have hm : rnM f (n + 1) = if rnM f n < rnR f (n + 1) then rnR f (n + 1) else rnM f n := rfl
    refine ⟨fun v => ?_, ?_, fun _ => ?_⟩
    · by_cases e : f n = v
      · rw [← e, ← hr, hm]
        split <;> omega
      · rw [cnF_s, if_neg e, hm]
        have := h1 v
        split <;> omega
    · rw [hm]
      split
      · exact ⟨f n, hr.symm⟩
      · refine ⟨u, ?_⟩
        rw [cnF_s]
        by_cases e : f n = u
        · have : rnR f (n + 1) = cnF f n u + 1 := by rw [hr, e, cnF_s, if_pos e]
          omega
        · rw [if_neg e]; exact h2
    · rw [hr]; rfl
theorem rn_mx {f : Nat → Int} {n : Nat} (h : SrtF f n) : mxC (cnF f n) = rnM f n := mxC_eq ⟨(rn_ok f n h).1, (rn_ok f n h).2.1⟩
theorem rnR_le (f : Nat → Int) : ∀ n, rnR f n ≤ n
  | 0 => Nat.le_refl _
  | k + 1 => by
    show (if 0 < k ∧ f k = f (k - 1) then rnR f k + 1 else 1) ≤ k + 1
    have := rnR_le f k
    split <;> omega
theorem rnM_le (f : Nat → Int) : ∀ n, rnM f n ≤ n
  | 0 => Nat.le_refl _
  | k + 1 => by
    show (if rnM f k < rnR f (k + 1) then rnR f (k + 1) else rnM f k) ≤ k + 1
    have := rnM_le f k
    have := rnR_le f (k + 1)
    split <;> omega
/-- a hole at i, for x, in what stands in order up to m -/
def HolF (f : Nat → Int) (x : Int) (m i : Nat) : Prop := (∀ j, j + 1 < i → f j ≤ f (j + 1)) ∧ (∀ j, i < j → j + 1 ≤ m → f j ≤ f (j + 1)) ∧ (∀ j, i < j → j ≤ m → x < f j) ∧ (0 < i → i < m → f (i - 1) ≤ f (i + 1))
theorem HolF.move {f : Nat → Int} {x : Int} {m i : Nat} (h : HolF f x m i) (h0 : 0 < i) (him : i ≤ m) (hx : x < f (i - 1)) : HolF (fup f i (f (i - 1))) x m (i - 1) := by
  obtain ⟨h1, h2, h3, h4⟩ := h
  refine ⟨fun j hj => ?_, fun j hj hjm => ?_, fun j hj hjm => ?_, fun hi1 _ => ?_⟩
  · rw [fup_n _ _ (by omega), fup_n _ _ (by omega)]
    exact h1 j (by omega)
  · by_cases e : j = i
    · rw [e, fup_s, fup_n _ _ (by omega)]
      exact h4 h0 (by omega)
    · rw [fup_n _ _ e, fup_n _ _ (by omega)]
      exact h2 j (by omega) hjm
  · by_cases e : j = i
    · rw [e, fup_s]; exact hx
    · rw [fup_n _ _ e]
      exact h3 j (by omega) hjm
  · rw [show i - 1 + 1 = i by omega, fup_s, fup_n _ _ (by omega)]
    have := h1 (i - 1 - 1) (by omega)
    rw [show i - 1 - 1 + 1 = i - 1 by omega] at this
    exact this
theorem HolF.fill {f : Nat → Int} {x : Int} {m i : Nat} (h : HolF f x m i) (him : i ≤ m) (hx : 0 < i → f (i - 1) ≤ x) : SrtF (fup f i x) (m + 1) := by
  obtain ⟨h1, h2, h3, h4⟩ := h
  intro j hj
  by_cases e : j = i
  · rw [e, fup_s, fup_n _ _ (by omega)]
    have := h3 (i + 1) (by omega) (by omega)
    omega
  · by_cases e2 : j + 1 = i
    · have := hx (by omega)
      rw [fup_n _ _ e, e2, fup_s, show j = i - 1 by omega]
      exact this
    · rw [fup_n _ _ e, fup_n _ _ e2]
      rcases Nat.lt_or_ge j i with q | q
      · exact h1 j (by omega)
      · exact h2 j (by omega) (by omega)
def sgF (f : Nat → Int) (a : Nat) : Nat → Int := fun j => f (a + j)
theorem sg_fup (f : Nat → Int) (a i : Nat) (x : Int) : sgF (fup f (a + i) x) a = fup (sgF f a) i x := by
  funext j
  unfold sgF
  by_cases e : j = i
  · rw [e, fup_s, fup_s]
  · rw [fup_n _ _ e, fup_n _ _ (by omega)]
def gkN : Nat → Nat
  | 0 => 0
  | k + 1 => 3 * gkN k + 1
section
variable {G : GT}
theorem c_X5_sorts {h : AH} (hF : FxA h) {a n : Nat} (han : a + n ≤ 19683) (hv : ∀ j, j < n → In64 (hdt h 145 (a + j))) :
    CnA G mX5_sorts 1 0 0 [.inr (.inr (124)), .inl ((a : Int)), .inl ((n : Int))] h (fun r h1 => r = none ∧ ∃ f, h1 = hrw h 145 f ∧ (∀ j, j < a ∨ a + n ≤ j → f j = hdt h 145 j) ∧ (∀ v, cnF (sgF f a) n v = cnF (sgF (hdt h 145) a) n v) ∧ SrtF (sgF f a) n) := by
  have hFr : ∀ f, FxA (hrw h 145 f) := fun f => hF.hrw (by decide +kernel) f
  refine CnA.of rfl (Nat.le_of_ble_eq_true rfl) ?_
  simp only [largs, lpad, mr_X5_sorts]
  generalize hE : ((G, mX5_sorts, _, _, _, _, h) : EV) = E
  have L1 : ∀ k, k ≤ 8 → ∀ f, (∀ j, j < a ∨ a + n ≤ j → f j = hdt h 145 j) → (∀ v, cnF (sgF f a) n v = cnF (sgF (hdt h 145) a) n v) → (∀ j, j < n → In64 (f (a + j))) → (k = 0 → SrtF (sgF f a) n) →
      ExA E 4 [some (.inr (.inr (124))), some (.inl ((a : Int))), some (.inl ((n : Int))), some (.inl ((gkN k : Int))), none, none, none, none] [] (hrw h 145 f) := by
    intro k
    induction k with
    | zero =>
      intro _ f f1 f2 f3 f4
      have f4 := f4 rfl
      rw [show ((gkN 0 : Nat) : Int) = 0 from rfl]
      subst hE
      refine vsA_ok tk_X5_sorts rfl 4 ?_
      simp only [at_X5_sorts, mr_X5_sorts, vsA, vcA, denA, lget, lset, lst1, lst2, lclr, argsA, restA, acats, acat, tcA, tcN, rzA, lle, List.length_cons, List.length_nil, Option.toList_some, Option.toList_none, List.cons_append, List.nil_append, eG, eM, eD, eC, eS, eQ, eH, if_true, if_false, Nat.reduceAdd, Nat.reduceLeDiff, Nat.reduceEqDiff, Nat.reduceLT, Nat.reduceSub, Int.reduceEq, Int.reduceLE, Int.reduceToNat, reduceCtorEq, reduceIte, Nat.reduceBEq, Int.reduceNeg, not_true, not_false_iff, true_and, and_true, true_or, or_true, false_or, or_false, forall_const, implies_true, Nat.le_refl, Int.toNat_natCast, Int.reduceLT, ne_eq, Fin.isValue, Nat.add_zero, nC_hrw, nS_hrw, nC_hwr, nS_hwr, hkd_hrw, hkd_hwr, fin4_0, fin4_1, fin4_2, fin4_3, fin2_0, fin2_1, ci0, ci1, cnn, false_implies, w32_eq, w64_eq]
      try simp (disch := omega) only [yc_lt, yc_le, yc_gt, yc_ge, yc_eq, w32_eq, w64_eq, tn_add, tn_mul, Int.toNat_natCast, Int.reduceToNat, not_true, not_false_iff, false_implies, forall_const, implies_true]
      repeat' (with_reducible first | apply And.intro | intro _)
      all_goals try omega
      all_goals try simp (disch := omega) only [w32_eq, w64_eq, tn_add, tn_mul, Int.toNat_natCast, Int.reduceToNat, Option.some.injEq, Sum.inr.injEq, Sum.inl.injEq]
      all_goals try omega
      exact ⟨f, rfl, f1, f2, f4⟩
    | succ k ihk =>
      intro hk8 f f1 f2 f3 _
      have ihk := ihk (by omega)
      have hg1 : 1 ≤ gkN (k + 1) := by show 1 ≤ 3 * gkN k + 1; omega
      have hgs : gkN (k + 1) = 3 * gkN k + 1 := rfl
      have hg8 : gkN (k + 1) ≤ 3280 := by
        have : ∀ m, m ≤ 8 → gkN m ≤ 3280 := by decide
        exact this _ hk8
      have hgd : (gkN (k + 1) : Int).tdiv 3 = (gkN k : Int) := by
        have : (gkN (k + 1) : Int).tdiv 3 = ((gkN (k + 1) / 3 : Nat) : Int) := tdiv_nn (b := 3)
        rw [this, hgs]
        omega
      have hk1 : k = 0 → gkN (k + 1) = 1 := fun e => by rw [e]; rfl
      generalize gkN (k + 1) = g at *
      have L2 : ∀ y m, n - m = y → g ≤ m → m ≤ max n g → ∀ f, (∀ j, j < a ∨ a + n ≤ j → f j = hdt h 145 j) → (∀ v, cnF (sgF f a) n v = cnF (sgF (hdt h 145) a) n v) → (∀ j, j < n → In64 (f (a + j))) → (g = 1 → SrtF (sgF f a) m) →
          ExA E 11 [some (.inr (.inr (124))), some (.inl ((a : Int))), some (.inl ((n : Int))), some (.inl ((g : Int))), some (.inl ((m : Int))), none, none, none] [] (hrw h 145 f) := by
        intro y
        induction y with
        | zero =>
          intro m hy hgm hmn f f1 f2 f3 f4
          have nx := ihk f f1 f2 f3 (fun e i hi => f4 (hk1 e) i (by omega))
          subst hE
          refine vsA_ok tk_X5_sorts rfl 8 ?_
          simp only [at_X5_sorts, mr_X5_sorts, vsA, vcA, denA, lget, lset, lst1, lst2, lclr, argsA, restA, acats, acat, tcA, tcN, rzA, lle, List.length_cons, List.length_nil, Option.toList_some, Option.toList_none, List.cons_append, List.nil_append, eG, eM, eD, eC, eS, eQ, eH, if_true, if_false, Nat.reduceAdd, Nat.reduceLeDiff, Nat.reduceEqDiff, Nat.reduceLT, Nat.reduceSub, Int.reduceEq, Int.reduceLE, Int.reduceToNat, reduceCtorEq, reduceIte, Nat.reduceBEq, Int.reduceNeg, not_true, not_false_iff, true_and, and_true, true_or, or_true, false_or, or_false, forall_const, implies_true, Nat.le_refl, Int.toNat_natCast, Int.reduceLT, ne_eq, Fin.isValue, Nat.add_zero, nC_hrw, nS_hrw, nC_hwr, nS_hwr, hkd_hrw, hkd_hwr, fin4_0, fin4_1, fin4_2, fin4_3, fin2_0, fin2_1, ci0, ci1, cnn, false_implies, w32_eq, w64_eq]
          try simp (disch := omega) only [yc_lt, yc_le, yc_gt, yc_ge, yc_eq, w32_eq, w64_eq, tn_add, tn_mul, Int.toNat_natCast, Int.reduceToNat, not_true, not_false_iff, false_implies, forall_const, implies_true, hgd]
          repeat' (with_reducible first | apply And.intro | intro _)
          all_goals try omega
          all_goals try simp (disch := omega) only [w32_eq, w64_eq, tn_add, tn_mul, Int.toNat_natCast, Int.reduceToNat, Option.some.injEq, Sum.inr.injEq, Sum.inl.injEq, hgd]
          all_goals try omega
          all_goals try exact (nx).weak rfl (by simp [lle] <;> omega)
        | succ y ihy =>
          intro m hy hgm hmn f f1 f2 f3 f4
          have hmn : m < n := by omega
          have ihm := ihy (m + 1) (by omega) (by omega) (by omega)
          generalize hxx : f (a + m) = x at *
          have hx64 : In64 x := by rw [← hxx]; exact f3 m hmn
          have L3 : ∀ i, i ≤ m → ∀ f', (∀ j, j < a ∨ a + n ≤ j → f' j = hdt h 145 j) → (∀ v, cnF (fup (sgF f' a) i x) n v = cnF (sgF (hdt h 145) a) n v) → (∀ j, j < n → In64 (f' (a + j))) → (g = 1 → HolF (sgF f' a) x m i) →
              ExA E 32 [some (.inr (.inr (124))), some (.inl ((a : Int))), some (.inl ((n : Int))), some (.inl ((g : Int))), some (.inl ((m : Int))), some (.inr (.inl (x))), none, some (.inl ((i : Int)))] [] (hrw h 145 f') := by
            intro i
            induction i using Nat.strongRecOn with
            | _ i ihi =>
              intro him f' g1 g2 g3 g4
              have ei : ((a : Int) + (i : Int)).toNat = a + i := by omega
              have fin : (g = 1 → 0 < i → sgF f' a (i - 1) ≤ x) → ExA E 84 [some (.inr (.inr (124))), some (.inl ((a : Int))), some (.inl ((n : Int))), some (.inl ((g : Int))), some (.inl ((m : Int))), some (.inr (.inl (x))), none, some (.inl ((i : Int)))] [] (hrw h 145 f') := by
                intro hst
                have nx := ihm (fup f' (a + i) x) (fun j hj => by rw [fup_n _ _ (by omega)]; exact g1 j hj) (fun v => by rw [sg_fup]; exact g2 v) (fun j hj => by
                  by_cases e : j = i
                  · rw [e, fup_s]; exact hx64
                  · rw [fup_n _ _ (by omega)]; exact g3 j hj) (fun e => by rw [sg_fup]; exact (g4 e).fill him (hst e))
                subst hE
                refine vsA_ok tk_X5_sorts rfl 20 ?_
                simp only [at_X5_sorts, mr_X5_sorts, vsA, vcA, denA, lget, lset, lst1, lst2, lclr, argsA, restA, acats, acat, tcA, tcN, rzA, lle, List.length_cons, List.length_nil, Option.toList_some, Option.toList_none, List.cons_append, List.nil_append, eG, eM, eD, eC, eS, eQ, eH, if_true, if_false, Nat.reduceAdd, Nat.reduceLeDiff, Nat.reduceEqDiff, Nat.reduceLT, Nat.reduceSub, Int.reduceEq, Int.reduceLE, Int.reduceToNat, reduceCtorEq, reduceIte, Nat.reduceBEq, Int.reduceNeg, not_true, not_false_iff, true_and, and_true, true_or, or_true, false_or, or_false, forall_const, implies_true, Nat.le_refl, Int.toNat_natCast, Int.reduceLT, ne_eq, Fin.isValue, Nat.add_zero, nC_hrw, nS_hrw, nC_hwr, nS_hwr, hkd_hrw, hkd_hwr, fin4_0, fin4_1, fin4_2, fin4_3, fin2_0, fin2_1, ci0, ci1, cnn, false_implies, w32_eq, w64_eq, (hFr f').m]
                try simp (disch := omega) only [yc_lt, yc_le, yc_gt, yc_ge, yc_eq, w32_eq, w64_eq, tn_add, tn_mul, Int.toNat_natCast, Int.reduceToNat, not_true, not_false_iff, false_implies, forall_const, implies_true, ei, hwr_hrw]
                repeat' (with_reducible first | apply And.intro | intro _)
                all_goals try omega
                all_goals try simp (disch := omega) only [w32_eq, w64_eq, tn_add, tn_mul, Int.toNat_natCast, Int.reduceToNat, Option.some.injEq, Sum.inr.injEq, Sum.inl.injEq, ei, hwr_hrw]
                all_goals try omega
                all_goals try exact (nx).weak rfl (by simp [lle] <;> omega)
              by_cases hig : i < g
              · have nx := fin (fun e h0 => by omega)
                subst hE
                refine vsA_ok tk_X5_sorts rfl 2 ?_
                simp only [at_X5_sorts, mr_X5_sorts, vsA, vcA, denA, lget, lset, lst1, lst2, lclr, argsA, restA, acats, acat, tcA, tcN, rzA, lle, List.length_cons, List.length_nil, Option.toList_some, Option.toList_none, List.cons_append, List.nil_append, eG, eM, eD, eC, eS, eQ, eH, if_true, if_false, Nat.reduceAdd, Nat.reduceLeDiff, Nat.reduceEqDiff, Nat.reduceLT, Nat.reduceSub, Int.reduceEq, Int.reduceLE, Int.reduceToNat, reduceCtorEq, reduceIte, Nat.reduceBEq, Int.reduceNeg, not_true, not_false_iff, true_and, and_true, true_or, or_true, false_or, or_false, forall_const, implies_true, Nat.le_refl, Int.toNat_natCast, Int.reduceLT, ne_eq, Fin.isValue, Nat.add_zero, nC_hrw, nS_hrw, nC_hwr, nS_hwr, hkd_hrw, hkd_hwr, fin4_0, fin4_1, fin4_2, fin4_3, fin2_0, fin2_1, ci0, ci1, cnn, false_implies, w32_eq, w64_eq]
                try simp (disch := omega) only [yc_lt, yc_le, yc_gt, yc_ge, yc_eq, w32_eq, w64_eq, tn_add, tn_mul, Int.toNat_natCast, Int.reduceToNat, not_true, not_false_iff, false_implies, forall_const, implies_true]
                repeat' (with_reducible first | apply And.intro | intro _)
                all_goals try omega
                all_goals try simp (disch := omega) only [w32_eq, w64_eq, tn_add, tn_mul, Int.toNat_natCast, Int.reduceToNat, Option.some.injEq, Sum.inr.injEq, Sum.inl.injEq]
                all_goals try omega
                all_goals try exact (nx).weak rfl (by simp [lle] <;> omega)
              · have e2 : ((a : Int) + (i : Int) - (g : Int)).toNat = a + (i - g) := by omega
                have hyi := g3 (i - g) (by omega)
                generalize hyy : f' (a + (i - g)) = z at *
                obtain ⟨hx1, hx2⟩ := hx64
                obtain ⟨hy1, hy2⟩ := hyi
                by_cases hzx : z ≤ x
                · have nx := fin (fun e h0 => by
                    subst e
                    show f' (a + (i - 1)) ≤ x
                    rw [hyy]; exact hzx)
                  subst hE
                  refine vsA_ok tk_X5_sorts rfl 13 ?_
                  simp only [at_X5_sorts, mr_X5_sorts, vsA, vcA, denA, lget, lset, lst1, lst2, lclr, argsA, restA, acats, acat, tcA, tcN, rzA, lle, List.length_cons, List.length_nil, Option.toList_some, Option.toList_none, List.cons_append, List.nil_append, eG, eM, eD, eC, eS, eQ, eH, if_true, if_false, Nat.reduceAdd, Nat.reduceLeDiff, Nat.reduceEqDiff, Nat.reduceLT, Nat.reduceSub, Int.reduceEq, Int.reduceLE, Int.reduceToNat, reduceCtorEq, reduceIte, Nat.reduceBEq, Int.reduceNeg, not_true, not_false_iff, true_and, and_true, true_or, or_true, false_or, or_false, forall_const, implies_true, Nat.le_refl, Int.toNat_natCast, Int.reduceLT, ne_eq, Fin.isValue, Nat.add_zero, nC_hrw, nS_hrw, nC_hwr, nS_hwr, hkd_hrw, hkd_hwr, fin4_0, fin4_1, fin4_2, fin4_3, fin2_0, fin2_1, ci0, ci1, cnn, false_implies, w32_eq, w64_eq, (hFr f').m]
                  try simp (disch := omega) only [yc_lt, yc_le, yc_gt, yc_ge, yc_eq, w32_eq, w64_eq, tn_add, tn_mul, Int.toNat_natCast, Int.reduceToNat, not_true, not_false_iff, false_implies, forall_const, implies_true, hdt_hrw_s, e2, hyy]
                  repeat' (with_reducible first | apply And.intro | intro _)
                  all_goals try omega
                  all_goals try simp (disch := omega) only [w32_eq, w64_eq, tn_add, tn_mul, Int.toNat_natCast, Int.reduceToNat, Option.some.injEq, Sum.inr.injEq, Sum.inl.injEq, hdt_hrw_s, e2, hyy]
                  all_goals try omega
                  all_goals try exact (nx).weak rfl (by simp [lle] <;> omega)
                · have nx := ihi (i - g) (by omega) (by omega) (fup f' (a + i) z) (fun j hj => by rw [fup_n _ _ (by omega)]; exact g1 j hj) (fun v => by
                    rw [sg_fup, ← g2 v, ← hyy]
                    exact cnF_move (sgF f' a) (i := i) (k := i - g) x v (by omega) (by omega) (by omega)) (fun j hj => by
                    by_cases e : j = i
                    · rw [e, fup_s]; exact ⟨hy1, hy2⟩
                    · rw [fup_n _ _ (by omega)]; exact g3 j hj) (fun e => by
                    rw [sg_fup, ← hyy]
                    subst e
                    exact (g4 rfl).move (by omega) him (by show x < f' (a + (i - 1)); rw [hyy]; omega))
                  rw [show ((i - g : Nat) : Int) = (i : Int) - (g : Int) by omega] at nx
                  subst hE
                  refine vsA_ok tk_X5_sorts rfl 40 ?_
                  simp only [at_X5_sorts, mr_X5_sorts, vsA, vcA, denA, lget, lset, lst1, lst2, lclr, argsA, restA, acats, acat, tcA, tcN, rzA, lle, List.length_cons, List.length_nil, Option.toList_some, Option.toList_none, List.cons_append, List.nil_append, eG, eM, eD, eC, eS, eQ, eH, if_true, if_false, Nat.reduceAdd, Nat.reduceLeDiff, Nat.reduceEqDiff, Nat.reduceLT, Nat.reduceSub, Int.reduceEq, Int.reduceLE, Int.reduceToNat, reduceCtorEq, reduceIte, Nat.reduceBEq, Int.reduceNeg, not_true, not_false_iff, true_and, and_true, true_or, or_true, false_or, or_false, forall_const, implies_true, Nat.le_refl, Int.toNat_natCast, Int.reduceLT, ne_eq, Fin.isValue, Nat.add_zero, nC_hrw, nS_hrw, nC_hwr, nS_hwr, hkd_hrw, hkd_hwr, fin4_0, fin4_1, fin4_2, fin4_3, fin2_0, fin2_1, ci0, ci1, cnn, false_implies, w32_eq, w64_eq, (hFr f').m]
                  try simp (disch := omega) only [yc_lt, yc_le, yc_gt, yc_ge, yc_eq, w32_eq, w64_eq, tn_add, tn_mul, Int.toNat_natCast, Int.reduceToNat, not_true, not_false_iff, false_implies, forall_const, implies_true, hdt_hrw_s, e2, ei, hyy, hwr_hrw]
                  repeat' (with_reducible first | apply And.intro | intro _)
                  all_goals try omega
                  all_goals try simp (disch := omega) only [w32_eq, w64_eq, tn_add, tn_mul, Int.toNat_natCast, Int.reduceToNat, Option.some.injEq, Sum.inr.injEq, Sum.inl.injEq, hdt_hrw_s, e2, ei, hyy, hwr_hrw]
                  all_goals try omega
                  all_goals try exact (nx).weak rfl (by simp [lle] <;> omega)
          have l3 := L3 m (Nat.le_refl _) f f1 (fun v => by
            rw [← f2 v, ← hxx]
            show cnF (fup (sgF f a) m (sgF f a m)) n v = _
            rw [fup_same]) f3 (fun e => ⟨fun j hj => f4 e j (by omega), fun j h1 h2 => by omega, fun j h1 h2 => by omega, fun h1 h2 => by omega⟩)
          have ei : ((a : Int) + (m : Int)).toNat = a + m := by omega
          subst hE
          refine vsA_ok tk_X5_sorts rfl 14 ?_
          simp only [at_X5_sorts, mr_X5_sorts, vsA, vcA, denA, lget, lset, lst1, lst2, lclr, argsA, restA, acats, acat, tcA, tcN, rzA, lle, List.length_cons, List.length_nil, Option.toList_some, Option.toList_none, List.cons_append, List.nil_append, eG, eM, eD, eC, eS, eQ, eH, if_true, if_false, Nat.reduceAdd, Nat.reduceLeDiff, Nat.reduceEqDiff, Nat.reduceLT, Nat.reduceSub, Int.reduceEq, Int.reduceLE, Int.reduceToNat, reduceCtorEq, reduceIte, Nat.reduceBEq, Int.reduceNeg, not_true, not_false_iff, true_and, and_true, true_or, or_true, false_or, or_false, forall_const, implies_true, Nat.le_refl, Int.toNat_natCast, Int.reduceLT, ne_eq, Fin.isValue, Nat.add_zero, nC_hrw, nS_hrw, nC_hwr, nS_hwr, hkd_hrw, hkd_hwr, fin4_0, fin4_1, fin4_2, fin4_3, fin2_0, fin2_1, ci0, ci1, cnn, false_implies, w32_eq, w64_eq, (hFr f).m]
          try simp (disch := omega) only [yc_lt, yc_le, yc_gt, yc_ge, yc_eq, w32_eq, w64_eq, tn_add, tn_mul, Int.toNat_natCast, Int.reduceToNat, not_true, not_false_iff, false_implies, forall_const, implies_true, hdt_hrw_s, ei, hxx]
          repeat' (with_reducible first | apply And.intro | intro _)
          all_goals try omega
          all_goals try simp (disch := omega) only [w32_eq, w64_eq, tn_add, tn_mul, Int.toNat_natCast, Int.reduceToNat, Option.some.injEq, Sum.inr.injEq, Sum.inl.injEq, hdt_hrw_s, ei, hxx]
          all_goals try omega
          all_goals try exact (l3).weak rfl (by simp [lle] <;> omega)
      have l2 := L2 (n - g) g rfl (Nat.le_refl _) (by omega) f f1 f2 f3 (fun e i hi => by omega)
      subst hE
      refine vsA_ok tk_X5_sorts rfl 4 ?_
      simp only [at_X5_sorts, mr_X5_sorts, vsA, vcA, denA, lget, lset, lst1, lst2, lclr, argsA, restA, acats, acat, tcA, tcN, rzA, lle, List.length_cons, List.length_nil, Option.toList_some, Option.toList_none, List.cons_append, List.nil_append, eG, eM, eD, eC, eS, eQ, eH, if_true, if_false, Nat.reduceAdd, Nat.reduceLeDiff, Nat.reduceEqDiff, Nat.reduceLT, Nat.reduceSub, Int.reduceEq, Int.reduceLE, Int.reduceToNat, reduceCtorEq, reduceIte, Nat.reduceBEq, Int.reduceNeg, not_true, not_false_iff, true_and, and_true, true_or, or_true, false_or, or_false, forall_const, implies_true, Nat.le_refl, Int.toNat_natCast, Int.reduceLT, ne_eq, Fin.isValue, Nat.add_zero, nC_hrw, nS_hrw, nC_hwr, nS_hwr, hkd_hrw, hkd_hwr, fin4_0, fin4_1, fin4_2, fin4_3, fin2_0, fin2_1, ci0, ci1, cnn, false_implies, w32_eq, w64_eq]
      try simp (disch := omega) only [yc_lt, yc_le, yc_gt, yc_ge, yc_eq, w32_eq, w64_eq, tn_add, tn_mul, Int.toNat_natCast, Int.reduceToNat, not_true, not_false_iff, false_implies, forall_const, implies_true]
      repeat' (with_reducible first | apply And.intro | intro _)
      all_goals try omega
      all_goals try simp (disch := omega) only [w32_eq, w64_eq, tn_add, tn_mul, Int.toNat_natCast, Int.reduceToNat, Option.some.injEq, Sum.inr.injEq, Sum.inl.injEq]
      all_goals try omega
      all_goals try exact (l2).weak rfl (by simp [lle] <;> omega)
  have l1 := L1 8 (Nat.le_refl _) (hdt h 145) (fun j _ => rfl) (fun v => rfl) hv (fun e => by omega)
  rw [hrw_self, show ((gkN 8 : Nat) : Int) = 3280 from rfl] at l1
  subst hE
  refine vsA_ok tk_X5_sorts rfl 4 ?_
  simp only [at_X5_sorts, mr_X5_sorts, vsA, vcA, denA, lget, lset, lst1, lst2, lclr, argsA, restA, acats, acat, tcA, tcN, rzA, lle, List.length_cons, List.length_nil, Option.toList_some, Option.toList_none, List.cons_append, List.nil_append, eG, eM, eD, eC, eS, eQ, eH, if_true, if_false, Nat.reduceAdd, Nat.reduceLeDiff, Nat.reduceEqDiff, Nat.reduceLT, Nat.reduceSub, Int.reduceEq, Int.reduceLE, Int.reduceToNat, reduceCtorEq, reduceIte, Nat.reduceBEq, Int.reduceNeg, not_true, not_false_iff, true_and, and_true, true_or, or_true, false_or, or_false, forall_const, implies_true, Nat.le_refl, Int.toNat_natCast, Int.reduceLT, ne_eq, Fin.isValue, Nat.add_zero, nC_hrw, nS_hrw, nC_hwr, nS_hwr, hkd_hrw, hkd_hwr, fin4_0, fin4_1, fin4_2, fin4_3, fin2_0, fin2_1, ci0, ci1, cnn, false_implies, w32_eq, w64_eq]
  try simp (disch := omega) only [yc_lt, yc_le, yc_gt, yc_ge, yc_eq, w32_eq, w64_eq, tn_add, tn_mul, Int.toNat_natCast, Int.reduceToNat, not_true, not_false_iff, false_implies, forall_const, implies_true]
  repeat' (with_reducible first | apply And.intro | intro _)
  all_goals try omega
  all_goals try simp (disch := omega) only [w32_eq, w64_eq, tn_add, tn_mul, Int.toNat_natCast, Int.reduceToNat, Option.some.injEq, Sum.inr.injEq, Sum.inl.injEq]
  all_goals try omega
  all_goals try exact (l1).weak rfl (by simp [lle] <;> omega)
end
/-- the table by which the greatest count is least: the first -/
def atB (F : Nat → Nat) (far : Nat) : Nat → Int × Nat
  | 0 => (-1, far)
  | t + 1 => if F t < (atB F far t).2 then ((t : Int), F t) else atB F far t
theorem atB_far {F : Nat → Nat} {f1 f2 : Nat} (h1 : ∀ t, F t < f1) (h2 : ∀ t, F t < f2) : ∀ T, (atB F f1 T).1 = (atB F f2 T).1 ∧ (0 < T → (atB F f1 T).2 = (atB F f2 T).2)
  | 0 => ⟨rfl, fun h => absurd h (Nat.not_lt_zero _)⟩
  | t + 1 => by
    obtain ⟨a1, a2⟩ := atB_far h1 h2 t
    show (if F t < (atB F f1 t).2 then ((t : Int), F t) else atB F f1 t).1 = (if F t < (atB F f2 t).2 then ((t : Int), F t) else atB F f2 t).1 ∧ (0 < t + 1 → (if F t < (atB F f1 t).2 then ((t : Int), F t) else atB F f1 t).2 = (if F t < (atB F f2 t).2 then ((t : Int), F t) else atB F f2 t).2)
    by_cases e : t = 0
    · subst e
      have b1 : F 0 < (atB F f1 0).2 := h1 0
      have b2 : F 0 < (atB F f2 0).2 := h2 0
      rw [if_pos b1, if_pos b2]
      exact ⟨rfl, fun _ => rfl⟩
    · rw [a2 (by omega)]
      by_cases q : F t < (atB F f2 t).2
      · rw [if_pos q, if_pos q]
        exact ⟨rfl, fun _ => rfl⟩
      · rw [if_neg q, if_neg q]
        exact ⟨a1, fun _ => a2 (by omega)⟩
theorem atB_in (F : Nat → Nat) (far : Nat) : ∀ T, -1 ≤ (atB F far T).1 ∧ (atB F far T).1 ≤ T ∧ (atB F far T).2 ≤ far
  | 0 => ⟨Int.le_refl _, by show (-1 : Int) ≤ 0; decide, Nat.le_refl _⟩
  | t + 1 => by
    obtain ⟨a1, a2, a3⟩ := atB_in F far t
    show -1 ≤ (if F t < (atB F far t).2 then ((t : Int), F t) else atB F far t).1 ∧ (if F t < (atB F far t).2 then ((t : Int), F t) else atB F far t).1 ≤ ((t + 1 : Nat) : Int) ∧ (if F t < (atB F far t).2 then ((t : Int), F t) else atB F far t).2 ≤ far
    split
    · exact ⟨by show -1 ≤ (t : Int); omega, by show (t : Int) ≤ _; omega, by show F t ≤ far; omega⟩
    · exact ⟨a1, by omega, a3⟩
/-- lengths behind a night more, row by row -/
def bhR (bec : Nat → Nat → List Nat) (Rs : List RwV) (t : Nat) : Nat → Int := fun k => ((lnV (nxV bec t (Rs.getD k dRw).2) : Nat) : Int)
noncomputable def alkR (bec : Nat → Nat → List Nat) (Rs : List RwV) (t : Nat) : Nat := mxC (cnF (bhR bec Rs t) Rs.length)
noncomputable def atmP (w : WD) (t : Int) : Int := if longF w t (-1) = 0 then if (lngS w t).length = 0 then -1 else (atB (alkR (sB (wS w)) (lngS w t)) 268435456 (sT (wS w))).1 else longF w t (-1)
/-- what there is by rows isn't too long -/
theorem lgL_bd {bec : Nat → Nat → List Nat} {T : Nat} (hb : ∀ t c, t < T → c < 6 → (bec t c).length ≤ 4) : ∀ (xs : List Int) (v : Nat → Nat) (B : Nat), lnV v * 4 ^ xs.length ≤ B → ∀ q ∈ lgL bec T xs v, lnV q.2 ≤ B
  | [], v, B, h, q, hq => by
    rw [List.mem_singleton.mp hq]
    simpa using h
  | x :: xs, v, B, h, q, hq => by
    rw [lgL_cons, List.mem_flatMap] at hq
    obtain ⟨t, ht, hq⟩ := hq
    unfold lgB at hq
    split at hq
    · rw [List.mem_map] at hq
      obtain ⟨r, hr, e⟩ := hq
      rw [← e]
      refine lgL_bd hb xs _ B ?_ r hr
      have h3 := Nat.mul_le_mul_right (4 ^ xs.length) (lnV_nx (hb t · (List.mem_range.mp ht)) v)
      have h4 : 4 * lnV v * 4 ^ xs.length = lnV v * 4 ^ (xs.length + 1) := by rw [Nat.pow_succ, Nat.mul_comm 4, Nat.mul_assoc, Nat.mul_comm 4]
      rw [List.length_cons] at h
      omega
    · simp at hq
section
variable {G : GT} {h : AH} {w : WD} {N : Int}
theorem lngS_bd {t : Int} {f : Nat → Int} (hA : AllS f (wS w) (wA w)) (hW : WOK N w) (h0 : longF w t (-1) = 0) : (lngS w t).length ≤ 6561 ∧ ∀ u k, u < sT (wS w) → k < (lngS w t).length → lnV (nxV (sB (wS w)) u ((lngS w t).getD k dRw).2) ≤ 1000000000000000000 := by
  obtain ⟨n, q, rfl, hn, hq, hvv, hlen, -⟩ := longF_0 h0
  have hsz := hA.1.sz
  unfold lngS
  rw [hvv]
  generalize q.2 = vs at *
  have hL : (wrd (sB (wS w)) (sS (wS w)) (wA w).1).length ≤ 1000000000000 := hW.2.1.2.2.2.2
  have hb4 : ∀ t c, t < sT (wS w) → c < 6 → (sB (wS w) t c).length ≤ 4 := fun t c ht hc => (hA.1.b4 (by omega) hc).1
  have hln : lnV (cntW (wrdS (wS w) (wA w))) * 4 ^ vs.length ≤ 65536000000000000 := by
    have h1 : lnV (cntW (wrdS (wS w) (wA w))) ≤ 1000000000000 := Nat.le_trans lnV_cnt hL
    have h2 : 4 ^ vs.length ≤ 4 ^ 8 := Nat.pow_le_pow_right (by decide) (by omega)
    exact Nat.le_trans (Nat.mul_le_mul h1 h2) (by decide)
  constructor
  · refine Nat.le_trans (lgL_len hsz.2.2.2.2 _ _) ?_
    have : 3 ^ vs.length ≤ 3 ^ 8 := Nat.pow_le_pow_right (by decide) (by omega)
    omega
  · intro u k hu hk
    have hmem : (lgL (sB (wS w)) (sT (wS w)) vs (cntW (wrdS (wS w) (wA w)))).getD k dRw ∈ lgL (sB (wS w)) (sT (wS w)) vs (cntW (wrdS (wS w) (wA w))) := by
      rw [List.getD_eq_getElem?_getD, List.getElem?_eq_getElem hk]
      exact List.getElem_mem hk
    have h1 := lgL_bd hb4 vs _ _ hln _ hmem
    have h2 := lnV_nx (hb4 u · hu) ((lgL (sB (wS w)) (sT (wS w)) vs (cntW (wrdS (wS w) (wA w)))).getD k dRw).2
    omega
theorem c_X5_attempt (hF : FxA h) (hM : MdC h w) (hW : WOK N w) (t : Int) (ht : In32 t) :
    CnA G mX5_attempt 15 0 0 [.inr (.inr (124)), .inl (t)] h (fun r h1 => r = some (.inl (atmP w t)) ∧ MpC h h1 w) := by
  obtain ⟨x0, hF0, hM0⟩ := thr_0 hF hM
  have hfin : MpC h (hwr h 124 0 0) w := MpC.scr hF hM x0 (by decide) (by decide)
  have hno := c_X5_noLong (G := G) hF0 hM0 hW t (-1) ht ⟨by decide, by decide⟩
  have hin := longF_in w t (-1)
  by_cases q0 : longF w t (-1) = 0
  · have hll := c_X5_laysLongRows (G := G) hF0 hM0 hW q0
    obtain ⟨hRl, hRb⟩ := lngS_bd hM0.1.1 hW q0
    rw [show atmP w t = if (lngS w t).length = 0 then -1 else (atB (alkR (sB (wS w)) (lngS w t)) 268435456 (sT (wS w))).1 from if_pos q0]
    rw [q0] at hno
    generalize lngS w t = Rs at *
    have hA : AllC (hdt h 125) (sT (wS w)) (sB (wS w)) (sS (wS w)) (wA w).1 (wA w).2.1 (wA w).2.2 := hM.1.1.1
    have hsz := hA.sz
    refine CnA.of rfl (Nat.le_of_ble_eq_true rfl) ?_
    simp only [largs, lpad, mr_X5_attempt]
    refine vsA_ok tk_X5_attempt rfl 20 ?_
    simp only [at_X5_attempt, mr_X5_attempt, vsA, vcA, denA, lget, lset, lst1, lst2, lclr, argsA, restA, acats, acat, tcA, tcN, rzA, lle, List.length_cons, List.length_nil, Option.toList_some, Option.toList_none, List.cons_append, List.nil_append, eG, eM, eD, eC, eS, eQ, eH, if_true, if_false, Nat.reduceAdd, Nat.reduceLeDiff, Nat.reduceEqDiff, Nat.reduceLT, Nat.reduceSub, Int.reduceEq, Int.reduceLE, Int.reduceToNat, reduceCtorEq, reduceIte, Nat.reduceBEq, Int.reduceNeg, not_true, not_false_iff, true_and, and_true, true_or, or_true, false_or, or_false, forall_const, implies_true, Nat.le_refl, Int.toNat_natCast, Int.reduceLT, ne_eq, Fin.isValue, Nat.add_zero, nC_hrw, nS_hrw, nC_hwr, nS_hwr, hkd_hrw, hkd_hwr, fin4_0, fin4_1, fin4_2, fin4_3, fin2_0, fin2_1, ci0, ci1, cnn, false_implies, w32_eq, w64_eq, hF.m, hF0.m]
    try simp (disch := omega) only [yc_lt, yc_le, yc_gt, yc_ge, yc_eq, w32_eq, w64_eq, tn_add, tn_mul, Int.toNat_natCast, Int.reduceToNat, not_true, not_false_iff, false_implies, forall_const, implies_true]
    repeat' (with_reducible first | apply And.intro | intro _)
    all_goals try omega
    all_goals try simp (disch := omega) only [w32_eq, w64_eq, tn_add, tn_mul, Int.toNat_natCast, Int.reduceToNat, Option.some.injEq, Sum.inr.injEq, Sum.inl.injEq]
    all_goals try omega
    refine ClA.pure (hno) (by first | exact Nat.le_of_ble_eq_true rfl | (simp only [eD]; omega)) (by first | exact Nat.le_refl _ | (simp only [eG, eD, eC, eS, eQ, eH, nC_hrw, nC_hwr, nS_hrw, nS_hwr, nC_hnw, nS_hnw]; omega)) (by first | exact Nat.le_refl _ | (simp only [eG, eD, eC, eS, eQ, eH, nC_hrw, nC_hwr, nS_hrw, nS_hwr, nC_hnw, nS_hnw]; omega)) ?_
    refine vsA_ok tk_X5_attempt rfl 20 ?_
    simp only [at_X5_attempt, mr_X5_attempt, vsA, vcA, denA, lget, lset, lst1, lst2, lclr, argsA, restA, acats, acat, tcA, tcN, rzA, lle, List.length_cons, List.length_nil, Option.toList_some, Option.toList_none, List.cons_append, List.nil_append, eG, eM, eD, eC, eS, eQ, eH, if_true, if_false, Nat.reduceAdd, Nat.reduceLeDiff, Nat.reduceEqDiff, Nat.reduceLT, Nat.reduceSub, Int.reduceEq, Int.reduceLE, Int.reduceToNat, reduceCtorEq, reduceIte, Nat.reduceBEq, Int.reduceNeg, not_true, not_false_iff, true_and, and_true, true_or, or_true, false_or, or_false, forall_const, implies_true, Nat.le_refl, Int.toNat_natCast, Int.reduceLT, ne_eq, Fin.isValue, Nat.add_zero, nC_hrw, nS_hrw, nC_hwr, nS_hwr, hkd_hrw, hkd_hwr, fin4_0, fin4_1, fin4_2, fin4_3, fin2_0, fin2_1, ci0, ci1, cnn, false_implies, w32_eq, w64_eq, hF0.m]
    try simp (disch := omega) only [yc_lt, yc_le, yc_gt, yc_ge, yc_eq, w32_eq, w64_eq, tn_add, tn_mul, Int.toNat_natCast, Int.reduceToNat, not_true, not_false_iff, false_implies, forall_const, implies_true]
    repeat' (with_reducible first | apply And.intro | intro _)
    all_goals try omega
    all_goals try simp (disch := omega) only [w32_eq, w64_eq, tn_add, tn_mul, Int.toNat_natCast, Int.reduceToNat, Option.some.injEq, Sum.inr.injEq, Sum.inl.injEq]
    all_goals try omega
    refine ClA.of (hll) (by first | exact Nat.le_of_ble_eq_true rfl | (simp only [eD]; omega)) (by first | exact Nat.le_refl _ | (simp only [eG, eD, eC, eS, eQ, eH, nC_hrw, nC_hwr, nS_hrw, nS_hwr, nC_hnw, nS_hnw]; omega)) (by first | exact Nat.le_refl _ | (simp only [eG, eD, eC, eS, eQ, eH, nC_hrw, nC_hwr, nS_hrw, nS_hwr, nC_hnw, nS_hnw]; omega)) ?_
    rintro _ h2 ⟨rfl, hx2, hL2⟩ - -
    have hx3 : FrM [131, 141, 143, 144, 145] [0, 37] h h2 := (FrM.up x0 (by decide) (by decide)).tr (FrM.up hx2 (by decide) (by decide))
    have hF3 := hF.frm hx3 (by decide +kernel)
    have c3 := hx3.2.1
    have eA : hdt h2 125 = hdt h 125 := FrM.c hx3 (by decide) (by decide)
    have hq2 := hA.q
    have hFr : ∀ f, FxA (hrw h2 145 f) := fun f => hF3.hrw (by decide +kernel) f
    have eAr : ∀ f, hdt (hrw h2 145 f) 125 = hdt h 125 := fun f => by rw [hdt_hrw_n _ _ (by decide)]; exact eA
    have hfin2 : ∀ f, MpC h (hrw h2 145 f) w := fun f => MpC.scr hF hM (hx3.rc (by decide) f) (by decide) (by decide)
    by_cases qn : Rs.length = 0
    · have hf0 := hfin2 (hdt h2 145)
      rw [hrw_self] at hf0
      have hx0 := hF3.m
      rw [if_pos qn, qn]
      refine vsA_ok tk_X5_attempt rfl 20 ?_
      simp only [at_X5_attempt, mr_X5_attempt, vsA, vcA, denA, lget, lset, lst1, lst2, lclr, argsA, restA, acats, acat, tcA, tcN, rzA, lle, List.length_cons, List.length_nil, Option.toList_some, Option.toList_none, List.cons_append, List.nil_append, eG, eM, eD, eC, eS, eQ, eH, if_true, if_false, Nat.reduceAdd, Nat.reduceLeDiff, Nat.reduceEqDiff, Nat.reduceLT, Nat.reduceSub, Int.reduceEq, Int.reduceLE, Int.reduceToNat, reduceCtorEq, reduceIte, Nat.reduceBEq, Int.reduceNeg, not_true, not_false_iff, true_and, and_true, true_or, or_true, false_or, or_false, forall_const, implies_true, Nat.le_refl, Int.toNat_natCast, Int.reduceLT, ne_eq, Fin.isValue, Nat.add_zero, nC_hrw, nS_hrw, nC_hwr, nS_hwr, hkd_hrw, hkd_hwr, fin4_0, fin4_1, fin4_2, fin4_3, fin2_0, fin2_1, ci0, ci1, cnn, false_implies, w32_eq, w64_eq]
      try simp (disch := omega) only [yc_lt, yc_le, yc_gt, yc_ge, yc_eq, w32_eq, w64_eq, tn_add, tn_mul, Int.toNat_natCast, Int.reduceToNat, not_true, not_false_iff, false_implies, forall_const, implies_true]
      repeat' (with_reducible first | apply And.intro | intro _)
      all_goals try omega
      all_goals try simp (disch := omega) only [w32_eq, w64_eq, tn_add, tn_mul, Int.toNat_natCast, Int.reduceToNat, Option.some.injEq, Sum.inr.injEq, Sum.inl.injEq]
      all_goals try omega
      refine vsA_ok tk_X5_attempt rfl 20 ?_
      simp only [at_X5_attempt, mr_X5_attempt, vsA, vcA, denA, lget, lset, lst1, lst2, lclr, argsA, restA, acats, acat, tcA, tcN, rzA, lle, List.length_cons, List.length_nil, Option.toList_some, Option.toList_none, List.cons_append, List.nil_append, eG, eM, eD, eC, eS, eQ, eH, if_true, if_false, Nat.reduceAdd, Nat.reduceLeDiff, Nat.reduceEqDiff, Nat.reduceLT, Nat.reduceSub, Int.reduceEq, Int.reduceLE, Int.reduceToNat, reduceCtorEq, reduceIte, Nat.reduceBEq, Int.reduceNeg, not_true, not_false_iff, true_and, and_true, true_or, or_true, false_or, or_false, forall_const, implies_true, Nat.le_refl, Int.toNat_natCast, Int.reduceLT, ne_eq, Fin.isValue, Nat.add_zero, nC_hrw, nS_hrw, nC_hwr, nS_hwr, hkd_hrw, hkd_hwr, fin4_0, fin4_1, fin4_2, fin4_3, fin2_0, fin2_1, ci0, ci1, cnn, false_implies, w32_eq, w64_eq, hF3.m, eA, hq2, c3]
      try simp (disch := omega) only [yc_lt, yc_le, yc_gt, yc_ge, yc_eq, w32_eq, w64_eq, tn_add, tn_mul, Int.toNat_natCast, Int.reduceToNat, not_true, not_false_iff, false_implies, forall_const, implies_true]
      repeat' (with_reducible first | apply And.intro | intro _)
      all_goals try omega
      all_goals try simp (disch := omega) only [w32_eq, w64_eq, tn_add, tn_mul, Int.toNat_natCast, Int.reduceToNat, Option.some.injEq, Sum.inr.injEq, Sum.inl.injEq]
      all_goals try omega
      all_goals exact hf0
    · rw [if_neg qn]
      generalize hAF : alkR (sB (wS w)) Rs = AF
      have hAF' : ∀ t, mxC (cnF (bhR (sB (wS w)) Rs t) Rs.length) = AF t := fun t => by rw [← hAF]; rfl
      have hal := hL2.2.2.1
      generalize hE : ((G, mX5_attempt, _, _, _, _, h) : EV) = E
      have L1 : ∀ u, u ≤ sT (wS w) → ∀ f, (∀ v k, u ≤ v → v < sT (wS w) → k < Rs.length → f (6561 * v + k) = bhR (sB (wS w)) Rs v k) →
          ExA E 35 [some (.inr (.inr (124))), some (.inl (t)), some (.inl (0)), some (.inl ((Rs.length : Int))), some (.inl ((atB AF 268435456 u).1)), some (.inl (((atB AF 268435456 u).2 : Int))), some (.inl ((u : Int))), none, none, none] [] (hrw h2 145 f) := by
        refine lpI _ fun u hu ihu f hf => ?_
        have hai := atB_in AF 268435456 u
        by_cases huT : u < sT (wS w)
        · have ihu := ihu huT
          have hsv : ∀ j, j < Rs.length → In64 (hdt (hrw h2 145 f) 145 (6561 * u + j)) := fun j hj => by
            rw [hdt_hrw_s, hf u j (Nat.le_refl _) huT hj]
            have := hRb u j huT hj
            exact ⟨by show -9223372036854775808 ≤ ((lnV (nxV (sB (wS w)) u (Rs.getD j dRw).2) : Nat) : Int); omega, by show ((lnV (nxV (sB (wS w)) u (Rs.getD j dRw).2) : Nat) : Int) < _; omega⟩
          have hso := c_X5_sorts (G := G) (hFr f) (a := 6561 * u) (n := Rs.length) (by omega) hsv
          rw [show ((6561 * u : Nat) : Int) = 6561 * (u : Int) by omega] at hso
          -- behind the sorting
          have Z : ∀ f2, (∀ j, j < 6561 * u ∨ 6561 * u + Rs.length ≤ j → f2 j = f j) → (∀ j, j < Rs.length → In64 (f2 (6561 * u + j))) → SrtF (sgF f2 (6561 * u)) Rs.length → AF u = rnM (sgF f2 (6561 * u)) Rs.length → ∀ k, k ≤ Rs.length →
              ExA E 70 [some (.inr (.inr (124))), some (.inl (t)), some (.inl (0)), some (.inl ((Rs.length : Int))), some (.inl ((atB AF 268435456 u).1)), some (.inl (((atB AF 268435456 u).2 : Int))), some (.inl ((u : Int))), some (.inl ((rnM (sgF f2 (6561 * u)) k : Int))), some (.inl ((rnR (sgF f2 (6561 * u)) k : Int))), some (.inl ((k : Int)))] [] (hrw h2 145 f2) := by
            intro f2 z1 z2 z3 z4
            refine lpI _ fun k hk ihk => ?_
            by_cases hkl : k < Rs.length
            · have ihk := ihk hkl
              have hkk := z2 k hkl
              have hb1 := rnR_le (sgF f2 (6561 * u)) k
              have hb2 := rnM_le (sgF f2 (6561 * u)) k
              have hn1 : rnR (sgF f2 (6561 * u)) (k + 1) = if 0 < k ∧ f2 (6561 * u + k) = f2 (6561 * u + (k - 1)) then rnR (sgF f2 (6561 * u)) k + 1 else 1 := rfl
              have hn2 : rnM (sgF f2 (6561 * u)) (k + 1) = if rnM (sgF f2 (6561 * u)) k < rnR (sgF f2 (6561 * u)) (k + 1) then rnR (sgF f2 (6561 * u)) (k + 1) else rnM (sgF f2 (6561 * u)) k := rfl
              have hb3 := rnR_le (sgF f2 (6561 * u)) (k + 1)
              have ek : (6561 * (u : Int) + (k : Int)).toNat = 6561 * u + k := by omega
              have hpre : 0 < k → In64 (f2 (6561 * u + (k - 1))) := fun _ => z2 (k - 1) (by omega)
              have Y : ExA E 125 [some (.inr (.inr (124))), some (.inl (t)), some (.inl (0)), some (.inl ((Rs.length : Int))), some (.inl ((atB AF 268435456 u).1)), some (.inl (((atB AF 268435456 u).2 : Int))), some (.inl ((u : Int))), some (.inl ((rnM (sgF f2 (6561 * u)) k : Int))), some (.inl ((rnR (sgF f2 (6561 * u)) (k + 1) : Int))), some (.inl ((k : Int)))] [] (hrw h2 145 f2) := by
                rw [hn2] at ihk
                generalize rnR (sgF f2 (6561 * u)) (k + 1) = r1 at *
                generalize rnM (sgF f2 (6561 * u)) k = m0 at *
                by_cases q : m0 < r1
                · rw [if_pos q] at ihk
                  subst hE
                  refine vsA_ok tk_X5_attempt rfl 10 ?_
                  simp only [at_X5_attempt, mr_X5_attempt, vsA, vcA, denA, lget, lset, lst1, lst2, lclr, argsA, restA, acats, acat, tcA, tcN, rzA, lle, List.length_cons, List.length_nil, Option.toList_some, Option.toList_none, List.cons_append, List.nil_append, eG, eM, eD, eC, eS, eQ, eH, if_true, if_false, Nat.reduceAdd, Nat.reduceLeDiff, Nat.reduceEqDiff, Nat.reduceLT, Nat.reduceSub, Int.reduceEq, Int.reduceLE, Int.reduceToNat, reduceCtorEq, reduceIte, Nat.reduceBEq, Int.reduceNeg, not_true, not_false_iff, true_and, and_true, true_or, or_true, false_or, or_false, forall_const, implies_true, Nat.le_refl, Int.toNat_natCast, Int.reduceLT, ne_eq, Fin.isValue, Nat.add_zero, nC_hrw, nS_hrw, nC_hwr, nS_hwr, hkd_hrw, hkd_hwr, fin4_0, fin4_1, fin4_2, fin4_3, fin2_0, fin2_1, ci0, ci1, cnn, false_implies, w32_eq, w64_eq]
                  try simp (disch := omega) only [yc_lt, yc_le, yc_gt, yc_ge, yc_eq, w32_eq, w64_eq, tn_add, tn_mul, Int.toNat_natCast, Int.reduceToNat, not_true, not_false_iff, false_implies, forall_const, implies_true]
                  repeat' (with_reducible first | apply And.intro | intro _)
                  all_goals try omega
                  all_goals try simp (disch := omega) only [w32_eq, w64_eq, tn_add, tn_mul, Int.toNat_natCast, Int.reduceToNat, Option.some.injEq, Sum.inr.injEq, Sum.inl.injEq]
                  all_goals try omega
                  all_goals try exact (ihk).weak rfl (by simp [lle] <;> omega)
                · rw [if_neg q] at ihk
                  subst hE
                  refine vsA_ok tk_X5_attempt rfl 10 ?_
                  simp only [at_X5_attempt, mr_X5_attempt, vsA, vcA, denA, lget, lset, lst1, lst2, lclr, argsA, restA, acats, acat, tcA, tcN, rzA, lle, List.length_cons, List.length_nil, Option.toList_some, Option.toList_none, List.cons_append, List.nil_append, eG, eM, eD, eC, eS, eQ, eH, if_true, if_false, Nat.reduceAdd, Nat.reduceLeDiff, Nat.reduceEqDiff, Nat.reduceLT, Nat.reduceSub, Int.reduceEq, Int.reduceLE, Int.reduceToNat, reduceCtorEq, reduceIte, Nat.reduceBEq, Int.reduceNeg, not_true, not_false_iff, true_and, and_true, true_or, or_true, false_or, or_false, forall_const, implies_true, Nat.le_refl, Int.toNat_natCast, Int.reduceLT, ne_eq, Fin.isValue, Nat.add_zero, nC_hrw, nS_hrw, nC_hwr, nS_hwr, hkd_hrw, hkd_hwr, fin4_0, fin4_1, fin4_2, fin4_3, fin2_0, fin2_1, ci0, ci1, cnn, false_implies, w32_eq, w64_eq]
                  try simp (disch := omega) only [yc_lt, yc_le, yc_gt, yc_ge, yc_eq, w32_eq, w64_eq, tn_add, tn_mul, Int.toNat_natCast, Int.reduceToNat, not_true, not_false_iff, false_implies, forall_const, implies_true]
                  repeat' (with_reducible first | apply And.intro | intro _)
                  all_goals try omega
                  all_goals try simp (disch := omega) only [w32_eq, w64_eq, tn_add, tn_mul, Int.toNat_natCast, Int.reduceToNat, Option.some.injEq, Sum.inr.injEq, Sum.inl.injEq]
                  all_goals try omega
                  all_goals try exact (ihk).weak rfl (by simp [lle] <;> omega)
              rw [hn1] at Y
              generalize rnR (sgF f2 (6561 * u)) k = r0 at *
              generalize rnM (sgF f2 (6561 * u)) k = m0 at *
              generalize hy0 : f2 (6561 * u + k) = y0 at *
              obtain ⟨hk1, hk2⟩ := hkk
              by_cases q0 : 0 < k
              · have ek1 : (6561 * (u : Int) + (k : Int) - 1).toNat = 6561 * u + (k - 1) := by omega
                obtain ⟨hp1, hp2⟩ := hpre q0
                generalize hy1 : f2 (6561 * u + (k - 1)) = y1 at *
                by_cases q1 : y0 = y1
                · rw [if_pos ⟨q0, q1⟩] at Y
                  subst q1
                  subst hE
                  refine vsA_ok tk_X5_attempt rfl 29 ?_
                  simp only [at_X5_attempt, mr_X5_attempt, vsA, vcA, denA, lget, lset, lst1, lst2, lclr, argsA, restA, acats, acat, tcA, tcN, rzA, lle, List.length_cons, List.length_nil, Option.toList_some, Option.toList_none, List.cons_append, List.nil_append, eG, eM, eD, eC, eS, eQ, eH, if_true, if_false, Nat.reduceAdd, Nat.reduceLeDiff, Nat.reduceEqDiff, Nat.reduceLT, Nat.reduceSub, Int.reduceEq, Int.reduceLE, Int.reduceToNat, reduceCtorEq, reduceIte, Nat.reduceBEq, Int.reduceNeg, not_true, not_false_iff, true_and, and_true, true_or, or_true, false_or, or_false, forall_const, implies_true, Nat.le_refl, Int.toNat_natCast, Int.reduceLT, ne_eq, Fin.isValue, Nat.add_zero, nC_hrw, nS_hrw, nC_hwr, nS_hwr, hkd_hrw, hkd_hwr, fin4_0, fin4_1, fin4_2, fin4_3, fin2_0, fin2_1, ci0, ci1, cnn, false_implies, w32_eq, w64_eq, (hFr f2).m]
                  try simp (disch := omega) only [yc_lt, yc_le, yc_gt, yc_ge, yc_eq, w32_eq, w64_eq, tn_add, tn_mul, Int.toNat_natCast, Int.reduceToNat, not_true, not_false_iff, false_implies, forall_const, implies_true, hdt_hrw_s, ek, ek1, hy0, hy1]
                  repeat' (with_reducible first | apply And.intro | intro _)
                  all_goals try omega
                  all_goals try simp (disch := omega) only [w32_eq, w64_eq, tn_add, tn_mul, Int.toNat_natCast, Int.reduceToNat, Option.some.injEq, Sum.inr.injEq, Sum.inl.injEq, hdt_hrw_s, ek, ek1, hy0, hy1]
                  all_goals try omega
                  all_goals try exact (Y).weak rfl (by simp [lle] <;> omega)
                · rw [if_neg (fun z => q1 z.2)] at Y
                  subst hE
                  refine vsA_ok tk_X5_attempt rfl 26 ?_
                  simp only [at_X5_attempt, mr_X5_attempt, vsA, vcA, denA, lget, lset, lst1, lst2, lclr, argsA, restA, acats, acat, tcA, tcN, rzA, lle, List.length_cons, List.length_nil, Option.toList_some, Option.toList_none, List.cons_append, List.nil_append, eG, eM, eD, eC, eS, eQ, eH, if_true, if_false, Nat.reduceAdd, Nat.reduceLeDiff, Nat.reduceEqDiff, Nat.reduceLT, Nat.reduceSub, Int.reduceEq, Int.reduceLE, Int.reduceToNat, reduceCtorEq, reduceIte, Nat.reduceBEq, Int.reduceNeg, not_true, not_false_iff, true_and, and_true, true_or, or_true, false_or, or_false, forall_const, implies_true, Nat.le_refl, Int.toNat_natCast, Int.reduceLT, ne_eq, Fin.isValue, Nat.add_zero, nC_hrw, nS_hrw, nC_hwr, nS_hwr, hkd_hrw, hkd_hwr, fin4_0, fin4_1, fin4_2, fin4_3, fin2_0, fin2_1, ci0, ci1, cnn, false_implies, w32_eq, w64_eq, (hFr f2).m]
                  try simp (disch := omega) only [yc_lt, yc_le, yc_gt, yc_ge, yc_eq, w32_eq, w64_eq, tn_add, tn_mul, Int.toNat_natCast, Int.reduceToNat, not_true, not_false_iff, false_implies, forall_const, implies_true, hdt_hrw_s, ek, ek1, hy0, hy1]
                  repeat' (with_reducible first | apply And.intro | intro _)
                  all_goals try omega
                  all_goals try simp (disch := omega) only [w32_eq, w64_eq, tn_add, tn_mul, Int.toNat_natCast, Int.reduceToNat, Option.some.injEq, Sum.inr.injEq, Sum.inl.injEq, hdt_hrw_s, ek, ek1, hy0, hy1]
                  all_goals try omega
                  all_goals try exact (Y).weak rfl (by simp [lle] <;> omega)
              · rw [if_neg (fun z => q0 z.1)] at Y
                subst hE
                refine vsA_ok tk_X5_attempt rfl 6 ?_
                simp only [at_X5_attempt, mr_X5_attempt, vsA, vcA, denA, lget, lset, lst1, lst2, lclr, argsA, restA, acats, acat, tcA, tcN, rzA, lle, List.length_cons, List.length_nil, Option.toList_some, Option.toList_none, List.cons_append, List.nil_append, eG, eM, eD, eC, eS, eQ, eH, if_true, if_false, Nat.reduceAdd, Nat.reduceLeDiff, Nat.reduceEqDiff, Nat.reduceLT, Nat.reduceSub, Int.reduceEq, Int.reduceLE, Int.reduceToNat, reduceCtorEq, reduceIte, Nat.reduceBEq, Int.reduceNeg, not_true, not_false_iff, true_and, and_true, true_or, or_true, false_or, or_false, forall_const, implies_true, Nat.le_refl, Int.toNat_natCast, Int.reduceLT, ne_eq, Fin.isValue, Nat.add_zero, nC_hrw, nS_hrw, nC_hwr, nS_hwr, hkd_hrw, hkd_hwr, fin4_0, fin4_1, fin4_2, fin4_3, fin2_0, fin2_1, ci0, ci1, cnn, false_implies, w32_eq, w64_eq]
                try simp (disch := omega) only [yc_lt, yc_le, yc_gt, yc_ge, yc_eq, w32_eq, w64_eq, tn_add, tn_mul, Int.toNat_natCast, Int.reduceToNat, not_true, not_false_iff, false_implies, forall_const, implies_true]
                repeat' (with_reducible first | apply And.intro | intro _)
                all_goals try omega
                all_goals try simp (disch := omega) only [w32_eq, w64_eq, tn_add, tn_mul, Int.toNat_natCast, Int.reduceToNat, Option.some.injEq, Sum.inr.injEq, Sum.inl.injEq]
                all_goals try omega
                all_goals try exact (Y).weak rfl (by simp [lle] <;> omega)
            · have hkn : k = Rs.length := by omega
              subst hkn
              rw [← z4]
              have hfb : AF u ≤ 6561 := by rw [z4]; exact Nat.le_trans (rnM_le _ _) hRl
              have nx := ihu f2 (fun v k hv hvT hk => by
                rw [z1 _ (by omega)]
                exact hf v k (by omega) hvT hk)
              rw [show atB AF 268435456 (u + 1) = if AF u < (atB AF 268435456 u).2 then ((u : Int), AF u) else atB AF 268435456 u from rfl] at nx
              generalize atB AF 268435456 u = ab at *
              obtain ⟨ab1, ab2⟩ := ab
              by_cases q : AF u < ab2
              · rw [if_pos q] at nx
                have hai : -1 ≤ ab1 ∧ ab1 ≤ (u : Int) ∧ ab2 ≤ 268435456 := hai
                subst hE
                refine vsA_ok tk_X5_attempt rfl 12 ?_
                simp only [at_X5_attempt, mr_X5_attempt, vsA, vcA, denA, lget, lset, lst1, lst2, lclr, argsA, restA, acats, acat, tcA, tcN, rzA, lle, List.length_cons, List.length_nil, Option.toList_some, Option.toList_none, List.cons_append, List.nil_append, eG, eM, eD, eC, eS, eQ, eH, if_true, if_false, Nat.reduceAdd, Nat.reduceLeDiff, Nat.reduceEqDiff, Nat.reduceLT, Nat.reduceSub, Int.reduceEq, Int.reduceLE, Int.reduceToNat, reduceCtorEq, reduceIte, Nat.reduceBEq, Int.reduceNeg, not_true, not_false_iff, true_and, and_true, true_or, or_true, false_or, or_false, forall_const, implies_true, Nat.le_refl, Int.toNat_natCast, Int.reduceLT, ne_eq, Fin.isValue, Nat.add_zero, nC_hrw, nS_hrw, nC_hwr, nS_hwr, hkd_hrw, hkd_hwr, fin4_0, fin4_1, fin4_2, fin4_3, fin2_0, fin2_1, ci0, ci1, cnn, false_implies, w32_eq, w64_eq]
                try simp (disch := omega) only [yc_lt, yc_le, yc_gt, yc_ge, yc_eq, w32_eq, w64_eq, tn_add, tn_mul, Int.toNat_natCast, Int.reduceToNat, not_true, not_false_iff, false_implies, forall_const, implies_true]
                repeat' (with_reducible first | apply And.intro | intro _)
                all_goals try omega
                all_goals try simp (disch := omega) only [w32_eq, w64_eq, tn_add, tn_mul, Int.toNat_natCast, Int.reduceToNat, Option.some.injEq, Sum.inr.injEq, Sum.inl.injEq]
                all_goals try omega
                all_goals try exact (nx).weak rfl (by simp [lle] <;> omega)
              · rw [if_neg q] at nx
                have hai : -1 ≤ ab1 ∧ ab1 ≤ (u : Int) ∧ ab2 ≤ 268435456 := hai
                subst hE
                refine vsA_ok tk_X5_attempt rfl 12 ?_
                simp only [at_X5_attempt, mr_X5_attempt, vsA, vcA, denA, lget, lset, lst1, lst2, lclr, argsA, restA, acats, acat, tcA, tcN, rzA, lle, List.length_cons, List.length_nil, Option.toList_some, Option.toList_none, List.cons_append, List.nil_append, eG, eM, eD, eC, eS, eQ, eH, if_true, if_false, Nat.reduceAdd, Nat.reduceLeDiff, Nat.reduceEqDiff, Nat.reduceLT, Nat.reduceSub, Int.reduceEq, Int.reduceLE, Int.reduceToNat, reduceCtorEq, reduceIte, Nat.reduceBEq, Int.reduceNeg, not_true, not_false_iff, true_and, and_true, true_or, or_true, false_or, or_false, forall_const, implies_true, Nat.le_refl, Int.toNat_natCast, Int.reduceLT, ne_eq, Fin.isValue, Nat.add_zero, nC_hrw, nS_hrw, nC_hwr, nS_hwr, hkd_hrw, hkd_hwr, fin4_0, fin4_1, fin4_2, fin4_3, fin2_0, fin2_1, ci0, ci1, cnn, false_implies, w32_eq, w64_eq]
                try simp (disch := omega) only [yc_lt, yc_le, yc_gt, yc_ge, yc_eq, w32_eq, w64_eq, tn_add, tn_mul, Int.toNat_natCast, Int.reduceToNat, not_true, not_false_iff, false_implies, forall_const, implies_true]
                repeat' (with_reducible first | apply And.intro | intro _)
                all_goals try omega
                all_goals try simp (disch := omega) only [w32_eq, w64_eq, tn_add, tn_mul, Int.toNat_natCast, Int.reduceToNat, Option.some.injEq, Sum.inr.injEq, Sum.inl.injEq]
                all_goals try omega
                all_goals try exact (nx).weak rfl (by simp [lle] <;> omega)
          subst hE
          refine vsA_ok tk_X5_attempt rfl 20 ?_
          simp only [at_X5_attempt, mr_X5_attempt, vsA, vcA, denA, lget, lset, lst1, lst2, lclr, argsA, restA, acats, acat, tcA, tcN, rzA, lle, List.length_cons, List.length_nil, Option.toList_some, Option.toList_none, List.cons_append, List.nil_append, eG, eM, eD, eC, eS, eQ, eH, if_true, if_false, Nat.reduceAdd, Nat.reduceLeDiff, Nat.reduceEqDiff, Nat.reduceLT, Nat.reduceSub, Int.reduceEq, Int.reduceLE, Int.reduceToNat, reduceCtorEq, reduceIte, Nat.reduceBEq, Int.reduceNeg, not_true, not_false_iff, true_and, and_true, true_or, or_true, false_or, or_false, forall_const, implies_true, Nat.le_refl, Int.toNat_natCast, Int.reduceLT, ne_eq, Fin.isValue, Nat.add_zero, nC_hrw, nS_hrw, nC_hwr, nS_hwr, hkd_hrw, hkd_hwr, fin4_0, fin4_1, fin4_2, fin4_3, fin2_0, fin2_1, ci0, ci1, cnn, false_implies, w32_eq, w64_eq, (hFr f).m, eAr, hq2]
          try simp (disch := omega) only [yc_lt, yc_le, yc_gt, yc_ge, yc_eq, w32_eq, w64_eq, tn_add, tn_mul, Int.toNat_natCast, Int.reduceToNat, not_true, not_false_iff, false_implies, forall_const, implies_true]
          repeat' (with_reducible first | apply And.intro | intro _)
          all_goals try omega
          all_goals try simp (disch := omega) only [w32_eq, w64_eq, tn_add, tn_mul, Int.toNat_natCast, Int.reduceToNat, Option.some.injEq, Sum.inr.injEq, Sum.inl.injEq]
          all_goals try omega
          refine ClA.of (hso) (by first | exact Nat.le_of_ble_eq_true rfl | (simp only [eD]; omega)) (by first | exact Nat.le_refl _ | (simp only [eG, eD, eC, eS, eQ, eH, nC_hrw, nC_hwr, nS_hrw, nS_hwr, nC_hnw, nS_hnw]; omega)) (by first | exact Nat.le_refl _ | (simp only [eG, eD, eC, eS, eQ, eH, nC_hrw, nC_hwr, nS_hrw, nS_hwr, nC_hnw, nS_hnw]; omega)) ?_
          rintro _ h4 ⟨rfl, f2, rfl, s1, s2, s3⟩ - -
          rw [hrw_hrw, hdt_hrw_s] at *
          have z := Z f2 s1 (fun j hj => by
            have hc : 1 ≤ cnF (sgF f2 (6561 * u)) Rs.length (f2 (6561 * u + j)) := by
              have key : ∀ n, j < n → 1 ≤ cnF (sgF f2 (6561 * u)) n (f2 (6561 * u + j)) := by
                intro n
                induction n with
                | zero => intro hz; omega
                | succ n ihn =>
                  intro hz
                  rw [cnF_s]
                  by_cases e : j = n
                  · rw [e, if_pos (show sgF f2 (6561 * u) n = f2 (6561 * u + n) from rfl)]; omega
                  · have := ihn (by omega)
                    omega
              exact key _ hj
            rw [s2] at hc
            by_cases hex : ∃ i, i < Rs.length ∧ sgF f (6561 * u) i = f2 (6561 * u + j)
            · obtain ⟨i, hi, e⟩ := hex
              rw [← e]
              have := hsv i hi
              exact this
            · rw [cnF_0 _ (fun i hi e => hex ⟨i, hi, e⟩)] at hc
              omega) s3 (by
            rw [← hAF' u, ← rn_mx s3]
            congr 1
            funext v
            rw [s2]
            exact (cnF_congr _ _ fun i hi => hf u i (Nat.le_refl _) huT hi).symm) 0 (Nat.zero_le _)
          rw [show rnM (sgF f2 (6561 * u)) 0 = 0 from rfl, show rnR (sgF f2 (6561 * u)) 0 = 0 from rfl] at z
          refine vsA_ok tk_X5_attempt rfl 8 ?_
          simp only [at_X5_attempt, mr_X5_attempt, vsA, vcA, denA, lget, lset, lst1, lst2, lclr, argsA, restA, acats, acat, tcA, tcN, rzA, lle, List.length_cons, List.length_nil, Option.toList_some, Option.toList_none, List.cons_append, List.nil_append, eG, eM, eD, eC, eS, eQ, eH, if_true, if_false, Nat.reduceAdd, Nat.reduceLeDiff, Nat.reduceEqDiff, Nat.reduceLT, Nat.reduceSub, Int.reduceEq, Int.reduceLE, Int.reduceToNat, reduceCtorEq, reduceIte, Nat.reduceBEq, Int.reduceNeg, not_true, not_false_iff, true_and, and_true, true_or, or_true, false_or, or_false, forall_const, implies_true, Nat.le_refl, Int.toNat_natCast, Int.reduceLT, ne_eq, Fin.isValue, Nat.add_zero, nC_hrw, nS_hrw, nC_hwr, nS_hwr, hkd_hrw, hkd_hwr, fin4_0, fin4_1, fin4_2, fin4_3, fin2_0, fin2_1, ci0, ci1, cnn, false_implies, w32_eq, w64_eq]
          try simp (disch := omega) only [yc_lt, yc_le, yc_gt, yc_ge, yc_eq, w32_eq, w64_eq, tn_add, tn_mul, Int.toNat_natCast, Int.reduceToNat, not_true, not_false_iff, false_implies, forall_const, implies_true]
          repeat' (with_reducible first | apply And.intro | intro _)
          all_goals try omega
          all_goals try simp (disch := omega) only [w32_eq, w64_eq, tn_add, tn_mul, Int.toNat_natCast, Int.reduceToNat, Option.some.injEq, Sum.inr.injEq, Sum.inl.injEq]
          all_goals try omega
          all_goals try exact (z).weak rfl (by simp [lle] <;> omega)
        · have huT : u = sT (wS w) := by omega
          subst huT
          generalize atB AF 268435456 (sT (wS w)) = ab at *
          subst hE
          refine vsA_ok tk_X5_attempt rfl 12 ?_
          simp only [at_X5_attempt, mr_X5_attempt, vsA, vcA, denA, lget, lset, lst1, lst2, lclr, argsA, restA, acats, acat, tcA, tcN, rzA, lle, List.length_cons, List.length_nil, Option.toList_some, Option.toList_none, List.cons_append, List.nil_append, eG, eM, eD, eC, eS, eQ, eH, if_true, if_false, Nat.reduceAdd, Nat.reduceLeDiff, Nat.reduceEqDiff, Nat.reduceLT, Nat.reduceSub, Int.reduceEq, Int.reduceLE, Int.reduceToNat, reduceCtorEq, reduceIte, Nat.reduceBEq, Int.reduceNeg, not_true, not_false_iff, true_and, and_true, true_or, or_true, false_or, or_false, forall_const, implies_true, Nat.le_refl, Int.toNat_natCast, Int.reduceLT, ne_eq, Fin.isValue, Nat.add_zero, nC_hrw, nS_hrw, nC_hwr, nS_hwr, hkd_hrw, hkd_hwr, fin4_0, fin4_1, fin4_2, fin4_3, fin2_0, fin2_1, ci0, ci1, cnn, false_implies, w32_eq, w64_eq, (hFr f).m, eAr, hq2, c3]
          try simp (disch := omega) only [yc_lt, yc_le, yc_gt, yc_ge, yc_eq, w32_eq, w64_eq, tn_add, tn_mul, Int.toNat_natCast, Int.reduceToNat, not_true, not_false_iff, false_implies, forall_const, implies_true]
          repeat' (with_reducible first | apply And.intro | intro _)
          all_goals try omega
          all_goals try simp (disch := omega) only [w32_eq, w64_eq, tn_add, tn_mul, Int.toNat_natCast, Int.reduceToNat, Option.some.injEq, Sum.inr.injEq, Sum.inl.injEq]
          all_goals try omega
          all_goals first | rfl | exact hfin2 f
      have l1 := L1 0 (Nat.zero_le _) (hdt h2 145) (fun v k _ hv hk => hal v k hv hk)
      rw [hrw_self] at l1
      subst hE
      have l1 : ExA _ 35 [some (.inr (.inr (124))), some (.inl (t)), some (.inl (0)), some (.inl ((Rs.length : Int))), some (.inl ((-1))), some (.inl (268435456)), some (.inl (0)), none, none, none] [] h2 := l1
      refine vsA_ok tk_X5_attempt rfl 12 ?_
      simp only [at_X5_attempt, mr_X5_attempt, vsA, vcA, denA, lget, lset, lst1, lst2, lclr, argsA, restA, acats, acat, tcA, tcN, rzA, lle, List.length_cons, List.length_nil, Option.toList_some, Option.toList_none, List.cons_append, List.nil_append, eG, eM, eD, eC, eS, eQ, eH, if_true, if_false, Nat.reduceAdd, Nat.reduceLeDiff, Nat.reduceEqDiff, Nat.reduceLT, Nat.reduceSub, Int.reduceEq, Int.reduceLE, Int.reduceToNat, reduceCtorEq, reduceIte, Nat.reduceBEq, Int.reduceNeg, not_true, not_false_iff, true_and, and_true, true_or, or_true, false_or, or_false, forall_const, implies_true, Nat.le_refl, Int.toNat_natCast, Int.reduceLT, ne_eq, Fin.isValue, Nat.add_zero, nC_hrw, nS_hrw, nC_hwr, nS_hwr, hkd_hrw, hkd_hwr, fin4_0, fin4_1, fin4_2, fin4_3, fin2_0, fin2_1, ci0, ci1, cnn, false_implies, w32_eq, w64_eq]
      try simp (disch := omega) only [yc_lt, yc_le, yc_gt, yc_ge, yc_eq, w32_eq, w64_eq, tn_add, tn_mul, Int.toNat_natCast, Int.reduceToNat, not_true, not_false_iff, false_implies, forall_const, implies_true]
      repeat' (with_reducible first | apply And.intro | intro _)
      all_goals try omega
      all_goals try simp (disch := omega) only [w32_eq, w64_eq, tn_add, tn_mul, Int.toNat_natCast, Int.reduceToNat, Option.some.injEq, Sum.inr.injEq, Sum.inl.injEq]
      all_goals try omega
      all_goals try exact (l1).weak rfl (by simp [lle] <;> omega)
  · rw [show atmP w t = longF w t (-1) from if_neg q0]
    refine CnA.of rfl (Nat.le_of_ble_eq_true rfl) ?_
    simp only [largs, lpad, mr_X5_attempt]
    refine vsA_ok tk_X5_attempt rfl 20 ?_
    simp only [at_X5_attempt, mr_X5_attempt, vsA, vcA, denA, lget, lset, lst1, lst2, lclr, argsA, restA, acats, acat, tcA, tcN, rzA, lle, List.length_cons, List.length_nil, Option.toList_some, Option.toList_none, List.cons_append, List.nil_append, eG, eM, eD, eC, eS, eQ, eH, if_true, if_false, Nat.reduceAdd, Nat.reduceLeDiff, Nat.reduceEqDiff, Nat.reduceLT, Nat.reduceSub, Int.reduceEq, Int.reduceLE, Int.reduceToNat, reduceCtorEq, reduceIte, Nat.reduceBEq, Int.reduceNeg, not_true, not_false_iff, true_and, and_true, true_or, or_true, false_or, or_false, forall_const, implies_true, Nat.le_refl, Int.toNat_natCast, Int.reduceLT, ne_eq, Fin.isValue, Nat.add_zero, nC_hrw, nS_hrw, nC_hwr, nS_hwr, hkd_hrw, hkd_hwr, fin4_0, fin4_1, fin4_2, fin4_3, fin2_0, fin2_1, ci0, ci1, cnn, false_implies, w32_eq, w64_eq, hF.m, hF0.m]
    try simp (disch := omega) only [yc_lt, yc_le, yc_gt, yc_ge, yc_eq, w32_eq, w64_eq, tn_add, tn_mul, Int.toNat_natCast, Int.reduceToNat, not_true, not_false_iff, false_implies, forall_const, implies_true]
    repeat' (with_reducible first | apply And.intro | intro _)
    all_goals try omega
    all_goals try simp (disch := omega) only [w32_eq, w64_eq, tn_add, tn_mul, Int.toNat_natCast, Int.reduceToNat, Option.some.injEq, Sum.inr.injEq, Sum.inl.injEq]
    all_goals try omega
    refine ClA.pure (hno) (by first | exact Nat.le_of_ble_eq_true rfl | (simp only [eD]; omega)) (by first | exact Nat.le_refl _ | (simp only [eG, eD, eC, eS, eQ, eH, nC_hrw, nC_hwr, nS_hrw, nS_hwr, nC_hnw, nS_hnw]; omega)) (by first | exact Nat.le_refl _ | (simp only [eG, eD, eC, eS, eQ, eH, nC_hrw, nC_hwr, nS_hrw, nS_hwr, nC_hnw, nS_hnw]; omega)) ?_
    refine vsA_ok tk_X5_attempt rfl 20 ?_
    simp only [at_X5_attempt, mr_X5_attempt, vsA, vcA, denA, lget, lset, lst1, lst2, lclr, argsA, restA, acats, acat, tcA, tcN, rzA, lle, List.length_cons, List.length_nil, Option.toList_some, Option.toList_none, List.cons_append, List.nil_append, eG, eM, eD, eC, eS, eQ, eH, if_true, if_false, Nat.reduceAdd, Nat.reduceLeDiff, Nat.reduceEqDiff, Nat.reduceLT, Nat.reduceSub, Int.reduceEq, Int.reduceLE, Int.reduceToNat, reduceCtorEq, reduceIte, Nat.reduceBEq, Int.reduceNeg, not_true, not_false_iff, true_and, and_true, true_or, or_true, false_or, or_false, forall_const, implies_true, Nat.le_refl, Int.toNat_natCast, Int.reduceLT, ne_eq, Fin.isValue, Nat.add_zero, nC_hrw, nS_hrw, nC_hwr, nS_hwr, hkd_hrw, hkd_hwr, fin4_0, fin4_1, fin4_2, fin4_3, fin2_0, fin2_1, ci0, ci1, cnn, false_implies, w32_eq, w64_eq]
    try simp (disch := omega) only [yc_lt, yc_le, yc_gt, yc_ge, yc_eq, w32_eq, w64_eq, tn_add, tn_mul, Int.toNat_natCast, Int.reduceToNat, not_true, not_false_iff, false_implies, forall_const, implies_true]
    repeat' (with_reducible first | apply And.intro | intro _)
    all_goals try omega
    all_goals try simp (disch := omega) only [w32_eq, w64_eq, tn_add, tn_mul, Int.toNat_natCast, Int.reduceToNat, Option.some.injEq, Sum.inr.injEq, Sum.inl.injEq]
    all_goals try omega
    all_goals exact hfin
end
