/-! THE REFERENCE: rows of tables that come to told lengths -/
set_option maxRecDepth 100000
abbrev RwV : Type := List Nat × (Nat → Nat)
abbrev dRw : RwV := ([], fun _ => 0)
/-- rows of tables by which the lengths are as told (-1: any), with what there is then -/
def lgL (bec : Nat → Nat → List Nat) (T : Nat) : List Int → (Nat → Nat) → List RwV
  | [], v => [([], v)]
  | x :: xs, v => (List.range T).flatMap fun t => if x = -1 ∨ ((lnV (nxV bec t v) : Nat) : Int) = x then (lgL bec T xs (nxV bec t v)).map (fun q => (t :: q.1, q.2)) else []
/-- the rows that begin with t -/
def lgB (bec : Nat → Nat → List Nat) (T : Nat) (x : Int) (xs : List Int) (v : Nat → Nat) (t : Nat) : List RwV := if x = -1 ∨ ((lnV (nxV bec t v) : Nat) : Int) = x then (lgL bec T xs (nxV bec t v)).map (fun q => (t :: q.1, q.2)) else []
theorem lgL_cons (bec : Nat → Nat → List Nat) (T : Nat) (x : Int) (xs : List Int) (v : Nat → Nat) : lgL bec T (x :: xs) v = (List.range T).flatMap (lgB bec T x xs v) := rfl
theorem fm_range (F : Nat → List RwV) (t : Nat) : (List.range (t + 1)).flatMap F = (List.range t).flatMap F ++ F t := by
  rw [List.range_succ, List.flatMap_append]
  simp
theorem fm_range_len {F : Nat → List RwV} {B : Nat} : ∀ t, (∀ u, u < t → (F u).length ≤ B) → ((List.range t).flatMap F).length ≤ t * B
  | 0, _ => by simp
  | t + 1, h => by
    rw [fm_range, List.length_append, Nat.add_mul, Nat.one_mul]
    exact Nat.add_le_add (fm_range_len t fun u hu => h u (by omega)) (h t (by omega))
theorem lgL_len {bec : Nat → Nat → List Nat} {T : Nat} (hT : T ≤ 3) : ∀ (xs : List Int) (v : Nat → Nat), (lgL bec T xs v).length ≤ 3 ^ xs.length
  | [], v => by simp [lgL]
  | x :: xs, v => by
    rw [lgL_cons]
    refine Nat.le_trans (fm_range_len (B := 3 ^ xs.length) T fun u hu => ?_) ?_
    · unfold lgB
      split
      · rw [List.length_map]
        exact lgL_len hT xs _
      · exact Nat.zero_le _
    · rw [List.length_cons, Nat.pow_succ, Nat.mul_comm (3 ^ xs.length)]
      exact Nat.mul_le_mul_right _ hT
theorem lgB_len {bec : Nat → Nat → List Nat} {T : Nat} (hT : T ≤ 3) (x : Int) (xs : List Int) (v : Nat → Nat) (t : Nat) : (lgB bec T x xs v t).length ≤ 3 ^ xs.length := by
  unfold lgB
  split
  · rw [List.length_map]
    exact lgL_len hT xs _
  · exact Nat.zero_le _
theorem lgL_lt {bec : Nat → Nat → List Nat} {T : Nat} : ∀ (xs : List Int) (v : Nat → Nat), ∀ q ∈ lgL bec T xs v, ∀ t ∈ q.1, t < T
  | [], v, q, hq, t, ht => by
    have := List.mem_singleton.mp hq
    rw [this] at ht
    exact absurd ht (by simp)
  | x :: xs, v, q, hq, t, ht => by
    rw [lgL_cons, List.mem_flatMap] at hq
    obtain ⟨u, hu, hq⟩ := hq
    unfold lgB at hq
    split at hq
    · rw [List.mem_map] at hq
      obtain ⟨r, hr, e⟩ := hq
      rw [← e] at ht
      rcases List.mem_cons.mp ht with h | h
      · rw [h]; exact List.mem_range.mp hu
      · exact lgL_lt xs _ r hr t h
    · simp at hq
/-- the tables of the i-th night of rows, as bits -/
def orC (i : Nat) (Rs : List RwV) : Nat := Rs.foldl (fun m q => m ||| 2 ^ (q.1.getD i 0)) 0
theorem orC_snoc (i : Nat) (Rs : List RwV) (q : RwV) : orC i (Rs ++ [q]) = orC i Rs ||| 2 ^ (q.1.getD i 0) := by
  unfold orC
  rw [List.foldl_append]
  rfl
def Rw3 (Rs : List RwV) : Prop := ∀ q ∈ Rs, ∀ t ∈ q.1, t < 3
theorem getD3 {l : List Nat} (h : ∀ t ∈ l, t < 3) (i : Nat) : l.getD i 0 < 3 := by
  rcases Nat.lt_or_ge i l.length with q | q
  · exact h _ (getD_mem q)
  · simp [q]
theorem orC_lt {Rs : List RwV} (h : Rw3 Rs) (i : Nat) : orC i Rs < 8 := by
  unfold orC
  have key : ∀ (Rs : List RwV) (m : Nat), Rw3 Rs → m < 8 → Rs.foldl (fun m q => m ||| 2 ^ (q.1.getD i 0)) m < 8 := by
    intro Rs
    induction Rs with
    | nil => intro m _ hm; exact hm
    | cons q Rs ih =>
      intro m hR hm
      refine ih _ (fun r hr => hR r (List.mem_cons_of_mem _ hr)) ?_
      have := getD3 (hR q List.mem_cons_self) i
      exact Nat.or_lt_two_pow (n := 3) hm (Nat.pow_lt_pow_right (by decide) this)
  exact key Rs 0 h (by decide)
/-- the rows that were found lie in the reference -/
def LgC (h : AH) (T : Nat) (bec : Nat → Nat → List Nat) (M : Nat) (Rs : List RwV) : Prop := hdt h 124 37 = (Rs.length : Int) ∧ (∀ i, i < M → hdt h 144 i = ((orC i Rs : Nat) : Int)) ∧
  (∀ t k, t < T → k < Rs.length → hdt h 145 (6561 * t + k) = ((lnV (nxV bec t (Rs.getD k dRw).2) : Nat) : Int)) ∧ Rw3 Rs
section
variable {G : GT} {T : Nat} {bec : Nat → Nat → List Nat} {std tbl : List Nat} {nights moon : Int}
/-- a whole row was found -/
theorem gl_end {tn : Nat} {vs : List Int} (h : AH) (p : List Nat) (v : Nat → Nat) (Rs : List RwV) (hF : FxA h) (hA : AllC (hdt h 125) T bec std tbl nights moon) (hT : TrM h tn vs) (ht4 : tn < 4) (h8 : vs.length ≤ 8) (hpl : p.length = vs.length) (hp3 : ∀ t ∈ p, t < 3)
    (hv : ∀ c, c < 6 → hdt h 141 (6 * p.length + c) = ((v c : Nat) : Int)) (hf : ∀ i, i < p.length → hdt h 143 i = ((p.getD i 0 : Nat) : Int)) (hL : LgC h T bec vs.length Rs) (hR : Rs.length < 6561) :
    CnA G mX5_goesLong 4 0 0 [.inr (.inr (124)), .inl ((tn : Int)), .inl ((p.length : Int))] h (fun r h1 => r = none ∧ FrM [141, 143, 144, 145] [37] h h1 ∧ LgC h1 T bec vs.length (Rs ++ [(p, v)]) ∧ (∀ j, j < 6 * (p.length + 1) → hdt h1 141 j = hdt h 141 j) ∧ ∀ i, i < p.length → hdt h1 143 i = hdt h 143 i) := by
  obtain ⟨l1, l2, l3, l4⟩ := hL
  have hsz := hA.sz
  have hq := hA.q
  have e151 := hT.2.1
  refine CnA.of rfl (Nat.le_of_ble_eq_true rfl) ?_
  simp only [largs, lpad, mr_X5_goesLong]
  generalize hE : ((G, mX5_goesLong, _, _, _, _, h) : EV) = E
  have L2 : ∀ f : Nat → Int, (∀ i, i < vs.length → f i = ((orC i (Rs ++ [(p, v)]) : Nat) : Int)) → ∀ t, t ≤ T → ∀ h1, FrM [141, 144, 145] [] h h1 → hdt h1 144 = f → (∀ j, j < 6 * (p.length + 1) → hdt h1 141 j = hdt h 141 j) →
      (∀ u k, u < 3 → k < Rs.length → hdt h1 145 (6561 * u + k) = hdt h 145 (6561 * u + k)) → (∀ u, u < t → hdt h1 145 (6561 * u + Rs.length) = ((lnV (nxV bec u v) : Nat) : Int)) →
      ExA E 42 [some (.inr (.inr (124))), some (.inl ((tn : Int))), some (.inl ((p.length : Int))), some (.inl ((t : Int))), none, none] [] h1 := by
    intro f hf1
    refine lpI _ fun t ht ih h1 hx e144 e141 e145 e145n => ?_
    have hF1 := hF.frm hx (by decide +kernel)
    have eA : hdt h1 125 = hdt h 125 := FrM.c hx (by decide) (by decide)
    have e37 : hdt h1 124 37 = (Rs.length : Int) := (FrM.f hx (by decide) (by decide)).trans l1
    have c1 := hx.2.1
    by_cases htT : t < T
    · have ih := ih htT
      subst hE
      refine vsA_ok tk_X5_goesLong rfl 20 ?_
      simp only [at_X5_goesLong, mr_X5_goesLong, vsA, vcA, denA, lget, lset, lst1, lst2, lclr, argsA, restA, acats, acat, tcA, tcN, rzA, lle, List.length_cons, List.length_nil, Option.toList_some, Option.toList_none, List.cons_append, List.nil_append, eG, eM, eD, eC, eS, eQ, eH, if_true, if_false, Nat.reduceAdd, Nat.reduceLeDiff, Nat.reduceEqDiff, Nat.reduceLT, Nat.reduceSub, Int.reduceEq, Int.reduceLE, Int.reduceToNat, reduceCtorEq, reduceIte, Nat.reduceBEq, Int.reduceNeg, not_true, not_false_iff, true_and, and_true, true_or, or_true, false_or, or_false, forall_const, implies_true, Nat.le_refl, Int.toNat_natCast, Int.reduceLT, ne_eq, Fin.isValue, Nat.add_zero, nC_hrw, nS_hrw, nC_hwr, nS_hwr, hkd_hrw, hkd_hwr, fin4_0, fin4_1, fin4_2, fin4_3, fin2_0, fin2_1, ci0, ci1, cnn, false_implies, w32_eq, w64_eq, hF1.m, eA, hq]
      try simp (disch := omega) only [yc_lt, yc_le, yc_gt, yc_ge, yc_eq, w32_eq, w64_eq, tn_add, tn_mul, Int.toNat_natCast, Int.reduceToNat, not_true, not_false_iff, false_implies, forall_const, implies_true]
      repeat' (with_reducible first | apply And.intro | intro _)
      all_goals try omega
      all_goals try simp (disch := omega) only [w32_eq, w64_eq, tn_add, tn_mul, Int.toNat_natCast, Int.reduceToNat, Option.some.injEq, Sum.inr.injEq, Sum.inl.injEq]
      all_goals try omega
      refine ClA.of (c_X5_goesMany hF1 (by rw [eA]; exact hA) (g := p.length) (t := t) (v := v) (by omega) (by omega) (fun c hc => by rw [e141 _ (by omega)]; exact hv c hc)) (by first | exact Nat.le_of_ble_eq_true rfl | (simp only [eD]; omega)) (by first | exact Nat.le_refl _ | (simp only [eG, eD, eC, eS, eQ, eH, nC_hrw, nC_hwr, nS_hrw, nS_hwr, nC_hnw, nS_hnw]; omega)) (by first | exact Nat.le_refl _ | (simp only [eG, eD, eC, eS, eQ, eH, nC_hrw, nC_hwr, nS_hrw, nS_hwr, nC_hnw, nS_hnw]; omega)) ?_
      rintro _ h2 ⟨rfl, f2, rfl, hf2, hg2⟩ - -
      have hF2 : FxA (hrw h1 141 f2) := hF1.hrw (by decide +kernel) f2
      have e372 : hdt (hrw h1 141 f2) 124 37 = (Rs.length : Int) := by rw [hdt_hrw_n _ _ (by decide)]; exact e37
      have nx := ih (hwr (hrw h1 141 f2) 145 (6561 * t + Rs.length) ((lnV (nxV bec t v) : Nat) : Int)) ((hx.rc (by decide) f2).wc (by decide) _ _) (by rw [hdt_hwr, if_neg (by decide), hdt_hrw_n _ _ (by decide)]; exact e144)
        (fun j hj => by rw [hdt_hwr, if_neg (by decide), hdt_hrw_s, hg2 j (by omega)]; exact e141 j hj) (fun u k hu hk => by rw [hdt_hwr, if_pos rfl, fup_n _ _ (by omega), hdt_hrw_n _ _ (by decide)]; exact e145 u k hu hk)
        (fun u hu => by
          rw [hdt_hwr, if_pos rfl]
          by_cases e : u = t
          · rw [e, fup_s]
          · rw [fup_n _ _ (by omega), hdt_hrw_n _ _ (by decide)]
            exact e145n u (by omega))
      have hli := c_X5_longIn (G := G) hF2 (g := p.length + 1) (v := nxV bec t v) (by omega) (fun c hc => by rw [hdt_hrw_s]; exact hf2 c hc)
      refine vsA_ok tk_X5_goesLong rfl 20 ?_
      simp only [at_X5_goesLong, mr_X5_goesLong, vsA, vcA, denA, lget, lset, lst1, lst2, lclr, argsA, restA, acats, acat, tcA, tcN, rzA, lle, List.length_cons, List.length_nil, Option.toList_some, Option.toList_none, List.cons_append, List.nil_append, eG, eM, eD, eC, eS, eQ, eH, if_true, if_false, Nat.reduceAdd, Nat.reduceLeDiff, Nat.reduceEqDiff, Nat.reduceLT, Nat.reduceSub, Int.reduceEq, Int.reduceLE, Int.reduceToNat, reduceCtorEq, reduceIte, Nat.reduceBEq, Int.reduceNeg, not_true, not_false_iff, true_and, and_true, true_or, or_true, false_or, or_false, forall_const, implies_true, Nat.le_refl, Int.toNat_natCast, Int.reduceLT, ne_eq, Fin.isValue, Nat.add_zero, nC_hrw, nS_hrw, nC_hwr, nS_hwr, hkd_hrw, hkd_hwr, fin4_0, fin4_1, fin4_2, fin4_3, fin2_0, fin2_1, ci0, ci1, cnn, false_implies, w32_eq, w64_eq, hF2.m, e372]
      try simp (disch := omega) only [yc_lt, yc_le, yc_gt, yc_ge, yc_eq, w32_eq, w64_eq, tn_add, tn_mul, Int.toNat_natCast, Int.reduceToNat, not_true, not_false_iff, false_implies, forall_const, implies_true]
      repeat' (with_reducible first | apply And.intro | intro _)
      all_goals try omega
      all_goals try simp (disch := omega) only [w32_eq, w64_eq, tn_add, tn_mul, Int.toNat_natCast, Int.reduceToNat, Option.some.injEq, Sum.inr.injEq, Sum.inl.injEq]
      all_goals try omega
      refine ClA.pure (hli) (by first | exact Nat.le_of_ble_eq_true rfl | (simp only [eD]; omega)) (by first | exact Nat.le_refl _ | (simp only [eG, eD, eC, eS, eQ, eH, nC_hrw, nC_hwr, nS_hrw, nS_hwr, nC_hnw, nS_hnw]; omega)) (by first | exact Nat.le_refl _ | (simp only [eG, eD, eC, eS, eQ, eH, nC_hrw, nC_hwr, nS_hrw, nS_hwr, nC_hnw, nS_hnw]; omega)) ?_
      have ei : (6561 * (t : Int) + (Rs.length : Int)).toNat = 6561 * t + Rs.length := by omega
      refine vsA_ok tk_X5_goesLong rfl 20 ?_
      simp only [at_X5_goesLong, mr_X5_goesLong, vsA, vcA, denA, lget, lset, lst1, lst2, lclr, argsA, restA, acats, acat, tcA, tcN, rzA, lle, List.length_cons, List.length_nil, Option.toList_some, Option.toList_none, List.cons_append, List.nil_append, eG, eM, eD, eC, eS, eQ, eH, if_true, if_false, Nat.reduceAdd, Nat.reduceLeDiff, Nat.reduceEqDiff, Nat.reduceLT, Nat.reduceSub, Int.reduceEq, Int.reduceLE, Int.reduceToNat, reduceCtorEq, reduceIte, Nat.reduceBEq, Int.reduceNeg, not_true, not_false_iff, true_and, and_true, true_or, or_true, false_or, or_false, forall_const, implies_true, Nat.le_refl, Int.toNat_natCast, Int.reduceLT, ne_eq, Fin.isValue, Nat.add_zero, nC_hrw, nS_hrw, nC_hwr, nS_hwr, hkd_hrw, hkd_hwr, fin4_0, fin4_1, fin4_2, fin4_3, fin2_0, fin2_1, ci0, ci1, cnn, false_implies, w32_eq, w64_eq, hF2.m]
      try simp (disch := omega) only [yc_lt, yc_le, yc_gt, yc_ge, yc_eq, w32_eq, w64_eq, tn_add, tn_mul, Int.toNat_natCast, Int.reduceToNat, not_true, not_false_iff, false_implies, forall_const, implies_true, ei]
      repeat' (with_reducible first | apply And.intro | intro _)
      all_goals try omega
      all_goals try simp (disch := omega) only [w32_eq, w64_eq, tn_add, tn_mul, Int.toNat_natCast, Int.reduceToNat, Option.some.injEq, Sum.inr.injEq, Sum.inl.injEq, ei]
      all_goals try omega
      all_goals try exact (nx).weak rfl (by simp [lle] <;> omega)
    · have htT : t = T := by omega
      subst htT
      have hx2 : FrM [141, 143, 144, 145] [37] h (hwr h1 124 37 ((Rs.length : Int) + 1)) := (FrM.up hx (by decide) (by decide)).wf (by decide) _
      have n : ∀ b, b ≠ 124 → hdt (hwr h1 124 37 ((Rs.length : Int) + 1)) b = hdt h1 b := fun b hb => by rw [hdt_hwr, if_neg hb]
      have hLg : LgC (hwr h1 124 37 ((Rs.length : Int) + 1)) t bec vs.length (Rs ++ [(p, v)]) := by
        refine ⟨by rw [hdt_hwr, if_pos rfl, fup_s, List.length_append]; rfl, fun i hi => by rw [n 144 (by decide), e144]; exact hf1 i hi, fun u k hu hk => ?_, fun q hq => ?_⟩
        · rw [n 145 (by decide)]
          rw [List.length_append, List.length_singleton] at hk
          by_cases e : k = Rs.length
          · rw [e, e145n u hu]
            simp
          · rw [e145 u k (by omega) (by omega), l3 u k hu (by omega)]
            have : (Rs ++ [(p, v)]).getD k dRw = Rs.getD k dRw := by
              simp only [List.getD_eq_getElem?_getD]
              rw [List.getElem?_append_left (by omega)]
            rw [this]
        · rcases List.mem_append.mp hq with hq | hq
          · exact l4 q hq
          · rw [List.mem_singleton.mp hq]; exact hp3
      subst hE
      refine vsA_ok tk_X5_goesLong rfl 20 ?_
      simp only [at_X5_goesLong, mr_X5_goesLong, vsA, vcA, denA, lget, lset, lst1, lst2, lclr, argsA, restA, acats, acat, tcA, tcN, rzA, lle, List.length_cons, List.length_nil, Option.toList_some, Option.toList_none, List.cons_append, List.nil_append, eG, eM, eD, eC, eS, eQ, eH, if_true, if_false, Nat.reduceAdd, Nat.reduceLeDiff, Nat.reduceEqDiff, Nat.reduceLT, Nat.reduceSub, Int.reduceEq, Int.reduceLE, Int.reduceToNat, reduceCtorEq, reduceIte, Nat.reduceBEq, Int.reduceNeg, not_true, not_false_iff, true_and, and_true, true_or, or_true, false_or, or_false, forall_const, implies_true, Nat.le_refl, Int.toNat_natCast, Int.reduceLT, ne_eq, Fin.isValue, Nat.add_zero, nC_hrw, nS_hrw, nC_hwr, nS_hwr, hkd_hrw, hkd_hwr, fin4_0, fin4_1, fin4_2, fin4_3, fin2_0, fin2_1, ci0, ci1, cnn, false_implies, w32_eq, w64_eq, hF1.m, eA, hq, e37, c1]
      try simp (disch := omega) only [yc_lt, yc_le, yc_gt, yc_ge, yc_eq, w32_eq, w64_eq, tn_add, tn_mul, Int.toNat_natCast, Int.reduceToNat, not_true, not_false_iff, false_implies, forall_const, implies_true]
      repeat' (with_reducible first | apply And.intro | intro _)
      all_goals try omega
      all_goals try simp (disch := omega) only [w32_eq, w64_eq, tn_add, tn_mul, Int.toNat_natCast, Int.reduceToNat, Option.some.injEq, Sum.inr.injEq, Sum.inl.injEq]
      all_goals try omega
      all_goals first | exact hx2 | exact hLg | (rw [n 141 (by decide)]; exact e141 _ (by assumption)) | (rw [n 143 (by decide), FrM.c hx (b := 143) (by decide) (by decide)])
  have L1 : ∀ i, i ≤ p.length → ∀ f : Nat → Int, (∀ j, j < i → f j = ((orC j (Rs ++ [(p, v)]) : Nat) : Int)) → (∀ j, i ≤ j → f j = hdt h 144 j) → ExA E 12 [some (.inr (.inr (124))), some (.inl ((tn : Int))), some (.inl ((p.length : Int))), some (.inl ((i : Int))), none, none] [] (hrw h 144 f) := by
    refine lpI _ fun i hi ih f hf1 hf2 => ?_
    have hFr : FxA (hrw h 144 f) := hF.hrw (by decide +kernel) f
    by_cases hil : i < p.length
    · have hfi : f i = ((orC i Rs : Nat) : Int) := by rw [hf2 i (Nat.le_refl _)]; exact l2 i (by omega)
      have hp := hf i hil
      have e143 : hdt (hrw h 144 f) 143 i = ((p.getD i 0 : Nat) : Int) := by rw [hdt_hrw_n _ _ (by decide)]; exact hp
      have hpi := getD3 hp3 i
      have ho := orC_lt l4 i
      have nx := ih hil (fup f i ((orC i Rs ||| 2 ^ (p.getD i 0) : Nat) : Int)) (fun j hj => by
        by_cases e : j = i
        · rw [e, fup_s, orC_snoc]
        · rw [fup_n _ _ e]; exact hf1 j (by omega)) (fun j hj => by rw [fup_n _ _ (by omega)]; exact hf2 j (by omega))
      generalize orC i Rs = k at *
      generalize p.getD i 0 = d at *
      subst hE
      refine vsA_ok tk_X5_goesLong rfl 12 ?_
      simp only [at_X5_goesLong, mr_X5_goesLong, vsA, vcA, denA, lget, lset, lst1, lst2, lclr, argsA, restA, acats, acat, tcA, tcN, rzA, lle, List.length_cons, List.length_nil, Option.toList_some, Option.toList_none, List.cons_append, List.nil_append, eG, eM, eD, eC, eS, eQ, eH, if_true, if_false, Nat.reduceAdd, Nat.reduceLeDiff, Nat.reduceEqDiff, Nat.reduceLT, Nat.reduceSub, Int.reduceEq, Int.reduceLE, Int.reduceToNat, reduceCtorEq, reduceIte, Nat.reduceBEq, Int.reduceNeg, not_true, not_false_iff, true_and, and_true, true_or, or_true, false_or, or_false, forall_const, implies_true, Nat.le_refl, Int.toNat_natCast, Int.reduceLT, ne_eq, Fin.isValue, Nat.add_zero, nC_hrw, nS_hrw, nC_hwr, nS_hwr, hkd_hrw, hkd_hwr, fin4_0, fin4_1, fin4_2, fin4_3, fin2_0, fin2_1, ci0, ci1, cnn, false_implies, w32_eq, w64_eq, hFr.m]
      try simp (disch := omega) only [yc_lt, yc_le, yc_gt, yc_ge, yc_eq, w32_eq, w64_eq, tn_add, tn_mul, Int.toNat_natCast, Int.reduceToNat, not_true, not_false_iff, false_implies, forall_const, implies_true, hdt_hrw_s, hfi, e143]
      repeat' (with_reducible first | apply And.intro | intro _)
      all_goals try omega
      all_goals try simp (disch := omega) only [w32_eq, w64_eq, tn_add, tn_mul, Int.toNat_natCast, Int.reduceToNat, Option.some.injEq, Sum.inr.injEq, Sum.inl.injEq, hdt_hrw_s, hfi, e143]
      all_goals try omega
      refine vsA_ok tk_X5_goesLong rfl 0 ?_
      simp only [at_X5_goesLong, mr_X5_goesLong, vsA, vcA, denA, lget, lset, lst1, lst2, lclr, argsA, restA, acats, acat, tcA, tcN, rzA, lle, List.length_cons, List.length_nil, Option.toList_some, Option.toList_none, List.cons_append, List.nil_append, eG, eM, eD, eC, eS, eQ, eH, if_true, if_false, Nat.reduceAdd, Nat.reduceLeDiff, Nat.reduceEqDiff, Nat.reduceLT, Nat.reduceSub, Int.reduceEq, Int.reduceLE, Int.reduceToNat, reduceCtorEq, reduceIte, Nat.reduceBEq, Int.reduceNeg, not_true, not_false_iff, true_and, and_true, true_or, or_true, false_or, or_false, forall_const, implies_true, Nat.le_refl, Int.toNat_natCast, Int.reduceLT, ne_eq, Fin.isValue, Nat.add_zero, nC_hrw, nS_hrw, nC_hwr, nS_hwr, hkd_hrw, hkd_hwr, fin4_0, fin4_1, fin4_2, fin4_3, fin2_0, fin2_1, ci0, ci1, cnn, false_implies, w32_eq, w64_eq]
      try simp (disch := omega) only [yc_lt, yc_le, yc_gt, yc_ge, yc_eq, w32_eq, w64_eq, tn_add, tn_mul, Int.toNat_natCast, Int.reduceToNat, not_true, not_false_iff, false_implies, forall_const, implies_true]
      repeat' (with_reducible first | apply And.intro | intro _)
      all_goals try omega
      all_goals try simp (disch := omega) only [w32_eq, w64_eq, tn_add, tn_mul, Int.toNat_natCast, Int.reduceToNat, Option.some.injEq, Sum.inr.injEq, Sum.inl.injEq]
      all_goals try omega
      refine vsA_ok tk_X5_goesLong rfl 20 ?_
      simp only [at_X5_goesLong, mr_X5_goesLong, vsA, vcA, denA, lget, lset, lst1, lst2, lclr, argsA, restA, acats, acat, tcA, tcN, rzA, lle, List.length_cons, List.length_nil, Option.toList_some, Option.toList_none, List.cons_append, List.nil_append, eG, eM, eD, eC, eS, eQ, eH, if_true, if_false, Nat.reduceAdd, Nat.reduceLeDiff, Nat.reduceEqDiff, Nat.reduceLT, Nat.reduceSub, Int.reduceEq, Int.reduceLE, Int.reduceToNat, reduceCtorEq, reduceIte, Nat.reduceBEq, Int.reduceNeg, not_true, not_false_iff, true_and, and_true, true_or, or_true, false_or, or_false, forall_const, implies_true, Nat.le_refl, Int.toNat_natCast, Int.reduceLT, ne_eq, Fin.isValue, Nat.add_zero, nC_hrw, nS_hrw, nC_hwr, nS_hwr, hkd_hrw, hkd_hwr, fin4_0, fin4_1, fin4_2, fin4_3, fin2_0, fin2_1, ci0, ci1, cnn, false_implies, w32_eq, w64_eq, hFr.m]
      try simp (disch := omega) only [yc_lt, yc_le, yc_gt, yc_ge, yc_eq, w32_eq, w64_eq, tn_add, tn_mul, Int.toNat_natCast, Int.reduceToNat, not_true, not_false_iff, false_implies, forall_const, implies_true, zor_1, hwr_hrw]
      repeat' (with_reducible first | apply And.intro | intro _)
      all_goals try omega
      all_goals try simp (disch := omega) only [w32_eq, w64_eq, tn_add, tn_mul, Int.toNat_natCast, Int.reduceToNat, Option.some.injEq, Sum.inr.injEq, Sum.inl.injEq, zor_1, hwr_hrw]
      all_goals try omega
      all_goals try exact (nx).weak rfl (by simp [lle] <;> omega)
    · have hin : i = p.length := by omega
      subst hin
      have l2' := L2 f (fun j hj => hf1 j (by omega)) 0 (Nat.zero_le _) (hrw h 144 f) ((FrM.up (FrM.of_rw f) (by decide) (by decide))) (hdt_hrw_s _ _ _) (fun j _ => by rw [hdt_hrw_n _ _ (by decide)]) (fun u k _ _ => by rw [hdt_hrw_n _ _ (by decide)]) (fun u hu => absurd hu (Nat.not_lt_zero _))
      subst hE
      refine vsA_ok tk_X5_goesLong rfl 4 ?_
      simp only [at_X5_goesLong, mr_X5_goesLong, vsA, vcA, denA, lget, lset, lst1, lst2, lclr, argsA, restA, acats, acat, tcA, tcN, rzA, lle, List.length_cons, List.length_nil, Option.toList_some, Option.toList_none, List.cons_append, List.nil_append, eG, eM, eD, eC, eS, eQ, eH, if_true, if_false, Nat.reduceAdd, Nat.reduceLeDiff, Nat.reduceEqDiff, Nat.reduceLT, Nat.reduceSub, Int.reduceEq, Int.reduceLE, Int.reduceToNat, reduceCtorEq, reduceIte, Nat.reduceBEq, Int.reduceNeg, not_true, not_false_iff, true_and, and_true, true_or, or_true, false_or, or_false, forall_const, implies_true, Nat.le_refl, Int.toNat_natCast, Int.reduceLT, ne_eq, Fin.isValue, Nat.add_zero, nC_hrw, nS_hrw, nC_hwr, nS_hwr, hkd_hrw, hkd_hwr, fin4_0, fin4_1, fin4_2, fin4_3, fin2_0, fin2_1, ci0, ci1, cnn, false_implies, w32_eq, w64_eq]
      try simp (disch := omega) only [yc_lt, yc_le, yc_gt, yc_ge, yc_eq, w32_eq, w64_eq, tn_add, tn_mul, Int.toNat_natCast, Int.reduceToNat, not_true, not_false_iff, false_implies, forall_const, implies_true]
      repeat' (with_reducible first | apply And.intro | intro _)
      all_goals try omega
      all_goals try simp (disch := omega) only [w32_eq, w64_eq, tn_add, tn_mul, Int.toNat_natCast, Int.reduceToNat, Option.some.injEq, Sum.inr.injEq, Sum.inl.injEq]
      all_goals try omega
      all_goals try exact (l2').weak rfl (by simp [lle] <;> omega)
  have l1' := L1 0 (Nat.zero_le _) (hdt h 144) (fun j hj => absurd hj (Nat.not_lt_zero _)) (fun j _ => rfl)
  rw [hrw_self] at l1'
  subst hE
  refine vsA_ok tk_X5_goesLong rfl 8 ?_
  simp only [at_X5_goesLong, mr_X5_goesLong, vsA, vcA, denA, lget, lset, lst1, lst2, lclr, argsA, restA, acats, acat, tcA, tcN, rzA, lle, List.length_cons, List.length_nil, Option.toList_some, Option.toList_none, List.cons_append, List.nil_append, eG, eM, eD, eC, eS, eQ, eH, if_true, if_false, Nat.reduceAdd, Nat.reduceLeDiff, Nat.reduceEqDiff, Nat.reduceLT, Nat.reduceSub, Int.reduceEq, Int.reduceLE, Int.reduceToNat, reduceCtorEq, reduceIte, Nat.reduceBEq, Int.reduceNeg, not_true, not_false_iff, true_and, and_true, true_or, or_true, false_or, or_false, forall_const, implies_true, Nat.le_refl, Int.toNat_natCast, Int.reduceLT, ne_eq, Fin.isValue, Nat.add_zero, nC_hrw, nS_hrw, nC_hwr, nS_hwr, hkd_hrw, hkd_hwr, fin4_0, fin4_1, fin4_2, fin4_3, fin2_0, fin2_1, ci0, ci1, cnn, false_implies, w32_eq, w64_eq, hF.m, e151]
  try simp (disch := omega) only [yc_lt, yc_le, yc_gt, yc_ge, yc_eq, w32_eq, w64_eq, tn_add, tn_mul, Int.toNat_natCast, Int.reduceToNat, not_true, not_false_iff, false_implies, forall_const, implies_true]
  repeat' (with_reducible first | apply And.intro | intro _)
  all_goals try omega
  all_goals try simp (disch := omega) only [w32_eq, w64_eq, tn_add, tn_mul, Int.toNat_natCast, Int.reduceToNat, Option.some.injEq, Sum.inr.injEq, Sum.inl.injEq]
  all_goals try omega
  all_goals try exact (l1').weak rfl (by simp [lle] <;> omega)
theorem TrM.fr {h h1 : AH} {tn : Nat} {vs : List Int} {cs fs : List Nat} (hT : TrM h tn vs) (hx : FrM cs fs h h1) (e1 : 151 ∉ cs) (e2 : 152 ∉ cs) : TrM h1 tn vs := by
  unfold TrM at hT ⊢
  rw [FrM.c hx e1 (by decide), FrM.c hx e2 (by decide)]
  exact hT
theorem c_X5_goesLong {tn : Nat} {vs : List Int} (ht4 : tn < 4) (h8 : vs.length ≤ 8) : ∀ (xs : List Int) (h : AH) (p : List Nat) (gz : Int) (v : Nat → Nat) (Rs : List RwV), FxA h → AllC (hdt h 125) T bec std tbl nights moon → TrM h tn vs → vs.drop p.length = xs → p.length + xs.length = vs.length → (∀ t ∈ p, t < 3) → gz = (p.length : Int) →
    (∀ c, c < 6 → hdt h 141 (6 * p.length + c) = ((v c : Nat) : Int)) → (∀ i, i < p.length → hdt h 143 i = ((p.getD i 0 : Nat) : Int)) → lnV v * 4 ^ xs.length ≤ 1000000000000000000 → LgC h T bec vs.length Rs → Rs.length + 3 ^ xs.length ≤ 6561 →
    CnA G mX5_goesLong (xs.length + 4) 0 0 [.inr (.inr (124)), .inl ((tn : Int)), .inl (gz)] h (fun r h1 => r = none ∧ FrM [141, 143, 144, 145] [37] h h1 ∧ LgC h1 T bec vs.length (Rs ++ (lgL bec T xs v).map fun q => (p ++ q.1, q.2)) ∧ (∀ j, j < 6 * (p.length + 1) → hdt h1 141 j = hdt h 141 j) ∧ ∀ i, i < p.length → hdt h1 143 i = hdt h 143 i) := by
  intro xs
  induction xs with
  | nil =>
    intro h p gz v Rs hF hA hT hd hl hp3 hgz hv hf hb hL hR
    subst hgz
    have hl : p.length = vs.length := by simpa using hl
    have := gl_end (G := G) h p v Rs hF hA hT ht4 h8 hl hp3 hv hf hL (by simp at hR; omega)
    simpa [lgL] using this
  | cons x xs ih =>
    intro h p gz v Rs hF hA hT hd hl hp3 hgz hv hf hb hL hR
    subst hgz
    rw [List.length_cons] at hl hb hR
    have hgl : p.length < vs.length := by omega
    have hsz := hA.sz
    have hq := hA.q
    have e151 := hT.2.1
    have hxv : vs.getD p.length 0 = x ∧ vs.drop (p.length + 1) = xs := by
      rw [drop_consI hgl] at hd
      exact ⟨(List.cons.inj hd).1, (List.cons.inj hd).2⟩
    have hxi := hT.2.2.2 _ (getD_memI hgl)
    rw [hxv.1] at hxi
    have hxn := hT.2.2.1 p.length hgl
    rw [hxv.1] at hxn
    rw [lgL_cons]
    show CnA G mX5_goesLong (xs.length + 1 + 4) 0 0 _ h _
    refine CnA.of rfl (Nat.le_of_ble_eq_true rfl) ?_
    simp only [largs, lpad, mr_X5_goesLong]
    generalize hE : ((G, mX5_goesLong, _, _, _, _, h) : EV) = E
    have L1 : ∀ t, t ≤ T → ∀ h1, FrM [141, 143, 144, 145] [37] h h1 → LgC h1 T bec vs.length (Rs ++ ((List.range t).flatMap (lgB bec T x xs v)).map fun q => (p ++ q.1, q.2)) → (∀ j, j < 6 * (p.length + 1) → hdt h1 141 j = hdt h 141 j) → (∀ i, i < p.length → hdt h1 143 i = hdt h 143 i) →
        ExA E 99 [some (.inr (.inr (124))), some (.inl ((tn : Int))), some (.inl ((p.length : Int))), some (.inl ((t : Int))), none, none] [] h1 := by
      refine lpI _ fun t ht iht h1 hx hLg e141 e143 => ?_
      have hF1 := hF.frm hx (by decide +kernel)
      have eA : hdt h1 125 = hdt h 125 := FrM.c hx (by decide) (by decide)
      have e152 : hdt h1 152 = hdt h 152 := FrM.c hx (by decide) (by decide)
      have c1 := hx.2.1
      by_cases htT : t < T
      · have iht := iht htT
        have ht3 : t < 3 := by omega
        have hbd := nx_bd (k := xs.length) (fun c hc => (hA.b4 ht3 hc).1) hb (t := t)
        have hln := ln_bd hbd
        have hlen : (Rs ++ ((List.range t).flatMap (lgB bec T x xs v)).map fun q => (p ++ q.1, q.2)).length + 3 ^ xs.length ≤ 6561 := by
          rw [List.length_append, List.length_map]
          have h1 := fm_range_len (F := lgB bec T x xs v) (B := 3 ^ xs.length) t (fun u _ => lgB_len hsz.2.2.2.2 x xs v u)
          have h2 : (t + 1) * 3 ^ xs.length ≤ 3 * 3 ^ xs.length := Nat.mul_le_mul_right _ (by omega)
          rw [Nat.pow_succ, Nat.mul_comm (3 ^ xs.length)] at hR
          rw [Nat.add_mul, Nat.one_mul] at h2
          omega
        have hxa : FrM [141, 143, 144, 145] [37] h (hwr h1 143 p.length (t : Int)) := hx.wc (by decide) _ _
        have hFa := hF.frm hxa (by decide +kernel)
        have eAa : hdt (hwr h1 143 p.length (t : Int)) 125 = hdt h 125 := by rw [hdt_hwr, if_neg (by decide)]; exact eA
        subst hE
        refine vsA_ok tk_X5_goesLong rfl 8 ?_
        simp only [at_X5_goesLong, mr_X5_goesLong, vsA, vcA, denA, lget, lset, lst1, lst2, lclr, argsA, restA, acats, acat, tcA, tcN, rzA, lle, List.length_cons, List.length_nil, Option.toList_some, Option.toList_none, List.cons_append, List.nil_append, eG, eM, eD, eC, eS, eQ, eH, if_true, if_false, Nat.reduceAdd, Nat.reduceLeDiff, Nat.reduceEqDiff, Nat.reduceLT, Nat.reduceSub, Int.reduceEq, Int.reduceLE, Int.reduceToNat, reduceCtorEq, reduceIte, Nat.reduceBEq, Int.reduceNeg, not_true, not_false_iff, true_and, and_true, true_or, or_true, false_or, or_false, forall_const, implies_true, Nat.le_refl, Int.toNat_natCast, Int.reduceLT, ne_eq, Fin.isValue, Nat.add_zero, nC_hrw, nS_hrw, nC_hwr, nS_hwr, hkd_hrw, hkd_hwr, fin4_0, fin4_1, fin4_2, fin4_3, fin2_0, fin2_1, ci0, ci1, cnn, false_implies, w32_eq, w64_eq, hF1.m, eA, hq]
        try simp (disch := omega) only [yc_lt, yc_le, yc_gt, yc_ge, yc_eq, w32_eq, w64_eq, tn_add, tn_mul, Int.toNat_natCast, Int.reduceToNat, not_true, not_false_iff, false_implies, forall_const, implies_true]
        repeat' (with_reducible first | apply And.intro | intro _)
        all_goals try omega
        all_goals try simp (disch := omega) only [w32_eq, w64_eq, tn_add, tn_mul, Int.toNat_natCast, Int.reduceToNat, Option.some.injEq, Sum.inr.injEq, Sum.inl.injEq]
        all_goals try omega
        refine vsA_ok tk_X5_goesLong rfl 6 ?_
        simp only [at_X5_goesLong, mr_X5_goesLong, vsA, vcA, denA, lget, lset, lst1, lst2, lclr, argsA, restA, acats, acat, tcA, tcN, rzA, lle, List.length_cons, List.length_nil, Option.toList_some, Option.toList_none, List.cons_append, List.nil_append, eG, eM, eD, eC, eS, eQ, eH, if_true, if_false, Nat.reduceAdd, Nat.reduceLeDiff, Nat.reduceEqDiff, Nat.reduceLT, Nat.reduceSub, Int.reduceEq, Int.reduceLE, Int.reduceToNat, reduceCtorEq, reduceIte, Nat.reduceBEq, Int.reduceNeg, not_true, not_false_iff, true_and, and_true, true_or, or_true, false_or, or_false, forall_const, implies_true, Nat.le_refl, Int.toNat_natCast, Int.reduceLT, ne_eq, Fin.isValue, Nat.add_zero, nC_hrw, nS_hrw, nC_hwr, nS_hwr, hkd_hrw, hkd_hwr, fin4_0, fin4_1, fin4_2, fin4_3, fin2_0, fin2_1, ci0, ci1, cnn, false_implies, w32_eq, w64_eq, hF1.m, hFa.m]
        try simp (disch := omega) only [yc_lt, yc_le, yc_gt, yc_ge, yc_eq, w32_eq, w64_eq, tn_add, tn_mul, Int.toNat_natCast, Int.reduceToNat, not_true, not_false_iff, false_implies, forall_const, implies_true]
        repeat' (with_reducible first | apply And.intro | intro _)
        all_goals try omega
        all_goals try simp (disch := omega) only [w32_eq, w64_eq, tn_add, tn_mul, Int.toNat_natCast, Int.reduceToNat, Option.some.injEq, Sum.inr.injEq, Sum.inl.injEq]
        all_goals try omega
        refine ClA.of (c_X5_goesMany hFa (by rw [eAa]; exact hA) (g := p.length) (t := t) (v := v) (by omega) ht3 (fun c hc => by rw [hdt_hwr, if_neg (by decide), e141 (6 * p.length + c) (by omega)]; exact hv c hc)) (by first | exact Nat.le_of_ble_eq_true rfl | (simp only [eD]; omega)) (by first | exact Nat.le_refl _ | (simp only [eG, eD, eC, eS, eQ, eH, nC_hrw, nC_hwr, nS_hrw, nS_hwr, nC_hnw, nS_hnw]; omega)) (by first | exact Nat.le_refl _ | (simp only [eG, eD, eC, eS, eQ, eH, nC_hrw, nC_hwr, nS_hrw, nS_hwr, nC_hnw, nS_hnw]; omega)) ?_
        rintro _ h2 ⟨rfl, f2, rfl, hf2, hg2⟩ - -
        have hxb : FrM [141, 143, 144, 145] [37] h (hrw (hwr h1 143 p.length (t : Int)) 141 f2) := hxa.rc (by decide) f2
        have n : ∀ b, b ≠ 141 → b ≠ 143 → hdt (hrw (hwr h1 143 p.length (t : Int)) 141 f2) b = hdt h1 b := fun b q1 q2 => by rw [hdt_hrw_n _ _ q1, hdt_hwr, if_neg q2]
        have e143b : hdt (hrw (hwr h1 143 p.length (t : Int)) 141 f2) 143 = fup (hdt h1 143) p.length (t : Int) := by rw [hdt_hrw_n _ _ (by decide), hdt_hwr, if_pos rfl]
        have e141b : hdt (hrw (hwr h1 143 p.length (t : Int)) 141 f2) 141 = f2 := hdt_hrw_s _ _ _
        have hg2' : ∀ j, j < 6 * (p.length + 1) → f2 j = hdt h 141 j := fun j hj => by rw [hg2 j (by omega), hdt_hwr, if_neg (by decide)]; exact e141 j hj
        generalize hrw (hwr h1 143 p.length (t : Int)) 141 f2 = h2 at *
        have hFb := hF.frm hxb (by decide +kernel)
        have cb := hxb.2.1
        have e152b : hdt h2 152 (40 * tn + p.length) = x := by rw [n 152 (by decide) (by decide), e152]; exact hxn
        have ei : (40 * (tn : Int) + (p.length : Int)).toNat = 40 * tn + p.length := by omega
        have hLgb : LgC h2 T bec vs.length (Rs ++ ((List.range t).flatMap (lgB bec T x xs v)).map fun q => (p ++ q.1, q.2)) := by
          unfold LgC at hLg ⊢
          rw [n 124 (by decide) (by decide), n 144 (by decide) (by decide), n 145 (by decide) (by decide)]
          exact hLg
        have hli := c_X5_longIn (G := G) hFb (g := p.length + 1) (v := nxV bec t v) (by omega) (fun c hc => by rw [e141b]; exact hf2 c hc)
        have hgo : CnA G mX5_goesLong (xs.length + 4) 0 0 [.inr (.inr (124)), .inl ((tn : Int)), .inl (((p.length : Int) + 1))] h2 _ := ih h2 (p ++ [t]) ((p.length : Int) + 1) (nxV bec t v) _ hFb (by rw [n 125 (by decide) (by decide), eA]; exact hA) (hT.fr hxb (by decide) (by decide)) (by rw [List.length_append, List.length_singleton]; exact hxv.2) (by rw [List.length_append, List.length_singleton]; omega)
          (fun u hu => by
            rcases List.mem_append.mp hu with hu | hu
            · exact hp3 u hu
            · rw [List.mem_singleton.mp hu]; exact ht3) (by rw [List.length_append, List.length_singleton]; omega) (fun c hc => by rw [List.length_append, List.length_singleton, e141b]; exact hf2 c hc)
          (fun i hi => by
            rw [List.length_append, List.length_singleton] at hi
            rw [e143b]
            by_cases e : i = p.length
            · rw [e, fup_s]
              simp
            · rw [fup_n _ _ e, e143 i (by omega), hf i (by omega), getD_appl _ (by omega)]) hbd hLgb hlen
        have nx1 : ∀ h3, FrM [141, 143, 144, 145] [37] h h3 → LgC h3 T bec vs.length ((Rs ++ ((List.range t).flatMap (lgB bec T x xs v)).map fun q => (p ++ q.1, q.2)) ++ (lgB bec T x xs v t).map fun q => (p ++ q.1, q.2)) → (∀ j, j < 6 * (p.length + 1) → hdt h3 141 j = hdt h 141 j) → (∀ i, i < p.length → hdt h3 143 i = hdt h 143 i) → ExA (G, mX5_goesLong, xs.length + 1 + 4, 0, 0, _, h) 99 [some (.inr (.inr (124))), some (.inl ((tn : Int))), some (.inl ((p.length : Int))), some (.inl (((t + 1 : Nat) : Int))), none, none] [] h3 := fun h3 a1 a2 a3 a4 => iht h3 a1 (by rw [fm_range, List.map_append, ← List.append_assoc]; exact a2) a3 a4
        by_cases hc : x = -1 ∨ ((lnV (nxV bec t v) : Nat) : Int) = x
        · have eB : (lgB bec T x xs v t).map (fun q => (p ++ q.1, q.2)) = (lgL bec T xs (nxV bec t v)).map fun q => ((p ++ [t]) ++ q.1, q.2) := by
            unfold lgB
            rw [if_pos hc, List.map_map]
            refine List.map_congr_left fun q _ => ?_
            show (p ++ t :: q.1, q.2) = (p ++ [t] ++ q.1, q.2)
            rw [List.append_assoc]
            rfl
          rw [eB] at nx1
          generalize lnV (nxV bec t v) = ln at *
          have hin64 := hxi
          obtain ⟨hx1, hx2⟩ := hxi
          by_cases hx0 : x = -1
          · subst hx0
            refine vsA_ok tk_X5_goesLong rfl 20 ?_
            simp only [at_X5_goesLong, mr_X5_goesLong, vsA, vcA, denA, lget, lset, lst1, lst2, lclr, argsA, restA, acats, acat, tcA, tcN, rzA, lle, List.length_cons, List.length_nil, Option.toList_some, Option.toList_none, List.cons_append, List.nil_append, eG, eM, eD, eC, eS, eQ, eH, if_true, if_false, Nat.reduceAdd, Nat.reduceLeDiff, Nat.reduceEqDiff, Nat.reduceLT, Nat.reduceSub, Int.reduceEq, Int.reduceLE, Int.reduceToNat, reduceCtorEq, reduceIte, Nat.reduceBEq, Int.reduceNeg, not_true, not_false_iff, true_and, and_true, true_or, or_true, false_or, or_false, forall_const, implies_true, Nat.le_refl, Int.toNat_natCast, Int.reduceLT, ne_eq, Fin.isValue, Nat.add_zero, nC_hrw, nS_hrw, nC_hwr, nS_hwr, hkd_hrw, hkd_hwr, fin4_0, fin4_1, fin4_2, fin4_3, fin2_0, fin2_1, ci0, ci1, cnn, false_implies, w32_eq, w64_eq, hFb.m, ei, e152b]
            try simp (disch := omega) only [yc_lt, yc_le, yc_gt, yc_ge, yc_eq, w32_eq, w64_eq, tn_add, tn_mul, Int.toNat_natCast, Int.reduceToNat, not_true, not_false_iff, false_implies, forall_const, implies_true]
            repeat' (with_reducible first | apply And.intro | intro _)
            all_goals try omega
            all_goals try simp (disch := omega) only [w32_eq, w64_eq, tn_add, tn_mul, Int.toNat_natCast, Int.reduceToNat, Option.some.injEq, Sum.inr.injEq, Sum.inl.injEq]
            all_goals try omega
            refine ClA.of (hgo) (by first | exact Nat.le_of_ble_eq_true rfl | (simp only [eD]; omega)) (by first | exact Nat.le_refl _ | (simp only [eG, eD, eC, eS, eQ, eH, nC_hrw, nC_hwr, nS_hrw, nS_hwr, nC_hnw, nS_hnw]; omega)) (by first | exact Nat.le_refl _ | (simp only [eG, eD, eC, eS, eQ, eH, nC_hrw, nC_hwr, nS_hrw, nS_hwr, nC_hnw, nS_hnw]; omega)) ?_
            rintro _ h3 ⟨rfl, hx3, hL3, e141c, e143c⟩ - -
            rw [List.length_append, List.length_singleton] at e141c e143c
            have nx := nx1 h3 (hxb.tr hx3) hL3 (fun j hj => by rw [e141c j (by omega), e141b]; exact hg2' j hj) (fun i hi => by rw [e143c i (by omega), e143b, fup_n _ _ (by omega)]; exact e143 i hi)
            refine vsA_ok tk_X5_goesLong rfl 4 ?_
            simp only [at_X5_goesLong, mr_X5_goesLong, vsA, vcA, denA, lget, lset, lst1, lst2, lclr, argsA, restA, acats, acat, tcA, tcN, rzA, lle, List.length_cons, List.length_nil, Option.toList_some, Option.toList_none, List.cons_append, List.nil_append, eG, eM, eD, eC, eS, eQ, eH, if_true, if_false, Nat.reduceAdd, Nat.reduceLeDiff, Nat.reduceEqDiff, Nat.reduceLT, Nat.reduceSub, Int.reduceEq, Int.reduceLE, Int.reduceToNat, reduceCtorEq, reduceIte, Nat.reduceBEq, Int.reduceNeg, not_true, not_false_iff, true_and, and_true, true_or, or_true, false_or, or_false, forall_const, implies_true, Nat.le_refl, Int.toNat_natCast, Int.reduceLT, ne_eq, Fin.isValue, Nat.add_zero, nC_hrw, nS_hrw, nC_hwr, nS_hwr, hkd_hrw, hkd_hwr, fin4_0, fin4_1, fin4_2, fin4_3, fin2_0, fin2_1, ci0, ci1, cnn, false_implies, w32_eq, w64_eq]
            try simp (disch := omega) only [yc_lt, yc_le, yc_gt, yc_ge, yc_eq, w32_eq, w64_eq, tn_add, tn_mul, Int.toNat_natCast, Int.reduceToNat, not_true, not_false_iff, false_implies, forall_const, implies_true]
            repeat' (with_reducible first | apply And.intro | intro _)
            all_goals try omega
            all_goals try simp (disch := omega) only [w32_eq, w64_eq, tn_add, tn_mul, Int.toNat_natCast, Int.reduceToNat, Option.some.injEq, Sum.inr.injEq, Sum.inl.injEq]
            all_goals try omega
            all_goals try exact (nx).weak rfl (by simp [lle] <;> omega)
          · have hx5 : (ln : Int) = x := by omega
            refine vsA_ok tk_X5_goesLong rfl 20 ?_
            simp only [at_X5_goesLong, mr_X5_goesLong, vsA, vcA, denA, lget, lset, lst1, lst2, lclr, argsA, restA, acats, acat, tcA, tcN, rzA, lle, List.length_cons, List.length_nil, Option.toList_some, Option.toList_none, List.cons_append, List.nil_append, eG, eM, eD, eC, eS, eQ, eH, if_true, if_false, Nat.reduceAdd, Nat.reduceLeDiff, Nat.reduceEqDiff, Nat.reduceLT, Nat.reduceSub, Int.reduceEq, Int.reduceLE, Int.reduceToNat, reduceCtorEq, reduceIte, Nat.reduceBEq, Int.reduceNeg, not_true, not_false_iff, true_and, and_true, true_or, or_true, false_or, or_false, forall_const, implies_true, Nat.le_refl, Int.toNat_natCast, Int.reduceLT, ne_eq, Fin.isValue, Nat.add_zero, nC_hrw, nS_hrw, nC_hwr, nS_hwr, hkd_hrw, hkd_hwr, fin4_0, fin4_1, fin4_2, fin4_3, fin2_0, fin2_1, ci0, ci1, cnn, false_implies, w32_eq, w64_eq, hFb.m, ei, e152b]
            try simp (disch := omega) only [yc_lt, yc_le, yc_gt, yc_ge, yc_eq, w32_eq, w64_eq, tn_add, tn_mul, Int.toNat_natCast, Int.reduceToNat, not_true, not_false_iff, false_implies, forall_const, implies_true]
            repeat' (with_reducible first | apply And.intro | intro _)
            all_goals try omega
            all_goals try simp (disch := omega) only [w32_eq, w64_eq, tn_add, tn_mul, Int.toNat_natCast, Int.reduceToNat, Option.some.injEq, Sum.inr.injEq, Sum.inl.injEq]
            all_goals try omega
            refine ClA.pure (hli) (by first | exact Nat.le_of_ble_eq_true rfl | (simp only [eD]; omega)) (by first | exact Nat.le_refl _ | (simp only [eG, eD, eC, eS, eQ, eH, nC_hrw, nC_hwr, nS_hrw, nS_hwr, nC_hnw, nS_hnw]; omega)) (by first | exact Nat.le_refl _ | (simp only [eG, eD, eC, eS, eQ, eH, nC_hrw, nC_hwr, nS_hrw, nS_hwr, nC_hnw, nS_hnw]; omega)) ?_
            refine vsA_ok tk_X5_goesLong rfl 20 ?_
            simp only [at_X5_goesLong, mr_X5_goesLong, vsA, vcA, denA, lget, lset, lst1, lst2, lclr, argsA, restA, acats, acat, tcA, tcN, rzA, lle, List.length_cons, List.length_nil, Option.toList_some, Option.toList_none, List.cons_append, List.nil_append, eG, eM, eD, eC, eS, eQ, eH, if_true, if_false, Nat.reduceAdd, Nat.reduceLeDiff, Nat.reduceEqDiff, Nat.reduceLT, Nat.reduceSub, Int.reduceEq, Int.reduceLE, Int.reduceToNat, reduceCtorEq, reduceIte, Nat.reduceBEq, Int.reduceNeg, not_true, not_false_iff, true_and, and_true, true_or, or_true, false_or, or_false, forall_const, implies_true, Nat.le_refl, Int.toNat_natCast, Int.reduceLT, ne_eq, Fin.isValue, Nat.add_zero, nC_hrw, nS_hrw, nC_hwr, nS_hwr, hkd_hrw, hkd_hwr, fin4_0, fin4_1, fin4_2, fin4_3, fin2_0, fin2_1, ci0, ci1, cnn, false_implies, w32_eq, w64_eq, hFb.m]
            try simp (disch := omega) only [yc_lt, yc_le, yc_gt, yc_ge, yc_eq, w32_eq, w64_eq, tn_add, tn_mul, Int.toNat_natCast, Int.reduceToNat, not_true, not_false_iff, false_implies, forall_const, implies_true]
            repeat' (with_reducible first | apply And.intro | intro _)
            all_goals try omega
            all_goals try simp (disch := omega) only [w32_eq, w64_eq, tn_add, tn_mul, Int.toNat_natCast, Int.reduceToNat, Option.some.injEq, Sum.inr.injEq, Sum.inl.injEq]
            all_goals try omega
            refine ClA.of (hgo) (by first | exact Nat.le_of_ble_eq_true rfl | (simp only [eD]; omega)) (by first | exact Nat.le_refl _ | (simp only [eG, eD, eC, eS, eQ, eH, nC_hrw, nC_hwr, nS_hrw, nS_hwr, nC_hnw, nS_hnw]; omega)) (by first | exact Nat.le_refl _ | (simp only [eG, eD, eC, eS, eQ, eH, nC_hrw, nC_hwr, nS_hrw, nS_hwr, nC_hnw, nS_hnw]; omega)) ?_
            rintro _ h3 ⟨rfl, hx3, hL3, e141c, e143c⟩ - -
            rw [List.length_append, List.length_singleton] at e141c e143c
            have nx := nx1 h3 (hxb.tr hx3) hL3 (fun j hj => by rw [e141c j (by omega), e141b]; exact hg2' j hj) (fun i hi => by rw [e143c i (by omega), e143b, fup_n _ _ (by omega)]; exact e143 i hi)
            refine vsA_ok tk_X5_goesLong rfl 4 ?_
            simp only [at_X5_goesLong, mr_X5_goesLong, vsA, vcA, denA, lget, lset, lst1, lst2, lclr, argsA, restA, acats, acat, tcA, tcN, rzA, lle, List.length_cons, List.length_nil, Option.toList_some, Option.toList_none, List.cons_append, List.nil_append, eG, eM, eD, eC, eS, eQ, eH, if_true, if_false, Nat.reduceAdd, Nat.reduceLeDiff, Nat.reduceEqDiff, Nat.reduceLT, Nat.reduceSub, Int.reduceEq, Int.reduceLE, Int.reduceToNat, reduceCtorEq, reduceIte, Nat.reduceBEq, Int.reduceNeg, not_true, not_false_iff, true_and, and_true, true_or, or_true, false_or, or_false, forall_const, implies_true, Nat.le_refl, Int.toNat_natCast, Int.reduceLT, ne_eq, Fin.isValue, Nat.add_zero, nC_hrw, nS_hrw, nC_hwr, nS_hwr, hkd_hrw, hkd_hwr, fin4_0, fin4_1, fin4_2, fin4_3, fin2_0, fin2_1, ci0, ci1, cnn, false_implies, w32_eq, w64_eq]
            try simp (disch := omega) only [yc_lt, yc_le, yc_gt, yc_ge, yc_eq, w32_eq, w64_eq, tn_add, tn_mul, Int.toNat_natCast, Int.reduceToNat, not_true, not_false_iff, false_implies, forall_const, implies_true]
            repeat' (with_reducible first | apply And.intro | intro _)
            all_goals try omega
            all_goals try simp (disch := omega) only [w32_eq, w64_eq, tn_add, tn_mul, Int.toNat_natCast, Int.reduceToNat, Option.some.injEq, Sum.inr.injEq, Sum.inl.injEq]
            all_goals try omega
            all_goals try exact (nx).weak rfl (by simp [lle] <;> omega)
        · have eB : (lgB bec T x xs v t).map (fun q => (p ++ q.1, q.2)) = [] := by
            unfold lgB
            rw [if_neg hc]
            rfl
          rw [eB, List.append_nil] at nx1
          have nx := nx1 h2 hxb hLgb (fun j hj => by rw [e141b]; exact hg2' j hj) (fun i hi => by rw [e143b, fup_n _ _ (by omega)]; exact e143 i hi)
          generalize lnV (nxV bec t v) = ln at *
          obtain ⟨hx1, hx2⟩ := hxi
          refine vsA_ok tk_X5_goesLong rfl 20 ?_
          simp only [at_X5_goesLong, mr_X5_goesLong, vsA, vcA, denA, lget, lset, lst1, lst2, lclr, argsA, restA, acats, acat, tcA, tcN, rzA, lle, List.length_cons, List.length_nil, Option.toList_some, Option.toList_none, List.cons_append, List.nil_append, eG, eM, eD, eC, eS, eQ, eH, if_true, if_false, Nat.reduceAdd, Nat.reduceLeDiff, Nat.reduceEqDiff, Nat.reduceLT, Nat.reduceSub, Int.reduceEq, Int.reduceLE, Int.reduceToNat, reduceCtorEq, reduceIte, Nat.reduceBEq, Int.reduceNeg, not_true, not_false_iff, true_and, and_true, true_or, or_true, false_or, or_false, forall_const, implies_true, Nat.le_refl, Int.toNat_natCast, Int.reduceLT, ne_eq, Fin.isValue, Nat.add_zero, nC_hrw, nS_hrw, nC_hwr, nS_hwr, hkd_hrw, hkd_hwr, fin4_0, fin4_1, fin4_2, fin4_3, fin2_0, fin2_1, ci0, ci1, cnn, false_implies, w32_eq, w64_eq, hFb.m, ei, e152b]
          try simp (disch := omega) only [yc_lt, yc_le, yc_gt, yc_ge, yc_eq, w32_eq, w64_eq, tn_add, tn_mul, Int.toNat_natCast, Int.reduceToNat, not_true, not_false_iff, false_implies, forall_const, implies_true]
          repeat' (with_reducible first | apply And.intro | intro _)
          all_goals try omega
          all_goals try simp (disch := omega) only [w32_eq, w64_eq, tn_add, tn_mul, Int.toNat_natCast, Int.reduceToNat, Option.some.injEq, Sum.inr.injEq, Sum.inl.injEq]
          all_goals try omega
          refine ClA.pure (hli) (by first | exact Nat.le_of_ble_eq_true rfl | (simp only [eD]; omega)) (by first | exact Nat.le_refl _ | (simp only [eG, eD, eC, eS, eQ, eH, nC_hrw, nC_hwr, nS_hrw, nS_hwr, nC_hnw, nS_hnw]; omega)) (by first | exact Nat.le_refl _ | (simp only [eG, eD, eC, eS, eQ, eH, nC_hrw, nC_hwr, nS_hrw, nS_hwr, nC_hnw, nS_hnw]; omega)) ?_
          refine vsA_ok tk_X5_goesLong rfl 20 ?_
          simp only [at_X5_goesLong, mr_X5_goesLong, vsA, vcA, denA, lget, lset, lst1, lst2, lclr, argsA, restA, acats, acat, tcA, tcN, rzA, lle, List.length_cons, List.length_nil, Option.toList_some, Option.toList_none, List.cons_append, List.nil_append, eG, eM, eD, eC, eS, eQ, eH, if_true, if_false, Nat.reduceAdd, Nat.reduceLeDiff, Nat.reduceEqDiff, Nat.reduceLT, Nat.reduceSub, Int.reduceEq, Int.reduceLE, Int.reduceToNat, reduceCtorEq, reduceIte, Nat.reduceBEq, Int.reduceNeg, not_true, not_false_iff, true_and, and_true, true_or, or_true, false_or, or_false, forall_const, implies_true, Nat.le_refl, Int.toNat_natCast, Int.reduceLT, ne_eq, Fin.isValue, Nat.add_zero, nC_hrw, nS_hrw, nC_hwr, nS_hwr, hkd_hrw, hkd_hwr, fin4_0, fin4_1, fin4_2, fin4_3, fin2_0, fin2_1, ci0, ci1, cnn, false_implies, w32_eq, w64_eq]
          try simp (disch := omega) only [yc_lt, yc_le, yc_gt, yc_ge, yc_eq, w32_eq, w64_eq, tn_add, tn_mul, Int.toNat_natCast, Int.reduceToNat, not_true, not_false_iff, false_implies, forall_const, implies_true]
          repeat' (with_reducible first | apply And.intro | intro _)
          all_goals try omega
          all_goals try simp (disch := omega) only [w32_eq, w64_eq, tn_add, tn_mul, Int.toNat_natCast, Int.reduceToNat, Option.some.injEq, Sum.inr.injEq, Sum.inl.injEq]
          all_goals try omega
          all_goals try exact (nx).weak rfl (by simp [lle] <;> omega)
      · have htT : t = T := by omega
        subst htT
        subst hE
        refine vsA_ok tk_X5_goesLong rfl 20 ?_
        simp only [at_X5_goesLong, mr_X5_goesLong, vsA, vcA, denA, lget, lset, lst1, lst2, lclr, argsA, restA, acats, acat, tcA, tcN, rzA, lle, List.length_cons, List.length_nil, Option.toList_some, Option.toList_none, List.cons_append, List.nil_append, eG, eM, eD, eC, eS, eQ, eH, if_true, if_false, Nat.reduceAdd, Nat.reduceLeDiff, Nat.reduceEqDiff, Nat.reduceLT, Nat.reduceSub, Int.reduceEq, Int.reduceLE, Int.reduceToNat, reduceCtorEq, reduceIte, Nat.reduceBEq, Int.reduceNeg, not_true, not_false_iff, true_and, and_true, true_or, or_true, false_or, or_false, forall_const, implies_true, Nat.le_refl, Int.toNat_natCast, Int.reduceLT, ne_eq, Fin.isValue, Nat.add_zero, nC_hrw, nS_hrw, nC_hwr, nS_hwr, hkd_hrw, hkd_hwr, fin4_0, fin4_1, fin4_2, fin4_3, fin2_0, fin2_1, ci0, ci1, cnn, false_implies, w32_eq, w64_eq, hF1.m, eA, hq, c1]
        try simp (disch := omega) only [yc_lt, yc_le, yc_gt, yc_ge, yc_eq, w32_eq, w64_eq, tn_add, tn_mul, Int.toNat_natCast, Int.reduceToNat, not_true, not_false_iff, false_implies, forall_const, implies_true]
        repeat' (with_reducible first | apply And.intro | intro _)
        all_goals try omega
        all_goals try simp (disch := omega) only [w32_eq, w64_eq, tn_add, tn_mul, Int.toNat_natCast, Int.reduceToNat, Option.some.injEq, Sum.inr.injEq, Sum.inl.injEq]
        all_goals try omega
        all_goals first | exact hx | exact hLg | exact e141 _ (by assumption) | exact e143 _ (by assumption)
    have l1 := L1 0 (Nat.zero_le _) h FrP.rf (by simpa using hL) (fun j _ => rfl) (fun i _ => rfl)
    subst hE
    refine vsA_ok tk_X5_goesLong rfl 8 ?_
    simp only [at_X5_goesLong, mr_X5_goesLong, vsA, vcA, denA, lget, lset, lst1, lst2, lclr, argsA, restA, acats, acat, tcA, tcN, rzA, lle, List.length_cons, List.length_nil, Option.toList_some, Option.toList_none, List.cons_append, List.nil_append, eG, eM, eD, eC, eS, eQ, eH, if_true, if_false, Nat.reduceAdd, Nat.reduceLeDiff, Nat.reduceEqDiff, Nat.reduceLT, Nat.reduceSub, Int.reduceEq, Int.reduceLE, Int.reduceToNat, reduceCtorEq, reduceIte, Nat.reduceBEq, Int.reduceNeg, not_true, not_false_iff, true_and, and_true, true_or, or_true, false_or, or_false, forall_const, implies_true, Nat.le_refl, Int.toNat_natCast, Int.reduceLT, ne_eq, Fin.isValue, Nat.add_zero, nC_hrw, nS_hrw, nC_hwr, nS_hwr, hkd_hrw, hkd_hwr, fin4_0, fin4_1, fin4_2, fin4_3, fin2_0, fin2_1, ci0, ci1, cnn, false_implies, w32_eq, w64_eq, hF.m, e151]
    try simp (disch := omega) only [yc_lt, yc_le, yc_gt, yc_ge, yc_eq, w32_eq, w64_eq, tn_add, tn_mul, Int.toNat_natCast, Int.reduceToNat, not_true, not_false_iff, false_implies, forall_const, implies_true]
    repeat' (with_reducible first | apply And.intro | intro _)
    all_goals try omega
    all_goals try simp (disch := omega) only [w32_eq, w64_eq, tn_add, tn_mul, Int.toNat_natCast, Int.reduceToNat, Option.some.injEq, Sum.inr.injEq, Sum.inl.injEq]
    all_goals try omega
    all_goals try exact (l1).weak rfl (by simp [lle] <;> omega)
end
theorem lfP_0 {vs : List Int} {low : Int} (h : lfP vs low = 0) : (1 ≤ vs.length ∧ vs.length ≤ 8) ∧ ∀ i, i < vs.length → low ≤ vs.getD i 0 := by
  unfold lfP at h
  split at h
  next q =>
    split at h
    next q2 => exact ⟨q, q2⟩
    next => simp at h
  next => simp at h
theorem longF_in (w : WD) (t low : Int) : -6 ≤ longF w t low ∧ longF w t low ≤ 0 := by
  unfold longF trF lfP
  repeat' split
  all_goals omega
theorem longF_0 {w : WD} {t low : Int} (h : longF w t low = 0) : ∃ n q, t = ((n : Nat) : Int) ∧ n < 4 ∧ wT w n = some q ∧ trV w t = q.2 ∧ (1 ≤ q.2.length ∧ q.2.length ≤ 8) ∧ ∀ i, i < q.2.length → low ≤ q.2.getD i 0 := by
  unfold longF at h
  split at h
  next q0 =>
    obtain ⟨n, q, e1, e2, e3, e4⟩ := trF_0 q0
    rw [e4] at h
    exact ⟨n, q, e1, e2, e3, e4, lfP_0 h⟩
  next q0 => exact absurd h q0
/-- the rows of a tray's lengths -/
def lngS (w : WD) (t : Int) : List RwV := lgL (sB (wS w)) (sT (wS w)) (trV w t) (cntW (wrdS (wS w) (wA w)))
def lbyP (w : WD) (t : Int) : Int := if longF w t (-1) = 0 then ((lngS w t).length : Int) else longF w t (-1)
def tabP (w : WD) (t i : Int) : Int := if longF w t (-1) = 0 then if i < 0 then -3 else if i < ((trV w t).length : Int) then ((orC i.toNat (lngS w t) : Nat) : Int) else -7 else longF w t (-1)
section
variable {G : GT} {h : AH} {w : WD} {N : Int}
theorem c_X5_laysLongRows (hF : FxA h) (hM : MdC h w) (hW : WOK N w) {t : Int} (h0 : longF w t (-1) = 0) :
    CnA G mX5_laysLongRows 14 0 0 [.inr (.inr (124)), .inl (t)] h (fun r h1 => r = some (.inl (((lngS w t).length : Int))) ∧ FrM [131, 141, 143, 144, 145] [37] h h1 ∧ LgC h1 (sT (wS w)) (sB (wS w)) (trV w t).length (lngS w t)) := by
  obtain ⟨n, q, rfl, hn, hq, hvv, hlen, -⟩ := longF_0 h0
  have hTM : TrM h n q.2 := by
    have := hM.2.2.2.2.2 n hn
    rw [hq] at this
    exact this.2
  unfold lngS
  rw [hvv]
  generalize q.2 = vs at *
  have hA : AllC (hdt h 125) (sT (wS w)) (sB (wS w)) (sS (wS w)) (wA w).1 (wA w).2.1 (wA w).2.2 := hM.1.1.1
  have hL : (wrd (sB (wS w)) (sS (wS w)) (wA w).1).length ≤ 1000000000000 := hW.2.1.2.2.2.2
  have hln : lnV (cntW (wrdS (wS w) (wA w))) * 4 ^ vs.length ≤ 1000000000000000000 := by
    have h1 : lnV (cntW (wrdS (wS w) (wA w))) ≤ 1000000000000 := Nat.le_trans lnV_cnt hL
    have h2 : 4 ^ vs.length ≤ 4 ^ 8 := Nat.pow_le_pow_right (by decide) (by omega)
    exact Nat.le_trans (Nat.mul_le_mul h1 h2) (by decide)
  refine CnA.of rfl (Nat.le_of_ble_eq_true rfl) ?_
  simp only [largs, lpad, mr_X5_laysLongRows]
  generalize hE : ((G, mX5_laysLongRows, _, _, _, _, h) : EV) = E
  have L1 : ∀ h2, FrM [131, 141, 143, 144, 145] [37] h h2 → hdt h2 124 37 = 0 → (∀ c, c < 6 → hdt h2 141 c = ((cntW (wrdS (wS w) (wA w)) c : Nat) : Int)) → ∀ i, i ≤ 8 → ∀ f : Nat → Int, (∀ j, j < i → f j = 0) → ExA E 11 [some (.inr (.inr (124))), some (.inl ((n : Int))), some (.inl ((i : Int)))] [] (hrw h2 144 f) := by
    intro h2 hx2 e37 hr2
    have hF2 := hF.frm hx2 (by decide +kernel)
    have cc2 := hx2.2.1
    have hFr : ∀ f, FxA (hrw h2 144 f) := fun f => hF2.hrw (by decide +kernel) f
    refine lpI 8 fun i hi ih f hf => ?_
    by_cases hi8 : i < 8
    · have nx := ih hi8 (fup f i 0) (fun j hj => by
        by_cases e : j = i
        · rw [e, fup_s]
        · rw [fup_n _ _ e]; exact hf j (by omega))
      subst hE
      refine vsA_ok tk_X5_laysLongRows rfl 20 ?_
      simp only [at_X5_laysLongRows, mr_X5_laysLongRows, vsA, vcA, denA, lget, lset, lst1, lst2, lclr, argsA, restA, acats, acat, tcA, tcN, rzA, lle, List.length_cons, List.length_nil, Option.toList_some, Option.toList_none, List.cons_append, List.nil_append, eG, eM, eD, eC, eS, eQ, eH, if_true, if_false, Nat.reduceAdd, Nat.reduceLeDiff, Nat.reduceEqDiff, Nat.reduceLT, Nat.reduceSub, Int.reduceEq, Int.reduceLE, Int.reduceToNat, reduceCtorEq, reduceIte, Nat.reduceBEq, Int.reduceNeg, not_true, not_false_iff, true_and, and_true, true_or, or_true, false_or, or_false, forall_const, implies_true, Nat.le_refl, Int.toNat_natCast, Int.reduceLT, ne_eq, Fin.isValue, Nat.add_zero, nC_hrw, nS_hrw, nC_hwr, nS_hwr, hkd_hrw, hkd_hwr, fin4_0, fin4_1, fin4_2, fin4_3, fin2_0, fin2_1, ci0, ci1, cnn, false_implies, w32_eq, w64_eq, (hFr f).m]
      try simp (disch := omega) only [yc_lt, yc_le, yc_gt, yc_ge, yc_eq, w32_eq, w64_eq, tn_add, tn_mul, Int.toNat_natCast, Int.reduceToNat, not_true, not_false_iff, false_implies, forall_const, implies_true, hwr_hrw]
      repeat' (with_reducible first | apply And.intro | intro _)
      all_goals try omega
      all_goals try simp (disch := omega) only [w32_eq, w64_eq, tn_add, tn_mul, Int.toNat_natCast, Int.reduceToNat, Option.some.injEq, Sum.inr.injEq, Sum.inl.injEq, hwr_hrw]
      all_goals try omega
      all_goals try exact (nx).weak rfl (by simp [lle] <;> omega)
    · have hi9 : i = 8 := by omega
      subst hi9
      have hx3 : FrM [131, 141, 143, 144, 145] [37] h (hrw h2 144 f) := hx2.rc (by decide) f
      have hb12 : vs.length + 4 ≤ 12 := by omega
      have hLg : LgC (hrw h2 144 f) (sT (wS w)) (sB (wS w)) vs.length [] := ⟨by rw [hdt_hrw_n _ _ (by decide)]; exact e37, fun i hi => by rw [hdt_hrw_s]; exact hf i (by omega), fun t k _ hk => absurd hk (Nat.not_lt_zero _), fun q hq => absurd hq (by simp)⟩
      have hgo := c_X5_goesLong (G := G) (T := sT (wS w)) (bec := sB (wS w)) (std := sS (wS w)) (tbl := (wA w).1) (nights := (wA w).2.1) (moon := (wA w).2.2) hn hlen.2 vs (hrw h2 144 f) [] 0 (cntW (wrdS (wS w) (wA w))) [] (hFr f) (by rw [FrM.c hx3 (b := 125) (by decide) (by decide)]; exact hA) (hTM.fr hx3 (by decide) (by decide)) rfl (by simp) (fun t ht => absurd ht (by simp)) rfl (fun c hc => by
        rw [hdt_hrw_n _ _ (by decide)]
        simpa using hr2 c hc) (fun i hi => absurd hi (Nat.not_lt_zero _)) hln hLg (by
        have : 3 ^ vs.length ≤ 3 ^ 8 := Nat.pow_le_pow_right (by decide) (by omega)
        simp at this ⊢
        omega)
      subst hE
      refine vsA_ok tk_X5_laysLongRows rfl 20 ?_
      simp only [at_X5_laysLongRows, mr_X5_laysLongRows, vsA, vcA, denA, lget, lset, lst1, lst2, lclr, argsA, restA, acats, acat, tcA, tcN, rzA, lle, List.length_cons, List.length_nil, Option.toList_some, Option.toList_none, List.cons_append, List.nil_append, eG, eM, eD, eC, eS, eQ, eH, if_true, if_false, Nat.reduceAdd, Nat.reduceLeDiff, Nat.reduceEqDiff, Nat.reduceLT, Nat.reduceSub, Int.reduceEq, Int.reduceLE, Int.reduceToNat, reduceCtorEq, reduceIte, Nat.reduceBEq, Int.reduceNeg, not_true, not_false_iff, true_and, and_true, true_or, or_true, false_or, or_false, forall_const, implies_true, Nat.le_refl, Int.toNat_natCast, Int.reduceLT, ne_eq, Fin.isValue, Nat.add_zero, nC_hrw, nS_hrw, nC_hwr, nS_hwr, hkd_hrw, hkd_hwr, fin4_0, fin4_1, fin4_2, fin4_3, fin2_0, fin2_1, ci0, ci1, cnn, false_implies, w32_eq, w64_eq, (hFr f).m]
      try simp (disch := omega) only [yc_lt, yc_le, yc_gt, yc_ge, yc_eq, w32_eq, w64_eq, tn_add, tn_mul, Int.toNat_natCast, Int.reduceToNat, not_true, not_false_iff, false_implies, forall_const, implies_true]
      repeat' (with_reducible first | apply And.intro | intro _)
      all_goals try omega
      all_goals try simp (disch := omega) only [w32_eq, w64_eq, tn_add, tn_mul, Int.toNat_natCast, Int.reduceToNat, Option.some.injEq, Sum.inr.injEq, Sum.inl.injEq]
      all_goals try omega
      refine ClA.of (hgo) (by first | exact Nat.le_of_ble_eq_true rfl | (simp only [eD]; omega)) (by first | exact Nat.le_refl _ | (simp only [eG, eD, eC, eS, eQ, eH, nC_hrw, nC_hwr, nS_hrw, nS_hwr, nC_hnw, nS_hnw]; omega)) (by first | exact Nat.le_refl _ | (simp only [eG, eD, eC, eS, eQ, eH, nC_hrw, nC_hwr, nS_hrw, nS_hwr, nC_hnw, nS_hnw]; omega)) ?_
      rintro _ h3 ⟨rfl, hx4, hL4, -, -⟩ - -
      have eL : [] ++ (lgL (sB (wS w)) (sT (wS w)) vs (cntW (wrdS (wS w) (wA w)))).map (fun q => (([] : List Nat) ++ q.1, q.2)) = lgL (sB (wS w)) (sT (wS w)) vs (cntW (wrdS (wS w) (wA w))) := by simp
      rw [eL] at hL4
      have hx5 := hx3.tr (FrM.up hx4 (cs2 := [131, 141, 143, 144, 145]) (fs2 := [37]) (by decide) (by decide))
      have hF5 := hF.frm hx5 (by decide +kernel)
      have c5 := hx5.2.1
      refine vsA_ok tk_X5_laysLongRows rfl 20 ?_
      simp only [at_X5_laysLongRows, mr_X5_laysLongRows, vsA, vcA, denA, lget, lset, lst1, lst2, lclr, argsA, restA, acats, acat, tcA, tcN, rzA, lle, List.length_cons, List.length_nil, Option.toList_some, Option.toList_none, List.cons_append, List.nil_append, eG, eM, eD, eC, eS, eQ, eH, if_true, if_false, Nat.reduceAdd, Nat.reduceLeDiff, Nat.reduceEqDiff, Nat.reduceLT, Nat.reduceSub, Int.reduceEq, Int.reduceLE, Int.reduceToNat, reduceCtorEq, reduceIte, Nat.reduceBEq, Int.reduceNeg, not_true, not_false_iff, true_and, and_true, true_or, or_true, false_or, or_false, forall_const, implies_true, Nat.le_refl, Int.toNat_natCast, Int.reduceLT, ne_eq, Fin.isValue, Nat.add_zero, nC_hrw, nS_hrw, nC_hwr, nS_hwr, hkd_hrw, hkd_hwr, fin4_0, fin4_1, fin4_2, fin4_3, fin2_0, fin2_1, ci0, ci1, cnn, false_implies, w32_eq, w64_eq, hF5.m, hL4.1, c5]
      try simp (disch := omega) only [yc_lt, yc_le, yc_gt, yc_ge, yc_eq, w32_eq, w64_eq, tn_add, tn_mul, Int.toNat_natCast, Int.reduceToNat, not_true, not_false_iff, false_implies, forall_const, implies_true]
      repeat' (with_reducible first | apply And.intro | intro _)
      all_goals try omega
      all_goals try simp (disch := omega) only [w32_eq, w64_eq, tn_add, tn_mul, Int.toNat_natCast, Int.reduceToNat, Option.some.injEq, Sum.inr.injEq, Sum.inl.injEq]
      all_goals try omega
      all_goals first | exact hx5 | exact hL4
  subst hE
  refine vsA_ok tk_X5_laysLongRows rfl 20 ?_
  simp only [at_X5_laysLongRows, mr_X5_laysLongRows, vsA, vcA, denA, lget, lset, lst1, lst2, lclr, argsA, restA, acats, acat, tcA, tcN, rzA, lle, List.length_cons, List.length_nil, Option.toList_some, Option.toList_none, List.cons_append, List.nil_append, eG, eM, eD, eC, eS, eQ, eH, if_true, if_false, Nat.reduceAdd, Nat.reduceLeDiff, Nat.reduceEqDiff, Nat.reduceLT, Nat.reduceSub, Int.reduceEq, Int.reduceLE, Int.reduceToNat, reduceCtorEq, reduceIte, Nat.reduceBEq, Int.reduceNeg, not_true, not_false_iff, true_and, and_true, true_or, or_true, false_or, or_false, forall_const, implies_true, Nat.le_refl, Int.toNat_natCast, Int.reduceLT, ne_eq, Fin.isValue, Nat.add_zero, nC_hrw, nS_hrw, nC_hwr, nS_hwr, hkd_hrw, hkd_hwr, fin4_0, fin4_1, fin4_2, fin4_3, fin2_0, fin2_1, ci0, ci1, cnn, false_implies, w32_eq, w64_eq, hF.m]
  try simp (disch := omega) only [yc_lt, yc_le, yc_gt, yc_ge, yc_eq, w32_eq, w64_eq, tn_add, tn_mul, Int.toNat_natCast, Int.reduceToNat, not_true, not_false_iff, false_implies, forall_const, implies_true]
  repeat' (with_reducible first | apply And.intro | intro _)
  all_goals try omega
  all_goals try simp (disch := omega) only [w32_eq, w64_eq, tn_add, tn_mul, Int.toNat_natCast, Int.reduceToNat, Option.some.injEq, Sum.inr.injEq, Sum.inl.injEq]
  all_goals try omega
  refine ClA.of (c_X5_laysMany hF hA hL) (by first | exact Nat.le_of_ble_eq_true rfl | (simp only [eD]; omega)) (by first | exact Nat.le_refl _ | (simp only [eG, eD, eC, eS, eQ, eH, nC_hrw, nC_hwr, nS_hrw, nS_hwr, nC_hnw, nS_hnw]; omega)) (by first | exact Nat.le_refl _ | (simp only [eG, eD, eC, eS, eQ, eH, nC_hrw, nC_hwr, nS_hrw, nS_hwr, nC_hnw, nS_hnw]; omega)) ?_
  rintro _ h2 ⟨rfl, hx2, hr2⟩ - -
  have hF2 := hF.frm hx2 (by decide +kernel)
  have hx3 : FrM [131, 141, 143, 144, 145] [37] h (hwr h2 124 37 0) := (FrM.up hx2 (by decide) (by decide)).wf (by decide) _
  have l1 := L1 (hwr h2 124 37 0) hx3 (by rw [hdt_hwr, if_pos rfl, fup_s]) (fun c hc => by rw [hdt_hwr, if_neg (by decide)]; exact hr2 c hc) 0 (by omega) (hdt (hwr h2 124 37 0) 144) (fun j hj => absurd hj (Nat.not_lt_zero _))
  rw [hrw_self] at l1
  refine vsA_ok tk_X5_laysLongRows rfl 20 ?_
  simp only [at_X5_laysLongRows, mr_X5_laysLongRows, vsA, vcA, denA, lget, lset, lst1, lst2, lclr, argsA, restA, acats, acat, tcA, tcN, rzA, lle, List.length_cons, List.length_nil, Option.toList_some, Option.toList_none, List.cons_append, List.nil_append, eG, eM, eD, eC, eS, eQ, eH, if_true, if_false, Nat.reduceAdd, Nat.reduceLeDiff, Nat.reduceEqDiff, Nat.reduceLT, Nat.reduceSub, Int.reduceEq, Int.reduceLE, Int.reduceToNat, reduceCtorEq, reduceIte, Nat.reduceBEq, Int.reduceNeg, not_true, not_false_iff, true_and, and_true, true_or, or_true, false_or, or_false, forall_const, implies_true, Nat.le_refl, Int.toNat_natCast, Int.reduceLT, ne_eq, Fin.isValue, Nat.add_zero, nC_hrw, nS_hrw, nC_hwr, nS_hwr, hkd_hrw, hkd_hwr, fin4_0, fin4_1, fin4_2, fin4_3, fin2_0, fin2_1, ci0, ci1, cnn, false_implies, w32_eq, w64_eq, hF2.m]
  try simp (disch := omega) only [yc_lt, yc_le, yc_gt, yc_ge, yc_eq, w32_eq, w64_eq, tn_add, tn_mul, Int.toNat_natCast, Int.reduceToNat, not_true, not_false_iff, false_implies, forall_const, implies_true]
  repeat' (with_reducible first | apply And.intro | intro _)
  all_goals try omega
  all_goals try simp (disch := omega) only [w32_eq, w64_eq, tn_add, tn_mul, Int.toNat_natCast, Int.reduceToNat, Option.some.injEq, Sum.inr.injEq, Sum.inl.injEq]
  all_goals try omega
  all_goals try exact (l1).weak rfl (by simp [lle] <;> omega)
theorem c_X5_longBy (hF : FxA h) (hM : MdC h w) (hW : WOK N w) (t : Int) (ht : In32 t) :
    CnA G mX5_longBy 15 0 0 [.inr (.inr (124)), .inl (t)] h (fun r h1 => r = some (.inl (lbyP w t)) ∧ MpC h h1 w) := by
  obtain ⟨x0, hF0, hM0⟩ := thr_0 hF hM
  have hfin : MpC h (hwr h 124 0 0) w := MpC.scr hF hM x0 (by decide) (by decide)
  have hno := c_X5_noLong (G := G) hF0 hM0 hW t (-1) ht ⟨by decide, by decide⟩
  have hin := longF_in w t (-1)
  by_cases q0 : longF w t (-1) = 0
  · rw [show lbyP w t = ((lngS w t).length : Int) from if_pos q0]
    have hll := c_X5_laysLongRows (G := G) hF0 hM0 hW q0
    rw [q0] at hno
    refine CnA.of rfl (Nat.le_of_ble_eq_true rfl) ?_
    simp only [largs, lpad, mr_X5_longBy]
    refine vsA_ok tk_X5_longBy rfl 20 ?_
    simp only [at_X5_longBy, mr_X5_longBy, vsA, vcA, denA, lget, lset, lst1, lst2, lclr, argsA, restA, acats, acat, tcA, tcN, rzA, lle, List.length_cons, List.length_nil, Option.toList_some, Option.toList_none, List.cons_append, List.nil_append, eG, eM, eD, eC, eS, eQ, eH, if_true, if_false, Nat.reduceAdd, Nat.reduceLeDiff, Nat.reduceEqDiff, Nat.reduceLT, Nat.reduceSub, Int.reduceEq, Int.reduceLE, Int.reduceToNat, reduceCtorEq, reduceIte, Nat.reduceBEq, Int.reduceNeg, not_true, not_false_iff, true_and, and_true, true_or, or_true, false_or, or_false, forall_const, implies_true, Nat.le_refl, Int.toNat_natCast, Int.reduceLT, ne_eq, Fin.isValue, Nat.add_zero, nC_hrw, nS_hrw, nC_hwr, nS_hwr, hkd_hrw, hkd_hwr, fin4_0, fin4_1, fin4_2, fin4_3, fin2_0, fin2_1, ci0, ci1, cnn, false_implies, w32_eq, w64_eq, hF.m, hF0.m]
    try simp (disch := omega) only [yc_lt, yc_le, yc_gt, yc_ge, yc_eq, w32_eq, w64_eq, tn_add, tn_mul, Int.toNat_natCast, Int.reduceToNat, not_true, not_false_iff, false_implies, forall_const, implies_true]
    repeat' (with_reducible first | apply And.intro | intro _)
    all_goals try omega
    all_goals try simp (disch := omega) only [w32_eq, w64_eq, tn_add, tn_mul, Int.toNat_natCast, Int.reduceToNat, Option.some.injEq, Sum.inr.injEq, Sum.inl.injEq]
    all_goals try omega
    refine ClA.pure (hno) (by first | exact Nat.le_of_ble_eq_true rfl | (simp only [eD]; omega)) (by first | exact Nat.le_refl _ | (simp only [eG, eD, eC, eS, eQ, eH, nC_hrw, nC_hwr, nS_hrw, nS_hwr, nC_hnw, nS_hnw]; omega)) (by first | exact Nat.le_refl _ | (simp only [eG, eD, eC, eS, eQ, eH, nC_hrw, nC_hwr, nS_hrw, nS_hwr, nC_hnw, nS_hnw]; omega)) ?_
    refine vsA_ok tk_X5_longBy rfl 20 ?_
    simp only [at_X5_longBy, mr_X5_longBy, vsA, vcA, denA, lget, lset, lst1, lst2, lclr, argsA, restA, acats, acat, tcA, tcN, rzA, lle, List.length_cons, List.length_nil, Option.toList_some, Option.toList_none, List.cons_append, List.nil_append, eG, eM, eD, eC, eS, eQ, eH, if_true, if_false, Nat.reduceAdd, Nat.reduceLeDiff, Nat.reduceEqDiff, Nat.reduceLT, Nat.reduceSub, Int.reduceEq, Int.reduceLE, Int.reduceToNat, reduceCtorEq, reduceIte, Nat.reduceBEq, Int.reduceNeg, not_true, not_false_iff, true_and, and_true, true_or, or_true, false_or, or_false, forall_const, implies_true, Nat.le_refl, Int.toNat_natCast, Int.reduceLT, ne_eq, Fin.isValue, Nat.add_zero, nC_hrw, nS_hrw, nC_hwr, nS_hwr, hkd_hrw, hkd_hwr, fin4_0, fin4_1, fin4_2, fin4_3, fin2_0, fin2_1, ci0, ci1, cnn, false_implies, w32_eq, w64_eq, hF0.m]
    try simp (disch := omega) only [yc_lt, yc_le, yc_gt, yc_ge, yc_eq, w32_eq, w64_eq, tn_add, tn_mul, Int.toNat_natCast, Int.reduceToNat, not_true, not_false_iff, false_implies, forall_const, implies_true]
    repeat' (with_reducible first | apply And.intro | intro _)
    all_goals try omega
    all_goals try simp (disch := omega) only [w32_eq, w64_eq, tn_add, tn_mul, Int.toNat_natCast, Int.reduceToNat, Option.some.injEq, Sum.inr.injEq, Sum.inl.injEq]
    all_goals try omega
    refine ClA.of (hll) (by first | exact Nat.le_of_ble_eq_true rfl | (simp only [eD]; omega)) (by first | exact Nat.le_refl _ | (simp only [eG, eD, eC, eS, eQ, eH, nC_hrw, nC_hwr, nS_hrw, nS_hwr, nC_hnw, nS_hnw]; omega)) (by first | exact Nat.le_refl _ | (simp only [eG, eD, eC, eS, eQ, eH, nC_hrw, nC_hwr, nS_hrw, nS_hwr, nC_hnw, nS_hnw]; omega)) ?_
    rintro _ h2 ⟨rfl, hx2, -⟩ - -
    have hx3 : FrM [131, 141, 143, 144, 145] [0, 37] h h2 := (FrM.up x0 (by decide) (by decide)).tr (FrM.up hx2 (by decide) (by decide))
    have c3 := hx3.2.1
    refine vsA_ok tk_X5_longBy rfl 20 ?_
    simp only [at_X5_longBy, mr_X5_longBy, vsA, vcA, denA, lget, lset, lst1, lst2, lclr, argsA, restA, acats, acat, tcA, tcN, rzA, lle, List.length_cons, List.length_nil, Option.toList_some, Option.toList_none, List.cons_append, List.nil_append, eG, eM, eD, eC, eS, eQ, eH, if_true, if_false, Nat.reduceAdd, Nat.reduceLeDiff, Nat.reduceEqDiff, Nat.reduceLT, Nat.reduceSub, Int.reduceEq, Int.reduceLE, Int.reduceToNat, reduceCtorEq, reduceIte, Nat.reduceBEq, Int.reduceNeg, not_true, not_false_iff, true_and, and_true, true_or, or_true, false_or, or_false, forall_const, implies_true, Nat.le_refl, Int.toNat_natCast, Int.reduceLT, ne_eq, Fin.isValue, Nat.add_zero, nC_hrw, nS_hrw, nC_hwr, nS_hwr, hkd_hrw, hkd_hwr, fin4_0, fin4_1, fin4_2, fin4_3, fin2_0, fin2_1, ci0, ci1, cnn, false_implies, w32_eq, w64_eq, c3]
    try simp (disch := omega) only [yc_lt, yc_le, yc_gt, yc_ge, yc_eq, w32_eq, w64_eq, tn_add, tn_mul, Int.toNat_natCast, Int.reduceToNat, not_true, not_false_iff, false_implies, forall_const, implies_true]
    repeat' (with_reducible first | apply And.intro | intro _)
    all_goals try omega
    all_goals try simp (disch := omega) only [w32_eq, w64_eq, tn_add, tn_mul, Int.toNat_natCast, Int.reduceToNat, Option.some.injEq, Sum.inr.injEq, Sum.inl.injEq]
    all_goals try omega
    all_goals exact MpC.scr hF hM hx3 (by decide) (by decide)
  · rw [show lbyP w t = longF w t (-1) from if_neg q0]
    refine CnA.of rfl (Nat.le_of_ble_eq_true rfl) ?_
    simp only [largs, lpad, mr_X5_longBy]
    refine vsA_ok tk_X5_longBy rfl 20 ?_
    simp only [at_X5_longBy, mr_X5_longBy, vsA, vcA, denA, lget, lset, lst1, lst2, lclr, argsA, restA, acats, acat, tcA, tcN, rzA, lle, List.length_cons, List.length_nil, Option.toList_some, Option.toList_none, List.cons_append, List.nil_append, eG, eM, eD, eC, eS, eQ, eH, if_true, if_false, Nat.reduceAdd, Nat.reduceLeDiff, Nat.reduceEqDiff, Nat.reduceLT, Nat.reduceSub, Int.reduceEq, Int.reduceLE, Int.reduceToNat, reduceCtorEq, reduceIte, Nat.reduceBEq, Int.reduceNeg, not_true, not_false_iff, true_and, and_true, true_or, or_true, false_or, or_false, forall_const, implies_true, Nat.le_refl, Int.toNat_natCast, Int.reduceLT, ne_eq, Fin.isValue, Nat.add_zero, nC_hrw, nS_hrw, nC_hwr, nS_hwr, hkd_hrw, hkd_hwr, fin4_0, fin4_1, fin4_2, fin4_3, fin2_0, fin2_1, ci0, ci1, cnn, false_implies, w32_eq, w64_eq, hF.m, hF0.m]
    try simp (disch := omega) only [yc_lt, yc_le, yc_gt, yc_ge, yc_eq, w32_eq, w64_eq, tn_add, tn_mul, Int.toNat_natCast, Int.reduceToNat, not_true, not_false_iff, false_implies, forall_const, implies_true]
    repeat' (with_reducible first | apply And.intro | intro _)
    all_goals try omega
    all_goals try simp (disch := omega) only [w32_eq, w64_eq, tn_add, tn_mul, Int.toNat_natCast, Int.reduceToNat, Option.some.injEq, Sum.inr.injEq, Sum.inl.injEq]
    all_goals try omega
    refine ClA.pure (hno) (by first | exact Nat.le_of_ble_eq_true rfl | (simp only [eD]; omega)) (by first | exact Nat.le_refl _ | (simp only [eG, eD, eC, eS, eQ, eH, nC_hrw, nC_hwr, nS_hrw, nS_hwr, nC_hnw, nS_hnw]; omega)) (by first | exact Nat.le_refl _ | (simp only [eG, eD, eC, eS, eQ, eH, nC_hrw, nC_hwr, nS_hrw, nS_hwr, nC_hnw, nS_hnw]; omega)) ?_
    refine vsA_ok tk_X5_longBy rfl 20 ?_
    simp only [at_X5_longBy, mr_X5_longBy, vsA, vcA, denA, lget, lset, lst1, lst2, lclr, argsA, restA, acats, acat, tcA, tcN, rzA, lle, List.length_cons, List.length_nil, Option.toList_some, Option.toList_none, List.cons_append, List.nil_append, eG, eM, eD, eC, eS, eQ, eH, if_true, if_false, Nat.reduceAdd, Nat.reduceLeDiff, Nat.reduceEqDiff, Nat.reduceLT, Nat.reduceSub, Int.reduceEq, Int.reduceLE, Int.reduceToNat, reduceCtorEq, reduceIte, Nat.reduceBEq, Int.reduceNeg, not_true, not_false_iff, true_and, and_true, true_or, or_true, false_or, or_false, forall_const, implies_true, Nat.le_refl, Int.toNat_natCast, Int.reduceLT, ne_eq, Fin.isValue, Nat.add_zero, nC_hrw, nS_hrw, nC_hwr, nS_hwr, hkd_hrw, hkd_hwr, fin4_0, fin4_1, fin4_2, fin4_3, fin2_0, fin2_1, ci0, ci1, cnn, false_implies, w32_eq, w64_eq]
    try simp (disch := omega) only [yc_lt, yc_le, yc_gt, yc_ge, yc_eq, w32_eq, w64_eq, tn_add, tn_mul, Int.toNat_natCast, Int.reduceToNat, not_true, not_false_iff, false_implies, forall_const, implies_true]
    repeat' (with_reducible first | apply And.intro | intro _)
    all_goals try omega
    all_goals try simp (disch := omega) only [w32_eq, w64_eq, tn_add, tn_mul, Int.toNat_natCast, Int.reduceToNat, Option.some.injEq, Sum.inr.injEq, Sum.inl.injEq]
    all_goals try omega
    all_goals exact hfin
theorem c_X5_tables (hF : FxA h) (hM : MdC h w) (hW : WOK N w) (t i : Int) (ht : In32 t) (hi : In32 i) :
    CnA G mX5_tables 15 0 0 [.inr (.inr (124)), .inl (t), .inl (i)] h (fun r h1 => r = some (.inl (tabP w t i)) ∧ MpC h h1 w) := by
  obtain ⟨x0, hF0, hM0⟩ := thr_0 hF hM
  have hfin : MpC h (hwr h 124 0 0) w := MpC.scr hF hM x0 (by decide) (by decide)
  have hno := c_X5_noLong (G := G) hF0 hM0 hW t (-1) ht ⟨by decide, by decide⟩
  have hin := longF_in w t (-1)
  obtain ⟨hi1, hi2⟩ := hi
  by_cases q0 : longF w t (-1) = 0
  · have hll := c_X5_laysLongRows (G := G) hF0 hM0 hW q0
    rw [q0] at hno
    unfold tabP
    rw [if_pos q0]
    obtain ⟨n, q, rfl, hn, hq, hvv, hlen, -⟩ := longF_0 q0
    have hTM : TrM (hwr h 124 0 0) n q.2 := by
      have := hM0.2.2.2.2.2 n hn
      rw [hq] at this
      exact this.2
    have e151 := hTM.2.1
    rw [hvv] at hll ⊢
    generalize q.2 = vs at *
    by_cases q1 : i < 0
    · rw [if_pos q1]
      refine CnA.of rfl (Nat.le_of_ble_eq_true rfl) ?_
      simp only [largs, lpad, mr_X5_tables]
      refine vsA_ok tk_X5_tables rfl 20 ?_
      simp only [at_X5_tables, mr_X5_tables, vsA, vcA, denA, lget, lset, lst1, lst2, lclr, argsA, restA, acats, acat, tcA, tcN, rzA, lle, List.length_cons, List.length_nil, Option.toList_some, Option.toList_none, List.cons_append, List.nil_append, eG, eM, eD, eC, eS, eQ, eH, if_true, if_false, Nat.reduceAdd, Nat.reduceLeDiff, Nat.reduceEqDiff, Nat.reduceLT, Nat.reduceSub, Int.reduceEq, Int.reduceLE, Int.reduceToNat, reduceCtorEq, reduceIte, Nat.reduceBEq, Int.reduceNeg, not_true, not_false_iff, true_and, and_true, true_or, or_true, false_or, or_false, forall_const, implies_true, Nat.le_refl, Int.toNat_natCast, Int.reduceLT, ne_eq, Fin.isValue, Nat.add_zero, nC_hrw, nS_hrw, nC_hwr, nS_hwr, hkd_hrw, hkd_hwr, fin4_0, fin4_1, fin4_2, fin4_3, fin2_0, fin2_1, ci0, ci1, cnn, false_implies, w32_eq, w64_eq, hF.m, hF0.m]
      try simp (disch := omega) only [yc_lt, yc_le, yc_gt, yc_ge, yc_eq, w32_eq, w64_eq, tn_add, tn_mul, Int.toNat_natCast, Int.reduceToNat, not_true, not_false_iff, false_implies, forall_const, implies_true]
      repeat' (with_reducible first | apply And.intro | intro _)
      all_goals try omega
      all_goals try simp (disch := omega) only [w32_eq, w64_eq, tn_add, tn_mul, Int.toNat_natCast, Int.reduceToNat, Option.some.injEq, Sum.inr.injEq, Sum.inl.injEq]
      all_goals try omega
      refine ClA.pure (hno) (by first | exact Nat.le_of_ble_eq_true rfl | (simp only [eD]; omega)) (by first | exact Nat.le_refl _ | (simp only [eG, eD, eC, eS, eQ, eH, nC_hrw, nC_hwr, nS_hrw, nS_hwr, nC_hnw, nS_hnw]; omega)) (by first | exact Nat.le_refl _ | (simp only [eG, eD, eC, eS, eQ, eH, nC_hrw, nC_hwr, nS_hrw, nS_hwr, nC_hnw, nS_hnw]; omega)) ?_
      refine vsA_ok tk_X5_tables rfl 20 ?_
      simp only [at_X5_tables, mr_X5_tables, vsA, vcA, denA, lget, lset, lst1, lst2, lclr, argsA, restA, acats, acat, tcA, tcN, rzA, lle, List.length_cons, List.length_nil, Option.toList_some, Option.toList_none, List.cons_append, List.nil_append, eG, eM, eD, eC, eS, eQ, eH, if_true, if_false, Nat.reduceAdd, Nat.reduceLeDiff, Nat.reduceEqDiff, Nat.reduceLT, Nat.reduceSub, Int.reduceEq, Int.reduceLE, Int.reduceToNat, reduceCtorEq, reduceIte, Nat.reduceBEq, Int.reduceNeg, not_true, not_false_iff, true_and, and_true, true_or, or_true, false_or, or_false, forall_const, implies_true, Nat.le_refl, Int.toNat_natCast, Int.reduceLT, ne_eq, Fin.isValue, Nat.add_zero, nC_hrw, nS_hrw, nC_hwr, nS_hwr, hkd_hrw, hkd_hwr, fin4_0, fin4_1, fin4_2, fin4_3, fin2_0, fin2_1, ci0, ci1, cnn, false_implies, w32_eq, w64_eq]
      try simp (disch := omega) only [yc_lt, yc_le, yc_gt, yc_ge, yc_eq, w32_eq, w64_eq, tn_add, tn_mul, Int.toNat_natCast, Int.reduceToNat, not_true, not_false_iff, false_implies, forall_const, implies_true]
      repeat' (with_reducible first | apply And.intro | intro _)
      all_goals try omega
      all_goals try simp (disch := omega) only [w32_eq, w64_eq, tn_add, tn_mul, Int.toNat_natCast, Int.reduceToNat, Option.some.injEq, Sum.inr.injEq, Sum.inl.injEq]
      all_goals try omega
      all_goals exact hfin
    · rw [if_neg q1]
      by_cases q2 : i < (vs.length : Int)
      · rw [if_pos q2]
        obtain ⟨k, rfl⟩ : ∃ m : Nat, i = m := ⟨i.toNat, by omega⟩
        refine CnA.of rfl (Nat.le_of_ble_eq_true rfl) ?_
        simp only [largs, lpad, mr_X5_tables]
        refine vsA_ok tk_X5_tables rfl 20 ?_
        simp only [at_X5_tables, mr_X5_tables, vsA, vcA, denA, lget, lset, lst1, lst2, lclr, argsA, restA, acats, acat, tcA, tcN, rzA, lle, List.length_cons, List.length_nil, Option.toList_some, Option.toList_none, List.cons_append, List.nil_append, eG, eM, eD, eC, eS, eQ, eH, if_true, if_false, Nat.reduceAdd, Nat.reduceLeDiff, Nat.reduceEqDiff, Nat.reduceLT, Nat.reduceSub, Int.reduceEq, Int.reduceLE, Int.reduceToNat, reduceCtorEq, reduceIte, Nat.reduceBEq, Int.reduceNeg, not_true, not_false_iff, true_and, and_true, true_or, or_true, false_or, or_false, forall_const, implies_true, Nat.le_refl, Int.toNat_natCast, Int.reduceLT, ne_eq, Fin.isValue, Nat.add_zero, nC_hrw, nS_hrw, nC_hwr, nS_hwr, hkd_hrw, hkd_hwr, fin4_0, fin4_1, fin4_2, fin4_3, fin2_0, fin2_1, ci0, ci1, cnn, false_implies, w32_eq, w64_eq, hF.m, hF0.m]
        try simp (disch := omega) only [yc_lt, yc_le, yc_gt, yc_ge, yc_eq, w32_eq, w64_eq, tn_add, tn_mul, Int.toNat_natCast, Int.reduceToNat, not_true, not_false_iff, false_implies, forall_const, implies_true]
        repeat' (with_reducible first | apply And.intro | intro _)
        all_goals try omega
        all_goals try simp (disch := omega) only [w32_eq, w64_eq, tn_add, tn_mul, Int.toNat_natCast, Int.reduceToNat, Option.some.injEq, Sum.inr.injEq, Sum.inl.injEq]
        all_goals try omega
        refine ClA.pure (hno) (by first | exact Nat.le_of_ble_eq_true rfl | (simp only [eD]; omega)) (by first | exact Nat.le_refl _ | (simp only [eG, eD, eC, eS, eQ, eH, nC_hrw, nC_hwr, nS_hrw, nS_hwr, nC_hnw, nS_hnw]; omega)) (by first | exact Nat.le_refl _ | (simp only [eG, eD, eC, eS, eQ, eH, nC_hrw, nC_hwr, nS_hrw, nS_hwr, nC_hnw, nS_hnw]; omega)) ?_
        refine vsA_ok tk_X5_tables rfl 20 ?_
        simp only [at_X5_tables, mr_X5_tables, vsA, vcA, denA, lget, lset, lst1, lst2, lclr, argsA, restA, acats, acat, tcA, tcN, rzA, lle, List.length_cons, List.length_nil, Option.toList_some, Option.toList_none, List.cons_append, List.nil_append, eG, eM, eD, eC, eS, eQ, eH, if_true, if_false, Nat.reduceAdd, Nat.reduceLeDiff, Nat.reduceEqDiff, Nat.reduceLT, Nat.reduceSub, Int.reduceEq, Int.reduceLE, Int.reduceToNat, reduceCtorEq, reduceIte, Nat.reduceBEq, Int.reduceNeg, not_true, not_false_iff, true_and, and_true, true_or, or_true, false_or, or_false, forall_const, implies_true, Nat.le_refl, Int.toNat_natCast, Int.reduceLT, ne_eq, Fin.isValue, Nat.add_zero, nC_hrw, nS_hrw, nC_hwr, nS_hwr, hkd_hrw, hkd_hwr, fin4_0, fin4_1, fin4_2, fin4_3, fin2_0, fin2_1, ci0, ci1, cnn, false_implies, w32_eq, w64_eq, hF0.m, e151]
        try simp (disch := omega) only [yc_lt, yc_le, yc_gt, yc_ge, yc_eq, w32_eq, w64_eq, tn_add, tn_mul, Int.toNat_natCast, Int.reduceToNat, not_true, not_false_iff, false_implies, forall_const, implies_true]
        repeat' (with_reducible first | apply And.intro | intro _)
        all_goals try omega
        all_goals try simp (disch := omega) only [w32_eq, w64_eq, tn_add, tn_mul, Int.toNat_natCast, Int.reduceToNat, Option.some.injEq, Sum.inr.injEq, Sum.inl.injEq]
        all_goals try omega
        refine ClA.of (hll) (by first | exact Nat.le_of_ble_eq_true rfl | (simp only [eD]; omega)) (by first | exact Nat.le_refl _ | (simp only [eG, eD, eC, eS, eQ, eH, nC_hrw, nC_hwr, nS_hrw, nS_hwr, nC_hnw, nS_hnw]; omega)) (by first | exact Nat.le_refl _ | (simp only [eG, eD, eC, eS, eQ, eH, nC_hrw, nC_hwr, nS_hrw, nS_hwr, nC_hnw, nS_hnw]; omega)) ?_
        rintro _ h2 ⟨rfl, hx2, hL2⟩ - -
        have hx3 : FrM [131, 141, 143, 144, 145] [0, 37] h h2 := (FrM.up x0 (by decide) (by decide)).tr (FrM.up hx2 (by decide) (by decide))
        have hF3 := hF.frm hx3 (by decide +kernel)
        have c3 := hx3.2.1
        have e1 := hL2.2.1 k (by omega)
        have e2 := orC_lt hL2.2.2.2 k
        refine vsA_ok tk_X5_tables rfl 20 ?_
        simp only [at_X5_tables, mr_X5_tables, vsA, vcA, denA, lget, lset, lst1, lst2, lclr, argsA, restA, acats, acat, tcA, tcN, rzA, lle, List.length_cons, List.length_nil, Option.toList_some, Option.toList_none, List.cons_append, List.nil_append, eG, eM, eD, eC, eS, eQ, eH, if_true, if_false, Nat.reduceAdd, Nat.reduceLeDiff, Nat.reduceEqDiff, Nat.reduceLT, Nat.reduceSub, Int.reduceEq, Int.reduceLE, Int.reduceToNat, reduceCtorEq, reduceIte, Nat.reduceBEq, Int.reduceNeg, not_true, not_false_iff, true_and, and_true, true_or, or_true, false_or, or_false, forall_const, implies_true, Nat.le_refl, Int.toNat_natCast, Int.reduceLT, ne_eq, Fin.isValue, Nat.add_zero, nC_hrw, nS_hrw, nC_hwr, nS_hwr, hkd_hrw, hkd_hwr, fin4_0, fin4_1, fin4_2, fin4_3, fin2_0, fin2_1, ci0, ci1, cnn, false_implies, w32_eq, w64_eq, hF3.m, e1, c3]
        try simp (disch := omega) only [yc_lt, yc_le, yc_gt, yc_ge, yc_eq, w32_eq, w64_eq, tn_add, tn_mul, Int.toNat_natCast, Int.reduceToNat, not_true, not_false_iff, false_implies, forall_const, implies_true]
        repeat' (with_reducible first | apply And.intro | intro _)
        all_goals try omega
        all_goals try simp (disch := omega) only [w32_eq, w64_eq, tn_add, tn_mul, Int.toNat_natCast, Int.reduceToNat, Option.some.injEq, Sum.inr.injEq, Sum.inl.injEq]
        all_goals try omega
        all_goals first | rfl | exact MpC.scr hF hM hx3 (by decide) (by decide)
      · rw [if_neg q2]
        refine CnA.of rfl (Nat.le_of_ble_eq_true rfl) ?_
        simp only [largs, lpad, mr_X5_tables]
        refine vsA_ok tk_X5_tables rfl 20 ?_
        simp only [at_X5_tables, mr_X5_tables, vsA, vcA, denA, lget, lset, lst1, lst2, lclr, argsA, restA, acats, acat, tcA, tcN, rzA, lle, List.length_cons, List.length_nil, Option.toList_some, Option.toList_none, List.cons_append, List.nil_append, eG, eM, eD, eC, eS, eQ, eH, if_true, if_false, Nat.reduceAdd, Nat.reduceLeDiff, Nat.reduceEqDiff, Nat.reduceLT, Nat.reduceSub, Int.reduceEq, Int.reduceLE, Int.reduceToNat, reduceCtorEq, reduceIte, Nat.reduceBEq, Int.reduceNeg, not_true, not_false_iff, true_and, and_true, true_or, or_true, false_or, or_false, forall_const, implies_true, Nat.le_refl, Int.toNat_natCast, Int.reduceLT, ne_eq, Fin.isValue, Nat.add_zero, nC_hrw, nS_hrw, nC_hwr, nS_hwr, hkd_hrw, hkd_hwr, fin4_0, fin4_1, fin4_2, fin4_3, fin2_0, fin2_1, ci0, ci1, cnn, false_implies, w32_eq, w64_eq, hF.m, hF0.m]
        try simp (disch := omega) only [yc_lt, yc_le, yc_gt, yc_ge, yc_eq, w32_eq, w64_eq, tn_add, tn_mul, Int.toNat_natCast, Int.reduceToNat, not_true, not_false_iff, false_implies, forall_const, implies_true]
        repeat' (with_reducible first | apply And.intro | intro _)
        all_goals try omega
        all_goals try simp (disch := omega) only [w32_eq, w64_eq, tn_add, tn_mul, Int.toNat_natCast, Int.reduceToNat, Option.some.injEq, Sum.inr.injEq, Sum.inl.injEq]
        all_goals try omega
        refine ClA.pure (hno) (by first | exact Nat.le_of_ble_eq_true rfl | (simp only [eD]; omega)) (by first | exact Nat.le_refl _ | (simp only [eG, eD, eC, eS, eQ, eH, nC_hrw, nC_hwr, nS_hrw, nS_hwr, nC_hnw, nS_hnw]; omega)) (by first | exact Nat.le_refl _ | (simp only [eG, eD, eC, eS, eQ, eH, nC_hrw, nC_hwr, nS_hrw, nS_hwr, nC_hnw, nS_hnw]; omega)) ?_
        refine vsA_ok tk_X5_tables rfl 20 ?_
        simp only [at_X5_tables, mr_X5_tables, vsA, vcA, denA, lget, lset, lst1, lst2, lclr, argsA, restA, acats, acat, tcA, tcN, rzA, lle, List.length_cons, List.length_nil, Option.toList_some, Option.toList_none, List.cons_append, List.nil_append, eG, eM, eD, eC, eS, eQ, eH, if_true, if_false, Nat.reduceAdd, Nat.reduceLeDiff, Nat.reduceEqDiff, Nat.reduceLT, Nat.reduceSub, Int.reduceEq, Int.reduceLE, Int.reduceToNat, reduceCtorEq, reduceIte, Nat.reduceBEq, Int.reduceNeg, not_true, not_false_iff, true_and, and_true, true_or, or_true, false_or, or_false, forall_const, implies_true, Nat.le_refl, Int.toNat_natCast, Int.reduceLT, ne_eq, Fin.isValue, Nat.add_zero, nC_hrw, nS_hrw, nC_hwr, nS_hwr, hkd_hrw, hkd_hwr, fin4_0, fin4_1, fin4_2, fin4_3, fin2_0, fin2_1, ci0, ci1, cnn, false_implies, w32_eq, w64_eq, hF0.m, e151]
        try simp (disch := omega) only [yc_lt, yc_le, yc_gt, yc_ge, yc_eq, w32_eq, w64_eq, tn_add, tn_mul, Int.toNat_natCast, Int.reduceToNat, not_true, not_false_iff, false_implies, forall_const, implies_true]
        repeat' (with_reducible first | apply And.intro | intro _)
        all_goals try omega
        all_goals try simp (disch := omega) only [w32_eq, w64_eq, tn_add, tn_mul, Int.toNat_natCast, Int.reduceToNat, Option.some.injEq, Sum.inr.injEq, Sum.inl.injEq]
        all_goals try omega
        all_goals exact hfin
  · rw [show tabP w t i = longF w t (-1) from if_neg q0]
    refine CnA.of rfl (Nat.le_of_ble_eq_true rfl) ?_
    simp only [largs, lpad, mr_X5_tables]
    refine vsA_ok tk_X5_tables rfl 20 ?_
    simp only [at_X5_tables, mr_X5_tables, vsA, vcA, denA, lget, lset, lst1, lst2, lclr, argsA, restA, acats, acat, tcA, tcN, rzA, lle, List.length_cons, List.length_nil, Option.toList_some, Option.toList_none, List.cons_append, List.nil_append, eG, eM, eD, eC, eS, eQ, eH, if_true, if_false, Nat.reduceAdd, Nat.reduceLeDiff, Nat.reduceEqDiff, Nat.reduceLT, Nat.reduceSub, Int.reduceEq, Int.reduceLE, Int.reduceToNat, reduceCtorEq, reduceIte, Nat.reduceBEq, Int.reduceNeg, not_true, not_false_iff, true_and, and_true, true_or, or_true, false_or, or_false, forall_const, implies_true, Nat.le_refl, Int.toNat_natCast, Int.reduceLT, ne_eq, Fin.isValue, Nat.add_zero, nC_hrw, nS_hrw, nC_hwr, nS_hwr, hkd_hrw, hkd_hwr, fin4_0, fin4_1, fin4_2, fin4_3, fin2_0, fin2_1, ci0, ci1, cnn, false_implies, w32_eq, w64_eq, hF.m, hF0.m]
    try simp (disch := omega) only [yc_lt, yc_le, yc_gt, yc_ge, yc_eq, w32_eq, w64_eq, tn_add, tn_mul, Int.toNat_natCast, Int.reduceToNat, not_true, not_false_iff, false_implies, forall_const, implies_true]
    repeat' (with_reducible first | apply And.intro | intro _)
    all_goals try omega
    all_goals try simp (disch := omega) only [w32_eq, w64_eq, tn_add, tn_mul, Int.toNat_natCast, Int.reduceToNat, Option.some.injEq, Sum.inr.injEq, Sum.inl.injEq]
    all_goals try omega
    refine ClA.pure (hno) (by first | exact Nat.le_of_ble_eq_true rfl | (simp only [eD]; omega)) (by first | exact Nat.le_refl _ | (simp only [eG, eD, eC, eS, eQ, eH, nC_hrw, nC_hwr, nS_hrw, nS_hwr, nC_hnw, nS_hnw]; omega)) (by first | exact Nat.le_refl _ | (simp only [eG, eD, eC, eS, eQ, eH, nC_hrw, nC_hwr, nS_hrw, nS_hwr, nC_hnw, nS_hnw]; omega)) ?_
    refine vsA_ok tk_X5_tables rfl 20 ?_
    simp only [at_X5_tables, mr_X5_tables, vsA, vcA, denA, lget, lset, lst1, lst2, lclr, argsA, restA, acats, acat, tcA, tcN, rzA, lle, List.length_cons, List.length_nil, Option.toList_some, Option.toList_none, List.cons_append, List.nil_append, eG, eM, eD, eC, eS, eQ, eH, if_true, if_false, Nat.reduceAdd, Nat.reduceLeDiff, Nat.reduceEqDiff, Nat.reduceLT, Nat.reduceSub, Int.reduceEq, Int.reduceLE, Int.reduceToNat, reduceCtorEq, reduceIte, Nat.reduceBEq, Int.reduceNeg, not_true, not_false_iff, true_and, and_true, true_or, or_true, false_or, or_false, forall_const, implies_true, Nat.le_refl, Int.toNat_natCast, Int.reduceLT, ne_eq, Fin.isValue, Nat.add_zero, nC_hrw, nS_hrw, nC_hwr, nS_hwr, hkd_hrw, hkd_hwr, fin4_0, fin4_1, fin4_2, fin4_3, fin2_0, fin2_1, ci0, ci1, cnn, false_implies, w32_eq, w64_eq]
    try simp (disch := omega) only [yc_lt, yc_le, yc_gt, yc_ge, yc_eq, w32_eq, w64_eq, tn_add, tn_mul, Int.toNat_natCast, Int.reduceToNat, not_true, not_false_iff, false_implies, forall_const, implies_true]
    repeat' (with_reducible first | apply And.intro | intro _)
    all_goals try omega
    all_goals try simp (disch := omega) only [w32_eq, w64_eq, tn_add, tn_mul, Int.toNat_natCast, Int.reduceToNat, Option.some.injEq, Sum.inr.injEq, Sum.inl.injEq]
    all_goals try omega
    all_goals exact hfin
end
