/-! THE REFERENCE: when a letter comes; sets reached, night by night -/
set_option maxRecDepth 100000
theorem php : ∀ (n : Nat) (f : Nat → Nat), (∀ i, i ≤ n → f i < n) → ∃ i j, i < j ∧ j ≤ n ∧ f i = f j
  | 0, f, h => absurd (h 0 (Nat.le_refl _)) (Nat.not_lt_zero _)
  | n + 1, f, h => by
    by_cases q : ∃ i, i ≤ n ∧ f i = f (n + 1)
    · obtain ⟨i, hi, e⟩ := q
      exact ⟨i, n + 1, by omega, Nat.le_refl _, e⟩
    · have q1 : ∀ i, i ≤ n → f i ≠ f (n + 1) := fun i hi e => q ⟨i, hi, e⟩
      obtain ⟨i, j, hij, hj, e⟩ := php n (fun i => if f i = n then f (n + 1) else f i) (fun i hi => by
        have a1 := h i (by omega)
        have a2 := h (n + 1) (Nat.le_refl _)
        have a3 := q1 i hi
        show (if f i = n then f (n + 1) else f i) < n
        split <;> omega)
      have hi1 := q1 i (by omega)
      have hj1 := q1 j hj
      refine ⟨i, j, hij, by omega, ?_⟩
      have e : (if f i = n then f (n + 1) else f i) = (if f j = n then f (n + 1) else f j) := e
      split at e <;> split at e <;> omega
/-- sets that are reached in so many steps -/
def Rch (nx : Nat → Nat → Nat) (T s0 : Nat) : Nat → Nat → Prop
  | 0, s => s = s0
  | n + 1, s => ∃ r t, t < T ∧ Rch nx T s0 n r ∧ s = nx t r
/-- .. and not in fewer -/
def Dst (nx : Nat → Nat → Nat) (T s0 n s : Nat) : Prop := Rch nx T s0 n s ∧ ∀ m, m < n → ¬ Rch nx T s0 m s
def comOK (nx : Nat → Nat → Nat) (T s0 x : Nat) (z : Int) : Prop :=
  (∃ n : Nat, z = n ∧ (∃ s, Rch nx T s0 n s ∧ s.testBit x = true) ∧ ∀ m, m < n → ∀ s, Rch nx T s0 m s → s.testBit x = false) ∨ (z = -1 ∧ ∀ n s, Rch nx T s0 n s → s.testBit x = false)
theorem comOK.un {nx : Nat → Nat → Nat} {T s0 x : Nat} {y z : Int} (h1 : comOK nx T s0 x y) (h2 : comOK nx T s0 x z) : y = z := by
  rcases h1 with ⟨n, rfl, ⟨s, a1, a2⟩, a3⟩ | ⟨rfl, a1⟩
  · rcases h2 with ⟨m, rfl, ⟨r, b1, b2⟩, b3⟩ | ⟨rfl, b1⟩
    · rcases Nat.lt_trichotomy n m with q | q | q
      · have := b3 n q s a1
        rw [this] at a2
        exact absurd a2 (by simp)
      · rw [q]
      · have := a3 m q r b1
        rw [this] at b2
        exact absurd b2 (by simp)
    · have := b1 n s a1
      rw [this] at a2
      exact absurd a2 (by simp)
  · rcases h2 with ⟨m, rfl, ⟨r, b1, b2⟩, b3⟩ | ⟨rfl, b1⟩
    · have := a1 m r b1
      rw [this] at b2
      exact absurd b2 (by simp)
    · rfl
section
variable {nx : Nat → Nat → Nat} {T s0 : Nat}
theorem Rch.lt (h0 : s0 < 64) (hn : ∀ t s, t < T → s < 64 → nx t s < 64) : ∀ n s, Rch nx T s0 n s → s < 64
  | 0, s, h => by rw [show s = s0 from h]; exact h0
  | n + 1, s, h => by
    obtain ⟨r, t, ht, hr, e⟩ := h
    rw [e]
    exact hn t r ht (Rch.lt h0 hn n r hr)
theorem Rch.dst : ∀ n s, Rch nx T s0 n s → ∃ m, m ≤ n ∧ Dst nx T s0 m s := by
  intro n
  induction n using Nat.strongRecOn with
  | _ n ih =>
    intro s h
    by_cases q : ∃ m, m < n ∧ Rch nx T s0 m s
    · obtain ⟨m, hm, hr⟩ := q
      obtain ⟨k, hk, hd⟩ := ih m hm s hr
      exact ⟨k, by omega, hd⟩
    · exact ⟨n, Nat.le_refl _, h, fun m hm hr => q ⟨m, hm, hr⟩⟩
theorem Dst.un {m n s : Nat} (h1 : Dst nx T s0 m s) (h2 : Dst nx T s0 n s) : m = n := by
  rcases Nat.lt_trichotomy m n with q | q | q
  · exact absurd h1.1 (h2.2 m q)
  · exact q
  · exact absurd h2.1 (h1.2 n q)
theorem Dst.pre {n s : Nat} (h : Dst nx T s0 (n + 1) s) : ∃ r t, t < T ∧ Dst nx T s0 n r ∧ s = nx t r := by
  obtain ⟨⟨r, t, ht, hr, e⟩, h2⟩ := h
  refine ⟨r, t, ht, ⟨hr, fun m hm hq => h2 (m + 1) (by omega) ⟨r, t, ht, hq, e⟩⟩, e⟩
theorem Dst.down {n s : Nat} (h : Dst nx T s0 n s) : ∀ m, m ≤ n → ∃ r, Dst nx T s0 m r := by
  induction n generalizing s with
  | zero => intro m hm; exact ⟨s, by rw [show m = 0 by omega]; exact h⟩
  | succ n ih =>
    intro m hm
    by_cases e : m = n + 1
    · exact ⟨s, by rw [e]; exact h⟩
    · obtain ⟨r, t, -, hr, -⟩ := h.pre
      exact ih hr m (by omega)
theorem Dst.lt64 (h0 : s0 < 64) (hn : ∀ t s, t < T → s < 64 → nx t s < 64) {n s : Nat} (h : Dst nx T s0 n s) : n < 64 := by
  rcases Nat.lt_or_ge n 64 with q | q
  · exact q
  · have hc : ∀ m, ∃ r, m ≤ 64 → Dst nx T s0 m r := fun m => by
      by_cases e : m ≤ 64
      · obtain ⟨r, hr⟩ := h.down m (by omega)
        exact ⟨r, fun _ => hr⟩
      · exact ⟨0, fun q => absurd q e⟩
    obtain ⟨i, j, hij, hj, e⟩ := php 64 (fun m => Classical.choose (hc m)) (fun i hi => Rch.lt h0 hn i _ ((Classical.choose_spec (hc i)) hi).1)
    have d1 := Classical.choose_spec (hc i) (by omega)
    have d2 := Classical.choose_spec (hc j) hj
    have e : Classical.choose (hc i) = Classical.choose (hc j) := e
    rw [e] at d1
    have := d1.un d2
    omega
/-- how far each set is, as far as it is known: P the pairs that were gone through -/
def FarJ (nx : Nat → Nat → Nat) (T s0 n : Nat) (P : Nat → Nat → Prop) (f : Nat → Int) : Prop := ∀ s, s < 64 → (∀ m, m ≤ n → Dst nx T s0 m s → f s = (m : Int)) ∧
  ((∀ m, m ≤ n → ¬ Rch nx T s0 m s) → ((∃ r t, P r t ∧ t < T ∧ Dst nx T s0 n r ∧ s = nx t r) → f s = ((n + 1 : Nat) : Int)) ∧ ((¬ ∃ r t, P r t ∧ t < T ∧ Dst nx T s0 n r ∧ s = nx t r) → f s = 268435456))
theorem FarJ.is {n : Nat} {P : Nat → Nat → Prop} {f : Nat → Int} (hf : FarJ nx T s0 n P f) (hn : n < 64) {s : Nat} (hs : s < 64) : f s = (n : Int) ↔ Dst nx T s0 n s := by
  obtain ⟨h1, h2⟩ := hf s hs
  constructor
  · intro e
    by_cases q : ∃ m, m ≤ n ∧ Rch nx T s0 m s
    · obtain ⟨m, hm, hr⟩ := q
      obtain ⟨k, hk, hd⟩ := hr.dst
      have := h1 k (by omega) hd
      rw [show n = k by omega]
      exact hd
    · obtain ⟨a1, a2⟩ := h2 fun m hm hr => q ⟨m, hm, hr⟩
      by_cases q2 : ∃ r t, P r t ∧ t < T ∧ Dst nx T s0 n r ∧ s = nx t r
      · have := a1 q2
        omega
      · have := a2 q2
        omega
  · exact h1 n (Nat.le_refl _)
theorem FarJ.step {n : Nat} {P : Nat → Nat → Prop} {f : Nat → Int} (hf : FarJ nx T s0 n P f) {j t : Nat} (hn : n < 64) (hd : Dst nx T s0 n j) (ht : t < T) :
    (f (nx t j) = 268435456 → FarJ nx T s0 n (fun r u => P r u ∨ (r = j ∧ u = t)) (fup f (nx t j) ((n + 1 : Nat) : Int))) ∧ (f (nx t j) ≠ 268435456 → FarJ nx T s0 n (fun r u => P r u ∨ (r = j ∧ u = t)) f) := by
  constructor
  · intro e s hs
    obtain ⟨h1, h2⟩ := hf s hs
    by_cases es : s = nx t j
    · subst es
      rw [fup_s]
      refine ⟨fun m hm hq => ?_, fun q => ⟨fun _ => rfl, fun q2 => absurd ⟨j, t, Or.inr ⟨rfl, rfl⟩, ht, hd, rfl⟩ q2⟩⟩
      have := h1 m hm hq
      omega
    · rw [fup_n _ _ es]
      refine ⟨h1, fun q => ⟨fun q2 => (h2 q).1 ?_, fun q2 => (h2 q).2 fun ⟨r, u, a1, a2⟩ => q2 ⟨r, u, Or.inl a1, a2⟩⟩⟩
      obtain ⟨r, u, a1, a2, a3, a4⟩ := q2
      rcases a1 with a1 | ⟨rfl, rfl⟩
      · exact ⟨r, u, a1, a2, a3, a4⟩
      · exact absurd a4 es
  · intro e s hs
    obtain ⟨h1, h2⟩ := hf s hs
    refine ⟨h1, fun q => ⟨fun q2 => (h2 q).1 ?_, fun q2 => (h2 q).2 fun ⟨r, u, a1, a2⟩ => q2 ⟨r, u, Or.inl a1, a2⟩⟩⟩
    obtain ⟨r, u, a1, a2, a3, a4⟩ := q2
    rcases a1 with a1 | ⟨rfl, rfl⟩
    · exact ⟨r, u, a1, a2, a3, a4⟩
    · by_cases q3 : ∃ r t, P r t ∧ t < T ∧ Dst nx T s0 n r ∧ s = nx t r
      · exact q3
      · rw [a4] at q3 h2 q
        exact absurd ((h2 q).2 q3) e
theorem FarJ.cong {n : Nat} {P Q : Nat → Nat → Prop} {f : Nat → Int} (hf : FarJ nx T s0 n P f) (hPQ : ∀ r t, t < T → Dst nx T s0 n r → (P r t ↔ Q r t)) : FarJ nx T s0 n Q f := by
  intro s hs
  obtain ⟨h1, h2⟩ := hf s hs
  refine ⟨h1, fun q => ⟨fun q2 => (h2 q).1 ?_, fun q2 => (h2 q).2 fun q3 => q2 ?_⟩⟩
  · obtain ⟨r, t, a1, a2, a3, a4⟩ := q2
    exact ⟨r, t, (hPQ r t a2 a3).mpr a1, a2, a3, a4⟩
  · obtain ⟨r, t, a1, a2, a3, a4⟩ := q3
    exact ⟨r, t, (hPQ r t a2 a3).mp a1, a2, a3, a4⟩
theorem FarJ.next {n : Nat} {P : Nat → Nat → Prop} {f : Nat → Int} (hf : FarJ nx T s0 n P f) (hP : ∀ r t, t < T → Dst nx T s0 n r → P r t) : FarJ nx T s0 (n + 1) (fun _ _ => False) f := by
  intro s hs
  obtain ⟨h1, h2⟩ := hf s hs
  have hpre : Dst nx T s0 (n + 1) s → f s = ((n + 1 : Nat) : Int) := fun hd => by
    obtain ⟨r, t, ht, hr, e⟩ := hd.pre
    exact (h2 fun m hm hq => hd.2 m (by omega) hq).1 ⟨r, t, hP r t ht hr, ht, hr, e⟩
  refine ⟨fun m hm hd => ?_, fun q => ⟨fun ⟨_, _, a, _⟩ => a.elim, fun _ => ?_⟩⟩
  · by_cases e : m = n + 1
    · rw [e] at hd ⊢
      exact hpre hd
    · exact h1 m (by omega) hd
  · refine (h2 fun m hm hq => q m (by omega) hq).2 fun ⟨r, t, a1, a2, a3, a4⟩ => q (n + 1) (Nat.le_refl _) ⟨r, t, a2, a3.1, a4⟩
end
section
variable {G : GT} {h : AH} {w : WD} {N : Int}
abbrev nxK (s : SP) : Nat → Nat → Nat := fun t r => kndT (sB s) t r 6
def comZ (s : SP) (a : S3) (c z : Int) : Prop := if 0 ≤ c ∧ c ≤ 5 then comOK (nxK s) (sT s) (kdS (wrdS s a)) c.toNat z else z = -2
theorem c_X5_comes (hF : FxA h) (hM : MdC h w) (hW : WOK N w) (c : Int) (hc : In32 c) :
    CnA G mX5_comes 6 0 0 [.inr (.inr (124)), .inl (c)] h (fun r h1 => ∃ z, r = some (.inl (z)) ∧ comZ (wS w) (wA w) c z ∧ MpC h h1 w) := by
  obtain ⟨x0, hF0, hM0⟩ := thr_0 hF hM
  have hfin : MpC h (hwr h 124 0 0) w := MpC.scr hF hM x0 (by decide) (by decide)
  obtain ⟨hc1, hc2⟩ := hc
  have hA : AllC (hdt (hwr h 124 0 0) 125) (sT (wS w)) (sB (wS w)) (sS (wS w)) (wA w).1 (wA w).2.1 (wA w).2.2 := hM0.1.1.1
  have hL : (wrdS (wS w) (wA w)).length ≤ 1000000000000 := hW.2.1.2.2.2.2
  by_cases qc : 0 ≤ c ∧ c ≤ 5
  · obtain ⟨x, rfl⟩ : ∃ m : Nat, c = m := ⟨c.toNat, by omega⟩
    have hz : ∀ z, comOK (nxK (wS w)) (sT (wS w)) (kdS (wrdS (wS w) (wA w))) x z → comZ (wS w) (wA w) x z := fun z q => by unfold comZ; rw [if_pos qc]; exact q
    have hb6 : ∀ t, t < sT (wS w) → ∀ c, c < 6 → ∀ d ∈ sB (wS w) t c, d < 6 := fun t ht c hc => (hA.b4 (by have := hA.sz; omega) hc).2
    have hnx : ∀ t s, t < sT (wS w) → s < 64 → nxK (wS w) t s < 64 := fun t s ht hs => kndT_lt (hb6 t ht) 6 (by omega)
    have hs0 : kdS (wrdS (wS w) (wA w)) < 64 := mskP_6 (by omega)
    refine CnA.of rfl (Nat.le_of_ble_eq_true rfl) ?_
    simp only [largs, lpad, mr_X5_comes]
    refine vsA_ok tk_X5_comes rfl 20 ?_
    simp only [at_X5_comes, mr_X5_comes, vsA, vcA, denA, lget, lset, lst1, lst2, lclr, argsA, restA, acats, acat, tcA, tcN, rzA, lle, List.length_cons, List.length_nil, Option.toList_some, Option.toList_none, List.cons_append, List.nil_append, eG, eM, eD, eC, eS, eQ, eH, if_true, if_false, Nat.reduceAdd, Nat.reduceLeDiff, Nat.reduceEqDiff, Nat.reduceLT, Nat.reduceSub, Int.reduceEq, Int.reduceLE, Int.reduceToNat, reduceCtorEq, reduceIte, Nat.reduceBEq, Int.reduceNeg, not_true, not_false_iff, true_and, and_true, true_or, or_true, false_or, or_false, forall_const, implies_true, Nat.le_refl, Int.toNat_natCast, Int.reduceLT, ne_eq, Fin.isValue, Nat.add_zero, nC_hrw, nS_hrw, nC_hwr, nS_hwr, hkd_hrw, hkd_hwr, fin4_0, fin4_1, fin4_2, fin4_3, fin2_0, fin2_1, ci0, ci1, cnn, false_implies, w32_eq, w64_eq, hF.m, hF0.m]
    try simp (disch := omega) only [yc_lt, yc_le, yc_gt, yc_ge, yc_eq, w32_eq, w64_eq, tn_add, tn_mul, Int.toNat_natCast, Int.reduceToNat, not_true, not_false_iff, false_implies, forall_const, implies_true]
    repeat' (with_reducible first | apply And.intro | intro _)
    all_goals try omega
    all_goals try simp (disch := omega) only [w32_eq, w64_eq, tn_add, tn_mul, Int.toNat_natCast, Int.reduceToNat, Option.some.injEq, Sum.inr.injEq, Sum.inl.injEq]
    all_goals try omega
    refine ClA.pure (c_X5_isLetter (x : Int) _ (by omega) (by omega)) (by first | exact Nat.le_of_ble_eq_true rfl | (simp only [eD]; omega)) (by first | exact Nat.le_refl _ | (simp only [eG, eD, eC, eS, eQ, eH, nC_hrw, nC_hwr, nS_hrw, nS_hwr, nC_hnw, nS_hnw]; omega)) (by first | exact Nat.le_refl _ | (simp only [eG, eD, eC, eS, eQ, eH, nC_hrw, nC_hwr, nS_hrw, nS_hwr, nC_hnw, nS_hnw]; omega)) ?_
    rw [if_pos qc]
    refine vsA_ok tk_X5_comes rfl 20 ?_
    simp only [at_X5_comes, mr_X5_comes, vsA, vcA, denA, lget, lset, lst1, lst2, lclr, argsA, restA, acats, acat, tcA, tcN, rzA, lle, List.length_cons, List.length_nil, Option.toList_some, Option.toList_none, List.cons_append, List.nil_append, eG, eM, eD, eC, eS, eQ, eH, if_true, if_false, Nat.reduceAdd, Nat.reduceLeDiff, Nat.reduceEqDiff, Nat.reduceLT, Nat.reduceSub, Int.reduceEq, Int.reduceLE, Int.reduceToNat, reduceCtorEq, reduceIte, Nat.reduceBEq, Int.reduceNeg, not_true, not_false_iff, true_and, and_true, true_or, or_true, false_or, or_false, forall_const, implies_true, Nat.le_refl, Int.toNat_natCast, Int.reduceLT, ne_eq, Fin.isValue, Nat.add_zero, nC_hrw, nS_hrw, nC_hwr, nS_hwr, hkd_hrw, hkd_hwr, fin4_0, fin4_1, fin4_2, fin4_3, fin2_0, fin2_1, ci0, ci1, cnn, false_implies, w32_eq, w64_eq, hF0.m]
    try simp (disch := omega) only [yc_lt, yc_le, yc_gt, yc_ge, yc_eq, w32_eq, w64_eq, tn_add, tn_mul, Int.toNat_natCast, Int.reduceToNat, not_true, not_false_iff, false_implies, forall_const, implies_true]
    repeat' (with_reducible first | apply And.intro | intro _)
    all_goals try omega
    all_goals try simp (disch := omega) only [w32_eq, w64_eq, tn_add, tn_mul, Int.toNat_natCast, Int.reduceToNat, Option.some.injEq, Sum.inr.injEq, Sum.inl.injEq]
    all_goals try omega
    refine ClA.of (c_X5_laysMany hF0 hA hL) (by first | exact Nat.le_of_ble_eq_true rfl | (simp only [eD]; omega)) (by first | exact Nat.le_refl _ | (simp only [eG, eD, eC, eS, eQ, eH, nC_hrw, nC_hwr, nS_hrw, nS_hwr, nC_hnw, nS_hnw]; omega)) (by first | exact Nat.le_refl _ | (simp only [eG, eD, eC, eS, eQ, eH, nC_hrw, nC_hwr, nS_hrw, nS_hwr, nC_hnw, nS_hnw]; omega)) ?_
    rintro _ h2 ⟨rfl, hx2, hr2⟩ - -
    have hx3 : FrM [131, 141, 142] [0] h h2 := (FrM.up x0 (by decide) (by decide)).tr (FrM.up hx2 (by decide) (by decide))
    have eA : hdt h2 125 = hdt (hwr h 124 0 0) 125 := FrM.c hx2 (by decide) (by decide)
    have hA2 : AllC (hdt h2 125) (sT (wS w)) (sB (wS w)) (sS (wS w)) (wA w).1 (wA w).2.1 (wA w).2.2 := by rw [eA]; exact hA
    have hF2 := hF.frm hx3 (by decide +kernel)
    have c2 := hx3.2.1
    have hsz := hA2.sz
    have hq2 := hA2.q
    have hFr : ∀ f, FxA (hrw h2 142 f) := fun f => hF2.hrw (by decide +kernel) f
    have eA2 : ∀ f, hdt (hrw h2 142 f) 125 = hdt h2 125 := fun f => hdt_hrw_n _ _ (by decide)
    have hfin2 : ∀ f, MpC h (hrw h2 142 f) w := fun f => MpC.scr hF hM (hx3.rc (by decide) f) (by decide) (by decide)
    generalize hs0e : kdS (wrdS (wS w) (wA w)) = s0 at *
    generalize hE : ((G, mX5_comes, _, _, _, _, h) : EV) = E
    have L2 : ∀ n, n ≤ 64 → ∀ f, FarJ (nxK (wS w)) (sT (wS w)) s0 n (fun _ _ => False) f → (∀ m, m < n → ∀ s, Dst (nxK (wS w)) (sT (wS w)) s0 m s → s.testBit x = false) →
        ExA E 55 [some (.inr (.inr (124))), some (.inl ((x : Int))), some (.inl ((n : Int))), none, none] [] (hrw h2 142 f) := by
      refine lpI 64 fun n hn ih f hf hno => ?_
      by_cases hn6 : n < 64
      · have L3 : ∀ j, j ≤ 64 → ∀ f, FarJ (nxK (wS w)) (sT (wS w)) s0 n (fun r _ => r < j) f → (∀ s, s < j → Dst (nxK (wS w)) (sT (wS w)) s0 n s → s.testBit x = false) →
            ExA E 63 [some (.inr (.inr (124))), some (.inl ((x : Int))), some (.inl ((n : Int))), some (.inl ((j : Int))), none] [] (hrw h2 142 f) := by
          refine lpI 64 fun j hj ihj f hfj hnj => ?_
          by_cases hj6 : j < 64
          · have ej := hfj.is hn6 hj6
            by_cases hd : Dst (nxK (wS w)) (sT (wS w)) s0 n j
            · have ej := ej.mpr hd
              have hii := c_X5_isIn (G := G) (hrw h2 142 f) (s := j) (k := x) (by omega) (by omega)
              cases hbit : j.testBit x with
              | true =>
                have hok : comOK (nxK (wS w)) (sT (wS w)) s0 x (n : Int) := Or.inl ⟨n, rfl, ⟨j, hd.1, hbit⟩, fun m hm s hr => by
                  obtain ⟨k, hk, hdk⟩ := hr.dst
                  exact hno k (by omega) s hdk⟩
                rw [if_pos hbit] at hii
                subst hE
                refine vsA_ok tk_X5_comes rfl 20 ?_
                simp only [at_X5_comes, mr_X5_comes, vsA, vcA, denA, lget, lset, lst1, lst2, lclr, argsA, restA, acats, acat, tcA, tcN, rzA, lle, List.length_cons, List.length_nil, Option.toList_some, Option.toList_none, List.cons_append, List.nil_append, eG, eM, eD, eC, eS, eQ, eH, if_true, if_false, Nat.reduceAdd, Nat.reduceLeDiff, Nat.reduceEqDiff, Nat.reduceLT, Nat.reduceSub, Int.reduceEq, Int.reduceLE, Int.reduceToNat, reduceCtorEq, reduceIte, Nat.reduceBEq, Int.reduceNeg, not_true, not_false_iff, true_and, and_true, true_or, or_true, false_or, or_false, forall_const, implies_true, Nat.le_refl, Int.toNat_natCast, Int.reduceLT, ne_eq, Fin.isValue, Nat.add_zero, nC_hrw, nS_hrw, nC_hwr, nS_hwr, hkd_hrw, hkd_hwr, fin4_0, fin4_1, fin4_2, fin4_3, fin2_0, fin2_1, ci0, ci1, cnn, false_implies, w32_eq, w64_eq, (hFr f).m]
                try simp (disch := omega) only [yc_lt, yc_le, yc_gt, yc_ge, yc_eq, w32_eq, w64_eq, tn_add, tn_mul, Int.toNat_natCast, Int.reduceToNat, not_true, not_false_iff, false_implies, forall_const, implies_true, hdt_hrw_s, ej]
                repeat' (with_reducible first | apply And.intro | intro _)
                all_goals try omega
                all_goals try simp (disch := omega) only [w32_eq, w64_eq, tn_add, tn_mul, Int.toNat_natCast, Int.reduceToNat, Option.some.injEq, Sum.inr.injEq, Sum.inl.injEq, hdt_hrw_s, ej]
                all_goals try omega
                refine ClA.pure (hii) (by first | exact Nat.le_of_ble_eq_true rfl | (simp only [eD]; omega)) (by first | exact Nat.le_refl _ | (simp only [eG, eD, eC, eS, eQ, eH, nC_hrw, nC_hwr, nS_hrw, nS_hwr, nC_hnw, nS_hnw]; omega)) (by first | exact Nat.le_refl _ | (simp only [eG, eD, eC, eS, eQ, eH, nC_hrw, nC_hwr, nS_hrw, nS_hwr, nC_hnw, nS_hnw]; omega)) ?_
                refine vsA_ok tk_X5_comes rfl 4 ?_
                simp only [at_X5_comes, mr_X5_comes, vsA, vcA, denA, lget, lset, lst1, lst2, lclr, argsA, restA, acats, acat, tcA, tcN, rzA, lle, List.length_cons, List.length_nil, Option.toList_some, Option.toList_none, List.cons_append, List.nil_append, eG, eM, eD, eC, eS, eQ, eH, if_true, if_false, Nat.reduceAdd, Nat.reduceLeDiff, Nat.reduceEqDiff, Nat.reduceLT, Nat.reduceSub, Int.reduceEq, Int.reduceLE, Int.reduceToNat, reduceCtorEq, reduceIte, Nat.reduceBEq, Int.reduceNeg, not_true, not_false_iff, true_and, and_true, true_or, or_true, false_or, or_false, forall_const, implies_true, Nat.le_refl, Int.toNat_natCast, Int.reduceLT, ne_eq, Fin.isValue, Nat.add_zero, nC_hrw, nS_hrw, nC_hwr, nS_hwr, hkd_hrw, hkd_hwr, fin4_0, fin4_1, fin4_2, fin4_3, fin2_0, fin2_1, ci0, ci1, cnn, false_implies, w32_eq, w64_eq, c2]
                try simp (disch := omega) only [yc_lt, yc_le, yc_gt, yc_ge, yc_eq, w32_eq, w64_eq, tn_add, tn_mul, Int.toNat_natCast, Int.reduceToNat, not_true, not_false_iff, false_implies, forall_const, implies_true]
                repeat' (with_reducible first | apply And.intro | intro _)
                all_goals try omega
                all_goals try simp (disch := omega) only [w32_eq, w64_eq, tn_add, tn_mul, Int.toNat_natCast, Int.reduceToNat, Option.some.injEq, Sum.inr.injEq, Sum.inl.injEq]
                all_goals try omega
                all_goals exact ⟨_, rfl, hz _ hok, hfin2 f⟩
              | false =>
                rw [if_neg (by rw [hbit]; simp)] at hii
                have L4 : ∀ t, t ≤ sT (wS w) → ∀ f, FarJ (nxK (wS w)) (sT (wS w)) s0 n (fun r u => r < j ∨ r = j ∧ u < t) f →
                    ExA E 96 [some (.inr (.inr (124))), some (.inl ((x : Int))), some (.inl ((n : Int))), some (.inl ((j : Int))), some (.inl ((t : Int)))] [] (hrw h2 142 f) := by
                  refine lpI _ fun t ht iht f hft => ?_
                  by_cases htT : t < sT (wS w)
                  · obtain ⟨st1, st2⟩ := hft.step hn6 hd htT
                    have hto := hnx t j htT hj6
                    have hk := c_X5_kindsTo (G := G) (hFr f) (by rw [eA2]; exact hA2) (t := t) (s := j) (by omega) hj6
                    have hcg : ∀ r u, u < sT (wS w) → Dst (nxK (wS w)) (sT (wS w)) s0 n r → ((r < j ∨ r = j ∧ u < t) ∨ (r = j ∧ u = t) ↔ r < j ∨ r = j ∧ u < t + 1) := fun r u _ _ => by omega
                    have iht := iht htT
                    by_cases e : f (nxK (wS w) t j) = 268435456
                    · have nx := iht _ ((st1 e).cong hcg)
                      show ExA E 96 _ _ _
                      have e' : f (kndT (sB (wS w)) t j 6) = 268435456 := e
                      have hto' : kndT (sB (wS w)) t j 6 < 64 := hto
                      have nx : ExA E 96 [some (.inr (.inr (124))), some (.inl ((x : Int))), some (.inl ((n : Int))), some (.inl ((j : Int))), some (.inl (((t + 1 : Nat) : Int)))] [] (hrw h2 142 (fup f (kndT (sB (wS w)) t j 6) ((n + 1 : Nat) : Int))) := nx
                      generalize kndT (sB (wS w)) t j 6 = to at *
                      subst hE
                      refine vsA_ok tk_X5_comes rfl 20 ?_
                      simp only [at_X5_comes, mr_X5_comes, vsA, vcA, denA, lget, lset, lst1, lst2, lclr, argsA, restA, acats, acat, tcA, tcN, rzA, lle, List.length_cons, List.length_nil, Option.toList_some, Option.toList_none, List.cons_append, List.nil_append, eG, eM, eD, eC, eS, eQ, eH, if_true, if_false, Nat.reduceAdd, Nat.reduceLeDiff, Nat.reduceEqDiff, Nat.reduceLT, Nat.reduceSub, Int.reduceEq, Int.reduceLE, Int.reduceToNat, reduceCtorEq, reduceIte, Nat.reduceBEq, Int.reduceNeg, not_true, not_false_iff, true_and, and_true, true_or, or_true, false_or, or_false, forall_const, implies_true, Nat.le_refl, Int.toNat_natCast, Int.reduceLT, ne_eq, Fin.isValue, Nat.add_zero, nC_hrw, nS_hrw, nC_hwr, nS_hwr, hkd_hrw, hkd_hwr, fin4_0, fin4_1, fin4_2, fin4_3, fin2_0, fin2_1, ci0, ci1, cnn, false_implies, w32_eq, w64_eq, (hFr f).m, eA2, hq2]
                      try simp (disch := omega) only [yc_lt, yc_le, yc_gt, yc_ge, yc_eq, w32_eq, w64_eq, tn_add, tn_mul, Int.toNat_natCast, Int.reduceToNat, not_true, not_false_iff, false_implies, forall_const, implies_true]
                      repeat' (with_reducible first | apply And.intro | intro _)
                      all_goals try omega
                      all_goals try simp (disch := omega) only [w32_eq, w64_eq, tn_add, tn_mul, Int.toNat_natCast, Int.reduceToNat, Option.some.injEq, Sum.inr.injEq, Sum.inl.injEq]
                      all_goals try omega
                      refine ClA.pure (hk) (by first | exact Nat.le_of_ble_eq_true rfl | (simp only [eD]; omega)) (by first | exact Nat.le_refl _ | (simp only [eG, eD, eC, eS, eQ, eH, nC_hrw, nC_hwr, nS_hrw, nS_hwr, nC_hnw, nS_hnw]; omega)) (by first | exact Nat.le_refl _ | (simp only [eG, eD, eC, eS, eQ, eH, nC_hrw, nC_hwr, nS_hrw, nS_hwr, nC_hnw, nS_hnw]; omega)) ?_
                      refine vsA_ok tk_X5_comes rfl 20 ?_
                      simp only [at_X5_comes, mr_X5_comes, vsA, vcA, denA, lget, lset, lst1, lst2, lclr, argsA, restA, acats, acat, tcA, tcN, rzA, lle, List.length_cons, List.length_nil, Option.toList_some, Option.toList_none, List.cons_append, List.nil_append, eG, eM, eD, eC, eS, eQ, eH, if_true, if_false, Nat.reduceAdd, Nat.reduceLeDiff, Nat.reduceEqDiff, Nat.reduceLT, Nat.reduceSub, Int.reduceEq, Int.reduceLE, Int.reduceToNat, reduceCtorEq, reduceIte, Nat.reduceBEq, Int.reduceNeg, not_true, not_false_iff, true_and, and_true, true_or, or_true, false_or, or_false, forall_const, implies_true, Nat.le_refl, Int.toNat_natCast, Int.reduceLT, ne_eq, Fin.isValue, Nat.add_zero, nC_hrw, nS_hrw, nC_hwr, nS_hwr, hkd_hrw, hkd_hwr, fin4_0, fin4_1, fin4_2, fin4_3, fin2_0, fin2_1, ci0, ci1, cnn, false_implies, w32_eq, w64_eq, (hFr f).m]
                      try simp (disch := omega) only [yc_lt, yc_le, yc_gt, yc_ge, yc_eq, w32_eq, w64_eq, tn_add, tn_mul, Int.toNat_natCast, Int.reduceToNat, not_true, not_false_iff, false_implies, forall_const, implies_true, hdt_hrw_s, e']
                      repeat' (with_reducible first | apply And.intro | intro _)
                      all_goals try omega
                      all_goals try simp (disch := omega) only [w32_eq, w64_eq, tn_add, tn_mul, Int.toNat_natCast, Int.reduceToNat, Option.some.injEq, Sum.inr.injEq, Sum.inl.injEq, hdt_hrw_s, e']
                      all_goals try omega
                      refine ClA.pure (hk) (by first | exact Nat.le_of_ble_eq_true rfl | (simp only [eD]; omega)) (by first | exact Nat.le_refl _ | (simp only [eG, eD, eC, eS, eQ, eH, nC_hrw, nC_hwr, nS_hrw, nS_hwr, nC_hnw, nS_hnw]; omega)) (by first | exact Nat.le_refl _ | (simp only [eG, eD, eC, eS, eQ, eH, nC_hrw, nC_hwr, nS_hrw, nS_hwr, nC_hnw, nS_hnw]; omega)) ?_
                      refine vsA_ok tk_X5_comes rfl 20 ?_
                      simp only [at_X5_comes, mr_X5_comes, vsA, vcA, denA, lget, lset, lst1, lst2, lclr, argsA, restA, acats, acat, tcA, tcN, rzA, lle, List.length_cons, List.length_nil, Option.toList_some, Option.toList_none, List.cons_append, List.nil_append, eG, eM, eD, eC, eS, eQ, eH, if_true, if_false, Nat.reduceAdd, Nat.reduceLeDiff, Nat.reduceEqDiff, Nat.reduceLT, Nat.reduceSub, Int.reduceEq, Int.reduceLE, Int.reduceToNat, reduceCtorEq, reduceIte, Nat.reduceBEq, Int.reduceNeg, not_true, not_false_iff, true_and, and_true, true_or, or_true, false_or, or_false, forall_const, implies_true, Nat.le_refl, Int.toNat_natCast, Int.reduceLT, ne_eq, Fin.isValue, Nat.add_zero, nC_hrw, nS_hrw, nC_hwr, nS_hwr, hkd_hrw, hkd_hwr, fin4_0, fin4_1, fin4_2, fin4_3, fin2_0, fin2_1, ci0, ci1, cnn, false_implies, w32_eq, w64_eq, (hFr f).m]
                      try simp (disch := omega) only [yc_lt, yc_le, yc_gt, yc_ge, yc_eq, w32_eq, w64_eq, tn_add, tn_mul, Int.toNat_natCast, Int.reduceToNat, not_true, not_false_iff, false_implies, forall_const, implies_true, hwr_hrw]
                      repeat' (with_reducible first | apply And.intro | intro _)
                      all_goals try omega
                      all_goals try simp (disch := omega) only [w32_eq, w64_eq, tn_add, tn_mul, Int.toNat_natCast, Int.reduceToNat, Option.some.injEq, Sum.inr.injEq, Sum.inl.injEq, hwr_hrw]
                      all_goals try omega
                      all_goals try exact (nx).weak rfl (by simp [lle] <;> omega)
                    · have nx := iht _ ((st2 e).cong hcg)
                      have e' : f (kndT (sB (wS w)) t j 6) ≠ 268435456 := e
                      have hto' : kndT (sB (wS w)) t j 6 < 64 := hto
                      have hin : -2147483648 ≤ f (kndT (sB (wS w)) t j 6) ∧ f (kndT (sB (wS w)) t j 6) < 2147483648 := by
                        obtain ⟨b1, b2⟩ := hft _ hto'
                        by_cases q : ∃ m, m ≤ n ∧ Rch (nxK (wS w)) (sT (wS w)) s0 m (kndT (sB (wS w)) t j 6)
                        · obtain ⟨m, hm, hr⟩ := q
                          obtain ⟨k, hk, hdk⟩ := hr.dst
                          have := b1 k (by omega) hdk
                          omega
                        · obtain ⟨b3, b4⟩ := b2 fun m hm hr => q ⟨m, hm, hr⟩
                          by_cases q2 : ∃ r u, (r < j ∨ r = j ∧ u < t) ∧ u < sT (wS w) ∧ Dst (nxK (wS w)) (sT (wS w)) s0 n r ∧ (kndT (sB (wS w)) t j 6) = nxK (wS w) u r
                          · have := b3 q2
                            omega
                          · have := b4 q2
                            omega
                      generalize kndT (sB (wS w)) t j 6 = to at *
                      generalize hfo : f to = fo at *
                      subst hE
                      refine vsA_ok tk_X5_comes rfl 20 ?_
                      simp only [at_X5_comes, mr_X5_comes, vsA, vcA, denA, lget, lset, lst1, lst2, lclr, argsA, restA, acats, acat, tcA, tcN, rzA, lle, List.length_cons, List.length_nil, Option.toList_some, Option.toList_none, List.cons_append, List.nil_append, eG, eM, eD, eC, eS, eQ, eH, if_true, if_false, Nat.reduceAdd, Nat.reduceLeDiff, Nat.reduceEqDiff, Nat.reduceLT, Nat.reduceSub, Int.reduceEq, Int.reduceLE, Int.reduceToNat, reduceCtorEq, reduceIte, Nat.reduceBEq, Int.reduceNeg, not_true, not_false_iff, true_and, and_true, true_or, or_true, false_or, or_false, forall_const, implies_true, Nat.le_refl, Int.toNat_natCast, Int.reduceLT, ne_eq, Fin.isValue, Nat.add_zero, nC_hrw, nS_hrw, nC_hwr, nS_hwr, hkd_hrw, hkd_hwr, fin4_0, fin4_1, fin4_2, fin4_3, fin2_0, fin2_1, ci0, ci1, cnn, false_implies, w32_eq, w64_eq, (hFr f).m, eA2, hq2]
                      try simp (disch := omega) only [yc_lt, yc_le, yc_gt, yc_ge, yc_eq, w32_eq, w64_eq, tn_add, tn_mul, Int.toNat_natCast, Int.reduceToNat, not_true, not_false_iff, false_implies, forall_const, implies_true]
                      repeat' (with_reducible first | apply And.intro | intro _)
                      all_goals try omega
                      all_goals try simp (disch := omega) only [w32_eq, w64_eq, tn_add, tn_mul, Int.toNat_natCast, Int.reduceToNat, Option.some.injEq, Sum.inr.injEq, Sum.inl.injEq]
                      all_goals try omega
                      refine ClA.pure (hk) (by first | exact Nat.le_of_ble_eq_true rfl | (simp only [eD]; omega)) (by first | exact Nat.le_refl _ | (simp only [eG, eD, eC, eS, eQ, eH, nC_hrw, nC_hwr, nS_hrw, nS_hwr, nC_hnw, nS_hnw]; omega)) (by first | exact Nat.le_refl _ | (simp only [eG, eD, eC, eS, eQ, eH, nC_hrw, nC_hwr, nS_hrw, nS_hwr, nC_hnw, nS_hnw]; omega)) ?_
                      refine vsA_ok tk_X5_comes rfl 20 ?_
                      simp only [at_X5_comes, mr_X5_comes, vsA, vcA, denA, lget, lset, lst1, lst2, lclr, argsA, restA, acats, acat, tcA, tcN, rzA, lle, List.length_cons, List.length_nil, Option.toList_some, Option.toList_none, List.cons_append, List.nil_append, eG, eM, eD, eC, eS, eQ, eH, if_true, if_false, Nat.reduceAdd, Nat.reduceLeDiff, Nat.reduceEqDiff, Nat.reduceLT, Nat.reduceSub, Int.reduceEq, Int.reduceLE, Int.reduceToNat, reduceCtorEq, reduceIte, Nat.reduceBEq, Int.reduceNeg, not_true, not_false_iff, true_and, and_true, true_or, or_true, false_or, or_false, forall_const, implies_true, Nat.le_refl, Int.toNat_natCast, Int.reduceLT, ne_eq, Fin.isValue, Nat.add_zero, nC_hrw, nS_hrw, nC_hwr, nS_hwr, hkd_hrw, hkd_hwr, fin4_0, fin4_1, fin4_2, fin4_3, fin2_0, fin2_1, ci0, ci1, cnn, false_implies, w32_eq, w64_eq, (hFr f).m]
                      try simp (disch := omega) only [yc_lt, yc_le, yc_gt, yc_ge, yc_eq, w32_eq, w64_eq, tn_add, tn_mul, Int.toNat_natCast, Int.reduceToNat, not_true, not_false_iff, false_implies, forall_const, implies_true, hdt_hrw_s, hfo]
                      repeat' (with_reducible first | apply And.intro | intro _)
                      all_goals try omega
                      all_goals try simp (disch := omega) only [w32_eq, w64_eq, tn_add, tn_mul, Int.toNat_natCast, Int.reduceToNat, Option.some.injEq, Sum.inr.injEq, Sum.inl.injEq, hdt_hrw_s, hfo]
                      all_goals try omega
                      all_goals try exact (nx).weak rfl (by simp [lle] <;> omega)
                  · have htT : t = sT (wS w) := by omega
                    subst htT
                    have nx := ihj hj6 f (hft.cong fun r u hu _ => by omega) (fun s hs hds => by
                      by_cases e : s = j
                      · rw [e]; exact hbit
                      · exact hnj s (by omega) hds)
                    subst hE
                    refine vsA_ok tk_X5_comes rfl 20 ?_
                    simp only [at_X5_comes, mr_X5_comes, vsA, vcA, denA, lget, lset, lst1, lst2, lclr, argsA, restA, acats, acat, tcA, tcN, rzA, lle, List.length_cons, List.length_nil, Option.toList_some, Option.toList_none, List.cons_append, List.nil_append, eG, eM, eD, eC, eS, eQ, eH, if_true, if_false, Nat.reduceAdd, Nat.reduceLeDiff, Nat.reduceEqDiff, Nat.reduceLT, Nat.reduceSub, Int.reduceEq, Int.reduceLE, Int.reduceToNat, reduceCtorEq, reduceIte, Nat.reduceBEq, Int.reduceNeg, not_true, not_false_iff, true_and, and_true, true_or, or_true, false_or, or_false, forall_const, implies_true, Nat.le_refl, Int.toNat_natCast, Int.reduceLT, ne_eq, Fin.isValue, Nat.add_zero, nC_hrw, nS_hrw, nC_hwr, nS_hwr, hkd_hrw, hkd_hwr, fin4_0, fin4_1, fin4_2, fin4_3, fin2_0, fin2_1, ci0, ci1, cnn, false_implies, w32_eq, w64_eq, (hFr f).m, eA2, hq2]
                    try simp (disch := omega) only [yc_lt, yc_le, yc_gt, yc_ge, yc_eq, w32_eq, w64_eq, tn_add, tn_mul, Int.toNat_natCast, Int.reduceToNat, not_true, not_false_iff, false_implies, forall_const, implies_true]
                    repeat' (with_reducible first | apply And.intro | intro _)
                    all_goals try omega
                    all_goals try simp (disch := omega) only [w32_eq, w64_eq, tn_add, tn_mul, Int.toNat_natCast, Int.reduceToNat, Option.some.injEq, Sum.inr.injEq, Sum.inl.injEq]
                    all_goals try omega
                    all_goals try exact (nx).weak rfl (by simp [lle] <;> omega)
                have l4 := L4 0 (Nat.zero_le _) f (hfj.cong fun r u _ _ => by omega)
                subst hE
                refine vsA_ok tk_X5_comes rfl 20 ?_
                simp only [at_X5_comes, mr_X5_comes, vsA, vcA, denA, lget, lset, lst1, lst2, lclr, argsA, restA, acats, acat, tcA, tcN, rzA, lle, List.length_cons, List.length_nil, Option.toList_some, Option.toList_none, List.cons_append, List.nil_append, eG, eM, eD, eC, eS, eQ, eH, if_true, if_false, Nat.reduceAdd, Nat.reduceLeDiff, Nat.reduceEqDiff, Nat.reduceLT, Nat.reduceSub, Int.reduceEq, Int.reduceLE, Int.reduceToNat, reduceCtorEq, reduceIte, Nat.reduceBEq, Int.reduceNeg, not_true, not_false_iff, true_and, and_true, true_or, or_true, false_or, or_false, forall_const, implies_true, Nat.le_refl, Int.toNat_natCast, Int.reduceLT, ne_eq, Fin.isValue, Nat.add_zero, nC_hrw, nS_hrw, nC_hwr, nS_hwr, hkd_hrw, hkd_hwr, fin4_0, fin4_1, fin4_2, fin4_3, fin2_0, fin2_1, ci0, ci1, cnn, false_implies, w32_eq, w64_eq, (hFr f).m]
                try simp (disch := omega) only [yc_lt, yc_le, yc_gt, yc_ge, yc_eq, w32_eq, w64_eq, tn_add, tn_mul, Int.toNat_natCast, Int.reduceToNat, not_true, not_false_iff, false_implies, forall_const, implies_true, hdt_hrw_s, ej]
                repeat' (with_reducible first | apply And.intro | intro _)
                all_goals try omega
                all_goals try simp (disch := omega) only [w32_eq, w64_eq, tn_add, tn_mul, Int.toNat_natCast, Int.reduceToNat, Option.some.injEq, Sum.inr.injEq, Sum.inl.injEq, hdt_hrw_s, ej]
                all_goals try omega
                refine ClA.pure (hii) (by first | exact Nat.le_of_ble_eq_true rfl | (simp only [eD]; omega)) (by first | exact Nat.le_refl _ | (simp only [eG, eD, eC, eS, eQ, eH, nC_hrw, nC_hwr, nS_hrw, nS_hwr, nC_hnw, nS_hnw]; omega)) (by first | exact Nat.le_refl _ | (simp only [eG, eD, eC, eS, eQ, eH, nC_hrw, nC_hwr, nS_hrw, nS_hwr, nC_hnw, nS_hnw]; omega)) ?_
                refine vsA_ok tk_X5_comes rfl 4 ?_
                simp only [at_X5_comes, mr_X5_comes, vsA, vcA, denA, lget, lset, lst1, lst2, lclr, argsA, restA, acats, acat, tcA, tcN, rzA, lle, List.length_cons, List.length_nil, Option.toList_some, Option.toList_none, List.cons_append, List.nil_append, eG, eM, eD, eC, eS, eQ, eH, if_true, if_false, Nat.reduceAdd, Nat.reduceLeDiff, Nat.reduceEqDiff, Nat.reduceLT, Nat.reduceSub, Int.reduceEq, Int.reduceLE, Int.reduceToNat, reduceCtorEq, reduceIte, Nat.reduceBEq, Int.reduceNeg, not_true, not_false_iff, true_and, and_true, true_or, or_true, false_or, or_false, forall_const, implies_true, Nat.le_refl, Int.toNat_natCast, Int.reduceLT, ne_eq, Fin.isValue, Nat.add_zero, nC_hrw, nS_hrw, nC_hwr, nS_hwr, hkd_hrw, hkd_hwr, fin4_0, fin4_1, fin4_2, fin4_3, fin2_0, fin2_1, ci0, ci1, cnn, false_implies, w32_eq, w64_eq]
                try simp (disch := omega) only [yc_lt, yc_le, yc_gt, yc_ge, yc_eq, w32_eq, w64_eq, tn_add, tn_mul, Int.toNat_natCast, Int.reduceToNat, not_true, not_false_iff, false_implies, forall_const, implies_true]
                repeat' (with_reducible first | apply And.intro | intro _)
                all_goals try omega
                all_goals try simp (disch := omega) only [w32_eq, w64_eq, tn_add, tn_mul, Int.toNat_natCast, Int.reduceToNat, Option.some.injEq, Sum.inr.injEq, Sum.inl.injEq]
                all_goals try omega
                all_goals try exact (l4).weak rfl (by simp [lle] <;> omega)
            · have nx := ihj hj6 f (hfj.cong fun r u _ hr => by
                constructor
                · intro q; omega
                · intro q
                  by_cases e : r = j
                  · rw [e] at hr; exact absurd hr hd
                  · omega) (fun s hs hds => by
                by_cases e : s = j
                · rw [e] at hds; exact absurd hds hd
                · exact hnj s (by omega) hds)
              have e' : f j ≠ (n : Int) := fun e => hd (ej.mp e)
              have hin : -2147483648 ≤ f j ∧ f j < 2147483648 := by
                obtain ⟨b1, b2⟩ := hfj j hj6
                by_cases q : ∃ m, m ≤ n ∧ Rch (nxK (wS w)) (sT (wS w)) s0 m j
                · obtain ⟨m, hm, hr⟩ := q
                  obtain ⟨k, hk, hdk⟩ := hr.dst
                  have := b1 k (by omega) hdk
                  omega
                · obtain ⟨b3, b4⟩ := b2 fun m hm hr => q ⟨m, hm, hr⟩
                  by_cases q2 : ∃ r u, r < j ∧ u < sT (wS w) ∧ Dst (nxK (wS w)) (sT (wS w)) s0 n r ∧ j = nxK (wS w) u r
                  · have := b3 q2
                    omega
                  · have := b4 q2
                    omega
              generalize hfo : f j = fo at *
              subst hE
              refine vsA_ok tk_X5_comes rfl 20 ?_
              simp only [at_X5_comes, mr_X5_comes, vsA, vcA, denA, lget, lset, lst1, lst2, lclr, argsA, restA, acats, acat, tcA, tcN, rzA, lle, List.length_cons, List.length_nil, Option.toList_some, Option.toList_none, List.cons_append, List.nil_append, eG, eM, eD, eC, eS, eQ, eH, if_true, if_false, Nat.reduceAdd, Nat.reduceLeDiff, Nat.reduceEqDiff, Nat.reduceLT, Nat.reduceSub, Int.reduceEq, Int.reduceLE, Int.reduceToNat, reduceCtorEq, reduceIte, Nat.reduceBEq, Int.reduceNeg, not_true, not_false_iff, true_and, and_true, true_or, or_true, false_or, or_false, forall_const, implies_true, Nat.le_refl, Int.toNat_natCast, Int.reduceLT, ne_eq, Fin.isValue, Nat.add_zero, nC_hrw, nS_hrw, nC_hwr, nS_hwr, hkd_hrw, hkd_hwr, fin4_0, fin4_1, fin4_2, fin4_3, fin2_0, fin2_1, ci0, ci1, cnn, false_implies, w32_eq, w64_eq, (hFr f).m]
              try simp (disch := omega) only [yc_lt, yc_le, yc_gt, yc_ge, yc_eq, w32_eq, w64_eq, tn_add, tn_mul, Int.toNat_natCast, Int.reduceToNat, not_true, not_false_iff, false_implies, forall_const, implies_true, hdt_hrw_s, hfo]
              repeat' (with_reducible first | apply And.intro | intro _)
              all_goals try omega
              all_goals try simp (disch := omega) only [w32_eq, w64_eq, tn_add, tn_mul, Int.toNat_natCast, Int.reduceToNat, Option.some.injEq, Sum.inr.injEq, Sum.inl.injEq, hdt_hrw_s, hfo]
              all_goals try omega
              all_goals try exact (nx).weak rfl (by simp [lle] <;> omega)
          · have hj7 : j = 64 := by omega
            subst hj7
            have nx := ih hn6 f (hfj.next fun r t ht hr => Rch.lt hs0 hnx n r hr.1) (fun m hm s hds => by
              by_cases e : m = n
              · rw [e] at hds
                exact hnj s (Rch.lt hs0 hnx n s hds.1) hds
              · exact hno m (by omega) s hds)
            subst hE
            refine vsA_ok tk_X5_comes rfl 20 ?_
            simp only [at_X5_comes, mr_X5_comes, vsA, vcA, denA, lget, lset, lst1, lst2, lclr, argsA, restA, acats, acat, tcA, tcN, rzA, lle, List.length_cons, List.length_nil, Option.toList_some, Option.toList_none, List.cons_append, List.nil_append, eG, eM, eD, eC, eS, eQ, eH, if_true, if_false, Nat.reduceAdd, Nat.reduceLeDiff, Nat.reduceEqDiff, Nat.reduceLT, Nat.reduceSub, Int.reduceEq, Int.reduceLE, Int.reduceToNat, reduceCtorEq, reduceIte, Nat.reduceBEq, Int.reduceNeg, not_true, not_false_iff, true_and, and_true, true_or, or_true, false_or, or_false, forall_const, implies_true, Nat.le_refl, Int.toNat_natCast, Int.reduceLT, ne_eq, Fin.isValue, Nat.add_zero, nC_hrw, nS_hrw, nC_hwr, nS_hwr, hkd_hrw, hkd_hwr, fin4_0, fin4_1, fin4_2, fin4_3, fin2_0, fin2_1, ci0, ci1, cnn, false_implies, w32_eq, w64_eq]
            try simp (disch := omega) only [yc_lt, yc_le, yc_gt, yc_ge, yc_eq, w32_eq, w64_eq, tn_add, tn_mul, Int.toNat_natCast, Int.reduceToNat, not_true, not_false_iff, false_implies, forall_const, implies_true]
            repeat' (with_reducible first | apply And.intro | intro _)
            all_goals try omega
            all_goals try simp (disch := omega) only [w32_eq, w64_eq, tn_add, tn_mul, Int.toNat_natCast, Int.reduceToNat, Option.some.injEq, Sum.inr.injEq, Sum.inl.injEq]
            all_goals try omega
            all_goals try exact (nx).weak rfl (by simp [lle] <;> omega)
        have l3 := L3 0 (by omega) f (hf.cong fun r u _ _ => by constructor; exact fun q => q.elim; exact fun q => absurd q (Nat.not_lt_zero _)) (fun s hs _ => absurd hs (Nat.not_lt_zero _))
        subst hE
        refine vsA_ok tk_X5_comes rfl 20 ?_
        simp only [at_X5_comes, mr_X5_comes, vsA, vcA, denA, lget, lset, lst1, lst2, lclr, argsA, restA, acats, acat, tcA, tcN, rzA, lle, List.length_cons, List.length_nil, Option.toList_some, Option.toList_none, List.cons_append, List.nil_append, eG, eM, eD, eC, eS, eQ, eH, if_true, if_false, Nat.reduceAdd, Nat.reduceLeDiff, Nat.reduceEqDiff, Nat.reduceLT, Nat.reduceSub, Int.reduceEq, Int.reduceLE, Int.reduceToNat, reduceCtorEq, reduceIte, Nat.reduceBEq, Int.reduceNeg, not_true, not_false_iff, true_and, and_true, true_or, or_true, false_or, or_false, forall_const, implies_true, Nat.le_refl, Int.toNat_natCast, Int.reduceLT, ne_eq, Fin.isValue, Nat.add_zero, nC_hrw, nS_hrw, nC_hwr, nS_hwr, hkd_hrw, hkd_hwr, fin4_0, fin4_1, fin4_2, fin4_3, fin2_0, fin2_1, ci0, ci1, cnn, false_implies, w32_eq, w64_eq]
        try simp (disch := omega) only [yc_lt, yc_le, yc_gt, yc_ge, yc_eq, w32_eq, w64_eq, tn_add, tn_mul, Int.toNat_natCast, Int.reduceToNat, not_true, not_false_iff, false_implies, forall_const, implies_true]
        repeat' (with_reducible first | apply And.intro | intro _)
        all_goals try omega
        all_goals try simp (disch := omega) only [w32_eq, w64_eq, tn_add, tn_mul, Int.toNat_natCast, Int.reduceToNat, Option.some.injEq, Sum.inr.injEq, Sum.inl.injEq]
        all_goals try omega
        all_goals try exact (l3).weak rfl (by simp [lle] <;> omega)
      · have hn7 : n = 64 := by omega
        subst hn7
        have hok : comOK (nxK (wS w)) (sT (wS w)) s0 x (-1) := Or.inr ⟨rfl, fun n s hr => by
          obtain ⟨k, hk, hdk⟩ := hr.dst
          exact hno k (hdk.lt64 hs0 hnx) s hdk⟩
        subst hE
        refine vsA_ok tk_X5_comes rfl 20 ?_
        simp only [at_X5_comes, mr_X5_comes, vsA, vcA, denA, lget, lset, lst1, lst2, lclr, argsA, restA, acats, acat, tcA, tcN, rzA, lle, List.length_cons, List.length_nil, Option.toList_some, Option.toList_none, List.cons_append, List.nil_append, eG, eM, eD, eC, eS, eQ, eH, if_true, if_false, Nat.reduceAdd, Nat.reduceLeDiff, Nat.reduceEqDiff, Nat.reduceLT, Nat.reduceSub, Int.reduceEq, Int.reduceLE, Int.reduceToNat, reduceCtorEq, reduceIte, Nat.reduceBEq, Int.reduceNeg, not_true, not_false_iff, true_and, and_true, true_or, or_true, false_or, or_false, forall_const, implies_true, Nat.le_refl, Int.toNat_natCast, Int.reduceLT, ne_eq, Fin.isValue, Nat.add_zero, nC_hrw, nS_hrw, nC_hwr, nS_hwr, hkd_hrw, hkd_hwr, fin4_0, fin4_1, fin4_2, fin4_3, fin2_0, fin2_1, ci0, ci1, cnn, false_implies, w32_eq, w64_eq, c2]
        try simp (disch := omega) only [yc_lt, yc_le, yc_gt, yc_ge, yc_eq, w32_eq, w64_eq, tn_add, tn_mul, Int.toNat_natCast, Int.reduceToNat, not_true, not_false_iff, false_implies, forall_const, implies_true]
        repeat' (with_reducible first | apply And.intro | intro _)
        all_goals try omega
        all_goals try simp (disch := omega) only [w32_eq, w64_eq, tn_add, tn_mul, Int.toNat_natCast, Int.reduceToNat, Option.some.injEq, Sum.inr.injEq, Sum.inl.injEq]
        all_goals try omega
        all_goals exact ⟨_, rfl, hz _ hok, hfin2 f⟩
    have L1 : ∀ i, i ≤ 64 → ∀ f : Nat → Int, (∀ s, s < i → f s = 268435456) → ExA E 22 [some (.inr (.inr (124))), some (.inl ((x : Int))), some (.inl ((i : Int))), none, none] [] (hrw h2 142 f) := by
      refine lpI 64 fun i hi ih f hf => ?_
      by_cases hi6 : i < 64
      · have nx := ih hi6 (fup f i 268435456) (fun s hs => by
          by_cases e : s = i
          · rw [e, fup_s]
          · rw [fup_n _ _ e]; exact hf s (by omega))
        subst hE
        refine vsA_ok tk_X5_comes rfl 20 ?_
        simp only [at_X5_comes, mr_X5_comes, vsA, vcA, denA, lget, lset, lst1, lst2, lclr, argsA, restA, acats, acat, tcA, tcN, rzA, lle, List.length_cons, List.length_nil, Option.toList_some, Option.toList_none, List.cons_append, List.nil_append, eG, eM, eD, eC, eS, eQ, eH, if_true, if_false, Nat.reduceAdd, Nat.reduceLeDiff, Nat.reduceEqDiff, Nat.reduceLT, Nat.reduceSub, Int.reduceEq, Int.reduceLE, Int.reduceToNat, reduceCtorEq, reduceIte, Nat.reduceBEq, Int.reduceNeg, not_true, not_false_iff, true_and, and_true, true_or, or_true, false_or, or_false, forall_const, implies_true, Nat.le_refl, Int.toNat_natCast, Int.reduceLT, ne_eq, Fin.isValue, Nat.add_zero, nC_hrw, nS_hrw, nC_hwr, nS_hwr, hkd_hrw, hkd_hwr, fin4_0, fin4_1, fin4_2, fin4_3, fin2_0, fin2_1, ci0, ci1, cnn, false_implies, w32_eq, w64_eq, (hFr f).m]
        try simp (disch := omega) only [yc_lt, yc_le, yc_gt, yc_ge, yc_eq, w32_eq, w64_eq, tn_add, tn_mul, Int.toNat_natCast, Int.reduceToNat, not_true, not_false_iff, false_implies, forall_const, implies_true, hwr_hrw]
        repeat' (with_reducible first | apply And.intro | intro _)
        all_goals try omega
        all_goals try simp (disch := omega) only [w32_eq, w64_eq, tn_add, tn_mul, Int.toNat_natCast, Int.reduceToNat, Option.some.injEq, Sum.inr.injEq, Sum.inl.injEq, hwr_hrw]
        all_goals try omega
        all_goals try exact (nx).weak rfl (by simp [lle] <;> omega)
      · have hi7 : i = 64 := by omega
        subst hi7
        have l2 := L2 0 (by omega) (fup f s0 0) (fun s hs => by
          by_cases e : s = s0
          · rw [e, fup_s]
            exact ⟨fun m hm hd => by rw [show m = 0 by omega]; rfl, fun q => absurd (show Rch (nxK (wS w)) (sT (wS w)) s0 0 s0 from rfl) (q 0 (Nat.le_refl _))⟩
          · rw [fup_n _ _ e]
            exact ⟨fun m hm hd => absurd (by rw [show m = 0 by omega] at hd; exact hd.1) e, fun q => ⟨fun ⟨_, _, a, _⟩ => a.elim, fun _ => hf s hs⟩⟩) (fun m hm => absurd hm (Nat.not_lt_zero _))
        have hki := c_X5_kindsIn (G := G) (hFr f) (v := cntW (wrdS (wS w) (wA w))) (fun c hc => by rw [hdt_hrw_n _ _ (by decide)]; exact hr2 c hc) (fun c hc => Nat.le_trans List.count_le_length hL)
        have hki : CnA G mX5_kindsIn 1 0 0 [.inr (.inr (124))] (hrw h2 142 f) (fun r h1 => r = some (.inl (((kdS (wrdS (wS w) (wA w)) : Nat) : Int))) ∧ h1 = hrw h2 142 f) := hki
        rw [hs0e] at hki
        subst hE
        refine vsA_ok tk_X5_comes rfl 20 ?_
        simp only [at_X5_comes, mr_X5_comes, vsA, vcA, denA, lget, lset, lst1, lst2, lclr, argsA, restA, acats, acat, tcA, tcN, rzA, lle, List.length_cons, List.length_nil, Option.toList_some, Option.toList_none, List.cons_append, List.nil_append, eG, eM, eD, eC, eS, eQ, eH, if_true, if_false, Nat.reduceAdd, Nat.reduceLeDiff, Nat.reduceEqDiff, Nat.reduceLT, Nat.reduceSub, Int.reduceEq, Int.reduceLE, Int.reduceToNat, reduceCtorEq, reduceIte, Nat.reduceBEq, Int.reduceNeg, not_true, not_false_iff, true_and, and_true, true_or, or_true, false_or, or_false, forall_const, implies_true, Nat.le_refl, Int.toNat_natCast, Int.reduceLT, ne_eq, Fin.isValue, Nat.add_zero, nC_hrw, nS_hrw, nC_hwr, nS_hwr, hkd_hrw, hkd_hwr, fin4_0, fin4_1, fin4_2, fin4_3, fin2_0, fin2_1, ci0, ci1, cnn, false_implies, w32_eq, w64_eq, (hFr f).m]
        try simp (disch := omega) only [yc_lt, yc_le, yc_gt, yc_ge, yc_eq, w32_eq, w64_eq, tn_add, tn_mul, Int.toNat_natCast, Int.reduceToNat, not_true, not_false_iff, false_implies, forall_const, implies_true]
        repeat' (with_reducible first | apply And.intro | intro _)
        all_goals try omega
        all_goals try simp (disch := omega) only [w32_eq, w64_eq, tn_add, tn_mul, Int.toNat_natCast, Int.reduceToNat, Option.some.injEq, Sum.inr.injEq, Sum.inl.injEq]
        all_goals try omega
        refine ClA.pure (hki) (by first | exact Nat.le_of_ble_eq_true rfl | (simp only [eD]; omega)) (by first | exact Nat.le_refl _ | (simp only [eG, eD, eC, eS, eQ, eH, nC_hrw, nC_hwr, nS_hrw, nS_hwr, nC_hnw, nS_hnw]; omega)) (by first | exact Nat.le_refl _ | (simp only [eG, eD, eC, eS, eQ, eH, nC_hrw, nC_hwr, nS_hrw, nS_hwr, nC_hnw, nS_hnw]; omega)) ?_
        refine vsA_ok tk_X5_comes rfl 20 ?_
        simp only [at_X5_comes, mr_X5_comes, vsA, vcA, denA, lget, lset, lst1, lst2, lclr, argsA, restA, acats, acat, tcA, tcN, rzA, lle, List.length_cons, List.length_nil, Option.toList_some, Option.toList_none, List.cons_append, List.nil_append, eG, eM, eD, eC, eS, eQ, eH, if_true, if_false, Nat.reduceAdd, Nat.reduceLeDiff, Nat.reduceEqDiff, Nat.reduceLT, Nat.reduceSub, Int.reduceEq, Int.reduceLE, Int.reduceToNat, reduceCtorEq, reduceIte, Nat.reduceBEq, Int.reduceNeg, not_true, not_false_iff, true_and, and_true, true_or, or_true, false_or, or_false, forall_const, implies_true, Nat.le_refl, Int.toNat_natCast, Int.reduceLT, ne_eq, Fin.isValue, Nat.add_zero, nC_hrw, nS_hrw, nC_hwr, nS_hwr, hkd_hrw, hkd_hwr, fin4_0, fin4_1, fin4_2, fin4_3, fin2_0, fin2_1, ci0, ci1, cnn, false_implies, w32_eq, w64_eq, (hFr f).m]
        try simp (disch := omega) only [yc_lt, yc_le, yc_gt, yc_ge, yc_eq, w32_eq, w64_eq, tn_add, tn_mul, Int.toNat_natCast, Int.reduceToNat, not_true, not_false_iff, false_implies, forall_const, implies_true, hwr_hrw]
        repeat' (with_reducible first | apply And.intro | intro _)
        all_goals try omega
        all_goals try simp (disch := omega) only [w32_eq, w64_eq, tn_add, tn_mul, Int.toNat_natCast, Int.reduceToNat, Option.some.injEq, Sum.inr.injEq, Sum.inl.injEq, hwr_hrw]
        all_goals try omega
        all_goals try exact (l2).weak rfl (by simp [lle] <;> omega)
    have l1 := L1 0 (by omega) (hdt h2 142) (fun s hs => absurd hs (Nat.not_lt_zero _))
    rw [hrw_self] at l1
    subst hE
    refine vsA_ok tk_X5_comes rfl 20 ?_
    simp only [at_X5_comes, mr_X5_comes, vsA, vcA, denA, lget, lset, lst1, lst2, lclr, argsA, restA, acats, acat, tcA, tcN, rzA, lle, List.length_cons, List.length_nil, Option.toList_some, Option.toList_none, List.cons_append, List.nil_append, eG, eM, eD, eC, eS, eQ, eH, if_true, if_false, Nat.reduceAdd, Nat.reduceLeDiff, Nat.reduceEqDiff, Nat.reduceLT, Nat.reduceSub, Int.reduceEq, Int.reduceLE, Int.reduceToNat, reduceCtorEq, reduceIte, Nat.reduceBEq, Int.reduceNeg, not_true, not_false_iff, true_and, and_true, true_or, or_true, false_or, or_false, forall_const, implies_true, Nat.le_refl, Int.toNat_natCast, Int.reduceLT, ne_eq, Fin.isValue, Nat.add_zero, nC_hrw, nS_hrw, nC_hwr, nS_hwr, hkd_hrw, hkd_hwr, fin4_0, fin4_1, fin4_2, fin4_3, fin2_0, fin2_1, ci0, ci1, cnn, false_implies, w32_eq, w64_eq]
    try simp (disch := omega) only [yc_lt, yc_le, yc_gt, yc_ge, yc_eq, w32_eq, w64_eq, tn_add, tn_mul, Int.toNat_natCast, Int.reduceToNat, not_true, not_false_iff, false_implies, forall_const, implies_true]
    repeat' (with_reducible first | apply And.intro | intro _)
    all_goals try omega
    all_goals try simp (disch := omega) only [w32_eq, w64_eq, tn_add, tn_mul, Int.toNat_natCast, Int.reduceToNat, Option.some.injEq, Sum.inr.injEq, Sum.inl.injEq]
    all_goals try omega
    all_goals try exact (l1).weak rfl (by simp [lle] <;> omega)
  · have hz : comZ (wS w) (wA w) c (-2) := by unfold comZ; rw [if_neg qc]
    refine CnA.of rfl (Nat.le_of_ble_eq_true rfl) ?_
    simp only [largs, lpad, mr_X5_comes]
    refine vsA_ok tk_X5_comes rfl 20 ?_
    simp only [at_X5_comes, mr_X5_comes, vsA, vcA, denA, lget, lset, lst1, lst2, lclr, argsA, restA, acats, acat, tcA, tcN, rzA, lle, List.length_cons, List.length_nil, Option.toList_some, Option.toList_none, List.cons_append, List.nil_append, eG, eM, eD, eC, eS, eQ, eH, if_true, if_false, Nat.reduceAdd, Nat.reduceLeDiff, Nat.reduceEqDiff, Nat.reduceLT, Nat.reduceSub, Int.reduceEq, Int.reduceLE, Int.reduceToNat, reduceCtorEq, reduceIte, Nat.reduceBEq, Int.reduceNeg, not_true, not_false_iff, true_and, and_true, true_or, or_true, false_or, or_false, forall_const, implies_true, Nat.le_refl, Int.toNat_natCast, Int.reduceLT, ne_eq, Fin.isValue, Nat.add_zero, nC_hrw, nS_hrw, nC_hwr, nS_hwr, hkd_hrw, hkd_hwr, fin4_0, fin4_1, fin4_2, fin4_3, fin2_0, fin2_1, ci0, ci1, cnn, false_implies, w32_eq, w64_eq, hF.m, hF0.m]
    try simp (disch := omega) only [yc_lt, yc_le, yc_gt, yc_ge, yc_eq, w32_eq, w64_eq, tn_add, tn_mul, Int.toNat_natCast, Int.reduceToNat, not_true, not_false_iff, false_implies, forall_const, implies_true]
    repeat' (with_reducible first | apply And.intro | intro _)
    all_goals try omega
    all_goals try simp (disch := omega) only [w32_eq, w64_eq, tn_add, tn_mul, Int.toNat_natCast, Int.reduceToNat, Option.some.injEq, Sum.inr.injEq, Sum.inl.injEq]
    all_goals try omega
    refine ClA.pure (c_X5_isLetter c _ (by omega) (by omega)) (by first | exact Nat.le_of_ble_eq_true rfl | (simp only [eD]; omega)) (by first | exact Nat.le_refl _ | (simp only [eG, eD, eC, eS, eQ, eH, nC_hrw, nC_hwr, nS_hrw, nS_hwr, nC_hnw, nS_hnw]; omega)) (by first | exact Nat.le_refl _ | (simp only [eG, eD, eC, eS, eQ, eH, nC_hrw, nC_hwr, nS_hrw, nS_hwr, nC_hnw, nS_hnw]; omega)) ?_
    rw [if_neg qc]
    refine vsA_ok tk_X5_comes rfl 20 ?_
    simp only [at_X5_comes, mr_X5_comes, vsA, vcA, denA, lget, lset, lst1, lst2, lclr, argsA, restA, acats, acat, tcA, tcN, rzA, lle, List.length_cons, List.length_nil, Option.toList_some, Option.toList_none, List.cons_append, List.nil_append, eG, eM, eD, eC, eS, eQ, eH, if_true, if_false, Nat.reduceAdd, Nat.reduceLeDiff, Nat.reduceEqDiff, Nat.reduceLT, Nat.reduceSub, Int.reduceEq, Int.reduceLE, Int.reduceToNat, reduceCtorEq, reduceIte, Nat.reduceBEq, Int.reduceNeg, not_true, not_false_iff, true_and, and_true, true_or, or_true, false_or, or_false, forall_const, implies_true, Nat.le_refl, Int.toNat_natCast, Int.reduceLT, ne_eq, Fin.isValue, Nat.add_zero, nC_hrw, nS_hrw, nC_hwr, nS_hwr, hkd_hrw, hkd_hwr, fin4_0, fin4_1, fin4_2, fin4_3, fin2_0, fin2_1, ci0, ci1, cnn, false_implies, w32_eq, w64_eq]
    try simp (disch := omega) only [yc_lt, yc_le, yc_gt, yc_ge, yc_eq, w32_eq, w64_eq, tn_add, tn_mul, Int.toNat_natCast, Int.reduceToNat, not_true, not_false_iff, false_implies, forall_const, implies_true]
    repeat' (with_reducible first | apply And.intro | intro _)
    all_goals try omega
    all_goals try simp (disch := omega) only [w32_eq, w64_eq, tn_add, tn_mul, Int.toNat_natCast, Int.reduceToNat, Option.some.injEq, Sum.inr.injEq, Sum.inl.injEq]
    all_goals try omega
    all_goals exact ⟨_, rfl, hz, hfin⟩
end
