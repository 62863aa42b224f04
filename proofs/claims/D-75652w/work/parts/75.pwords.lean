/-! PURE: words in the street: an automaton that reads, what stands where -/
set_option maxRecDepth 100000
/-- the first k of the word are the latest that were read (R: what was read, the latest first) -/
def sxW (ws : List Nat) (k : Nat) (R : List Nat) : Prop := (ws.take k).reverse <+: R
theorem sxW_0 (ws R : List Nat) : sxW ws 0 R := by
  unfold sxW
  simp
theorem sxW_s {ws : List Nat} {j : Nat} (hj : j < ws.length) (c : Nat) (R : List Nat) : sxW ws (j + 1) (c :: R) ↔ ws.getD j 0 = c ∧ sxW ws j R := by
  unfold sxW
  rw [List.take_add_one, List.getElem?_eq_getElem hj, List.reverse_append]
  have e : ws.getD j 0 = ws[j] := by simp [hj]
  rw [e]
  simp [List.cons_prefix_cons]
theorem sxW_len {ws R : List Nat} {k : Nat} (hk : k ≤ ws.length) (h : sxW ws k R) : k ≤ R.length := by
  have := h.length_le
  rw [List.length_reverse, List.length_take] at this
  omega
theorem sxW_in {ws R : List Nat} {j q : Nat} (hq : sxW ws q R) (hjq : j ≤ q) : sxW ws j R ↔ sxW ws j (ws.take q).reverse := by
  unfold sxW at *
  constructor
  · intro h
    refine List.prefix_of_prefix_length_le h hq ?_
    rw [List.length_reverse, List.length_reverse, List.length_take, List.length_take]
    omega
  · intro h
    exact h.trans hq
def rdB (ws : List Nat) (n q c : Nat) : Bool := decide (n ≤ q + 1 ∧ ws.getD (n - 1) 0 = c ∧ ∀ i, i < n - 1 → ws.getD i 0 = ws.getD (q + 1 - n + i) 0)
theorem rdB_sx {ws : List Nat} {j q c : Nat} (hq : q ≤ ws.length) : rdB ws (j + 1) q c = true ↔ j ≤ q ∧ ws.getD j 0 = c ∧ sxW ws j (ws.take q).reverse := by
  unfold rdB
  rw [decide_eq_true_eq, Nat.add_sub_cancel]
  have key : j ≤ q → ((∀ i, i < j → ws.getD i 0 = ws.getD (q + 1 - (j + 1) + i) 0) ↔ sxW ws j (ws.take q).reverse) := fun hj => by
    unfold sxW
    rw [List.reverse_prefix, List.suffix_iff_eq_drop]
    have hl : (ws.take q).length - (ws.take j).length = q - j := by
      rw [List.length_take, List.length_take]
      omega
    rw [hl]
    constructor
    · intro h
      refine List.ext_getElem ?_ fun i h1 h2 => ?_
      · rw [List.length_take, List.length_drop, List.length_take]
        omega
      · rw [List.length_take] at h1
        have := h i (by omega)
        rw [List.getElem_take, List.getElem_drop, List.getElem_take]
        simp only [List.getD_eq_getElem?_getD] at this
        rw [List.getElem?_eq_getElem (by omega), List.getElem?_eq_getElem (by omega)] at this
        simp only [Option.getD_some] at this
        rw [this]
        congr 1
        omega
    · intro h i hi
      have h1 : (ws.take j)[i]? = ((ws.take q).drop (q - j))[i]? := by rw [← h]
      rw [List.getElem?_take_of_lt hi, List.getElem?_drop, List.getElem?_take_of_lt (by omega)] at h1
      simp only [List.getD_eq_getElem?_getD]
      rw [h1, show q - j + i = q + 1 - (j + 1) + i by omega]
  constructor
  · rintro ⟨h1, h2, h3⟩
    exact ⟨by omega, h2, (key (by omega)).mp h3⟩
  · rintro ⟨h1, h2, h3⟩
    exact ⟨by omega, h2, (key h1).mpr h3⟩
/-- the greatest up to n of which something is said; 0 -/
def schN (P : Nat → Bool) : Nat → Nat
  | 0 => 0
  | n + 1 => if P (n + 1) = true then n + 1 else schN P n
theorem schN_le (P : Nat → Bool) : ∀ n, schN P n ≤ n
  | 0 => Nat.le_refl _
  | n + 1 => by
    unfold schN
    split
    · exact Nat.le_refl _
    · exact Nat.le_succ_of_le (schN_le P n)
theorem schN_is (P : Nat → Bool) : ∀ n, schN P n = 0 ∨ P (schN P n) = true
  | 0 => Or.inl rfl
  | n + 1 => by
    unfold schN
    split
    next h => exact Or.inr h
    next => exact schN_is P n
theorem schN_ge {P : Nat → Bool} {k : Nat} (hk : P k = true) : ∀ n, k ≤ n → k ≤ schN P n
  | 0, h => by omega
  | n + 1, h => by
    unfold schN
    split
    · exact h
    next hn =>
      by_cases e : k = n + 1
      · rw [e] at hk; exact absurd hk hn
      · exact schN_ge hk n (by omega)
def htQ (ws : List Nat) (q c : Nat) : Bool := decide (q = ws.length - 1 ∧ ws.getD q 0 = c)
def nxQ (ws : List Nat) (q c : Nat) : Nat := schN (fun n => rdB ws n q c) (if htQ ws q c = true then ws.length - 1 else q + 1)
/-- reads on: where it stands then, how often the word was there -/
def rnQ (ws : List Nat) : Nat → List Nat → Nat × Nat
  | q, [] => (q, 0)
  | q, c :: W => ((rnQ ws (nxQ ws q c) W).1, (rnQ ws (nxQ ws q c) W).2 + if htQ ws q c = true then 1 else 0)
theorem rnQ_c (ws : List Nat) (q c : Nat) (W : List Nat) : rnQ ws q (c :: W) = ((rnQ ws (nxQ ws q c) W).1, (rnQ ws (nxQ ws q c) W).2 + if htQ ws q c = true then 1 else 0) := rfl
theorem rnQ_app (ws : List Nat) : ∀ (A B : List Nat) (q : Nat), rnQ ws q (A ++ B) = ((rnQ ws (rnQ ws q A).1 B).1, (rnQ ws q A).2 + (rnQ ws (rnQ ws q A).1 B).2)
  | [], B, q => by simp [rnQ]
  | c :: A, B, q => by
    rw [List.cons_append, rnQ_c, rnQ_app ws A B, rnQ_c]
    simp only [Prod.mk.injEq, true_and]
    omega
theorem rnQ_le (ws : List Nat) : ∀ (W : List Nat) (q : Nat), (rnQ ws q W).2 ≤ W.length
  | [], _ => Nat.le_refl _
  | c :: W, q => by
    have := rnQ_le ws W (nxQ ws q c)
    rw [rnQ_c, List.length_cons]
    show (rnQ ws (nxQ ws q c) W).2 + (if htQ ws q c = true then 1 else 0) ≤ _
    split <;> omega
/-- where the word is there first: the place of its last letter -/
def fhQ (ws : List Nat) : Nat → List Nat → Nat
  | _, [] => 0
  | q, c :: W => if htQ ws q c = true then 0 else fhQ ws (nxQ ws q c) W + 1
theorem fhQ_app (ws : List Nat) : ∀ (A B : List Nat) (q : Nat), (rnQ ws q A).2 = 0 → fhQ ws q (A ++ B) = A.length + fhQ ws (rnQ ws q A).1 B
  | [], B, q, _ => by simp [rnQ]
  | c :: A, B, q, h => by
    rw [rnQ_c] at h
    have h : (rnQ ws (nxQ ws q c) A).2 + (if htQ ws q c = true then 1 else 0) = 0 := h
    by_cases e : htQ ws q c = true
    · rw [if_pos e] at h; omega
    · rw [if_neg e] at h
      rw [List.cons_append]
      show (if htQ ws q c = true then 0 else fhQ ws (nxQ ws q c) (A ++ B) + 1) = _
      rw [if_neg e, fhQ_app ws A B _ (by omega), rnQ_c, List.length_cons]
      show _ = A.length + 1 + fhQ ws (rnQ ws (nxQ ws q c) A).1 B
      omega
theorem fhQ_app2 (ws : List Nat) : ∀ (A B : List Nat) (q : Nat), (rnQ ws q A).2 ≠ 0 → fhQ ws q (A ++ B) = fhQ ws q A
  | [], B, q, h => by simp [rnQ] at h
  | c :: A, B, q, h => by
    rw [rnQ_c] at h
    have h : (rnQ ws (nxQ ws q c) A).2 + (if htQ ws q c = true then 1 else 0) ≠ 0 := h
    rw [List.cons_append]
    show (if htQ ws q c = true then 0 else fhQ ws (nxQ ws q c) (A ++ B) + 1) = (if htQ ws q c = true then 0 else fhQ ws (nxQ ws q c) A + 1)
    by_cases e : htQ ws q c = true
    · rw [if_pos e, if_pos e]
    · rw [if_neg e] at h
      rw [if_neg e, if_neg e, fhQ_app2 ws A B _ (by omega)]
/-- the automaton stands as what was read says -/
def stQ (ws R : List Nat) (q : Nat) : Prop := q < ws.length ∧ sxW ws q R ∧ ∀ k, k < ws.length → sxW ws k R → k ≤ q
theorem stQ_hit {ws R : List Nat} {q c : Nat} (h : stQ ws R q) : htQ ws q c = true ↔ sxW ws ws.length (c :: R) := by
  obtain ⟨h1, h2, h3⟩ := h
  unfold htQ
  rw [decide_eq_true_eq]
  have e := sxW_s (ws := ws) (j := ws.length - 1) (by omega) c R
  rw [show ws.length - 1 + 1 = ws.length by omega] at e
  rw [e]
  constructor
  · rintro ⟨a, b⟩
    rw [← a]
    exact ⟨b, h2⟩
  · rintro ⟨a, b⟩
    have := h3 _ (by omega) b
    have hq : q = ws.length - 1 := by omega
    exact ⟨hq, by rw [hq]; exact a⟩
theorem stQ_next {ws R : List Nat} {q c : Nat} (h : stQ ws R q) : stQ ws (c :: R) (nxQ ws q c) := by
  have hh := stQ_hit (c := c) h
  obtain ⟨h1, h2, h3⟩ := h
  have hrd : ∀ j, j + 1 < ws.length → (rdB ws (j + 1) q c = true ↔ sxW ws (j + 1) (c :: R)) := fun j hj => by
    rw [rdB_sx (by omega), sxW_s (by omega)]
    constructor
    · rintro ⟨a1, a2, a3⟩
      exact ⟨a2, (sxW_in h2 a1).mpr a3⟩
    · rintro ⟨a1, a2⟩
      have := h3 j (by omega) a2
      exact ⟨this, a1, (sxW_in h2 this).mp a2⟩
  have hlt : nxQ ws q c < ws.length := by
    unfold nxQ
    by_cases e : htQ ws q c = true
    · rw [if_pos e]
      have := schN_le (fun n => rdB ws n q c) (ws.length - 1)
      omega
    · rw [if_neg e]
      have hle := schN_le (fun n => rdB ws n q c) (q + 1)
      rcases Nat.lt_or_ge (schN (fun n => rdB ws n q c) (q + 1)) ws.length with a | a
      · exact a
      · exfalso
        have hq : q = ws.length - 1 := by omega
        have hs : schN (fun n => rdB ws n q c) (q + 1) = q + 1 := by omega
        rcases schN_is (fun n => rdB ws n q c) (q + 1) with b | b
        · omega
        · rw [hs] at b
          have b : rdB ws (q + 1) q c = true := b
          rw [rdB_sx (by omega)] at b
          refine e ?_
          unfold htQ
          rw [decide_eq_true_eq]
          exact ⟨hq, b.2.1⟩
  refine ⟨hlt, ?_, fun k hk hs => ?_⟩
  · rcases schN_is (fun n => rdB ws n q c) (if htQ ws q c = true then ws.length - 1 else q + 1) with b | b
    · have : nxQ ws q c = 0 := b
      rw [this]
      exact sxW_0 _ _
    · have b : rdB ws (nxQ ws q c) q c = true := b
      generalize nxQ ws q c = n at *
      cases n with
      | zero => exact sxW_0 _ _
      | succ j => exact (hrd j hlt).mp b
  · cases k with
    | zero => exact Nat.zero_le _
    | succ j =>
      have hb := (hrd j hk).mpr hs
      refine schN_ge (P := fun n => rdB ws n q c) hb _ ?_
      have := ((rdB_sx (by omega)).mp hb).1
      split <;> omega
theorem stQ_0 {ws : List Nat} (h : 0 < ws.length) : stQ ws [] 0 := ⟨h, sxW_0 _ _, fun k hk hs => by
  have := sxW_len (by omega) hs
  simpa using this⟩
theorem stQ_lt {ws : List Nat} (hw : 0 < ws.length) : ∀ (W R : List Nat) (q : Nat), stQ ws R q → stQ ws (W.reverse ++ R) (rnQ ws q W).1
  | [], R, q, h => h
  | c :: W, R, q, h => by
    have := stQ_lt hw W (c :: R) _ (stQ_next (c := c) h)
    rw [rnQ_c, List.reverse_cons, List.append_assoc]
    exact this
/-- the word stands at a place -/
def atW (ws V : List Nat) (i : Nat) : Bool := decide (ws <+: V.drop i)
theorem atW_len {ws V : List Nat} {i : Nat} (h : atW ws V i = true) (hw : 0 < ws.length) : i + ws.length ≤ V.length := by
  unfold atW at h
  rw [decide_eq_true_eq] at h
  have := h.length_le
  rw [List.length_drop] at this
  omega
/-- a hit: the word ends here -/
theorem hit_at {ws R : List Nat} (W : List Nat) (hw : 0 < ws.length) : sxW ws ws.length R ↔ ∃ i, i + ws.length = R.length ∧ atW ws (R.reverse ++ W) i = true := by
  unfold sxW atW
  rw [List.take_of_length_le (Nat.le_refl _)]
  constructor
  · intro h
    have hl := h.length_le
    rw [List.length_reverse] at hl
    refine ⟨R.length - ws.length, by omega, ?_⟩
    rw [decide_eq_true_eq, List.drop_append_of_le_length (by rw [List.length_reverse]; omega)]
    obtain ⟨t, ht⟩ := h
    have hR : R.reverse = t.reverse ++ ws := by rw [← ht]; simp
    have htl : t.length = R.length - ws.length := by
      rw [← ht, List.length_append, List.length_reverse]
      omega
    rw [hR, List.drop_append_of_le_length (by rw [List.length_reverse]; omega), List.drop_of_length_le (by rw [List.length_reverse]; omega), List.nil_append]
    exact List.prefix_append _ _
  · rintro ⟨i, hi, h⟩
    rw [decide_eq_true_eq, List.drop_append_of_le_length (by rw [List.length_reverse]; omega)] at h
    have h2 : ws <+: R.reverse.drop i := List.prefix_of_prefix_length_le h (List.prefix_append _ _) (by rw [List.length_drop, List.length_reverse]; omega)
    have h3 : ws = R.reverse.drop i := h2.eq_of_length (by rw [List.length_drop, List.length_reverse]; omega)
    rw [h3, ← List.reverse_suffix, List.reverse_reverse]
    exact List.drop_suffix _ _
/-- how often the word stands at places, from a threshold on -/
def ocT (ws V : List Nat) (a : Nat) (n : Nat) : Nat := smN (fun i => if a < i + ws.length ∧ atW ws V i = true then 1 else 0) n
theorem ocT_step {ws V : List Nat} (a : Nat) : ∀ n, ocT ws V a n = ocT ws V (a + 1) n + smN (fun i => if i + ws.length = a + 1 ∧ atW ws V i = true then 1 else 0) n
  | 0 => rfl
  | n + 1 => by
    have ih := ocT_step (ws := ws) (V := V) a n
    show ocT ws V a n + (if a < n + ws.length ∧ atW ws V n = true then 1 else 0) = (ocT ws V (a + 1) n + (if a + 1 < n + ws.length ∧ atW ws V n = true then 1 else 0)) + (smN _ n + (if n + ws.length = a + 1 ∧ atW ws V n = true then 1 else 0))
    rw [ih]
    by_cases q : atW ws V n = true
    · rcases (by omega : n + ws.length ≤ a ∨ n + ws.length = a + 1 ∨ a + 1 < n + ws.length) with q1 | q1 | q1
      · rw [if_neg (by omega), if_neg (by omega), if_neg (by omega)]
        omega
      · rw [if_pos ⟨by omega, q⟩, if_neg (by omega), if_pos ⟨q1, q⟩]
        omega
      · rw [if_pos ⟨by omega, q⟩, if_pos ⟨q1, q⟩, if_neg (by omega)]
        omega
    · rw [if_neg (fun z => q z.2), if_neg (fun z => q z.2), if_neg (fun z => q z.2)]
      omega
theorem smN_one {P : Nat → Prop} [DecidablePred P] {i : Nat} (hu : ∀ j, P j → j = i) : ∀ n, smN (fun j => if P j then 1 else 0) n = if i < n ∧ P i then 1 else 0
  | 0 => by rw [if_neg (by omega)]; rfl
  | n + 1 => by
    show smN _ n + (if P n then 1 else 0) = _
    rw [smN_one hu n]
    by_cases q : P n
    · have := hu n q
      subst this
      rw [if_neg (by omega), if_pos q, if_pos ⟨by omega, q⟩]
    · rw [if_neg q]
      by_cases q2 : i < n ∧ P i
      · rw [if_pos q2, if_pos ⟨by omega, q2.2⟩]
      · rw [if_neg q2, if_neg]
        rintro ⟨a, b⟩
        by_cases e : i = n
        · rw [e] at b; exact q b
        · exact q2 ⟨by omega, b⟩
/-- what the automaton counts stands there -/
theorem rnQ_oc {ws : List Nat} (hw : 0 < ws.length) : ∀ (W R : List Nat) (q : Nat), stQ ws R q → (rnQ ws q W).2 = ocT ws (R.reverse ++ W) R.length (R.length + W.length)
  | [], R, q, h => by
    symm
    show ocT ws (R.reverse ++ []) R.length (R.length + 0) = 0
    have key : ∀ n, ocT ws (R.reverse ++ []) R.length n = 0 := by
      intro n
      induction n with
      | zero => rfl
      | succ n ih =>
        show ocT ws _ _ n + (if R.length < n + ws.length ∧ atW ws (R.reverse ++ []) n = true then 1 else 0) = 0
        rw [ih, if_neg]
        rintro ⟨a, b⟩
        have := atW_len b hw
        rw [List.append_nil, List.length_reverse] at this
        omega
    exact key _
  | c :: W, R, q, h => by
    have ih := rnQ_oc hw W (c :: R) _ (stQ_next (c := c) h)
    have hit := stQ_hit (c := c) h
    have e1 : (c :: R).reverse ++ W = R.reverse ++ c :: W := by simp
    rw [e1] at ih
    rw [rnQ_c]
    show (rnQ ws (nxQ ws q c) W).2 + (if htQ ws q c = true then 1 else 0) = _
    have st := ocT_step (ws := ws) (V := R.reverse ++ c :: W) R.length (R.length + (W.length + 1))
    rw [ih, List.length_cons, List.length_cons, show R.length + 1 + W.length = R.length + (W.length + 1) by omega, st]
    congr 1
    have hx := hit_at (ws := ws) (R := c :: R) W hw
    rw [e1] at hx
    by_cases q1 : htQ ws q c = true
    · rw [if_pos q1]
      obtain ⟨i, hi, ha⟩ := hx.mp (hit.mp q1)
      rw [List.length_cons] at hi
      rw [smN_one (P := fun j => j + ws.length = R.length + 1 ∧ atW ws (R.reverse ++ c :: W) j = true) (i := i) (fun j hj => by have := hj.1; omega), if_pos ⟨by omega, hi, ha⟩]
    · rw [if_neg q1]
      symm
      have hno : ∀ j, ¬ (j + ws.length = R.length + 1 ∧ atW ws (R.reverse ++ c :: W) j = true) := fun j hj => q1 (hit.mpr (hx.mpr ⟨j, hj.1, hj.2⟩))
      have key : ∀ n, smN (fun i => if i + ws.length = R.length + 1 ∧ atW ws (R.reverse ++ c :: W) i = true then 1 else 0) n = 0 := by
        intro n
        induction n with
        | zero => rfl
        | succ n ihn =>
          show smN _ n + (if n + ws.length = R.length + 1 ∧ atW ws (R.reverse ++ c :: W) n = true then 1 else 0) = 0
          rw [ihn, if_neg (hno n)]
      exact key _
/-- how often the word stands in a row -/
def ocN (ws V : List Nat) : Nat := smN (fun i => if atW ws V i = true then 1 else 0) V.length
theorem rnQ_ocN {ws : List Nat} (hw : 0 < ws.length) (W : List Nat) : (rnQ ws 0 W).2 = ocN ws W := by
  rw [rnQ_oc hw W [] 0 (stQ_0 hw)]
  show smN (fun i => if 0 < i + ws.length ∧ atW ws W i = true then 1 else 0) (0 + W.length) = ocN ws W
  rw [Nat.zero_add]
  refine smN_congr _ fun i _ => ?_
  by_cases q : atW ws W i = true
  · rw [if_pos ⟨by omega, q⟩, if_pos q]
  · rw [if_neg (fun z => q z.2), if_neg q]
/-- the first place of the word -/
def FirOK (ws V : List Nat) (z : Int) : Prop := (z = -1 ∧ ∀ i, atW ws V i = false) ∨ ∃ i : Nat, z = i ∧ atW ws V i = true ∧ ∀ j, j < i → atW ws V j = false
theorem FirOK.un {ws V : List Nat} {y z : Int} (h1 : FirOK ws V y) (h2 : FirOK ws V z) : y = z := by
  rcases h1 with ⟨rfl, a⟩ | ⟨i, rfl, a1, a2⟩ <;> rcases h2 with ⟨rfl, b⟩ | ⟨j, rfl, b1, b2⟩
  · rfl
  · rw [a j] at b1; exact absurd b1 (by simp)
  · rw [b i] at a1; exact absurd a1 (by simp)
  · rcases Nat.lt_trichotomy i j with q | q | q
    · rw [b2 i q] at a1; exact absurd a1 (by simp)
    · rw [q]
    · rw [a2 j q] at b1; exact absurd b1 (by simp)
theorem fhQ_ok {ws : List Nat} (hw : 0 < ws.length) : ∀ (W R : List Nat) (q : Nat), stQ ws R q → (rnQ ws q W).2 ≠ 0 →
    fhQ ws q W < W.length ∧ sxW ws ws.length ((W.take (fhQ ws q W + 1)).reverse ++ R) ∧ ∀ k, k < fhQ ws q W → ¬ sxW ws ws.length ((W.take (k + 1)).reverse ++ R)
  | [], R, q, h, h0 => by simp [rnQ] at h0
  | c :: W, R, q, h, h0 => by
    have hit := stQ_hit (c := c) h
    have h0 : (rnQ ws (nxQ ws q c) W).2 + (if htQ ws q c = true then 1 else 0) ≠ 0 := h0
    have hf : fhQ ws q (c :: W) = if htQ ws q c = true then 0 else fhQ ws (nxQ ws q c) W + 1 := rfl
    rw [hf]
    by_cases e : htQ ws q c = true
    · rw [if_pos e]
      exact ⟨by simp, by simpa using hit.mp e, fun k hk => absurd hk (Nat.not_lt_zero _)⟩
    · rw [if_neg e] at h0 ⊢
      obtain ⟨a1, a2, a3⟩ := fhQ_ok hw W (c :: R) _ (stQ_next (c := c) h) (by omega)
      refine ⟨by rw [List.length_cons]; omega, ?_, fun k hk => ?_⟩
      · rw [List.take_succ_cons, List.reverse_cons, List.append_assoc]
        exact a2
      · rw [List.take_succ_cons, List.reverse_cons, List.append_assoc]
        cases k with
        | zero => exact fun z => e (hit.mpr (by simpa using z))
        | succ k => exact a3 k (by omega)
theorem fhQ_fir {ws : List Nat} (hw : 0 < ws.length) (W : List Nat) : FirOK ws W (if (rnQ ws 0 W).2 = 0 then -1 else ((fhQ ws 0 W : Nat) : Int) - (ws.length : Int) + 1) := by
  by_cases q : (rnQ ws 0 W).2 = 0
  · rw [if_pos q]
    refine Or.inl ⟨rfl, fun i => ?_⟩
    rw [rnQ_ocN hw] at q
    cases h : atW ws W i with
    | false => rfl
    | true =>
      have hl := atW_len h hw
      have := smN_ge (f := fun i => if atW ws W i = true then 1 else 0) W.length (i := i) (by omega)
      rw [if_pos h] at this
      unfold ocN at q
      omega
  · rw [if_neg q]
    obtain ⟨a1, a2, a3⟩ := fhQ_ok hw W [] 0 (stQ_0 hw) q
    generalize fhQ ws 0 W = f at *
    rw [List.append_nil] at a2
    obtain ⟨i, hi, ha⟩ := (hit_at (W.drop (f + 1)) hw).mp a2
    rw [List.reverse_reverse, List.take_append_drop] at ha
    rw [List.length_reverse, List.length_take] at hi
    refine Or.inr ⟨i, by omega, ha, fun j hj => ?_⟩
    cases h : atW ws W j with
    | false => rfl
    | true =>
      have hl := atW_len h hw
      refine absurd ?_ (a3 (j + ws.length - 1) (by omega))
      rw [List.append_nil]
      refine (hit_at (W.drop (j + ws.length - 1 + 1)) hw).mpr ⟨j, ?_, ?_⟩
      · rw [List.length_reverse, List.length_take]
        omega
      · rw [List.reverse_reverse, List.take_append_drop]
        exact h
