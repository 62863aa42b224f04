/-! PURE: to which letters each comes; rows of letters that come again -/
set_option maxRecDepth 100000
def rcW (n : Nat) (g : Nat → Nat) : Nat → Nat := fun c => if (g c).testBit n then g c ||| g n else g c
def rcN (bec : Nat → Nat → List Nat) (t : Nat) : Nat → Nat → Nat
  | 0 => fun c => orL (bec t c) 0
  | n + 1 => rcW n (rcN bec t n)
abbrev rcP (bec : Nat → Nat → List Nat) (t : Nat) : Nat → Nat := rcN bec t 6
theorem rcN_lt {bec : Nat → Nat → List Nat} {t : Nat} (hb : ∀ c, c < 6 → ∀ d ∈ bec t c, d < 6) : ∀ n, n ≤ 6 → ∀ c, c < 6 → rcN bec t n c < 64
  | 0, _, c, hc => orL_lt _ _ (hb c hc) (by decide)
  | n + 1, hn, c, hc => by
    show (if (rcN bec t n c).testBit n then rcN bec t n c ||| rcN bec t n n else rcN bec t n c) < 64
    split
    · exact Nat.or_lt_two_pow (n := 6) (rcN_lt hb n (by omega) c hc) (rcN_lt hb n (by omega) n (by omega))
    · exact rcN_lt hb n (by omega) c hc
theorem rcW_bit (n : Nat) (g : Nat → Nat) (x y : Nat) : (rcW n g x).testBit y = true ↔ (g x).testBit y = true ∨ ((g x).testBit n = true ∧ (g n).testBit y = true) := by
  unfold rcW
  by_cases q : (g x).testBit n = true
  · rw [if_pos q, Nat.testBit_or, Bool.or_eq_true]
    exact ⟨fun h => h.elim Or.inl fun h => Or.inr ⟨q, h⟩, fun h => h.elim Or.inl fun h => Or.inr h.2⟩
  · rw [if_neg q]
    exact ⟨Or.inl, fun h => h.elim id fun h => absurd h.1 q⟩
theorem rcN_tr (bec : Nat → Nat → List Nat) (t : Nat) : ∀ n x k y, k < n → (rcN bec t n x).testBit k = true → (rcN bec t n k).testBit y = true → (rcN bec t n x).testBit y = true
  | 0, x, k, y, h, _, _ => absurd h (Nat.not_lt_zero _)
  | n + 1, x, k, y, hk, h1, h2 => by
    have ih := rcN_tr bec t n
    have h1 := (rcW_bit n (rcN bec t n) x k).mp h1
    have h2 := (rcW_bit n (rcN bec t n) k y).mp h2
    refine (rcW_bit n (rcN bec t n) x y).mpr ?_
    by_cases e : k = n
    · subst e
      have a1 : (rcN bec t k x).testBit k = true := h1.elim id fun h => h.1
      have a2 : (rcN bec t k k).testBit y = true := h2.elim id fun h => h.2
      exact Or.inr ⟨a1, a2⟩
    · have hkn : k < n := by omega
      rcases h1 with h1 | ⟨h1, h1'⟩ <;> rcases h2 with h2 | ⟨h2, h2'⟩
      · exact Or.inl (ih x k y hkn h1 h2)
      · exact Or.inr ⟨ih x k n hkn h1 h2, h2'⟩
      · exact Or.inr ⟨h1, ih n k y hkn h1' h2⟩
      · exact Or.inr ⟨h1, h2'⟩
/-- what is told of the relation: letters below 6, through which it goes on -/
def TrG (g : Nat → Nat) : Prop := ∀ x k y, k < 6 → (g x).testBit k = true → (g k).testBit y = true → (g x).testBit y = true
theorem rcP_tr (bec : Nat → Nat → List Nat) (t : Nat) : TrG (rcP bec t) := fun x k y hk => rcN_tr bec t 6 x k y hk
abbrev allM (g : Nat → Nat) (c : Nat) : Nat := g c ||| 2 ^ c
theorem allM_bit (g : Nat → Nat) (c y : Nat) : (allM g c).testBit y = true ↔ (g c).testBit y = true ∨ y = c := by
  rw [Nat.testBit_or, Bool.or_eq_true, Nat.testBit_two_pow]
  simp only [decide_eq_true_eq]
  exact ⟨fun h => h.imp id Eq.symm, fun h => h.imp id Eq.symm⟩
/-- the greatest below n -/
def mxW (F : Nat → Nat) : Nat → Nat
  | 0 => 0
  | n + 1 => if mxW F n < F n then F n else mxW F n
theorem mxW_s (F : Nat → Nat) (n : Nat) : mxW F (n + 1) = if mxW F n < F n then F n else mxW F n := rfl
theorem mxW_ge {F : Nat → Nat} : ∀ n i, i < n → F i ≤ mxW F n
  | 0, i, h => by omega
  | n + 1, i, h => by
    rw [mxW_s]
    by_cases e : i = n
    · rw [e]
      split <;> omega
    · have := mxW_ge (F := F) n i (by omega)
      split <;> omega
theorem mxW_le {F : Nat → Nat} {B : Nat} : ∀ n, (∀ i, i < n → F i ≤ B) → mxW F n ≤ B
  | 0, _ => Nat.zero_le _
  | n + 1, h => by
    rw [mxW_s]
    split
    · exact h n (by omega)
    · exact mxW_le n fun i hi => h i (by omega)
theorem mxW_congr {F H : Nat → Nat} (n : Nat) (h : ∀ i, i < n → F i = H i) : mxW F n = mxW H n :=
  Nat.le_antisymm (mxW_le n fun i hi => by rw [h i hi]; exact mxW_ge n i hi) (mxW_le n fun i hi => by rw [← h i hi]; exact mxW_ge n i hi)
def rkG (g : Nat → Nat) (x : Nat) : Nat := smN (fun z => if (allM g x).testBit z then 1 else 0) 6
theorem smN_lt {f g : Nat → Nat} {k : Nat} : ∀ n, (∀ i, i < n → f i ≤ g i) → k < n → f k < g k → smN f n < smN g n
  | 0, _, h, _ => by omega
  | n + 1, h, hk, hl => by
    show smN f n + f n < smN g n + g n
    have h1 := h n (by omega)
    by_cases e : k = n
    · subst e
      have := smN_le k fun i hi => h i (by omega)
      omega
    · have := smN_lt n (fun i hi => h i (by omega)) (by omega) hl
      omega
theorem rkG_lt {g : Nat → Nat} (hg : TrG g) {x y : Nat} (hx : x < 6) (hy : y < 6) (h1 : (g x).testBit y = true) (h2 : ¬ (g y).testBit x = true) : rkG g y < rkG g x := by
  unfold rkG
  have hxy : x ≠ y := fun e => h2 (by rw [e] at h1 ⊢; exact h1)
  refine smN_lt (k := x) 6 (fun i _ => ?_) hx ?_
  · by_cases q : (allM g y).testBit i = true
    · have : (allM g x).testBit i = true := by
        rw [allM_bit] at q ⊢
        rcases q with q | q
        · exact Or.inl (hg x y i hy h1 q)
        · rw [q]; exact Or.inl h1
      rw [if_pos q, if_pos this]
      exact Nat.le_refl _
    · rw [if_neg q]
      exact Nat.zero_le _
  · have q1 : ¬ (allM g y).testBit x = true := by
      rw [allM_bit]
      rintro (q | q)
      · exact h2 q
      · exact hxy q
    have q2 : (allM g x).testBit x = true := by rw [allM_bit]; exact Or.inr rfl
    rw [if_neg q1, if_pos q2]
    exact Nat.zero_lt_one
theorem rkG_pos {g : Nat → Nat} {x : Nat} (hx : x < 6) : 1 ≤ rkG g x := by
  have q2 : (allM g x).testBit x = true := by rw [allM_bit]; exact Or.inr rfl
  have := smN_ge (f := fun z => if (allM g x).testBit z then 1 else 0) 6 hx
  rw [if_pos q2] at this
  exact this
theorem rkG_6 (g : Nat → Nat) (x : Nat) : rkG g x ≤ 6 := by
  have := smN_le (f := fun z => if (allM g x).testBit z then 1 else 0) (g := fun _ => 1) 6 (fun i _ => by split <;> omega)
  rw [smN_const] at this
  exact this
/-- one behind the other, from one that comes to itself again on -/
def rwF (g : Nat → Nat) : Nat → Nat → Nat
  | 0, _ => 0
  | f + 1, c => mxW (fun to => if (g c).testBit to = true ∧ (g to).testBit to = true ∧ ¬ (g to).testBit c = true then rwF g f to else 0) 6 + 1
def mosF (g : Nat → Nat) (f c : Nat) : Nat := mxW (fun one => if (allM g c).testBit one = true ∧ (g one).testBit one = true then rwF g f one else 0) 6
/-- the same, as the system has it -/
def chF (g : Nat → Nat) : Nat → Nat → Nat
  | 0, _ => 0
  | f + 1, x => mxW (fun y => if (g x).testBit y = true ∧ ¬ (g y).testBit x = true then chF g f y else 0) 6 + if (g x).testBit x = true then 1 else 0
theorem rwF_st {g : Nat → Nat} (hg : TrG g) : ∀ f c, c < 6 → rkG g c ≤ f → rwF g (f + 1) c = rwF g f c
  | 0, c, hc, h => by have := rkG_pos (g := g) hc; omega
  | f + 1, c, hc, h => by
    show mxW _ 6 + 1 = mxW _ 6 + 1
    congr 1
    refine mxW_congr 6 fun to hto => ?_
    by_cases q : (g c).testBit to = true ∧ (g to).testBit to = true ∧ ¬ (g to).testBit c = true
    · rw [if_pos q, if_pos q]
      exact rwF_st hg f to hto (by have := rkG_lt hg hc hto q.1 q.2.2; omega)
    · rw [if_neg q, if_neg q]
theorem rwF_le (g : Nat → Nat) : ∀ f c, rwF g f c ≤ f
  | 0, _ => Nat.le_refl _
  | f + 1, c => by
    refine Nat.succ_le_succ (mxW_le 6 fun i _ => ?_)
    split
    · exact rwF_le g f i
    · exact Nat.zero_le _
theorem mosF_le (g : Nat → Nat) (f c : Nat) : mosF g f c ≤ f := mxW_le 6 fun i _ => by
  split
  · exact rwF_le g f i
  · exact Nat.zero_le _
theorem chF_mos {g : Nat → Nat} (hg : TrG g) : ∀ f x, x < 6 → rkG g x ≤ f → chF g f x = mosF g f x
  | 0, x, hx, h => by have := rkG_pos (g := g) hx; omega
  | f + 1, x, hx, h => by
    have key : mxW (fun y => if (g x).testBit y = true ∧ ¬ (g y).testBit x = true then chF g f y else 0) 6 = mxW (fun to => if (g x).testBit to = true ∧ (g to).testBit to = true ∧ ¬ (g to).testBit x = true then rwF g f to else 0) 6 := by
      refine Nat.le_antisymm (mxW_le 6 fun y hy => ?_) (mxW_le 6 fun y hy => ?_)
      · by_cases q : (g x).testBit y = true ∧ ¬ (g y).testBit x = true
        · rw [if_pos q, chF_mos hg f y hy (by have := rkG_lt hg hx hy q.1 q.2; omega)]
          refine mxW_le 6 fun one h1 => ?_
          by_cases q2 : (allM g y).testBit one = true ∧ (g one).testBit one = true
          · rw [if_pos q2]
            have a1 : (g x).testBit one = true := by
              rcases (allM_bit g y one).mp q2.1 with a | a
              · exact hg x y one hy q.1 a
              · rw [a]; exact q.1
            have a2 : ¬ (g one).testBit x = true := fun a => by
              rcases (allM_bit g y one).mp q2.1 with b | b
              · exact q.2 (hg y one x h1 b a)
              · rw [b] at a; exact q.2 a
            have := mxW_ge (F := fun to => if (g x).testBit to = true ∧ (g to).testBit to = true ∧ ¬ (g to).testBit x = true then rwF g f to else 0) 6 one h1
            rw [if_pos ⟨a1, q2.2, a2⟩] at this
            exact this
          · rw [if_neg q2]; exact Nat.zero_le _
        · rw [if_neg q]; exact Nat.zero_le _
      · by_cases q : (g x).testBit y = true ∧ (g y).testBit y = true ∧ ¬ (g y).testBit x = true
        · rw [if_pos q]
          have h1 := mxW_ge (F := fun y => if (g x).testBit y = true ∧ ¬ (g y).testBit x = true then chF g f y else 0) 6 y hy
          rw [if_pos ⟨q.1, q.2.2⟩, chF_mos hg f y hy (by have := rkG_lt hg hx hy q.1 q.2.2; omega)] at h1
          refine Nat.le_trans ?_ h1
          have h2 := mxW_ge (F := fun one => if (allM g y).testBit one = true ∧ (g one).testBit one = true then rwF g f one else 0) 6 y hy
          rw [if_pos ⟨(allM_bit g y y).mpr (Or.inr rfl), q.2.1⟩] at h2
          exact h2
        · rw [if_neg q]; exact Nat.zero_le _
    show mxW (fun y => if (g x).testBit y = true ∧ ¬ (g y).testBit x = true then chF g f y else 0) 6 + (if (g x).testBit x = true then 1 else 0) = mosF g (f + 1) x
    rw [key]
    generalize hM : mxW (fun to => if (g x).testBit to = true ∧ (g to).testBit to = true ∧ ¬ (g to).testBit x = true then rwF g f to else 0) 6 = M
    have hMge : ∀ to, to < 6 → (g x).testBit to = true → (g to).testBit to = true → ¬ (g to).testBit x = true → rwF g f to ≤ M := fun to hto a1 a2 a3 => by
      have := mxW_ge (F := fun to => if (g x).testBit to = true ∧ (g to).testBit to = true ∧ ¬ (g to).testBit x = true then rwF g f to else 0) 6 to hto
      rw [if_pos ⟨a1, a2, a3⟩, hM] at this
      exact this
    by_cases qs : (g x).testBit x = true
    · rw [if_pos qs]
      refine Nat.le_antisymm ?_ (mxW_le 6 fun one h1 => ?_)
      · have h2 := mxW_ge (F := fun one => if (allM g x).testBit one = true ∧ (g one).testBit one = true then rwF g (f + 1) one else 0) 6 x hx
        rw [if_pos ⟨(allM_bit g x x).mpr (Or.inr rfl), qs⟩] at h2
        rw [← hM]
        exact h2
      · by_cases q : (allM g x).testBit one = true ∧ (g one).testBit one = true
        · rw [if_pos q]
          have ax : (g x).testBit one = true := by
            rcases (allM_bit g x one).mp q.1 with a | a
            · exact a
            · rw [a]; exact qs
          by_cases q2 : (g one).testBit x = true
          · show mxW _ 6 + 1 ≤ M + 1
            refine Nat.succ_le_succ (mxW_le 6 fun to hto => ?_)
            by_cases q3 : (g one).testBit to = true ∧ (g to).testBit to = true ∧ ¬ (g to).testBit one = true
            · rw [if_pos q3]
              exact hMge to hto (hg x one to h1 ax q3.1) q3.2.1 (fun a => q3.2.2 (hg to x one hx a ax))
            · rw [if_neg q3]; exact Nat.zero_le _
          · rw [rwF_st hg f one h1 (by have := rkG_lt hg hx h1 ax q2; omega)]
            have := hMge one h1 ax q.2 q2
            omega
        · rw [if_neg q]; exact Nat.zero_le _
    · rw [if_neg qs, Nat.add_zero]
      refine Nat.le_antisymm ?_ (mxW_le 6 fun one h1 => ?_)
      · rw [← hM]
        refine mxW_le 6 fun to hto => ?_
        by_cases q : (g x).testBit to = true ∧ (g to).testBit to = true ∧ ¬ (g to).testBit x = true
        · rw [if_pos q, ← rwF_st hg f to hto (by have := rkG_lt hg hx hto q.1 q.2.2; omega)]
          have h2 := mxW_ge (F := fun one => if (allM g x).testBit one = true ∧ (g one).testBit one = true then rwF g (f + 1) one else 0) 6 to hto
          rw [if_pos ⟨(allM_bit g x to).mpr (Or.inl q.1), q.2.1⟩] at h2
          exact h2
        · rw [if_neg q]; exact Nat.zero_le _
      · by_cases q : (allM g x).testBit one = true ∧ (g one).testBit one = true
        · rw [if_pos q]
          have ax : (g x).testBit one = true := by
            rcases (allM_bit g x one).mp q.1 with a | a
            · exact a
            · rw [a] at q; exact absurd q.2 qs
          have q2 : ¬ (g one).testBit x = true := fun a => qs (hg x one x h1 ax a)
          rw [rwF_st hg f one h1 (by have := rkG_lt hg hx h1 ax q2; omega)]
          exact hMge one h1 ax q.2 q2
        · rw [if_neg q]; exact Nat.zero_le _
def dblN (bec : Nat → Nat → List Nat) (t : Nat) (g : Nat → Nat) (y : Nat) : Nat → Nat := smN fun i => if (allM g ((bec t y).getD i 0)).testBit y then 1 else 0
def dblF (bec : Nat → Nat → List Nat) (t : Nat) (g : Nat → Nat) (y : Nat) : Bool := decide (1 < dblN bec t g y (bec t y).length)
def anF (P : Nat → Bool) : Nat → Bool
  | 0 => false
  | n + 1 => anF P n || P n
theorem anF_t {P : Nat → Bool} {i : Nat} (h : P i = true) : ∀ n, i < n → anF P n = true
  | 0, hi => by omega
  | n + 1, hi => by
    show (anF P n || P n) = true
    by_cases e : i = n
    · rw [← e, h, Bool.or_true]
    · rw [anF_t h n (by omega), Bool.true_or]
theorem anF_f {P : Nat → Bool} : ∀ n, (∀ i, i < n → P i = false) → anF P n = false
  | 0, _ => rfl
  | n + 1, h => by
    show (anF P n || P n) = false
    rw [anF_f n fun i hi => h i (by omega), h n (by omega)]
    rfl
abbrev fatB (bec : Nat → Nat → List Nat) (t c y : Nat) : Bool := (allM (rcP bec t) c).testBit y && dblF bec t (rcP bec t) y
def fatF (bec : Nat → Nat → List Nat) (t c : Nat) : Nat := if anF (fatB bec t c) 6 = true then 3 else min 2 (mosF (rcP bec t) 6 c)
def fatP (s : SP) (t c : Int) : Int := if (0 ≤ t ∧ t < (sT s : Int)) ∧ 0 ≤ c ∧ c ≤ 5 then ((fatF (sB s) t.toNat c.toNat : Nat) : Int) else -2
def degP (s : SP) (t c : Int) : Int := if (0 ≤ t ∧ t < (sT s : Int)) ∧ 0 ≤ c ∧ c ≤ 5 then if fatF (sB s) t.toNat c.toNat = 2 then ((mosF (rcP (sB s) t.toNat) 6 c.toNat : Nat) : Int) - 1 else -1 else -2
theorem dblN_le (bec : Nat → Nat → List Nat) (t : Nat) (g : Nat → Nat) (y : Nat) : ∀ n, dblN bec t g y n ≤ n
  | 0 => Nat.le_refl _
  | n + 1 => by
    have := dblN_le bec t g y n
    show dblN bec t g y n + (if (allM g ((bec t y).getD n 0)).testBit y then 1 else 0) ≤ n + 1
    split <;> omega
