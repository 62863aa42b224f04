/-! PURE: streets, nights, what letters become -/
/-- what a letter is at last, by the tables of its nights -/
def exl (bec : Nat → Nat → List Nat) : List Nat → Nat → List Nat
  | [], c => [c]
  | t :: ts, c => (bec t c).flatMap (exl bec ts)
/-- the weight of a row of letters -/
def wsm (g : Nat → Nat) (l : List Nat) : Nat := (l.map g).sum
/-- weights, night by night, cut off at B -/
def swt (B : Nat) (bec : Nat → Nat → List Nat) (g : Nat → Nat) : List Nat → Nat → Nat
  | [], c => g c
  | t :: ts, c => min B ((bec t c).map (swt B bec g ts)).sum
theorem wsm_append (g : Nat → Nat) (a b : List Nat) : wsm g (a ++ b) = wsm g a + wsm g b := by simp [wsm]
theorem wsm_flatMap (g : Nat → Nat) (f : Nat → List Nat) (l : List Nat) : wsm g (l.flatMap f) = (l.map fun d => wsm g (f d)).sum := by
  induction l with
  | nil => rfl
  | cons x t ih => simp [List.flatMap_cons, wsm_append, ih]
theorem min_sum (B : Nat) (f : Nat → Nat) (l : List Nat) : min B (l.map fun d => min B (f d)).sum = min B (l.map f).sum := by
  induction l with
  | nil => rfl
  | cons x t ih =>
    simp only [List.map_cons, List.sum_cons]
    omega
theorem swt_eq (B : Nat) (bec : Nat → Nat → List Nat) (g : Nat → Nat) (hg : ∀ c, g c ≤ B) : ∀ (ts : List Nat) (c : Nat), swt B bec g ts c = min B (wsm g (exl bec ts c))
  | [], c => by simp [swt, exl, wsm]; have := hg c; omega
  | t :: ts, c => by
    have e : (bec t c).map (swt B bec g ts) = (bec t c).map (fun d => min B (wsm g (exl bec ts d))) := List.map_congr_left fun d _ => swt_eq B bec g hg ts d
    simp only [swt, exl, e, min_sum, wsm_flatMap]
theorem wsm_one (l : List Nat) : wsm (fun _ => 1) l = l.length := by
  induction l with
  | nil => rfl
  | cons x t ih => simp [wsm] at ih ⊢; omega
theorem wsm_cnt (x : Nat) (l : List Nat) : wsm (fun c => if c = x then 1 else 0) l = l.count x := by
  induction l with
  | nil => rfl
  | cons y t ih =>
    simp only [wsm, List.map_cons, List.sum_cons, List.count_cons] at ih ⊢
    rw [ih]
    by_cases e : y = x <;> simp [e] <;> omega
/-! the fixed cells: 0..123 the system's, 124..152 the reference's -/
def kFl : List (Nat × Nat) := [(1, 33), (2, 10), (100, 12), (100, 72), (100, 18), (100, 5), (3, 7), (100, 60), (101, 366), (101, 366), (3, 7), (100, 60), (101, 366), (101, 366), (102, 900), (110, 10), (3, 7), (100, 60), (101, 366), (101, 366), (3, 7), (100, 60), (101, 366), (101, 366), (3, 7), (100, 60), (101, 366), (101, 366), (3, 7), (100, 60), (101, 366), (101, 366), (3, 7), (100, 60), (101, 366), (101, 366), (3, 7), (100, 60), (101, 366), (101, 366), (3, 7), (100, 60), (101, 366), (101, 366), (3, 7), (100, 60), (101, 366), (101, 366), (3, 7), (100, 60), (101, 366), (101, 366), (3, 7), (100, 60), (101, 366), (101, 366), (100, 6), (100, 12), (111, 6), (4, 6), (100, 6), (100, 6), (4, 6), (100, 6), (100, 6), (4, 6), (100, 6), (100, 6), (4, 6), (100, 6), (100, 6), (4, 6), (100, 6), (100, 6), (4, 6), (100, 6), (100, 6), (111, 6), (4, 6), (100, 6), (100, 6), (4, 6), (100, 6), (100, 6), (4, 6), (100, 6), (100, 6), (4, 6), (100, 6), (100, 6), (4, 6), (100, 6), (100, 6), (4, 6), (100, 6), (100, 6), (4, 6), (100, 6), (100, 6), (100, 7), (100, 6), (101, 60), (100, 9), (100, 64), (100, 64), (100, 8), (101, 6561), (100, 64), (100, 64), (112, 4), (5, 1), (5, 1), (5, 1), (5, 1), (113, 2), (110, 2), (3, 7), (100, 60), (101, 366), (101, 366), (3, 7), (100, 60), (101, 366), (101, 366), (6, 45), (100, 3318), (104, 2), (100, 900), (100, 1106), (100, 12), (101, 366), (101, 366), (100, 900), (100, 5), (100, 3), (100, 60), (100, 2196), (100, 6), (101, 2196), (100, 7), (100, 6), (101, 84), (100, 64), (100, 8), (100, 8), (101, 19683), (101, 64), (101, 64), (101, 6), (101, 6), (100, 4), (100, 4), (101, 160)]
/-- kinds and lengths of the fixed cells -/
def kF (i : Nat) : Nat × Nat := kFl.getD i (0, 0)
/-- references that stay: cell, place, to -/
def rFl : List (Nat × Nat × Nat) := [(0, 1, 6), (0, 2, 10), (0, 3, 14), (0, 7, 15), (0, 11, 56), (0, 12, 57), (0, 14, 58), (0, 15, 77), (0, 16, 96), (0, 17, 99), (0, 18, 100), (0, 19, 101), (0, 20, 102), (0, 21, 103), (0, 22, 104), (0, 23, 105), (0, 24, 106), (0, 28, 107), (0, 29, 108), (0, 30, 109), (0, 31, 114), (0, 32, 115), (1, 0, 2), (1, 1, 3), (1, 2, 4), (1, 3, 5), (6, 0, 7), (6, 1, 8), (6, 2, 9), (6, 6, 0), (10, 0, 11), (10, 1, 12), (10, 2, 13), (10, 6, 0), (15, 0, 16), (15, 1, 20), (15, 2, 24), (15, 3, 28), (15, 4, 32), (15, 5, 36), (15, 6, 40), (15, 7, 44), (15, 8, 48), (15, 9, 52), (16, 0, 17), (16, 1, 18), (16, 2, 19), (16, 6, 0), (20, 0, 21), (20, 1, 22), (20, 2, 23), (20, 6, 0), (24, 0, 25), (24, 1, 26), (24, 2, 27), (24, 6, 0), (28, 0, 29), (28, 1, 30), (28, 2, 31), (28, 6, 0), (32, 0, 33), (32, 1, 34), (32, 2, 35), (32, 6, 0), (36, 0, 37), (36, 1, 38), (36, 2, 39), (36, 6, 0), (40, 0, 41), (40, 1, 42), (40, 2, 43), (40, 6, 0), (44, 0, 45), (44, 1, 46), (44, 2, 47), (44, 6, 0), (48, 0, 49), (48, 1, 50), (48, 2, 51), (48, 6, 0), (52, 0, 53), (52, 1, 54), (52, 2, 55), (52, 6, 0), (58, 0, 59), (58, 1, 62), (58, 2, 65), (58, 3, 68), (58, 4, 71), (58, 5, 74), (59, 0, 60), (59, 1, 61), (59, 5, 0), (62, 0, 63), (62, 1, 64), (62, 5, 0), (65, 0, 66), (65, 1, 67), (65, 5, 0), (68, 0, 69), (68, 1, 70), (68, 5, 0), (71, 0, 72), (71, 1, 73), (71, 5, 0), (74, 0, 75), (74, 1, 76), (74, 5, 0), (77, 0, 78), (77, 1, 81), (77, 2, 84), (77, 3, 87), (77, 4, 90), (77, 5, 93), (78, 0, 79), (78, 1, 80), (78, 5, 0), (81, 0, 82), (81, 1, 83), (81, 5, 0), (84, 0, 85), (84, 1, 86), (84, 5, 0), (87, 0, 88), (87, 1, 89), (87, 5, 0), (90, 0, 91), (90, 1, 92), (90, 5, 0), (93, 0, 94), (93, 1, 95), (93, 5, 0), (96, 0, 97), (96, 1, 98), (96, 5, 0), (109, 0, 110), (109, 1, 111), (109, 2, 112), (109, 3, 113), (115, 0, 116), (115, 1, 120), (116, 0, 117), (116, 1, 118), (116, 2, 119), (116, 6, 0), (120, 0, 121), (120, 1, 122), (120, 2, 123), (120, 6, 0), (124, 1, 125), (124, 2, 126), (124, 3, 127), (124, 4, 128), (124, 15, 129), (124, 16, 130), (124, 17, 131), (124, 19, 132), (124, 20, 133), (124, 21, 134), (124, 24, 135), (124, 26, 136), (124, 27, 137), (124, 28, 138), (124, 30, 139), (124, 31, 140), (124, 32, 141), (124, 33, 142), (124, 34, 143), (124, 35, 144), (124, 36, 145), (124, 38, 146), (124, 39, 147), (124, 40, 148), (124, 41, 149), (124, 42, 150), (124, 43, 151), (124, 44, 152)]
def FxA (h : AH) : Prop := 153 ≤ nN h ∧ (∀ i, i < 153 → hkd h i = kF i) ∧ ∀ q ∈ rFl, hdt h q.1 q.2.1 = ((q.2.2 : Nat) : Int)
/-- a place that no fixed reference has -/
def frA (a j : Nat) : Bool := rFl.all fun q => !(q.1 == a && q.2.1 == j)
def frR (a : Nat) : Bool := rFl.all fun q => !(q.1 == a)
theorem FxA.k {h : AH} (hF : FxA h) (i : Nat) (hi : i < 153) {k : Nat × Nat} (e : kF i = k) : hkd h i = k := (hF.2.1 i hi).trans e
theorem FxA.r {h : AH} (hF : FxA h) {i j v : Nat} (hm : (i, j, v) ∈ rFl) : hdt h i j = ((v : Nat) : Int) := hF.2.2 (i, j, v) hm
theorem FxA.hrw {h : AH} (hF : FxA h) {a : Nat} (ha : frR a = true) (f : Nat → Int) : FxA (hrw h a f) := by
  refine ⟨hF.1, hF.2.1, fun q hq => ?_⟩
  have := List.all_eq_true.mp ha q hq
  rw [hdt_hrw_n _ _ (by simpa using this)]
  exact hF.2.2 q hq
theorem FxA.hwr {h : AH} (hF : FxA h) {a j : Nat} (ha : frA a j = true) (v : Int) : FxA (hwr h a j v) := by
  refine ⟨hF.1, hF.2.1, fun q hq => ?_⟩
  have h1 := List.all_eq_true.mp ha q hq
  rw [hdt_hwr]
  split
  next e =>
    rw [fup_n]
    · rw [← e]; exact hF.2.2 q hq
    · intro e2
      rw [e, e2] at h1
      simp at h1
  next => exact hF.2.2 q hq
theorem frR_dyn {a : Nat} (h : 153 ≤ a) : frR a = true := by
  unfold frR
  rw [List.all_eq_true]
  intro q hq
  have : ∀ q ∈ rFl, q.1 < 153 := by decide +kernel
  have := this q hq
  have : ¬ q.1 = a := by omega
  simp [this]
theorem take_sum (w : Nat → Nat) (l : List Nat) {i : Nat} (hi : i < l.length) : ((l.take (i + 1)).map w).sum = ((l.take i).map w).sum + w (l.getD i 0) := by
  rw [List.take_add_one, List.map_append, List.sum_append]
  congr 1
  rw [List.getElem?_eq_getElem hi]
  simp [hi]
theorem drop_cons {l : List Nat} {k : Nat} (hk : k < l.length) : l.drop k = l.getD k 0 :: l.drop (k + 1) := by
  rw [List.drop_eq_getElem_cons hk]
  simp [hk]
theorem getD_mem {l : List Nat} {k : Nat} (hk : k < l.length) : l.getD k 0 ∈ l := by
  simp [hk]
theorem swt_le (B : Nat) (bec : Nat → Nat → List Nat) (g : Nat → Nat) (hg : ∀ c, g c ≤ B) (ts : List Nat) (c : Nat) : swt B bec g ts c ≤ B := by
  cases ts with
  | nil => exact hg c
  | cons t ts => exact Nat.min_le_left _ _
theorem sum_le (w : Nat → Nat) (B : Nat) (hw : ∀ c, w c ≤ B) (l : List Nat) : (l.map w).sum ≤ l.length * B := by
  induction l with
  | nil => simp
  | cons x t ih =>
    have := hw x
    simp only [List.map_cons, List.sum_cons, List.length_cons, Nat.add_mul]
    omega
/-! rows of rows: where a place of the whole lies -/
theorem fm_len (f : Nat → List Nat) (l : List Nat) {i : Nat} (hi : i ≤ l.length) : ((l.take i).map fun d => (f d).length).sum ≤ (l.flatMap f).length := by
  have e : (l.flatMap f) = (l.take i).flatMap f ++ (l.drop i).flatMap f := by rw [← List.flatMap_append, List.take_append_drop]
  rw [e, List.length_append, List.length_flatMap]
  exact Nat.le_add_right _ _
theorem fm_len1 (f : Nat → List Nat) {l : List Nat} {d : Nat} (hd : d ∈ l) : (f d).length ≤ (l.flatMap f).length := by
  induction l with
  | nil => cases hd
  | cons x t ih =>
    rw [List.flatMap_cons, List.length_append]
    rcases List.mem_cons.mp hd with rfl | h
    · exact Nat.le_add_right _ _
    · exact Nat.le_trans (ih h) (Nat.le_add_left _ _)
theorem fm_split (f : Nat → List Nat) (l : List Nat) {i : Nat} (hi : i < l.length) : l.flatMap f = (l.take i).flatMap f ++ (f (l.getD i 0) ++ (l.drop (i + 1)).flatMap f) := by
  conv => lhs; rw [← List.take_append_drop i l, List.flatMap_append, drop_cons hi, List.flatMap_cons]
theorem fm_at (f : Nat → List Nat) (l : List Nat) {i q : Nat} (hi : i < l.length) (hq : q < (f (l.getD i 0)).length) : (l.flatMap f).getD (((l.take i).map fun d => (f d).length).sum + q) 0 = (f (l.getD i 0)).getD q 0 := by
  rw [fm_split f l hi]
  have e : ((l.take i).map fun d => (f d).length).sum = ((l.take i).flatMap f).length := by rw [List.length_flatMap]
  rw [e]
  generalize f (l.getD i 0) = z at hq ⊢
  simp only [List.getD_eq_getElem?_getD]
  rw [List.getElem?_append_right (Nat.le_add_right _ _), Nat.add_sub_cancel_left, List.getElem?_append_left hq]
theorem fm_take (f : Nat → List Nat) (l : List Nat) {i q : Nat} (hi : i < l.length) (hq : q ≤ (f (l.getD i 0)).length) : (l.flatMap f).take (((l.take i).map fun d => (f d).length).sum + q) = (l.take i).flatMap f ++ (f (l.getD i 0)).take q := by
  rw [fm_split f l hi]
  have e : ((l.take i).map fun d => (f d).length).sum = ((l.take i).flatMap f).length := by rw [List.length_flatMap]
  rw [e, List.take_append, List.take_of_length_le (Nat.le_add_right _ _), Nat.add_sub_cancel_left, List.take_append_of_le_length hq]
/-- some row holds the place -/
theorem fm_in (f : Nat → List Nat) (l : List Nat) {i p : Nat} (hi : i ≤ l.length) (hp : p < (l.flatMap f).length) (h : ((l.take i).map fun d => (f d).length).sum ≤ p) : i < l.length := by
  rcases Nat.lt_or_ge i l.length with q | q
  · exact q
  · rw [List.take_of_length_le q, ← List.length_flatMap] at h
    omega
/-- the whole street, after its nights -/
def wrd (bec : Nat → Nat → List Nat) (std tbl : List Nat) : List Nat := std.flatMap (exl bec tbl)
theorem exl_lt {bec : Nat → Nat → List Nat} (hb : ∀ t c, t < 3 → c < 6 → ∀ d ∈ bec t c, d < 6) : ∀ (ts : List Nat), (∀ t ∈ ts, t < 3) → ∀ c, c < 6 → ∀ d ∈ exl bec ts c, d < 6
  | [], _, c, hc, d, hd => by simp [exl] at hd; omega
  | t :: ts, ht, c, hc, d, hd => by
    simp only [exl, List.mem_flatMap] at hd
    obtain ⟨x, hx, hd⟩ := hd
    exact exl_lt hb ts (fun t h => ht t (List.mem_cons_of_mem _ h)) x (hb t c (ht t List.mem_cons_self) hc x hx) d hd
