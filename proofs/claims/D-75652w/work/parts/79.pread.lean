/-! PURE: reading a text -/
set_option maxRecDepth 100000
def spW (P : Nat → Bool) (tp : List Nat) (b : Nat) : Nat := b + ((tp.drop b).takeWhile P).length
theorem spW_t {P : Nat → Bool} {tp : List Nat} {b : Nat} (hb : b < tp.length) (h : P (tp.getD b 0) = true) : spW P tp b = spW P tp (b + 1) := by
  unfold spW
  rw [drop_cons hb, List.takeWhile_cons, if_pos h, List.length_cons]
  omega
theorem spW_f {P : Nat → Bool} {tp : List Nat} {b : Nat} (h : ¬ (b < tp.length ∧ P (tp.getD b 0) = true)) : spW P tp b = b := by
  unfold spW
  by_cases hb : b < tp.length
  · rw [drop_cons hb, List.takeWhile_cons, if_neg (fun q => h ⟨hb, q⟩)]
    rfl
  · rw [List.drop_of_length_le (by omega)]
    rfl
theorem spW_ge (P : Nat → Bool) (tp : List Nat) (b : Nat) : b ≤ spW P tp b := Nat.le_add_right _ _
theorem spW_le (P : Nat → Bool) {tp : List Nat} {b : Nat} (hb : b ≤ tp.length) : spW P tp b ≤ tp.length := by
  unfold spW
  have h1 := (List.takeWhile_sublist P (l := tp.drop b)).length_le
  rw [List.length_drop] at h1
  omega
theorem spW_at {P : Nat → Bool} {tp : List Nat} (b j : Nat) (h1 : b ≤ j) (h2 : j < spW P tp b) : j < tp.length ∧ P (tp.getD j 0) = true := by
  obtain ⟨n, rfl⟩ : ∃ n, j = b + n := ⟨j - b, by omega⟩
  induction n generalizing b with
  | zero =>
    by_cases q : b < tp.length ∧ P (tp.getD b 0) = true
    · exact q
    · rw [spW_f q] at h2; omega
  | succ n ih =>
    by_cases q : b < tp.length ∧ P (tp.getD b 0) = true
    · rw [spW_t q.1 q.2] at h2
      have := ih (b + 1) (by omega) (by omega)
      rw [show b + 1 + n = b + (n + 1) by omega] at this
      exact this
    · rw [spW_f q] at h2; omega
theorem spW_end {P : Nat → Bool} {tp : List Nat} (b : Nat) : ¬ (spW P tp b < tp.length ∧ P (tp.getD (spW P tp b) 0) = true) := by
  generalize hn : tp.length - b = n
  induction n generalizing b with
  | zero => have := spW_ge P tp b; intro h; omega
  | succ n ih =>
    by_cases q : b < tp.length ∧ P (tp.getD b 0) = true
    · rw [spW_t q.1 q.2]
      exact ih (b + 1) (by omega)
    · rw [spW_f q]; exact q
def isBl (c : Nat) : Bool := decide (c = 10 ∨ c = 32)
def isSm (c : Nat) : Bool := decide (97 ≤ c ∧ c ≤ 122)
def isDg (c : Nat) : Bool := decide (48 ≤ c ∧ c ≤ 57)
/-- the words that are known: street tables moon stands rule nothing picks sleeps if then else end night front back rest and or not -/
def kws : List (List Nat) := [[115, 116, 114, 101, 101, 116], [116, 97, 98, 108, 101, 115], [109, 111, 111, 110], [115, 116, 97, 110, 100, 115], [114, 117, 108, 101], [110, 111, 116, 104, 105, 110, 103], [112, 105, 99, 107, 115], [115, 108, 101, 101, 112, 115], [105, 102], [116, 104, 101, 110], [101, 108, 115, 101], [101, 110, 100], [110, 105, 103, 104, 116], [102, 114, 111, 110, 116], [98, 97, 99, 107], [114, 101, 115, 116], [97, 110, 100], [111, 114], [110, 111, 116]]
/-- the signs ;:+-*()[]=<> -/
def sgs : List Nat := [59, 58, 43, 45, 42, 40, 41, 91, 93, 61, 60, 62]
/-- where a thing is first from i on, of n in all; none: z -/
def fiN (P : Nat → Bool) (z : Nat) : Nat → Nat → Nat
  | 0, _ => z
  | n + 1, i => if P i = true then i else fiN P z n (i + 1)
def kwI (S : List Nat) : Nat := fiN (fun i => kws.getD i [] == S) 22 19 0
def sgI (c : Nat) : Nat := fiN (fun i => sgs.getD (i - 30) 0 == c) 25 12 30
def slc (tp : List Nat) (a e : Nat) : List Nat := (tp.drop a).take (e - a)
def nmV (S : List Nat) : Nat := S.foldl (fun v c => 10 * v + (c - 48)) 0
/-- a token behind b: where it begins, where it ends, its kind, its number -/
def tkA (tp : List Nat) (b : Nat) : Nat := spW isBl tp b
def tkE (tp : List Nat) (a : Nat) : Nat := if a < tp.length then if isSm (tp.getD a 0) = true then spW isSm tp a else if isDg (tp.getD a 0) = true then spW isDg tp a else a + 1 else a
def tkB (tp : List Nat) (b : Nat) : Nat := tkE tp (tkA tp b)
def tkC (tp : List Nat) (a : Nat) : Nat := if a < tp.length then if isSm (tp.getD a 0) = true then kwI (slc tp a (spW isSm tp a)) else if isDg (tp.getD a 0) = true then (if 3 < spW isDg tp a - a then 25 else 23) else sgI (tp.getD a 0) else 24
def tkK (tp : List Nat) (b : Nat) : Nat := tkC tp (tkA tp b)
def tkN (tp : List Nat) (b : Nat) : Nat := nmV (slc tp (tkA tp b) (tkB tp b))
theorem fiN_z (P : Nat → Bool) (z : Nat) : ∀ n i, fiN P z n i = z ∨ (i ≤ fiN P z n i ∧ fiN P z n i < i + n ∧ P (fiN P z n i) = true)
  | 0, i => Or.inl rfl
  | n + 1, i => by
    unfold fiN
    by_cases q : P i = true
    · rw [if_pos q]; exact Or.inr ⟨Nat.le_refl _, by omega, q⟩
    · rw [if_neg q]
      rcases fiN_z P z n (i + 1) with h | h
      · exact Or.inl h
      · exact Or.inr ⟨by omega, by omega, h.2.2⟩
theorem kwI_in (S : List Nat) : kwI S = 22 ∨ kwI S < 19 := by
  rcases fiN_z (fun i => kws.getD i [] == S) 22 19 0 with h | h
  · exact Or.inl h
  · exact Or.inr (by have := h.2.1; unfold kwI; omega)
theorem sgI_in (c : Nat) : sgI c = 25 ∨ (30 ≤ sgI c ∧ sgI c < 42) := by
  rcases fiN_z (fun i => sgs.getD (i - 30) 0 == c) 25 12 30 with h | h
  · exact Or.inl h
  · exact Or.inr ⟨h.1, h.2.1⟩
theorem tkE_gt {tp : List Nat} {a : Nat} (h : a < tp.length) : a < tkE tp a ∧ tkE tp a ≤ tp.length := by
  unfold tkE
  rw [if_pos h]
  split
  next q =>
    rw [spW_t h q]
    have := spW_ge isSm tp (a + 1)
    have := spW_le isSm (tp := tp) (b := a + 1) (by omega)
    omega
  next =>
    split
    next q =>
      rw [spW_t h q]
      have := spW_ge isDg tp (a + 1)
      have := spW_le isDg (tp := tp) (b := a + 1) (by omega)
      omega
    next => omega
theorem tkC_24 {tp : List Nat} {a : Nat} : tkC tp a = 24 ↔ ¬ a < tp.length := by
  unfold tkC
  by_cases h : a < tp.length
  · rw [if_pos h]
    constructor
    · intro e
      split at e
      · rcases kwI_in (slc tp a (spW isSm tp a)) with q | q <;> omega
      · split at e
        · split at e <;> omega
        · rcases sgI_in (tp.getD a 0) with q | q <;> omega
    · exact fun q => absurd h q
  · rw [if_neg h]
    exact ⟨fun _ => h, fun _ => rfl⟩
theorem tkA_in {tp : List Nat} {b : Nat} (hb : b ≤ tp.length) : b ≤ tkA tp b ∧ tkA tp b ≤ tp.length := ⟨spW_ge _ _ _, spW_le _ hb⟩
theorem tkB_in {tp : List Nat} {b : Nat} (hb : b ≤ tp.length) : b ≤ tkB tp b ∧ tkB tp b ≤ tp.length ∧ tkA tp b ≤ tkB tp b := by
  obtain ⟨h1, h2⟩ := tkA_in hb
  unfold tkB
  by_cases q : tkA tp b < tp.length
  · have := tkE_gt q
    omega
  · have : tkE tp (tkA tp b) = tkA tp b := if_neg q
    omega
theorem tkB_gt {tp : List Nat} {b : Nat} (hb : b ≤ tp.length) (hk : tkK tp b ≠ 24) : b < tkB tp b ∧ tkB tp b ≤ tp.length ∧ tkA tp b < tkB tp b := by
  obtain ⟨h1, h2⟩ := tkA_in hb
  have q : tkA tp b < tp.length := by
    by_cases q : tkA tp b < tp.length
    · exact q
    · exact absurd (tkC_24.mpr q) hk
  have := tkE_gt q
  unfold tkB
  omega
theorem nmV_le : ∀ (S : List Nat), (∀ c ∈ S, c ≤ 57) → S.length ≤ 3 → nmV S ≤ 999
  | [], _, _ => by decide
  | [a], h, _ => by have := h a (by simp); simp [nmV]; omega
  | [a, b], h, _ => by have := h a (by simp); have := h b (by simp); simp [nmV]; omega
  | [a, b, c], h, _ => by have := h a (by simp); have := h b (by simp); have := h c (by simp); simp [nmV]; omega
  | _ :: _ :: _ :: _ :: _, _, h => by simp at h
theorem tkC_23 {tp : List Nat} {a : Nat} (h : tkC tp a = 23) : a < tp.length ∧ isDg (tp.getD a 0) = true ∧ ¬ isSm (tp.getD a 0) = true ∧ spW isDg tp a - a ≤ 3 := by
  unfold tkC at h
  by_cases q : a < tp.length
  · rw [if_pos q] at h
    split at h
    · rcases kwI_in (slc tp a (spW isSm tp a)) with q | q <;> omega
    next q1 =>
      split at h
      next q2 =>
        split at h
        · omega
        next q3 => exact ⟨q, q2, q1, by omega⟩
      · rcases sgI_in (tp.getD a 0) with q | q <;> omega
  · rw [if_neg q] at h; omega
theorem slc_mem {tp : List Nat} {a e c : Nat} (h : c ∈ slc tp a e) : ∃ j, a ≤ j ∧ j < e ∧ tp.getD j 0 = c := by
  unfold slc at h
  obtain ⟨i, hi, e1⟩ := List.getElem_of_mem h
  rw [List.length_take, List.length_drop] at hi
  rw [List.getElem_take, List.getElem_drop] at e1
  refine ⟨a + i, by omega, by omega, ?_⟩
  rw [List.getD_eq_getElem?_getD, List.getElem?_eq_getElem (by omega)]
  exact e1
theorem tkN_le {tp : List Nat} {b : Nat} (h : tkK tp b = 23) : tkN tp b ≤ 999 := by
  obtain ⟨h1, h2, h3, h4⟩ := tkC_23 h
  have hB : tkB tp b = spW isDg tp (tkA tp b) := by
    unfold tkB tkE
    rw [if_pos h1, if_neg h3, if_pos h2]
  refine nmV_le _ (fun c hc => ?_) ?_
  · obtain ⟨j, j1, j2, rfl⟩ := slc_mem hc
    rw [hB] at j2
    have := (spW_at _ j j1 j2).2
    unfold isDg at this
    rw [decide_eq_true_eq] at this
    exact this.2
  · unfold slc
    rw [List.length_take, List.length_drop, hB]
    omega
/-! laws: reading them -/
abbrev LV : Type := List Nat × (WdF → Int)
abbrev PRs : Type := (Nat × Nat) ⊕ (Nat × LV)
def flP (tp : List Nat) (b k : Nat) : Nat × Nat := (if tkK tp b = 25 then 1 else k, tkA tp b)
/-- what is to be read: 0 atom 1 ask 2 term 3 more of a term 4 sum 5 more of a sum 6 unit 7 both 8 more of both 9 truth 10 more of a truth; what has been read -/
abbrev NT : Type := Nat × LV
def lv0 : LV := ([], fun _ => 0)
def bnP (o : Option PRs) (k : Nat → LV → Option PRs) : Option PRs := match o with
  | none => none
  | some (.inl e) => some (.inl e)
  | some (.inr q) => k q.1 q.2
def wdI (k : Nat) : Nat := if k = 12 then 0 else if k = 2 then 1 else if k = 13 then 2 else if k = 14 then 3 else if k = 15 then 4 else 5
def lvA (g : Nat) (v u : LV) : LV := (v.1 ++ u.1 ++ [3000 + g], fun w => arP g (v.2 w) (u.2 w))
def lvC (g : Nat) (v u : LV) : LV := (v.1 ++ u.1 ++ [3003 + g], fun w => cmP g (v.2 w) (u.2 w))
def lvB (g : Nat) (v u : LV) : LV := (v.1 ++ u.1 ++ [3007 + g], fun w => boP g (v.2 w) (u.2 w))
def lvN (v : LV) : LV := (v.1 ++ [3006], fun w => 1 - v.2 w)
def lvI (p x y : LV) : LV := (p.1 ++ x.1 ++ y.1 ++ [3009], fun w => if p.2 w = 1 then x.2 w else y.2 w)
def pP (tp : List Nat) : Nat → NT → Nat → Nat → Option PRs
  | 0, _, _, _ => none
  | f + 1, (0, _), d, b =>
    if tkK tp b = 23 then some (.inr (tkB tp b, ([tkN tp b], fun _ => (tkN tp b : Int))))
    else if wdI (tkK tp b) < 5 then some (.inr (tkB tp b, ([1000 + wdI (tkK tp b)], fun w => w (wdI (tkK tp b)))))
    else if tkK tp b = 35 then if d = 6 then some (.inl (4, tkA tp b)) else bnP (pP tp f (4, lv0) (d + 1) (tkB tp b)) fun b1 v => if tkK tp b1 = 36 then some (.inr (tkB tp b1, v)) else some (.inl (flP tp b1 2))
    else if tkK tp b = 8 then pP tp f (1, lv0) d b
    else some (.inl (flP tp b 2))
  | f + 1, (1, _), d, b =>
    if d = 6 then some (.inl (4, tkA tp b)) else bnP (pP tp f (9, lv0) (d + 1) (tkB tp b)) fun b1 p => if tkK tp b1 = 9 then bnP (pP tp f (4, lv0) (d + 1) (tkB tp b1)) fun b2 x => if tkK tp b2 = 10 then bnP (pP tp f (4, lv0) (d + 1) (tkB tp b2)) fun b3 y => if tkK tp b3 = 11 then some (.inr (tkB tp b3, lvI p x y)) else some (.inl (flP tp b3 2))
      else some (.inl (flP tp b2 2)) else some (.inl (flP tp b1 2))
  | f + 1, (2, _), d, b => bnP (pP tp f (0, lv0) d b) fun b1 v => pP tp f (3, v) d b1
  | f + 1, (3, v), d, b => if tkK tp b = 34 then bnP (pP tp f (0, lv0) d (tkB tp b)) fun b1 u => pP tp f (3, (lvA 2 v u)) d b1 else some (.inr (b, v))
  | f + 1, (4, _), d, b => bnP (pP tp f (2, lv0) d b) fun b1 v => pP tp f (5, v) d b1
  | f + 1, (5, v), d, b => if tkK tp b = 32 ∨ tkK tp b = 33 then bnP (pP tp f (2, lv0) d (tkB tp b)) fun b1 u => pP tp f (5, (lvA (tkK tp b - 32) v u)) d b1 else some (.inr (b, v))
  | f + 1, (6, _), d, b =>
    if tkK tp b = 18 then if d = 6 then some (.inl (4, tkA tp b)) else bnP (pP tp f (6, lv0) (d + 1) (tkB tp b)) fun b1 v => some (.inr (b1, lvN v))
    else if tkK tp b = 37 then if d = 6 then some (.inl (4, tkA tp b)) else bnP (pP tp f (9, lv0) (d + 1) (tkB tp b)) fun b1 v => if tkK tp b1 = 38 then some (.inr (tkB tp b1, v)) else some (.inl (flP tp b1 2))
    else bnP (pP tp f (4, lv0) d b) fun b1 x => if 39 ≤ tkK tp b1 ∧ tkK tp b1 ≤ 41 then bnP (pP tp f (4, lv0) d (tkB tp b1)) fun b2 y => some (.inr (b2, lvC (tkK tp b1 - 39) x y)) else some (.inl (flP tp b1 2))
  | f + 1, (7, _), d, b => bnP (pP tp f (6, lv0) d b) fun b1 v => pP tp f (8, v) d b1
  | f + 1, (8, v), d, b => if tkK tp b = 16 then bnP (pP tp f (6, lv0) d (tkB tp b)) fun b1 u => pP tp f (8, (lvB 0 v u)) d b1 else some (.inr (b, v))
  | f + 1, (9, _), d, b => bnP (pP tp f (7, lv0) d b) fun b1 v => pP tp f (10, v) d b1
  | f + 1, (n + 10, v), d, b => if tkK tp b = 17 then bnP (pP tp f (7, lv0) d (tkB tp b)) fun b1 u => pP tp f (10, (lvB 1 v u)) d b1 else some (.inr (b, v))
def lvlN : NT → Nat
  | (0, _) => 2 | (1, _) => 1 | (2, _) => 3 | (3, _) => 1 | (4, _) => 4 | (5, _) => 1 | (6, _) => 5 | (7, _) => 6 | (8, _) => 1 | (9, _) => 7 | (_ + 10, _) => 1
/-- what is told is a truth -/
def isT : NT → Bool
  | (0, _) => false | (1, _) => false | (2, _) => false | (3, _) => false | (4, _) => false | (5, _) => false | (_ + 6, _) => true
def isL : NT → Bool
  | (0, _) => false | (1, _) => false | (2, _) => false | (3, _) => true | (4, _) => false | (5, _) => true | (6, _) => false | (7, _) => false | (8, _) => true | (9, _) => false | (_ + 10, _) => true
def accN : NT → LV
  | (0, _) => lv0 | (1, _) => lv0 | (2, _) => lv0 | (3, v) => v | (4, _) => lv0 | (5, v) => v | (6, _) => lv0 | (7, _) => lv0 | (8, v) => v | (9, _) => lv0 | (_ + 10, v) => v
theorem LawP.up : ∀ (d e : Nat) (b : Bool) (cs : List Nat) (φ : WdF → Int), d ≤ e → LawP d b cs φ → LawP e b cs φ
  | 0, _, _, _, _, _, q => q.elim
  | d + 1, 0, _, _, _, l, q => by omega
  | d + 1, e + 1, false, cs, φ, l, q => by
    have l' : d ≤ e := by omega
    rcases q with q | q | ⟨a, b, x, y, g, h1, h2, h3, h4, h5⟩ | ⟨a, b, c, p, x, y, h1, h2, h3, h4, h5⟩
    · exact Or.inl q
    · exact Or.inr (Or.inl q)
    · exact Or.inr (Or.inr (Or.inl ⟨a, b, x, y, g, h1, LawP.up d e _ _ _ l' h2, LawP.up d e _ _ _ l' h3, h4, h5⟩))
    · exact Or.inr (Or.inr (Or.inr ⟨a, b, c, p, x, y, LawP.up d e _ _ _ l' h1, LawP.up d e _ _ _ l' h2, LawP.up d e _ _ _ l' h3, h4, h5⟩))
  | d + 1, e + 1, true, cs, φ, l, q => by
    have l' : d ≤ e := by omega
    rcases q with ⟨a, b, x, y, g, h1, h2, h3, h4, h5⟩ | ⟨a, x, h1, h2, h3⟩ | ⟨a, b, x, y, g, h1, h2, h3, h4, h5⟩
    · exact Or.inl ⟨a, b, x, y, g, h1, LawP.up d e _ _ _ l' h2, LawP.up d e _ _ _ l' h3, h4, h5⟩
    · exact Or.inr (Or.inl ⟨a, x, LawP.up d e _ _ _ l' h1, h2, h3⟩)
    · exact Or.inr (Or.inr ⟨a, b, x, y, g, h1, LawP.up d e _ _ _ l' h2, LawP.up d e _ _ _ l' h3, h4, h5⟩)
abbrev LvOK (b : Bool) (v : LV) : Prop := LawP v.1.length b v.1 v.2
theorem lvA_ok {g : Nat} (hg : g < 3) {v u : LV} (hv : LvOK false v) (hu : LvOK false u) : LvOK false (lvA g v u) := by
  have e : (lvA g v u).1.length = v.1.length + u.1.length + 1 := by simp [lvA]; omega
  unfold LvOK
  rw [e]
  exact Or.inr (Or.inr (Or.inl ⟨v.1, u.1, v.2, u.2, g, hg, LawP.up _ _ _ _ _ (by omega) hv, LawP.up _ _ _ _ _ (by omega) hu, rfl, rfl⟩))
theorem lvC_ok {g : Nat} (hg : g < 3) {v u : LV} (hv : LvOK false v) (hu : LvOK false u) : LvOK true (lvC g v u) := by
  have e : (lvC g v u).1.length = v.1.length + u.1.length + 1 := by simp [lvC]; omega
  unfold LvOK
  rw [e]
  exact Or.inl ⟨v.1, u.1, v.2, u.2, g, hg, LawP.up _ _ _ _ _ (by omega) hv, LawP.up _ _ _ _ _ (by omega) hu, rfl, rfl⟩
theorem lvB_ok {g : Nat} (hg : g < 2) {v u : LV} (hv : LvOK true v) (hu : LvOK true u) : LvOK true (lvB g v u) := by
  have e : (lvB g v u).1.length = v.1.length + u.1.length + 1 := by simp [lvB]; omega
  unfold LvOK
  rw [e]
  exact Or.inr (Or.inr ⟨v.1, u.1, v.2, u.2, g, hg, LawP.up _ _ _ _ _ (by omega) hv, LawP.up _ _ _ _ _ (by omega) hu, rfl, rfl⟩)
theorem lvN_ok {v : LV} (hv : LvOK true v) : LvOK true (lvN v) := by
  have e : (lvN v).1.length = v.1.length + 1 := by simp [lvN]
  unfold LvOK
  rw [e]
  exact Or.inr (Or.inl ⟨v.1, v.2, hv, rfl, rfl⟩)
theorem lvI_ok {p x y : LV} (hp : LvOK true p) (hx : LvOK false x) (hy : LvOK false y) : LvOK false (lvI p x y) := by
  have e : (lvI p x y).1.length = p.1.length + x.1.length + y.1.length + 1 := by simp [lvI]; omega
  unfold LvOK
  rw [e]
  exact Or.inr (Or.inr (Or.inr ⟨p.1, x.1, y.1, p.2, x.2, y.2, LawP.up _ _ _ _ _ (by omega) hp, LawP.up _ _ _ _ _ (by omega) hx, LawP.up _ _ _ _ _ (by omega) hy, rfl, rfl⟩))
theorem bnP_inr {o : Option PRs} {k : Nat → LV → Option PRs} {q : Nat × LV} (h : bnP o k = some (.inr q)) : ∃ b v, o = some (.inr (b, v)) ∧ k b v = some (.inr q) := by
  unfold bnP at h
  split at h
  · cases h
  · cases h
  next r => exact ⟨r.1, r.2, rfl, h⟩
/-- what was read: where it ends, how many codes, that it is a law -/
theorem pP_ok (tp : List Nat) : ∀ (f : Nat) (nt : NT) (d b b1 : Nat) (v : LV), b ≤ tp.length → pP tp f nt d b = some (.inr (b1, v)) → (isL nt = true → LvOK (isT nt) (accN nt)) → (nt.1 = 1 → tkK tp b = 8) →
    b ≤ b1 ∧ b1 ≤ tp.length ∧ v.1.length + b ≤ (accN nt).1.length + b1 ∧ LvOK (isT nt) v
  | 0, nt, d, b, b1, v, hb, h, hv, hk => by simp [pP] at h
  | f + 1, (0, _), d, b, b1, v, hb, h, hv, hk => by
    have hB := tkB_in hb
    simp only [pP] at h
    split at h
    next q =>
      have hg := tkB_gt hb (by omega)
      have hn := tkN_le q
      cases h
      refine ⟨by omega, by omega, by simp [accN, lv0]; omega, Or.inl ⟨tkN tp b, by omega, rfl, rfl⟩⟩
    next =>
      split at h
      next q =>
        have hg := tkB_gt hb (fun e => by rw [e] at q; simp [wdI] at q)
        cases h
        refine ⟨by omega, by omega, by simp [accN, lv0]; omega, Or.inr (Or.inl ⟨_, q, rfl, rfl⟩)⟩
      next =>
        split at h
        next q =>
          split at h
          · cases h
          · obtain ⟨b2, u, h1, h2⟩ := bnP_inr h
            have hg := tkB_gt hb (by omega)
            have ih := pP_ok tp f (4, lv0) (d + 1) _ b2 u hg.2.1 h1 (fun e => by simp [isL] at e) (fun e => by simp at e)
            split at h2
            next q2 =>
              have hg2 := tkB_gt ih.2.1 (by omega)
              cases h2
              exact ⟨by omega, by omega, by have := ih.2.2.1; simp [accN, lv0] at this ⊢; omega, ih.2.2.2⟩
            next => cases h2
        next =>
          split at h
          next q =>
            have ih := pP_ok tp f (1, lv0) d b b1 v hb h (fun e => by simp [isL] at e) (fun _ => q)
            exact ih
          next => cases h
  | f + 1, (1, _), d, b, b1, v, hb, h, hv, hk => by
    have hg := tkB_gt hb (by rw [hk rfl]; decide)
    simp only [pP] at h
    split at h
    · cases h
    · obtain ⟨b2, p, h1, h⟩ := bnP_inr h
      have i1 := pP_ok tp f (9, lv0) (d + 1) _ b2 p hg.2.1 h1 (fun e => by simp [isL] at e) (fun e => by simp at e)
      split at h
      next q2 =>
        have hg2 := tkB_gt i1.2.1 (by omega)
        obtain ⟨b3, x, h2, h⟩ := bnP_inr h
        have i2 := pP_ok tp f (4, lv0) (d + 1) _ b3 x hg2.2.1 h2 (fun e => by simp [isL] at e) (fun e => by simp at e)
        split at h
        next q3 =>
          have hg3 := tkB_gt i2.2.1 (by omega)
          obtain ⟨b4, y, h3, h⟩ := bnP_inr h
          have i3 := pP_ok tp f (4, lv0) (d + 1) _ b4 y hg3.2.1 h3 (fun e => by simp [isL] at e) (fun e => by simp at e)
          split at h
          next q4 =>
            have hg4 := tkB_gt i3.2.1 (by omega)
            cases h
            have a1 := i1.2.2.1
            have a2 := i2.2.2.1
            have a3 := i3.2.2.1
            refine ⟨by omega, by omega, ?_, lvI_ok i1.2.2.2 i2.2.2.2 i3.2.2.2⟩
            simp [accN, lv0, lvI] at a1 a2 a3 ⊢
            omega
          next => cases h
        next => cases h
      next => cases h
  | f + 1, (2, _), d, b, b1, v, hb, h, hv, hk => by
    obtain ⟨b2, u, h1, h2⟩ := bnP_inr h
    have i1 := pP_ok tp f (0, lv0) d b b2 u hb h1 (fun e => by simp [isL] at e) (fun e => by simp at e)
    have i2 := pP_ok tp f (3, u) d b2 b1 v i1.2.1 h2 (fun _ => i1.2.2.2) (fun e => by simp at e)
    have a1 := i1.2.2.1
    have a2 := i2.2.2.1
    refine ⟨by omega, i2.2.1, ?_, i2.2.2.2⟩
    simp [accN, lv0] at a1 a2 ⊢
    omega
  | f + 1, (3, v0), d, b, b1, v, hb, h, hv, hk => by
    simp only [pP] at h
    split at h
    next q =>
      have hg := tkB_gt hb (by omega)
      obtain ⟨b2, u, h1, h2⟩ := bnP_inr h
      have i1 := pP_ok tp f (0, lv0) d _ b2 u hg.2.1 h1 (fun e => by simp [isL] at e) (fun e => by simp at e)
      have i2 := pP_ok tp f (3, (lvA 2 v0 u)) d b2 b1 v i1.2.1 h2 (fun _ => lvA_ok (by omega) (hv rfl) i1.2.2.2) (fun e => by simp at e)
      have a1 := i1.2.2.1
      have a2 := i2.2.2.1
      refine ⟨by omega, i2.2.1, ?_, i2.2.2.2⟩
      simp [accN, lv0, lvA] at a1 a2 ⊢
      omega
    next =>
      cases h
      exact ⟨Nat.le_refl _, hb, Nat.le_refl _, hv rfl⟩
  | f + 1, (4, _), d, b, b1, v, hb, h, hv, hk => by
    obtain ⟨b2, u, h1, h2⟩ := bnP_inr h
    have i1 := pP_ok tp f (2, lv0) d b b2 u hb h1 (fun e => by simp [isL] at e) (fun e => by simp at e)
    have i2 := pP_ok tp f (5, u) d b2 b1 v i1.2.1 h2 (fun _ => i1.2.2.2) (fun e => by simp at e)
    have a1 := i1.2.2.1
    have a2 := i2.2.2.1
    refine ⟨by omega, i2.2.1, ?_, i2.2.2.2⟩
    simp [accN, lv0] at a1 a2 ⊢
    omega
  | f + 1, (5, v0), d, b, b1, v, hb, h, hv, hk => by
    simp only [pP] at h
    split at h
    next q =>
      have hg := tkB_gt hb (by omega)
      obtain ⟨b2, u, h1, h2⟩ := bnP_inr h
      have i1 := pP_ok tp f (2, lv0) d _ b2 u hg.2.1 h1 (fun e => by simp [isL] at e) (fun e => by simp at e)
      have i2 := pP_ok tp f (5, (lvA (tkK tp b - 32) v0 u)) d b2 b1 v i1.2.1 h2 (fun _ => lvA_ok (by omega) (hv rfl) i1.2.2.2) (fun e => by simp at e)
      have a1 := i1.2.2.1
      have a2 := i2.2.2.1
      refine ⟨by omega, i2.2.1, ?_, i2.2.2.2⟩
      simp [accN, lv0, lvA] at a1 a2 ⊢
      omega
    next =>
      cases h
      exact ⟨Nat.le_refl _, hb, Nat.le_refl _, hv rfl⟩
  | f + 1, (6, _), d, b, b1, v, hb, h, hv, hk => by
    simp only [pP] at h
    split at h
    next q =>
      split at h
      · cases h
      · have hg := tkB_gt hb (by omega)
        obtain ⟨b2, u, h1, h2⟩ := bnP_inr h
        have i1 := pP_ok tp f (6, lv0) (d + 1) _ b2 u hg.2.1 h1 (fun e => by simp [isL] at e) (fun e => by simp at e)
        cases h2
        have a1 := i1.2.2.1
        refine ⟨by omega, i1.2.1, ?_, lvN_ok i1.2.2.2⟩
        simp [accN, lv0, lvN] at a1 ⊢
        omega
    next =>
      split at h
      next q =>
        split at h
        · cases h
        · have hg := tkB_gt hb (by omega)
          obtain ⟨b2, u, h1, h2⟩ := bnP_inr h
          have i1 := pP_ok tp f (9, lv0) (d + 1) _ b2 u hg.2.1 h1 (fun e => by simp [isL] at e) (fun e => by simp at e)
          split at h2
          next q2 =>
            have hg2 := tkB_gt i1.2.1 (by omega)
            cases h2
            exact ⟨by omega, by omega, by have := i1.2.2.1; simp [accN, lv0] at this ⊢; omega, i1.2.2.2⟩
          next => cases h2
      next =>
        obtain ⟨b2, x, h1, h2⟩ := bnP_inr h
        have i1 := pP_ok tp f (4, lv0) d b b2 x hb h1 (fun e => by simp [isL] at e) (fun e => by simp at e)
        split at h2
        next q2 =>
          have hg2 := tkB_gt i1.2.1 (by omega)
          obtain ⟨b3, y, h3, h4⟩ := bnP_inr h2
          have i2 := pP_ok tp f (4, lv0) d _ b3 y hg2.2.1 h3 (fun e => by simp [isL] at e) (fun e => by simp at e)
          cases h4
          have a1 := i1.2.2.1
          have a2 := i2.2.2.1
          refine ⟨by omega, i2.2.1, ?_, lvC_ok (by omega) i1.2.2.2 i2.2.2.2⟩
          simp [accN, lv0, lvC] at a1 a2 ⊢
          omega
        next => cases h2
  | f + 1, (7, _), d, b, b1, v, hb, h, hv, hk => by
    obtain ⟨b2, u, h1, h2⟩ := bnP_inr h
    have i1 := pP_ok tp f (6, lv0) d b b2 u hb h1 (fun e => by simp [isL] at e) (fun e => by simp at e)
    have i2 := pP_ok tp f (8, u) d b2 b1 v i1.2.1 h2 (fun _ => i1.2.2.2) (fun e => by simp at e)
    have a1 := i1.2.2.1
    have a2 := i2.2.2.1
    refine ⟨by omega, i2.2.1, ?_, i2.2.2.2⟩
    simp [accN, lv0] at a1 a2 ⊢
    omega
  | f + 1, (8, v0), d, b, b1, v, hb, h, hv, hk => by
    simp only [pP] at h
    split at h
    next q =>
      have hg := tkB_gt hb (by omega)
      obtain ⟨b2, u, h1, h2⟩ := bnP_inr h
      have i1 := pP_ok tp f (6, lv0) d _ b2 u hg.2.1 h1 (fun e => by simp [isL] at e) (fun e => by simp at e)
      have i2 := pP_ok tp f (8, (lvB 0 v0 u)) d b2 b1 v i1.2.1 h2 (fun _ => lvB_ok (by omega) (hv rfl) i1.2.2.2) (fun e => by simp at e)
      have a1 := i1.2.2.1
      have a2 := i2.2.2.1
      refine ⟨by omega, i2.2.1, ?_, i2.2.2.2⟩
      simp [accN, lv0, lvB] at a1 a2 ⊢
      omega
    next =>
      cases h
      exact ⟨Nat.le_refl _, hb, Nat.le_refl _, hv rfl⟩
  | f + 1, (9, _), d, b, b1, v, hb, h, hv, hk => by
    obtain ⟨b2, u, h1, h2⟩ := bnP_inr h
    have i1 := pP_ok tp f (7, lv0) d b b2 u hb h1 (fun e => by simp [isL] at e) (fun e => by simp at e)
    have i2 := pP_ok tp f (10, u) d b2 b1 v i1.2.1 h2 (fun _ => i1.2.2.2) (fun e => by simp at e)
    have a1 := i1.2.2.1
    have a2 := i2.2.2.1
    refine ⟨by omega, i2.2.1, ?_, i2.2.2.2⟩
    simp [accN, lv0] at a1 a2 ⊢
    omega
  | f + 1, (n + 10, v0), d, b, b1, v, hb, h, hv, hk => by
    simp only [pP] at h
    split at h
    next q =>
      have hg := tkB_gt hb (by omega)
      obtain ⟨b2, u, h1, h2⟩ := bnP_inr h
      have i1 := pP_ok tp f (7, lv0) d _ b2 u hg.2.1 h1 (fun e => by simp [isL] at e) (fun e => by simp at e)
      have i2 := pP_ok tp f (10, (lvB 1 v0 u)) d b2 b1 v i1.2.1 h2 (fun _ => lvB_ok (by omega) (hv rfl) i1.2.2.2) (fun e => by simp at e)
      have a1 := i1.2.2.1
      have a2 := i2.2.2.1
      refine ⟨by omega, i2.2.1, ?_, i2.2.2.2⟩
      simp [accN, lv0, lvB] at a1 a2 ⊢
      omega
    next =>
      cases h
      exact ⟨Nat.le_refl _, hb, Nat.le_refl _, hv rfl⟩
theorem bnP_ne {o : Option PRs} {k : Nat → LV → Option PRs} (h : o ≠ none) (hk : ∀ b v, o = some (.inr (b, v)) → k b v ≠ none) : bnP o k ≠ none := by
  unfold bnP
  split
  · exact absurd rfl h
  · simp
  next r => exact hk r.1 r.2 rfl
/-- there is fuel enough -/
theorem pP_some (tp : List Nat) : ∀ (f : Nat) (nt : NT) (d b : Nat), b ≤ tp.length → 12 * (tp.length - b) + lvlN nt < f → (isL nt = true → LvOK (isT nt) (accN nt)) → (nt.1 = 1 → tkK tp b = 8) → pP tp f nt d b ≠ none
  | 0, nt, d, b, hb, h, hv, hk => by omega
  | f + 1, (0, _), d, b, hb, h, hv, hk => by
    simp only [lvlN] at h
    simp only [pP]
    split
    · simp
    · split
      · simp
      · split
        next q =>
          split
          · simp
          · have hg := tkB_gt hb (by omega)
            refine bnP_ne (pP_some tp f (4, lv0) (d + 1) _ hg.2.1 (by simp only [lvlN]; omega) (fun e => by simp [isL] at e) (fun e => by simp at e)) fun b1 v _ => ?_
            split <;> simp
        next =>
          split
          next q => exact pP_some tp f (1, lv0) d b hb (by simp only [lvlN]; omega) (fun e => by simp [isL] at e) (fun _ => q)
          next => simp
  | f + 1, (1, _), d, b, hb, h, hv, hk => by
    simp only [lvlN] at h
    have hg := tkB_gt hb (by rw [hk rfl]; decide)
    simp only [pP]
    split
    · simp
    · refine bnP_ne (pP_some tp f (9, lv0) (d + 1) _ hg.2.1 (by simp only [lvlN]; omega) (fun e => by simp [isL] at e) (fun e => by simp at e)) fun b1 p e1 => ?_
      have i1 := pP_ok tp f (9, lv0) (d + 1) _ b1 p hg.2.1 e1 (fun e => by simp [isL] at e) (fun e => by simp at e)
      split
      next q1 =>
        have hg1 := tkB_gt i1.2.1 (by omega)
        refine bnP_ne (pP_some tp f (4, lv0) (d + 1) _ hg1.2.1 (by simp only [lvlN]; omega) (fun e => by simp [isL] at e) (fun e => by simp at e)) fun b2 x e2 => ?_
        have i2 := pP_ok tp f (4, lv0) (d + 1) _ b2 x hg1.2.1 e2 (fun e => by simp [isL] at e) (fun e => by simp at e)
        split
        next q2 =>
          have hg2 := tkB_gt i2.2.1 (by omega)
          refine bnP_ne (pP_some tp f (4, lv0) (d + 1) _ hg2.2.1 (by simp only [lvlN]; omega) (fun e => by simp [isL] at e) (fun e => by simp at e)) fun b3 y e3 => ?_
          split <;> simp
        next => simp
      next => simp
  | f + 1, (2, _), d, b, hb, h, hv, hk => by
    simp only [lvlN] at h
    refine bnP_ne (pP_some tp f (0, lv0) d b hb (by simp only [lvlN]; omega) (fun e => by simp [isL] at e) (fun e => by simp at e)) fun b1 v e1 => ?_
    have i1 := pP_ok tp f (0, lv0) d b b1 v hb e1 (fun e => by simp [isL] at e) (fun e => by simp at e)
    exact pP_some tp f (3, v) d b1 i1.2.1 (by simp only [lvlN]; omega) (fun _ => i1.2.2.2) (fun e => by simp at e)
  | f + 1, (3, v0), d, b, hb, h, hv, hk => by
    simp only [lvlN] at h
    simp only [pP]
    split
    next q =>
      have hg := tkB_gt hb (by omega)
      refine bnP_ne (pP_some tp f (0, lv0) d _ hg.2.1 (by simp only [lvlN]; omega) (fun e => by simp [isL] at e) (fun e => by simp at e)) fun b1 v e1 => ?_
      have i1 := pP_ok tp f (0, lv0) d _ b1 v hg.2.1 e1 (fun e => by simp [isL] at e) (fun e => by simp at e)
      exact pP_some tp f (3, (lvA 2 v0 v)) d b1 i1.2.1 (by simp only [lvlN]; omega) (fun _ => lvA_ok (by omega) (hv rfl) i1.2.2.2) (fun e => by simp at e)
    next => simp
  | f + 1, (4, _), d, b, hb, h, hv, hk => by
    simp only [lvlN] at h
    refine bnP_ne (pP_some tp f (2, lv0) d b hb (by simp only [lvlN]; omega) (fun e => by simp [isL] at e) (fun e => by simp at e)) fun b1 v e1 => ?_
    have i1 := pP_ok tp f (2, lv0) d b b1 v hb e1 (fun e => by simp [isL] at e) (fun e => by simp at e)
    exact pP_some tp f (5, v) d b1 i1.2.1 (by simp only [lvlN]; omega) (fun _ => i1.2.2.2) (fun e => by simp at e)
  | f + 1, (5, v0), d, b, hb, h, hv, hk => by
    simp only [lvlN] at h
    simp only [pP]
    split
    next q =>
      have hg := tkB_gt hb (by omega)
      refine bnP_ne (pP_some tp f (2, lv0) d _ hg.2.1 (by simp only [lvlN]; omega) (fun e => by simp [isL] at e) (fun e => by simp at e)) fun b1 v e1 => ?_
      have i1 := pP_ok tp f (2, lv0) d _ b1 v hg.2.1 e1 (fun e => by simp [isL] at e) (fun e => by simp at e)
      exact pP_some tp f (5, (lvA (tkK tp b - 32) v0 v)) d b1 i1.2.1 (by simp only [lvlN]; omega) (fun _ => lvA_ok (by omega) (hv rfl) i1.2.2.2) (fun e => by simp at e)
    next => simp
  | f + 1, (6, _), d, b, hb, h, hv, hk => by
    simp only [lvlN] at h
    simp only [pP]
    split
    next q =>
      split
      · simp
      · have hg := tkB_gt hb (by omega)
        refine bnP_ne (pP_some tp f (6, lv0) (d + 1) _ hg.2.1 (by simp only [lvlN]; omega) (fun e => by simp [isL] at e) (fun e => by simp at e)) fun b1 v _ => by simp
    next =>
      split
      next q =>
        split
        · simp
        · have hg := tkB_gt hb (by omega)
          refine bnP_ne (pP_some tp f (9, lv0) (d + 1) _ hg.2.1 (by simp only [lvlN]; omega) (fun e => by simp [isL] at e) (fun e => by simp at e)) fun b1 v _ => ?_
          split <;> simp
      next =>
        refine bnP_ne (pP_some tp f (4, lv0) d b hb (by simp only [lvlN]; omega) (fun e => by simp [isL] at e) (fun e => by simp at e)) fun b1 x e1 => ?_
        have i1 := pP_ok tp f (4, lv0) d b b1 x hb e1 (fun e => by simp [isL] at e) (fun e => by simp at e)
        split
        next q2 =>
          have hg2 := tkB_gt i1.2.1 (by omega)
          exact bnP_ne (pP_some tp f (4, lv0) d _ hg2.2.1 (by simp only [lvlN]; omega) (fun e => by simp [isL] at e) (fun e => by simp at e)) fun b2 y _ => by simp
        next => simp
  | f + 1, (7, _), d, b, hb, h, hv, hk => by
    simp only [lvlN] at h
    refine bnP_ne (pP_some tp f (6, lv0) d b hb (by simp only [lvlN]; omega) (fun e => by simp [isL] at e) (fun e => by simp at e)) fun b1 v e1 => ?_
    have i1 := pP_ok tp f (6, lv0) d b b1 v hb e1 (fun e => by simp [isL] at e) (fun e => by simp at e)
    exact pP_some tp f (8, v) d b1 i1.2.1 (by simp only [lvlN]; omega) (fun _ => i1.2.2.2) (fun e => by simp at e)
  | f + 1, (8, v0), d, b, hb, h, hv, hk => by
    simp only [lvlN] at h
    simp only [pP]
    split
    next q =>
      have hg := tkB_gt hb (by omega)
      refine bnP_ne (pP_some tp f (6, lv0) d _ hg.2.1 (by simp only [lvlN]; omega) (fun e => by simp [isL] at e) (fun e => by simp at e)) fun b1 v e1 => ?_
      have i1 := pP_ok tp f (6, lv0) d _ b1 v hg.2.1 e1 (fun e => by simp [isL] at e) (fun e => by simp at e)
      exact pP_some tp f (8, (lvB 0 v0 v)) d b1 i1.2.1 (by simp only [lvlN]; omega) (fun _ => lvB_ok (by omega) (hv rfl) i1.2.2.2) (fun e => by simp at e)
    next => simp
  | f + 1, (9, _), d, b, hb, h, hv, hk => by
    simp only [lvlN] at h
    refine bnP_ne (pP_some tp f (7, lv0) d b hb (by simp only [lvlN]; omega) (fun e => by simp [isL] at e) (fun e => by simp at e)) fun b1 v e1 => ?_
    have i1 := pP_ok tp f (7, lv0) d b b1 v hb e1 (fun e => by simp [isL] at e) (fun e => by simp at e)
    exact pP_some tp f (10, v) d b1 i1.2.1 (by simp only [lvlN]; omega) (fun _ => i1.2.2.2) (fun e => by simp at e)
  | f + 1, (n + 10, v0), d, b, hb, h, hv, hk => by
    simp only [lvlN] at h
    simp only [pP]
    split
    next q =>
      have hg := tkB_gt hb (by omega)
      refine bnP_ne (pP_some tp f (7, lv0) d _ hg.2.1 (by simp only [lvlN]; omega) (fun e => by simp [isL] at e) (fun e => by simp at e)) fun b1 v e1 => ?_
      have i1 := pP_ok tp f (7, lv0) d _ b1 v hg.2.1 e1 (fun e => by simp [isL] at e) (fun e => by simp at e)
      exact pP_some tp f (10, (lvB 1 v0 v)) d b1 i1.2.1 (by simp only [lvlN]; omega) (fun _ => lvB_ok (by omega) (hv rfl) i1.2.2.2) (fun e => by simp at e)
    next => simp
