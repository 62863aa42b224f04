/-! PURE: reading a street -/
set_option maxRecDepth 100000
abbrev FU : Nat := 11000
/-- a street, its moon, its lines -/
abbrev QS : Type := SP × Nat × Nat
def qStd (s : QS) (l : List Nat) : QS := ((s.1.1, s.1.2.1, l, s.1.2.2.2), s.2)
def qBec (s : QS) (t c : Nat) (l : List Nat) : QS := ((s.1.1, (fun t' c' => if t' = t ∧ c' = c then l else s.1.2.1 t' c'), s.1.2.2), s.2)
def qPk (s : QS) (v : LV) : QS := ((s.1.1, s.1.2.1, s.1.2.2.1, some v, s.1.2.2.2.2), s.2)
def qSl (s : QS) (v : LV) : QS := ((s.1.1, s.1.2.1, s.1.2.2.1, s.1.2.2.2.1, some v), s.2)
def qLn (s : QS) : QS := (s.1, s.2.1, s.2.2 + 1)
def plQ (T : Nat) : SP := (T, (fun _ c => [c]), [0], none, none)
def spl (tp : List Nat) (b most : Nat) : (Nat × Nat) ⊕ List Nat :=
  if tkK tp b = 22 ∧ ∀ c ∈ slc tp (tkA tp b) (tkB tp b), c ≤ 102 then if most < tkB tp b - tkA tp b then .inl (3, tkA tp b) else .inr ((slc tp (tkA tp b) (tkB tp b)).map (· - 97)) else .inl (flP tp b 2)
def nbP (tp : List Nat) (b lo hi : Nat) : (Nat × Nat) ⊕ Nat := if tkK tp b = 23 then if lo ≤ tkN tp b ∧ tkN tp b ≤ hi then .inr (tkN tp b) else .inl (3, tkA tp b) else .inl (flP tp b 2)
def bnS {α β : Type} (o : (Nat × Nat) ⊕ α) (k : α → (Nat × Nat) ⊕ β) : (Nat × Nat) ⊕ β := match o with
  | .inl e => .inl e
  | .inr a => k a
def lawO (o : Option PRs) : (Nat × Nat) ⊕ (Nat × LV) := match o with
  | none => .inl (0, 0)
  | some r => r
/-- a line, its sign at the end left out -/
def pLine (tp : List Nat) (b : Nat) (s : QS) : (Nat × Nat) ⊕ (Nat × QS) :=
  if tkK tp b = 3 then bnS (spl tp (tkB tp b) 12) fun l => .inr (tkB tp (tkB tp b), qStd s l)
  else if tkK tp b = 4 then bnS (nbP tp (tkB tp b) 0 (s.1.1 - 1)) fun t => bnS (spl tp (tkB tp (tkB tp b)) 1) fun l =>
    if tkK tp (tkB tp (tkB tp (tkB tp b))) = 31 then
      if tkK tp (tkB tp (tkB tp (tkB tp (tkB tp b)))) = 5 then .inr (tkB tp (tkB tp (tkB tp (tkB tp (tkB tp b)))), qBec s t (l.getD 0 0) [])
      else bnS (spl tp (tkB tp (tkB tp (tkB tp (tkB tp b)))) 4) fun m => .inr (tkB tp (tkB tp (tkB tp (tkB tp (tkB tp b)))), qBec s t (l.getD 0 0) m)
    else .inl (flP tp (tkB tp (tkB tp (tkB tp b))) 2)
  else if tkK tp b = 6 ∨ tkK tp b = 7 then
    if tkK tp (tkB tp b) = 31 then bnS (lawO (pP tp FU (if tkK tp b = 6 then (4, lv0) else (9, lv0)) 0 (tkB tp (tkB tp b)))) fun r => .inr (r.1, if tkK tp b = 6 then qPk s r.2 else qSl s r.2)
    else .inl (flP tp (tkB tp b) 2)
  else .inl (flP tp b 2)
def pLns (tp : List Nat) : Nat → Nat → QS → (Nat × Nat) ⊕ QS
  | 0, _, _ => .inl (0, 0)
  | f + 1, b, s => if tkK tp b = 24 then .inr s else bnS (pLine tp b s) fun r => if tkK tp r.1 = 30 then pLns tp f (tkB tp r.1) (qLn r.2) else .inl (flP tp r.1 2)
def pStr (tp : List Nat) : (Nat × Nat) ⊕ QS :=
  if tkK tp 0 = 0 then
    if tkK tp (tkB tp 0) = 1 then bnS (nbP tp (tkB tp (tkB tp 0)) 1 3) fun T =>
      if tkK tp (tkB tp (tkB tp (tkB tp 0))) = 2 then bnS (nbP tp (tkB tp (tkB tp (tkB tp (tkB tp 0)))) 0 9) fun m =>
        if tkK tp (tkB tp (tkB tp (tkB tp (tkB tp (tkB tp 0))))) = 30 then pLns tp (tp.length + 1) (tkB tp (tkB tp (tkB tp (tkB tp (tkB tp (tkB tp 0)))))) (plQ T, m, 1)
        else .inl (flP tp (tkB tp (tkB tp (tkB tp (tkB tp (tkB tp 0))))) 2)
      else .inl (flP tp (tkB tp (tkB tp (tkB tp 0))) 2)
    else .inl (flP tp (tkB tp 0) 2)
  else .inl (flP tp 0 2)
/-- a sound street, its lines at most so many -/
def QsOK (s : QS) : Prop := StOK s.1 ∧ s.2.1 ≤ 9
theorem tkC_22 {tp : List Nat} {a : Nat} (h : tkC tp a = 22) : a < tp.length ∧ isSm (tp.getD a 0) = true := by
  unfold tkC at h
  by_cases q : a < tp.length
  · rw [if_pos q] at h
    split at h
    next q1 => exact ⟨q, q1⟩
    · split at h
      · split at h <;> omega
      · rcases sgI_in (tp.getD a 0) with q | q <;> omega
  · rw [if_neg q] at h; omega
theorem slc_len {tp : List Nat} {a e : Nat} (he : e ≤ tp.length) : (slc tp a e).length = e - a := by
  unfold slc
  rw [List.length_take, List.length_drop]
  omega
theorem slc_at {tp : List Nat} {a e i : Nat} (he : e ≤ tp.length) (hi : i < e - a) : (slc tp a e).getD i 0 = tp.getD (a + i) 0 := by
  unfold slc
  simp only [List.getD_eq_getElem?_getD]
  rw [List.getElem?_take_of_lt hi, List.getElem?_drop]
theorem spl_inr {tp : List Nat} {b most : Nat} {l : List Nat} (hb : b ≤ tp.length) (h : spl tp b most = .inr l) : tkK tp b = 22 ∧ l.length = tkB tp b - tkA tp b ∧ (1 ≤ l.length ∧ l.length ≤ most) ∧ (∀ c ∈ l, c < 6) ∧ l = (slc tp (tkA tp b) (tkB tp b)).map (· - 97) := by
  unfold spl at h
  split at h
  next q =>
    split at h
    · cases h
    next q2 =>
      have h := Sum.inr.inj h
      have hg := tkB_gt hb (by omega)
      have hl : ((slc tp (tkA tp b) (tkB tp b)).map (· - 97)).length = tkB tp b - tkA tp b := by rw [List.length_map, slc_len hg.2.1]
      rw [← h]
      refine ⟨q.1, hl, ⟨by omega, by omega⟩, fun c hc => ?_, rfl⟩
      obtain ⟨x, hx, rfl⟩ := List.mem_map.mp hc
      have := q.2 x hx
      omega
  next => cases h
theorem nbP_inr {tp : List Nat} {b lo hi n : Nat} (h : nbP tp b lo hi = .inr n) : tkK tp b = 23 ∧ n = tkN tp b ∧ lo ≤ n ∧ n ≤ hi := by
  unfold nbP at h
  split at h
  next q =>
    split at h
    next q2 =>
      have h := Sum.inr.inj h
      exact ⟨q, h.symm, by omega, by omega⟩
    next => cases h
  next => cases h
theorem bnS_inr {α β : Type} {o : (Nat × Nat) ⊕ α} {k : α → (Nat × Nat) ⊕ β} {r : β} (h : bnS o k = .inr r) : ∃ a, o = .inr a ∧ k a = .inr r := by
  unfold bnS at h
  split at h
  · cases h
  next a => exact ⟨a, rfl, h⟩
theorem lawO_inr {o : Option PRs} {r : Nat × LV} (h : lawO o = .inr r) : o = some (.inr r) := by
  unfold lawO at h
  split at h
  · cases h
  next x => rw [h]
theorem StOK.T3 {s : SP} (h : StOK s) : 1 ≤ sT s ∧ sT s ≤ 3 := ⟨h.1.1, h.1.2.1⟩
theorem pLine_ok {tp : List Nat} (h9 : tp.length ≤ 900) {b : Nat} (hb : b ≤ tp.length) {s s1 : QS} {b1 : Nat} (hs : QsOK s) (h : pLine tp b s = .inr (b1, s1)) : b < b1 ∧ b1 ≤ tp.length ∧ QsOK s1 ∧ s1.2 = s.2 ∧ s1.1.1 = s.1.1 := by
  obtain ⟨⟨⟨k1, k2, k3, k4⟩, k5, k6⟩, k7⟩ := hs
  unfold pLine at h
  split at h
  next q =>
    have g1 := tkB_gt hb (by omega)
    obtain ⟨l, e1, e2⟩ := bnS_inr h
    obtain ⟨a1, a2, a3, a4, -⟩ := spl_inr g1.2.1 e1
    have g2 := tkB_gt g1.2.1 (by omega)
    have e2 := Sum.inr.inj e2
    obtain ⟨rfl, rfl⟩ := Prod.mk.inj e2
    exact ⟨by omega, by omega, ⟨⟨⟨k1, k2, ⟨a3.1, a3.2, a4⟩, k4⟩, k5, k6⟩, k7⟩, rfl, rfl⟩
  next =>
    split at h
    next q =>
      have g1 := tkB_gt hb (by omega)
      obtain ⟨t, e1, h⟩ := bnS_inr h
      obtain ⟨c1, c2, c3, c4⟩ := nbP_inr e1
      have g2 := tkB_gt g1.2.1 (by omega)
      obtain ⟨l, e2, h⟩ := bnS_inr h
      obtain ⟨a1, a2, a3, a4, -⟩ := spl_inr g2.2.1 e2
      have g3 := tkB_gt g2.2.1 (by omega)
      split at h
      next q3 =>
        have g4 := tkB_gt g3.2.1 (by omega)
        have hbk : ∀ m : List Nat, m.length ≤ 4 → (∀ c ∈ m, c < 6) → QsOK (qBec s t (l.getD 0 0) m) := fun m m1 m2 => by
          refine ⟨⟨⟨k1, k2, k3, fun t' c' ht hc => ?_⟩, k5, k6⟩, k7⟩
          show (if t' = t ∧ c' = l.getD 0 0 then m else s.1.2.1 t' c').length ≤ 4 ∧ ∀ d ∈ (if t' = t ∧ c' = l.getD 0 0 then m else s.1.2.1 t' c'), d < 6
          split
          · exact ⟨m1, m2⟩
          · exact k4 t' c' ht hc
        split at h
        next q4 =>
          have g5 := tkB_gt g4.2.1 (by omega)
          obtain ⟨rfl, rfl⟩ := Prod.mk.inj (Sum.inr.inj h)
          exact ⟨by omega, by omega, hbk [] (by simp) (by simp), rfl, rfl⟩
        next q4 =>
          obtain ⟨m, e3, h⟩ := bnS_inr h
          obtain ⟨m1, m2, m3, m4, -⟩ := spl_inr g4.2.1 e3
          have g5 := tkB_gt g4.2.1 (by omega)
          obtain ⟨rfl, rfl⟩ := Prod.mk.inj (Sum.inr.inj h)
          exact ⟨by omega, by omega, hbk m m3.2 m4, rfl, rfl⟩
      next => cases h
    next =>
      split at h
      next q =>
        have g1 := tkB_gt hb (by omega)
        split at h
        next q2 =>
          have g2 := tkB_gt g1.2.1 (by omega)
          obtain ⟨⟨b3, v⟩, e1, h⟩ := bnS_inr h
          have e1 := lawO_inr e1
          obtain ⟨rfl, rfl⟩ := Prod.mk.inj (Sum.inr.inj h)
          by_cases q6 : tkK tp b = 6
          · rw [if_pos q6] at e1
            have i1 := pP_ok tp FU (4, lv0) 0 _ b3 v g2.2.1 e1 (fun e => by simp [isL] at e) (fun e => by simp at e)
            show b < b3 ∧ b3 ≤ tp.length ∧ QsOK (if tkK tp b = 6 then qPk s v else qSl s v) ∧ (if tkK tp b = 6 then qPk s v else qSl s v).2 = s.2 ∧ (if tkK tp b = 6 then qPk s v else qSl s v).1.1 = s.1.1
            rw [if_pos q6]
            have a1 := i1.2.2.1
            simp [accN, lv0] at a1
            exact ⟨by omega, i1.2.1, ⟨⟨⟨k1, k2, k3, k4⟩, fun r hr => by
              have hr : some v = some r := hr
              obtain rfl := Option.some.inj hr
              exact ⟨v.1.length, by omega, i1.2.2.2, by omega⟩, k6⟩, k7⟩, rfl, rfl⟩
          · rw [if_neg q6] at e1
            have i1 := pP_ok tp FU (9, lv0) 0 _ b3 v g2.2.1 e1 (fun e => by simp [isL] at e) (fun e => by simp at e)
            show b < b3 ∧ b3 ≤ tp.length ∧ QsOK (if tkK tp b = 6 then qPk s v else qSl s v) ∧ (if tkK tp b = 6 then qPk s v else qSl s v).2 = s.2 ∧ (if tkK tp b = 6 then qPk s v else qSl s v).1.1 = s.1.1
            rw [if_neg q6]
            have a1 := i1.2.2.1
            simp [accN, lv0] at a1
            exact ⟨by omega, i1.2.1, ⟨⟨⟨k1, k2, k3, k4⟩, k5, fun r hr => by
              have hr : some v = some r := hr
              obtain rfl := Option.some.inj hr
              exact ⟨v.1.length, by omega, i1.2.2.2, by omega⟩⟩, k7⟩, rfl, rfl⟩
        next => cases h
      next => cases h
theorem plQ_ok {T : Nat} (h : 1 ≤ T ∧ T ≤ 3) : StOK (plQ T) := by
  refine ⟨⟨h.1, h.2, ⟨by show 1 ≤ ([0] : List Nat).length; decide, by show ([0] : List Nat).length ≤ 12; decide, fun c hc => ?_⟩, fun t c _ hc => ⟨by show ([c] : List Nat).length ≤ 4; simp, fun d hd => ?_⟩⟩, fun q hq => ?_, fun q hq => ?_⟩
  · have := List.mem_singleton.mp hc
    omega
  · have hd : d ∈ [c] := hd
    have := List.mem_singleton.mp hd
    omega
  · have hq : (none : DN) = some q := hq
    cases hq
  · have hq : (none : DN) = some q := hq
    cases hq
