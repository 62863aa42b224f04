/-! THE SYSTEM holds the world -/
set_option maxRecDepth 100000
/-- what a walk of the system reads of the fixed cells -/
theorem FxA.s {h : AH} (hF : FxA h) : (hkd h 0 = (1, 33) ∧ hkd h 6 = (3, 7) ∧ hkd h 10 = (3, 7) ∧ hkd h 14 = (102, 900) ∧ hkd h 15 = (110, 10) ∧ hkd h 56 = (100, 6) ∧ hkd h 57 = (100, 12) ∧ hkd h 58 = (111, 6) ∧ hkd h 77 = (111, 6) ∧ hkd h 96 = (4, 6) ∧ hkd h 99 = (100, 7) ∧ hkd h 100 = (100, 6) ∧ hkd h 101 = (101, 60) ∧ hkd h 102 = (100, 9) ∧ hkd h 103 = (100, 64) ∧ hkd h 104 = (100, 64) ∧ hkd h 105 = (100, 8) ∧ hkd h 106 = (101, 6561) ∧ hkd h 107 = (100, 64) ∧ hkd h 108 = (100, 64) ∧ hkd h 109 = (112, 4) ∧ hkd h 110 = (5, 1) ∧ hkd h 111 = (5, 1) ∧ hkd h 112 = (5, 1) ∧ hkd h 113 = (5, 1) ∧ hkd h 114 = (113, 2) ∧ hkd h 115 = (110, 2)) ∧
    (hdt h 0 1 = 6 ∧ hdt h 0 2 = 10 ∧ hdt h 0 3 = 14 ∧ hdt h 0 7 = 15 ∧ hdt h 0 11 = 56 ∧ hdt h 0 12 = 57 ∧ hdt h 0 14 = 58 ∧ hdt h 0 15 = 77 ∧ hdt h 0 16 = 96 ∧ hdt h 0 17 = 99 ∧ hdt h 0 18 = 100 ∧ hdt h 0 19 = 101 ∧ hdt h 0 20 = 102 ∧ hdt h 0 21 = 103 ∧ hdt h 0 22 = 104 ∧ hdt h 0 23 = 105 ∧ hdt h 0 24 = 106 ∧ hdt h 0 28 = 107 ∧ hdt h 0 29 = 108 ∧ hdt h 0 30 = 109 ∧ hdt h 0 31 = 114 ∧ hdt h 0 32 = 115) := by
  have k : ∀ i, i < 153 → hkd h i = kF i := hF.2.1
  have r : ∀ {i j v : Nat}, (i, j, v) ∈ rFl → hdt h i j = ((v : Nat) : Int) := fun hm => hF.2.2 _ hm
  refine ⟨⟨?_, ?_, ?_, ?_, ?_, ?_, ?_, ?_, ?_, ?_, ?_, ?_, ?_, ?_, ?_, ?_, ?_, ?_, ?_, ?_, ?_, ?_, ?_, ?_, ?_, ?_, ?_⟩, ?_, ?_, ?_, ?_, ?_, ?_, ?_, ?_, ?_, ?_, ?_, ?_, ?_, ?_, ?_, ?_, ?_, ?_, ?_, ?_, ?_, ?_⟩
  all_goals first | exact (k _ (by omega)).trans (by decide +kernel) | exact r (by decide +kernel)
/-- the system's places: whole cells, fields of its object, the words of its street -/
def sA (S : Nat) (cs fs : List Nat) : Nat → Nat → Prop := fun b j => b ∈ cs ∨ (b = 0 ∧ j ∈ fs) ∨ b = S + 4
abbrev FrS (S : Nat) (cs fs : List Nat) (h h1 : AH) : Prop := FrP (sA S cs fs) h h1
section
variable {h h1 : AH} {S : Nat} {cs fs : List Nat}
theorem FrS.k (x : FrS S cs fs h h1) (b : Nat) : hkd h1 b = hkd h b := x.1 b
theorem FrS.c (x : FrS S cs fs h h1) {b : Nat} (e1 : b ∉ cs) (e2 : b ≠ 0) (e3 : b ≠ S + 4) : hdt h1 b = hdt h b := x.cell fun j q => by
  rcases q with q | q | q
  · exact e1 q
  · exact e2 q.1
  · exact e3 q
theorem FrS.f (x : FrS S cs fs h h1) {j : Nat} (e1 : 0 ∉ cs) (e2 : j ∉ fs) : hdt h1 0 j = hdt h 0 j := x.2.2 0 j fun q => by
  rcases q with q | q | q
  · exact e1 q
  · exact e2 q.2
  · omega
theorem FrS.up {cs2 fs2 : List Nat} (x : FrS S cs fs h h1) (a : ∀ c ∈ cs, c ∈ cs2) (b : ∀ j ∈ fs, j ∈ fs2) : FrS S cs2 fs2 h h1 := x.mono fun c j q => by
  rcases q with q | q | q
  · exact Or.inl (a c q)
  · exact Or.inr (Or.inl ⟨q.1, b j q.2⟩)
  · exact Or.inr (Or.inr q)
theorem FrS.wc (x : FrS S cs fs h h1) {a : Nat} (ha : a ∈ cs) (j : Nat) (v : Int) : FrS S cs fs h (hwr h1 a j v) := x.wr (Or.inl ha) v
theorem FrS.wf (x : FrS S cs fs h h1) {j : Nat} (hj : j ∈ fs) (v : Int) : FrS S cs fs h (hwr h1 0 j v) := x.wr (Or.inr (Or.inl ⟨rfl, hj⟩)) v
theorem FrS.rc (x : FrS S cs fs h h1) {a : Nat} (ha : a ∈ cs) (f : Nat → Int) : FrS S cs fs h (hrw h1 a f) := x.rw (fun _ => Or.inl ha) f
theorem OutA.s {a : Nat} (x : OutA (sW a S) h h1) (e1 : nC h1 = nC h + 0) (e2 : nS h1 = nS h + 0) : FrS S [a + 2, a + 3] [] h h1 := (x.fr e1 e2).mono fun b j q => by
  rcases q with q | q | q
  · exact Or.inl (by simp [q])
  · exact Or.inl (by simp [q])
  · exact Or.inr (Or.inr q)
theorem OutA.d {a : Nat} (x : OutA (sD a S) h h1) (e1 : nC h1 = nC h + 0) (e2 : nS h1 = nS h + 0) : FrS S [a, a + 1, a + 2, a + 3] [] h h1 := (x.fr e1 e2).mono fun b j q => by
  rcases q with q | q | q | q | q
  · exact Or.inl (by simp [q])
  · exact Or.inl (by simp [q])
  · exact Or.inl (by simp [q])
  · exact Or.inl (by simp [q])
  · exact Or.inr (Or.inr q)
def chS2 (cs fs : List Nat) : Bool := rFl.all fun q => !(cs.contains q.1) && !(q.1 == 0 && fs.contains q.2.1)
theorem FxA.frs (hF : FxA h) (hS : S = 1 ∨ 153 ≤ S) (x : FrS S cs fs h h1) (hc : chS2 cs fs = true) : FxA h1 := hF.fr x fun q hq => by
  have h1 := List.all_eq_true.mp hc q hq
  simp only [Bool.and_eq_true, Bool.not_eq_true', Bool.and_eq_false_iff, beq_eq_false_iff_ne, ne_eq, List.contains_eq_mem, decide_eq_false_iff_not] at h1
  have h5 : ∀ q ∈ rFl, q.1 ≠ 5 ∧ q.1 < 153 := by decide +kernel
  have := h5 q hq
  rintro (q2 | q2 | q2)
  · exact h1.1 q2
  · rcases h1.2 with q3 | q3
    · exact q3 q2.1
    · exact q3 q2.2
  · omega
end
/-- a street at S with its laws and lines -/
def StlC (h : AH) (S : Nat) (q : SL) : Prop := StrC h S (sT q.1) (sB q.1) (sS q.1) ∧ DnH false h (hdt h S 8) (sP q.1) ∧ DnH true h (hdt h S 9) (sL q.1) ∧ hdt h S 7 = q.2 ∧ (S = 1 ∨ 153 ≤ S) ∧ S + 4 < nN h
/-- the state that holds the i-th of n that can be undone, p the place of the next -/
def undA (p n i : Nat) : Nat := 16 + 4 * ((p + 10 - n + i) % 10)
/-- a byte, with a sign -/
def tsg (b : Nat) : Int := if b < 128 then (b : Int) else (b : Int) - 256
def kSo (sort : Nat) : Nat := if sort = 0 then 102 else if sort = 1 then 103 else if sort = 2 then 100 else 101
/-- what a number of a sort is, out of what lies there -/
noncomputable def rdS (sort : Nat) (z : Int) : Int := if sort = 3 then z else w32 z
def TryH (h : AH) (t : Nat) (o : Option (Nat × List Int)) (C : Nat) : Prop := match o with
  | none => hdt h (110 + t) 0 = -1
  | some q => hdt h (110 + t) 0 = (C : Int) ∧ 153 ≤ C ∧ C < nN h ∧ hkd h C = (kSo q.1, q.2.length) ∧ ∀ i, i < q.2.length → rdS q.1 (hdt h C i) = q.2.getD i 0
def ImgH (h : AH) (i : Nat) (o : Option (SL × S3)) (I : Nat) : Prop := match o with
  | none => hdt h 114 i = -1
  | some q => hdt h 114 i = (I : Int) ∧ StlC h I q.1 ∧ StC h (116 + 4 * i) q.2.1 q.2.2.1 q.2.2.2
def inS (c S : Nat) : Prop := S ≤ c ∧ c ≤ S + 4
def UndH (h : AH) (us : List S3) : Prop := hdt h 0 8 = (us.length : Int) ∧ ∃ p : Nat, p < 10 ∧ hdt h 0 9 = (p : Int) ∧ ∀ i, i < us.length → StC h (undA p us.length i) (us.getD i dS3).1 (us.getD i dS3).2.1 (us.getD i dS3).2.2
/-- the system holds the world: its street at S, its images' streets, its trays' arrays -/
def CmC (h : AH) (w : WD) (S : Nat) (I C : Nat → Nat) : Prop :=
  StlC h S (wL w) ∧ hdt h 0 0 = (S : Int) ∧ StC h 6 (wA w).1 (wA w).2.1 (wA w).2.2 ∧ UndH h (wU w) ∧
  (hdt h 0 4 = ((wP w).length : Int) ∧ ∀ j, j < (wP w).length → hdt h 14 j = tsg ((wP w).getD j 0)) ∧ (hdt h 0 5 = (wF w).1 ∧ hdt h 0 6 = (wF w).2) ∧
  (∀ t, t < 4 → TryH h t (wT w t) (C t)) ∧ (∀ i, i < 2 → ImgH h i (wI w i) (I i)) ∧
  (∀ t, t < 4 → wT w t ≠ none → ¬ inS (C t) S ∧ ∀ i, i < 2 → wI w i ≠ none → ¬ inS (C t) (I i)) ∧ ∀ t u, t < 4 → u < 4 → t ≠ u → wT w t ≠ none → wT w u ≠ none → C t ≠ C u
/-- what the system's calls keep: the reference's cells -/
def FrX (h h1 : AH) : Prop := nN h ≤ nN h1 ∧ (∀ b, b < nN h → hkd h1 b = hkd h b) ∧ ∀ b, 124 ≤ b → b < 153 → hdt h1 b = hdt h b
/-- what holds behind a call of the system -/
def CpC (h h1 : AH) (w : WD) : Prop := FrX h h1 ∧ FxA h1 ∧ ∃ S I C, CmC h1 w S I C
/-- .. its addresses told -/
def CqC (h h1 : AH) (w : WD) (S : Nat) (I C : Nat → Nat) : Prop := FrX h h1 ∧ FxA h1 ∧ CmC h1 w S I C
theorem CqC.p {h h1 : AH} {w : WD} {S : Nat} {I C : Nat → Nat} (x : CqC h h1 w S I C) : CpC h h1 w := ⟨x.1, x.2.1, S, I, C, x.2.2⟩
theorem StC.keep {h h1 : AH} {a : Nat} {tbl : List Nat} {nights moon : Int} (hS : StC h a tbl nights moon) (k0 : hkd h1 a = hkd h a) (k1 : hkd h1 (a + 1) = hkd h (a + 1)) (k2 : hkd h1 (a + 2) = hkd h (a + 2)) (k3 : hkd h1 (a + 3) = hkd h (a + 3)) (e0 : hdt h1 a = hdt h a) (e1 : hdt h1 (a + 1) = hdt h (a + 1)) : StC h1 a tbl nights moon := by
  unfold StC StK at hS ⊢
  rw [k0, k1, k2, k3, e0, e1]
  exact hS
/-- law trees are of cells of kinds 8 to 14 -/
theorem StlC.keep {h h1 : AH} {S : Nat} {q : SL} (hS : StlC h S q) (hn : nN h ≤ nN h1) (hk : ∀ b, b < nN h → hkd h1 b = hkd h b) (hd : ∀ b, b < nN h → ((hkd h b).1 = 2 ∨ 8 ≤ (hkd h b).1 ∧ (hkd h b).1 ≤ 14 ∨ b = S + 1 ∨ b = S + 2 ∨ b = S + 3) → hdt h1 b = hdt h b) : StlC h1 S q := by
  obtain ⟨s1, s2, s3, s4, s5, s6⟩ := hS
  have k2 := s1.1.1
  have eS : hdt h1 S = hdt h S := hd S (by omega) (Or.inl k2)
  have hq : SameA h h1 [S, S + 1, S + 2, S + 3] := fun b hb => by
    simp only [List.mem_cons, List.not_mem_nil, or_false] at hb
    rcases hb with rfl | rfl | rfl | rfl
    · exact ⟨hk _ (by omega), eS⟩
    · exact ⟨hk _ (by omega), hd _ (by omega) (Or.inr (Or.inr (Or.inl rfl)))⟩
    · exact ⟨hk _ (by omega), hd _ (by omega) (Or.inr (Or.inr (Or.inr (Or.inl rfl))))⟩
    · exact ⟨hk _ (by omega), hd _ (by omega) (Or.inr (Or.inr (Or.inr (Or.inr rfl))))⟩
  refine ⟨s1.same hq (hk _ (by omega)), ?_, ?_, by rw [eS]; exact s4, s5, by omega⟩
  · rw [eS]
    exact s2.keep hn fun b hb h8 h14 => ⟨hk b hb, hd b hb (Or.inr (Or.inl ⟨h8, h14⟩))⟩
  · rw [eS]
    exact s3.keep hn fun b hb h8 h14 => ⟨hk b hb, hd b hb (Or.inr (Or.inl ⟨h8, h14⟩))⟩
theorem CmC.wsl {h : AH} {w : WD} {S : Nat} {I C : Nat → Nat} (hF : FxA h) (hC : CmC h w S I C) : WSL h 6 S (wS w) (wA w) :=
  ⟨⟨hC.2.2.1, hC.1.1, by rw [hF.s.1.1], hC.2.1⟩, hC.1.2.1, hC.1.2.2.1⟩
/-- the world stays where what holds it stays -/
theorem CmC.keep {h h1 : AH} {w : WD} {S : Nat} {I C : Nat → Nat} (hF : FxA h) (hC : CmC h w S I C) (hn : nN h ≤ nN h1) (hk : ∀ b, b < nN h → hkd h1 b = hkd h b)
    (h0 : ∀ j, j ∈ [0, 4, 5, 6, 8, 9] → hdt h1 0 j = hdt h 0 j) (hd : ∀ b, b < nN h → (b = 6 ∨ b = 7 ∨ b = 14 ∨ (16 ≤ b ∧ b < 56 ∧ (b % 4 = 0 ∨ b % 4 = 1)) ∨ (110 ≤ b ∧ b ≤ 124 ∧ b ≠ 115) ∨ (hkd h b).1 = 2 ∨ 8 ≤ (hkd h b).1 ∧ (hkd h b).1 ≤ 14 ∨ (∃ X q, StlC h X q ∧ (b = X + 1 ∨ b = X + 2 ∨ b = X + 3)) ∨ ∃ t, t < 4 ∧ wT w t ≠ none ∧ b = C t) → hdt h1 b = hdt h b) : CmC h1 w S I C := by
  obtain ⟨m1, m2, m3, ⟨m4, p, m5, m6, m7⟩, ⟨m8, m9⟩, ⟨m10, m11⟩, m12, m13, m14, m15⟩ := hC
  have h153 := hF.1
  have hst : ∀ X q, StlC h X q → StlC h1 X q := fun X q hX => hX.keep hn hk fun b hb z => hd b hb (by
    rcases z with z | z | z
    · exact Or.inr (Or.inr (Or.inr (Or.inr (Or.inr (Or.inl z)))))
    · exact Or.inr (Or.inr (Or.inr (Or.inr (Or.inr (Or.inr (Or.inl z))))))
    · exact Or.inr (Or.inr (Or.inr (Or.inr (Or.inr (Or.inr (Or.inr (Or.inl ⟨X, q, hX, z⟩))))))))
  have hsc : ∀ a tbl n m, (a = 6 ∨ (16 ≤ a ∧ a < 56 ∧ a % 4 = 0) ∨ a = 116 ∨ a = 120) → StC h a tbl n m → StC h1 a tbl n m := fun a tbl n m ha hs => hs.keep (hk _ (by omega)) (hk _ (by omega)) (hk _ (by omega)) (hk _ (by omega)) (hd _ (by omega) (by
      rcases ha with ha | ha | ha | ha
      · exact Or.inl ha
      · exact Or.inr (Or.inr (Or.inr (Or.inl ⟨ha.1, ha.2.1, Or.inl ha.2.2⟩)))
      · exact Or.inr (Or.inr (Or.inr (Or.inr (Or.inl (by omega)))))
      · exact Or.inr (Or.inr (Or.inr (Or.inr (Or.inl (by omega))))))) (hd _ (by omega) (by
      rcases ha with ha | ha | ha | ha
      · exact Or.inr (Or.inl (by omega))
      · exact Or.inr (Or.inr (Or.inr (Or.inl ⟨by omega, by omega, Or.inr (by omega)⟩)))
      · exact Or.inr (Or.inr (Or.inr (Or.inr (Or.inl (by omega)))))
      · exact Or.inr (Or.inr (Or.inr (Or.inr (Or.inl (by omega)))))))
  refine ⟨hst S _ m1, by rw [h0 0 (by decide)]; exact m2, hsc 6 _ _ _ (Or.inl rfl) m3, ⟨by rw [h0 8 (by decide)]; exact m4, p, m5, by rw [h0 9 (by decide)]; exact m6, fun i hi => hsc _ _ _ _ (Or.inr (Or.inl (by unfold undA; omega))) (m7 i hi)⟩,
    ⟨by rw [h0 4 (by decide)]; exact m8, fun j hj => by rw [hd 14 (by omega) (Or.inr (Or.inr (Or.inl rfl)))]; exact m9 j hj⟩, ⟨by rw [h0 5 (by decide)]; exact m10, by rw [h0 6 (by decide)]; exact m11⟩, fun t ht => ?_, fun i hi => ?_, m14, m15⟩
  · have := m12 t ht
    have e : hdt h1 (110 + t) = hdt h (110 + t) := hd _ (by omega) (Or.inr (Or.inr (Or.inr (Or.inr (Or.inl (by omega))))))
    have hne : wT w t ≠ none → hdt h1 (C t) = hdt h (C t) ∧ hkd h1 (C t) = hkd h (C t) := fun hne => by
      cases hw : wT w t with
      | none => exact absurd hw hne
      | some q =>
        rw [hw] at this
        exact ⟨hd _ this.2.2.1 (Or.inr (Or.inr (Or.inr (Or.inr (Or.inr (Or.inr (Or.inr (Or.inr ⟨t, ht, hne, rfl⟩)))))))), hk _ this.2.2.1⟩
    cases hw : wT w t with
    | none =>
      rw [hw] at this
      show hdt h1 (110 + t) 0 = -1
      rw [e]
      exact this
    | some q =>
      rw [hw] at this
      obtain ⟨e1, e2⟩ := hne (by rw [hw]; simp)
      obtain ⟨a1, a2, a3, a4, a5⟩ := this
      exact ⟨by rw [e]; exact a1, a2, by omega, by rw [e2]; exact a4, fun i hi => by rw [e1]; exact a5 i hi⟩
  · have := m13 i hi
    have e : hdt h1 114 = hdt h 114 := hd _ (by omega) (Or.inr (Or.inr (Or.inr (Or.inr (Or.inl (by omega))))))
    cases hw : wI w i with
    | none =>
      rw [hw] at this
      show hdt h1 114 i = -1
      rw [e]
      exact this
    | some q =>
      rw [hw] at this
      obtain ⟨a1, a2, a3⟩ := this
      exact ⟨by rw [e]; exact a1, hst _ _ a2, hsc _ _ _ _ (by
        rcases (by omega : i = 0 ∨ i = 1) with rfl | rfl
        · exact Or.inr (Or.inr (Or.inl rfl))
        · exact Or.inr (Or.inr (Or.inr rfl))) a3⟩
/-- no street's cell is scratch -/
theorem kF_scr : ∀ b, b < 153 → (8 ≤ b ∧ b ≤ 13 ∨ 56 ≤ b ∧ b ≤ 108) → (kF b).1 ≠ 2 ∧ ¬ (8 ≤ (kF b).1 ∧ (kF b).1 ≤ 14) ∧ b ≠ 6 ∧ b ≠ 7 ∧ b ≠ 14 := by decide +kernel
theorem kF_2 : ∀ b, b < 153 → (kF b).1 = 2 → b = 1 := by decide +kernel
/-- only scratch was written -/
theorem CqC.scr {h h1 : AH} {w : WD} {S : Nat} {I C : Nat → Nat} {cs fs : List Nat} (hF : FxA h) (hC : CmC h w S I C) (x : FrS S cs fs h h1) (hc : ∀ c ∈ cs, 8 ≤ c ∧ c ≤ 13 ∨ 56 ≤ c ∧ c ≤ 108) (hf : ∀ j ∈ fs, j ∈ [10, 13, 25, 26, 27]) (hch : chS2 cs fs = true) : CqC h h1 w S I C := by
  have h153 := hF.1
  have hS := hC.1.2.2.2.2.1
  have hS4 := hC.1.1.1.2.2.2.2.2.2.2.2
  have hn0 : ∀ c ∈ cs, c ≠ 0 := fun c q => by have := hc c q; omega
  refine ⟨⟨Nat.le_of_eq x.2.1.1.symm, fun b _ => x.1 b, fun b b1 b2 => FrS.c x (fun q => by have := hc b q; omega) (by omega) (by omega)⟩, hF.frs hS x hch, hC.keep hF (Nat.le_of_eq x.2.1.1.symm) (fun b _ => x.1 b) (fun j hj => FrS.f x (fun q => hn0 0 q rfl) (fun q => by
    have := hf j q
    simp only [List.mem_cons, List.not_mem_nil, or_false] at hj this
    omega)) fun b hb z => ?_⟩
  have hS3 : b ≠ S + 4 := by
    intro e
    have kb : hkd h b = (100, 5) := by rw [e]; exact hS4
    rcases z with z | z | z | z | z | z | z | z | z
    · have := hF.s.1; rw [z, this.2.1] at kb; exact absurd kb (by decide)
    · have := hC.2.2.1.1; rw [z, this.2.2.2.2.2.1] at kb; exact absurd kb (by decide)
    · rw [z, hF.s.1.2.2.2.1] at kb; exact absurd kb (by decide)
    · omega
    · omega
    · rw [kb] at z; exact absurd z (by decide)
    · rw [kb] at z; exact absurd z.2 (by decide)
    · obtain ⟨X, q, x2, x3⟩ := z
      obtain ⟨-, -, -, -, -, y1, y2, y3, -⟩ := x2.1.1
      rcases x3 with x3 | x3 | x3
      · rw [← x3, kb] at y1; exact absurd y1 (by decide)
      · rw [← x3, kb] at y2; exact absurd y2 (by decide)
      · rw [← x3, kb] at y3; exact absurd y3 (by decide)
    · obtain ⟨t, t4, tn, te⟩ := z
      have := (hC.2.2.2.2.2.2.2.2.1 t t4 tn).1
      exact this ⟨by omega, by omega⟩
  by_cases hb0 : b = 0
  · exfalso
    rw [hb0] at z
    have k0 := hF.s.1.1
    rcases z with z | z | z | z | z | z | z | z | z
    · omega
    · omega
    · omega
    · omega
    · omega
    · rw [k0] at z; exact absurd z (by decide)
    · rw [k0] at z; exact absurd z.1 (by decide)
    · obtain ⟨X, q, -, x3⟩ := z; omega
    · obtain ⟨t, t4, tn, te⟩ := z
      have := hC.2.2.2.2.2.2.1 t t4
      cases hw : wT w t with
      | none => exact tn hw
      | some q => rw [hw] at this; have := this.2.1; omega
  refine FrS.c x (fun q => ?_) hb0 hS3
  have hcb := hc b q
  obtain ⟨f1, f2, f3, f4, f5⟩ := kF_scr b (by omega) hcb
  rw [← hF.2.1 b (by omega)] at f1 f2
  rcases z with z | z | z | z | z | z | z | z | z
  · exact f3 z
  · exact f4 z
  · exact f5 z
  · omega
  · omega
  · exact f1 z
  · exact f2 z
  · obtain ⟨X, q, x2, x3⟩ := z
    have := x2.2.2.2.2.1
    omega
  · obtain ⟨t, t4, tn, te⟩ := z
    have := hC.2.2.2.2.2.2.1 t t4
    cases hw : wT w t with
    | none => exact tn hw
    | some q => rw [hw] at this; have := this.2.1; omega
theorem CpC.scr {h h1 : AH} {w : WD} {S : Nat} {I C : Nat → Nat} {cs fs : List Nat} (hF : FxA h) (hC : CmC h w S I C) (x : FrS S cs fs h h1) (hc : ∀ c ∈ cs, 8 ≤ c ∧ c ≤ 13 ∨ 56 ≤ c ∧ c ≤ 108) (hf : ∀ j ∈ fs, j ∈ [10, 13, 25, 26, 27]) (hch : chS2 cs fs = true) : CpC h h1 w := (CqC.scr hF hC x hc hf hch).p
