/-! PURE: laws, what is picked, deeds -/
set_option maxRecDepth 100000
abbrev WdF : Type := Nat → Int
def clP (z : Int) : Int := if 1000000 < z then 1000000 else if z < -1000000 then -1000000 else z
def arP (g : Nat) (a b : Int) : Int := clP (if g = 0 then a + b else if g = 1 then a - b else a * b)
def cmP (g : Nat) (a b : Int) : Int := if g = 0 then (if a = b then 1 else 0) else if g = 1 then (if a < b then 1 else 0) else if b < a then 1 else 0
def boP (g : Nat) (a b : Int) : Int := if g = 0 then (if a = 1 ∧ b = 1 then 1 else 0) else if a = 1 ∨ b = 1 then 1 else 0
/-- a law: of a depth, a truth or a sum, its codes, what it says of five words -/
def LawP : Nat → Bool → List Nat → (WdF → Int) → Prop
  | 0, _, _, _ => False
  | d + 1, false, cs, φ => (∃ n : Nat, n < 1000 ∧ cs = [n] ∧ φ = fun _ => (n : Int)) ∨ (∃ k : Nat, k < 5 ∧ cs = [1000 + k] ∧ φ = fun w => w k) ∨
      (∃ (a b : List Nat) (x y : WdF → Int) (g : Nat), g < 3 ∧ LawP d false a x ∧ LawP d false b y ∧ cs = a ++ b ++ [3000 + g] ∧ φ = fun w => arP g (x w) (y w)) ∨
      (∃ (a b c : List Nat) (p x y : WdF → Int), LawP d true a p ∧ LawP d false b x ∧ LawP d false c y ∧ cs = a ++ b ++ c ++ [3009] ∧ φ = fun w => if p w = 1 then x w else y w)
  | d + 1, true, cs, φ => (∃ (a b : List Nat) (x y : WdF → Int) (g : Nat), g < 3 ∧ LawP d false a x ∧ LawP d false b y ∧ cs = a ++ b ++ [3003 + g] ∧ φ = fun w => cmP g (x w) (y w)) ∨
      (∃ (a : List Nat) (x : WdF → Int), LawP d true a x ∧ cs = a ++ [3006] ∧ φ = fun w => 1 - x w) ∨
      (∃ (a b : List Nat) (x y : WdF → Int) (g : Nat), g < 2 ∧ LawP d true a x ∧ LawP d true b y ∧ cs = a ++ b ++ [3007 + g] ∧ φ = fun w => boP g (x w) (y w))
/-- words that fit an int -/
def WdOK (w : WdF) : Prop := ∀ k, k < 5 → -2147483648 ≤ w k ∧ w k < 2147483648
theorem clP_in (z : Int) : -1000000 ≤ clP z ∧ clP z ≤ 1000000 := by
  unfold clP
  split
  · omega
  · split <;> omega
theorem cmP_in (g : Nat) (a b : Int) : cmP g a b = 0 ∨ cmP g a b = 1 := by
  unfold cmP
  repeat' split
  all_goals simp
theorem boP_in (g : Nat) (a b : Int) : boP g a b = 0 ∨ boP g a b = 1 := by
  unfold boP
  repeat' split
  all_goals simp
theorem LawP.rng {w : WdF} (hw : WdOK w) : ∀ (d : Nat) (b : Bool) (cs : List Nat) (φ : WdF → Int), LawP d b cs φ → (-2147483648 ≤ φ w ∧ φ w < 2147483648) ∧ (b = true → φ w = 0 ∨ φ w = 1) ∧ 1 ≤ cs.length
  | 0, _, _, _, h => h.elim
  | d + 1, false, cs, φ, h => by
    rcases h with ⟨n, hn, rfl, rfl⟩ | ⟨k, hk, rfl, rfl⟩ | ⟨a, b, x, y, g, hg, ha, hb, rfl, rfl⟩ | ⟨a, b, c, p, x, y, ha, hb, hc, rfl, rfl⟩
    · exact ⟨⟨by show -2147483648 ≤ (n : Int); omega, by show (n : Int) < 2147483648; omega⟩, fun q => by simp at q, by simp⟩
    · exact ⟨hw k hk, fun q => by simp at q, by simp⟩
    · have := clP_in (if g = 0 then x w + y w else if g = 1 then x w - y w else x w * y w)
      refine ⟨?_, fun q => by simp at q, by simp <;> omega⟩
      show -2147483648 ≤ arP g (x w) (y w) ∧ arP g (x w) (y w) < 2147483648
      unfold arP
      omega
    · have h1 := LawP.rng hw d false b x hb
      have h2 := LawP.rng hw d false c y hc
      refine ⟨?_, fun q => by simp at q, by simp <;> omega⟩
      show -2147483648 ≤ (if p w = 1 then x w else y w) ∧ (if p w = 1 then x w else y w) < 2147483648
      split
      · exact h1.1
      · exact h2.1
  | d + 1, true, cs, φ, h => by
    rcases h with ⟨a, b, x, y, g, hg, ha, hb, rfl, rfl⟩ | ⟨a, x, ha, rfl, rfl⟩ | ⟨a, b, x, y, g, hg, ha, hb, rfl, rfl⟩
    · have := cmP_in g (x w) (y w)
      exact ⟨by show -2147483648 ≤ cmP g (x w) (y w) ∧ cmP g (x w) (y w) < 2147483648; omega, fun _ => this, by simp <;> omega⟩
    · have h1 := (LawP.rng hw d true a x ha).2.1 rfl
      exact ⟨by show -2147483648 ≤ 1 - x w ∧ 1 - x w < 2147483648; omega, fun _ => by show 1 - x w = 0 ∨ 1 - x w = 1; omega, by simp⟩
    · have := boP_in g (x w) (y w)
      exact ⟨by show -2147483648 ≤ boP g (x w) (y w) ∧ boP g (x w) (y w) < 2147483648; omega, fun _ => this, by simp <;> omega⟩
/-- a law of a street, or none: its codes, what it says -/
abbrev DN : Type := Option (List Nat × (WdF → Int))
def DnOK (b : Bool) (o : DN) : Prop := ∀ q, o = some q → ∃ d, d ≤ 900 ∧ LawP d b q.1 q.2 ∧ q.1.length ≤ 900
def wdW (nights moon : Int) (W : List Nat) : WdF := fun k => match k with
  | 0 => nights
  | 1 => moon
  | 2 => ((frW W : Nat) : Int)
  | 3 => ((bkW W : Nat) : Int)
  | _ => ((W.length % 10 : Nat) : Int)
def pkd0 (T : Nat) (pk : DN) (w : WdF) : Int := match pk with
  | some q => q.2 w % (T : Int)
  | none => 0
/-- the table that is picked; -1: all sleeps -/
def pkd (T : Nat) (pk sl : DN) (w : WdF) : Int := match sl with
  | some q => if q.2 w = 1 then -1 else pkd0 T pk w
  | none => pkd0 T pk w
theorem pkd0_in (T : Nat) (hT : 1 ≤ T) (pk : DN) (w : WdF) : 0 ≤ pkd0 T pk w ∧ pkd0 T pk w < T := by
  unfold pkd0
  split
  · exact ⟨Int.emod_nonneg _ (by omega), Int.emod_lt_of_pos _ (by omega)⟩
  · omega
theorem pkd_in (T : Nat) (hT : 1 ≤ T) (pk sl : DN) (w : WdF) : pkd T pk sl w = -1 ∨ 0 ≤ pkd T pk sl w ∧ pkd T pk sl w < T := by
  have := pkd0_in T hT pk w
  unfold pkd
  split
  · split
    · exact Or.inl rfl
    · exact Or.inr this
  · exact Or.inr this
/-- why a night by a table (none: -1) can't be -/
def whyB (bec : Nat → Nat → List Nat) (std tbl : List Nat) (t : Int) : Int := if t = -1 then 0 else if tbl.length = 60 then 2 else if 1000000000000 < (wrd bec std (tbl ++ [t.toNat])).length then 3 else 0
/-- what stands: tables of nights, nights, moon -/
abbrev S3 : Type := List Nat × Int × Int
/-- a street: tables, rules, the word, its laws -/
abbrev SP : Type := Nat × (Nat → Nat → List Nat) × List Nat × DN × DN
abbrev sT (s : SP) : Nat := s.1
abbrev sB (s : SP) : Nat → Nat → List Nat := s.2.1
abbrev sS (s : SP) : List Nat := s.2.2.1
abbrev sP (s : SP) : DN := s.2.2.2.1
abbrev sL (s : SP) : DN := s.2.2.2.2
abbrev wrdS (s : SP) (a : S3) : List Nat := wrd (sB s) (sS s) a.1
def pkS (s : SP) (a : S3) : Int := pkd (sT s) (sP s) (sL s) (wdW a.2.1 a.2.2 (wrdS s a))
def byS (s : SP) (a : S3) (v : Int) : Int := if v = 0 then pkS s a else v - 1
def whyS (s : SP) (a : S3) (v : Int) : Int := if 0 ≤ v ∧ v ≤ (sT s : Int) then whyB (sB s) (sS s) a.1 (byS s a v) else 1
def toldS (s : SP) (a : S3) (v : Int) : Int := if 0 ≤ v ∧ v ≤ 9 then whyS s a v else if 10 ≤ v ∧ v ≤ 19 then 0 else 1
def byG (a : S3) (t : Int) : S3 := (if t = -1 then a.1 else a.1 ++ [t.toNat], a.2.1 + 1, a.2.2)
def goS (s : SP) (a : S3) (v : Int) : S3 := if 10 ≤ v then (a.1, a.2.1, v - 10) else byG a (byS s a v)
/-- what stands is sound: at most so many nights -/
def OKS (s : SP) (N : Int) (a : S3) : Prop := a.1.length ≤ 60 ∧ (∀ t ∈ a.1, t < 3) ∧ (0 ≤ a.2.1 ∧ a.2.1 ≤ N) ∧ (0 ≤ a.2.2 ∧ a.2.2 ≤ 9) ∧ (wrdS s a).length ≤ 1000000000000
def StOK (s : SP) : Prop := BecOK (sT s) (sB s) (sS s) ∧ DnOK false (sP s) ∧ DnOK true (sL s)
theorem frW_in {W : List Nat} (h : ∀ d ∈ W, d < 6) : frW W ≤ 6 := by
  unfold frW
  split
  · omega
  · have := h _ (getD_mem (l := W) (k := 0) (by omega))
    omega
theorem bkW_in {W : List Nat} (h : ∀ d ∈ W, d < 6) : bkW W ≤ 6 := by
  unfold bkW
  split
  · omega
  · have := h _ (getD_mem (l := W) (k := W.length - 1) (by omega))
    omega
theorem wdW_ok {nights moon : Int} {W : List Nat} (h : ∀ d ∈ W, d < 6) (hn : 0 ≤ nights ∧ nights < 2147483648) (hm : 0 ≤ moon ∧ moon ≤ 9) : WdOK (wdW nights moon W) := by
  have h1 := frW_in h
  have h2 := bkW_in h
  intro k hk
  match k, hk with
  | 0, _ => exact ⟨by show _ ≤ nights; omega, hn.2⟩
  | 1, _ => exact ⟨by show _ ≤ moon; omega, by show moon < _; omega⟩
  | 2, _ => exact ⟨by show _ ≤ ((frW W : Nat) : Int); omega, by show ((frW W : Nat) : Int) < _; omega⟩
  | 3, _ => exact ⟨by show _ ≤ ((bkW W : Nat) : Int); omega, by show ((bkW W : Nat) : Int) < _; omega⟩
  | k + 4, _ => exact ⟨by show _ ≤ ((W.length % 10 : Nat) : Int); omega, by show ((W.length % 10 : Nat) : Int) < _; omega⟩
theorem OKS.lt {s : SP} {N : Int} {a : S3} (hs : StOK s) (h : OKS s N a) : ∀ d ∈ wrdS s a, d < 6 :=
  wrd_lt (fun t c ht hc => (hs.1.2.2.2 t c ht hc).2) (fun c hc => hs.1.2.2.1.2.2 c hc) h.2.1
theorem OKS.go {s : SP} {N : Int} {a : S3} (hs : StOK s) (h : OKS s N a) {v : Int} (hv : toldS s a v = 0) : OKS s (N + 1) (goS s a v) := by
  obtain ⟨h1, h2, h3, h4, h5⟩ := h
  have hpi := pkd_in (sT s) hs.1.1 (sP s) (sL s) (wdW a.2.1 a.2.2 (wrdS s a))
  have hT := hs.1.2.1
  unfold goS
  split
  next q =>
    have h19 : v ≤ 19 := by
      unfold toldS at hv
      rw [if_neg (by omega)] at hv
      split at hv <;> omega
    exact ⟨h1, h2, by show 0 ≤ a.2.1 ∧ a.2.1 ≤ N + 1; omega, by show 0 ≤ v - 10 ∧ v - 10 ≤ 9; omega, h5⟩
  next q =>
    have h9 : 0 ≤ v ∧ v ≤ 9 := by
      unfold toldS at hv
      split at hv
      · assumption
      · split at hv <;> omega
    unfold toldS at hv
    rw [if_pos h9] at hv
    unfold whyS at hv
    split at hv
    · unfold whyB at hv
      have hby : byS s a v = -1 ∨ 0 ≤ byS s a v ∧ byS s a v < 3 := by
        unfold byS pkS
        split <;> omega
      generalize byS s a v = t at hv hby
      unfold byG
      by_cases e : t = -1
      · rw [if_pos e]
        exact ⟨h1, h2, by show 0 ≤ a.2.1 + 1 ∧ a.2.1 + 1 ≤ N + 1; omega, h4, h5⟩
      · rw [if_neg e] at hv ⊢
        split at hv
        · omega
        · split at hv
          · omega
          next hl =>
            refine ⟨?_, ?_, by show 0 ≤ a.2.1 + 1 ∧ a.2.1 + 1 ≤ N + 1; omega, h4, ?_⟩
            · show (a.1 ++ [t.toNat]).length ≤ 60
              rw [List.length_append, List.length_singleton]
              omega
            · intro x hx
              rcases List.mem_append.mp hx with hx | hx
              · exact h2 x hx
              · have := List.mem_singleton.mp hx
                omega
            · show (wrd (sB s) (sS s) (a.1 ++ [t.toNat])).length ≤ _
              omega
    · omega
