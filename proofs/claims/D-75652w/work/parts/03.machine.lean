/-! THE ABSTRACT MACHINE: values, heaps, locals; how they stand for the real ones -/
/-- an abstract value: an int, a long, a reference; each by an Int (a reference: -1 is null, 0.. the cells made since the law's start, -2.. constants) -/
abbrev AV : Type := Int ⊕ (Int ⊕ Int)
abbrev AL : Type := List (Option AV)
/-- an abstract heap: ((cells made, cells charged, slots charged), kind and length of each, contents of each) -/
abbrev AH : Type := (Nat × Nat × Nat) × (Nat → Nat × Nat) × (Nat → Nat → Int)
def nN (h : AH) : Nat := h.1.1
def nC (h : AH) : Nat := h.1.2.1
def nS (h : AH) : Nat := h.1.2.2
def hkd (h : AH) (a : Nat) : Nat × Nat := h.2.1 a
def hdt (h : AH) (a : Nat) : Nat → Int := h.2.2 a
def fup (f : Nat → Int) (j : Nat) (v : Int) : Nat → Int := fun i => if i = j then v else f i
/-- a cell's contents laid anew -/
def hrw (h : AH) (a : Nat) (f : Nat → Int) : AH := (h.1, h.2.1, fun b => if b = a then f else h.2.2 b)
/-- one place of a cell -/
def hwr (h : AH) (a j : Nat) (v : Int) : AH := hrw h a (fup (hdt h a) j v)
/-- a new cell: its kind, its length, its contents, the slots that it costs -/
def hnw (h : AH) (kd len : Nat) (f : Nat → Int) : AH :=
  ((nN h + 1, nC h + 1, nS h + len), (fun b => if b = nN h then (kd, len) else h.2.1 b), fun b => if b = nN h then f else h.2.2 b)
/-- the charged counters laid anew -/
def hch (h : AH) (c s : Nat) : AH := ((nN h, c, s), h.2.1, h.2.2)
theorem nN_hrw (h : AH) (a : Nat) (f : Nat → Int) : nN (hrw h a f) = nN h := rfl
theorem nC_hrw (h : AH) (a : Nat) (f : Nat → Int) : nC (hrw h a f) = nC h := rfl
theorem nS_hrw (h : AH) (a : Nat) (f : Nat → Int) : nS (hrw h a f) = nS h := rfl
theorem hkd_hrw (h : AH) (a b : Nat) (f : Nat → Int) : hkd (hrw h a f) b = hkd h b := rfl
theorem hdt_hrw (h : AH) (a b : Nat) (f : Nat → Int) : hdt (hrw h a f) b = if b = a then f else hdt h b := rfl
theorem hdt_hrw_s (h : AH) (a : Nat) (f : Nat → Int) : hdt (hrw h a f) a = f := by simp [hdt, hrw]
theorem hdt_hrw_n (h : AH) {a b : Nat} (f : Nat → Int) (n : b ≠ a) : hdt (hrw h a f) b = hdt h b := by simp [hdt, hrw, n]
theorem nN_hwr (h : AH) (a j : Nat) (v : Int) : nN (hwr h a j v) = nN h := rfl
theorem nC_hwr (h : AH) (a j : Nat) (v : Int) : nC (hwr h a j v) = nC h := rfl
theorem nS_hwr (h : AH) (a j : Nat) (v : Int) : nS (hwr h a j v) = nS h := rfl
theorem hkd_hwr (h : AH) (a b j : Nat) (v : Int) : hkd (hwr h a j v) b = hkd h b := rfl
theorem hdt_hwr (h : AH) (a b j : Nat) (v : Int) : hdt (hwr h a j v) b = if b = a then fup (hdt h a) j v else hdt h b := rfl
theorem nN_hch (h : AH) (c s : Nat) : nN (hch h c s) = nN h := rfl
theorem nC_hch (h : AH) (c s : Nat) : nC (hch h c s) = c := rfl
theorem nS_hch (h : AH) (c s : Nat) : nS (hch h c s) = s := rfl
theorem hkd_hch (h : AH) (c s : Nat) (b : Nat) : hkd (hch h c s) b = hkd h b := rfl
theorem hdt_hch (h : AH) (c s : Nat) (b : Nat) : hdt (hch h c s) b = hdt h b := rfl
theorem nN_hnw (h : AH) (kd len : Nat) (f : Nat → Int) : nN (hnw h kd len f) = nN h + 1 := rfl
theorem nC_hnw (h : AH) (kd len : Nat) (f : Nat → Int) : nC (hnw h kd len f) = nC h + 1 := rfl
theorem nS_hnw (h : AH) (kd len : Nat) (f : Nat → Int) : nS (hnw h kd len f) = nS h + len := rfl
theorem hkd_hnw (h : AH) (kd len : Nat) (f : Nat → Int) (b : Nat) : hkd (hnw h kd len f) b = if b = nN h then (kd, len) else hkd h b := rfl
theorem hdt_hnw (h : AH) (kd len : Nat) (f : Nat → Int) (b : Nat) : hdt (hnw h kd len f) b = if b = nN h then f else hdt h b := rfl
theorem fup_s (f : Nat → Int) (j : Nat) (v : Int) : fup f j v j = v := by simp [fup]
theorem fup_n (f : Nat → Int) {i j : Nat} (v : Int) (h : i ≠ j) : fup f j v i = f i := by simp [fup, h]
theorem fup_at (f : Nat → Int) (i j : Nat) (v : Int) : fup f j v i = if i = j then v else f i := rfl
theorem hrw_hrw (h : AH) (a : Nat) (f g : Nat → Int) : hrw (hrw h a f) a g = hrw h a g := by
  unfold hrw
  congr 2
  funext b
  by_cases e : b = a <;> simp [e]
theorem hrw_self (h : AH) (a : Nat) : hrw h a (hdt h a) = h := by
  unfold hrw hdt
  obtain ⟨x, y, z⟩ := h
  congr 2
  funext b
  by_cases e : b = a <;> simp [e]
/-! numbers: what an Int stands for -/
noncomputable def w8 : Int → Int := Classical.choose (⟨fun z => (z + 128) % 256 - 128, fun _ => rfl⟩ : ∃ f : Int → Int, ∀ z, f z = (z + 128) % 256 - 128)
theorem w8_def (z : Int) : w8 z = (z + 128) % 256 - 128 := Classical.choose_spec (⟨fun z => (z + 128) % 256 - 128, fun _ => rfl⟩ : ∃ f : Int → Int, ∀ z, f z = (z + 128) % 256 - 128) z
noncomputable def w16 : Int → Int := Classical.choose (⟨fun z => (z + 32768) % 65536 - 32768, fun _ => rfl⟩ : ∃ f : Int → Int, ∀ z, f z = (z + 32768) % 65536 - 32768)
theorem w16_def (z : Int) : w16 z = (z + 32768) % 65536 - 32768 := Classical.choose_spec (⟨fun z => (z + 32768) % 65536 - 32768, fun _ => rfl⟩ : ∃ f : Int → Int, ∀ z, f z = (z + 32768) % 65536 - 32768) z
noncomputable def w32 : Int → Int := Classical.choose (⟨fun z => (z + 2147483648) % 4294967296 - 2147483648, fun _ => rfl⟩ : ∃ f : Int → Int, ∀ z, f z = (z + 2147483648) % 4294967296 - 2147483648)
theorem w32_def (z : Int) : w32 z = (z + 2147483648) % 4294967296 - 2147483648 := Classical.choose_spec (⟨fun z => (z + 2147483648) % 4294967296 - 2147483648, fun _ => rfl⟩ : ∃ f : Int → Int, ∀ z, f z = (z + 2147483648) % 4294967296 - 2147483648) z
noncomputable def w64 : Int → Int := Classical.choose (⟨fun z => (z + 9223372036854775808) % 18446744073709551616 - 9223372036854775808, fun _ => rfl⟩ : ∃ f : Int → Int, ∀ z, f z = (z + 9223372036854775808) % 18446744073709551616 - 9223372036854775808)
theorem w64_def (z : Int) : w64 z = (z + 9223372036854775808) % 18446744073709551616 - 9223372036854775808 := Classical.choose_spec (⟨fun z => (z + 9223372036854775808) % 18446744073709551616 - 9223372036854775808, fun _ => rfl⟩ : ∃ f : Int → Int, ∀ z, f z = (z + 9223372036854775808) % 18446744073709551616 - 9223372036854775808) z
theorem w8_eq {z : Int} (h1 : -128 ≤ z) (h2 : z < 128) : w8 z = z := by rw [w8_def]; omega
theorem w16_eq {z : Int} (h1 : -32768 ≤ z) (h2 : z < 32768) : w16 z = z := by rw [w16_def]; omega
theorem w8_in (z : Int) : -128 ≤ w8 z ∧ w8 z < 128 := by rw [w8_def]; omega
theorem w16_in (z : Int) : -32768 ≤ w16 z ∧ w16 z < 32768 := by rw [w16_def]; omega
theorem w32_eq {z : Int} (h1 : -2147483648 ≤ z) (h2 : z < 2147483648) : w32 z = z := by simp only [w32_def]; omega
theorem w64_eq {z : Int} (h1 : -9223372036854775808 ≤ z) (h2 : z < 9223372036854775808) : w64 z = z := by simp only [w64_def]; omega
theorem w32_in (z : Int) : -2147483648 ≤ w32 z ∧ w32 z < 2147483648 := by simp only [w32_def]; omega
theorem w64_in (z : Int) : -9223372036854775808 ≤ w64 z ∧ w64 z < 9223372036854775808 := by simp only [w64_def]; omega
theorem i32_toInt (z : Int) : (Int32.ofInt z).toInt = w32 z := by
  rw [Int32.toInt_ofInt]
  simp only [w32_def]
  show z.bmod 4294967296 = _
  rw [Int.bmod_def]
  omega
theorem i64_toInt (z : Int) : (Int64.ofInt z).toInt = w64 z := by
  rw [Int64.toInt_ofInt]
  simp only [w64_def]
  show z.bmod 18446744073709551616 = _
  rw [Int.bmod_def]
  omega
theorem i32_of (v : Int32) : Int32.ofInt v.toInt = v := Int32.ofInt_toInt v
theorem i64_of (v : Int64) : Int64.ofInt v.toInt = v := Int64.ofInt_toInt v
theorem i32_same {a b : Int} (h : w32 a = w32 b) : Int32.ofInt a = Int32.ofInt b := by
  rw [← i32_of (Int32.ofInt a), ← i32_of (Int32.ofInt b), i32_toInt, i32_toInt, h]
theorem i64_same {a b : Int} (h : w64 a = w64 b) : Int64.ofInt a = Int64.ofInt b := by
  rw [← i64_of (Int64.ofInt a), ← i64_of (Int64.ofInt b), i64_toInt, i64_toInt, h]
/-- bit operations, through the machine's own -/
noncomputable def zand : Int → Int → Int := Classical.choose (⟨fun a b => (Int32.ofInt a &&& Int32.ofInt b).toInt, fun _ _ => rfl⟩ : ∃ f : Int → Int → Int, ∀ a b, f a b = (Int32.ofInt a &&& Int32.ofInt b).toInt)
theorem zand_def (a b : Int) : zand a b = (Int32.ofInt a &&& Int32.ofInt b).toInt := Classical.choose_spec (⟨fun a b => (Int32.ofInt a &&& Int32.ofInt b).toInt, fun _ _ => rfl⟩ : ∃ f : Int → Int → Int, ∀ a b, f a b = (Int32.ofInt a &&& Int32.ofInt b).toInt) a b
noncomputable def zor : Int → Int → Int := Classical.choose (⟨fun a b => (Int32.ofInt a ||| Int32.ofInt b).toInt, fun _ _ => rfl⟩ : ∃ f : Int → Int → Int, ∀ a b, f a b = (Int32.ofInt a ||| Int32.ofInt b).toInt)
theorem zor_def (a b : Int) : zor a b = (Int32.ofInt a ||| Int32.ofInt b).toInt := Classical.choose_spec (⟨fun a b => (Int32.ofInt a ||| Int32.ofInt b).toInt, fun _ _ => rfl⟩ : ∃ f : Int → Int → Int, ∀ a b, f a b = (Int32.ofInt a ||| Int32.ofInt b).toInt) a b
noncomputable def zxor : Int → Int → Int := Classical.choose (⟨fun a b => (Int32.ofInt a ^^^ Int32.ofInt b).toInt, fun _ _ => rfl⟩ : ∃ f : Int → Int → Int, ∀ a b, f a b = (Int32.ofInt a ^^^ Int32.ofInt b).toInt)
theorem zxor_def (a b : Int) : zxor a b = (Int32.ofInt a ^^^ Int32.ofInt b).toInt := Classical.choose_spec (⟨fun a b => (Int32.ofInt a ^^^ Int32.ofInt b).toInt, fun _ _ => rfl⟩ : ∃ f : Int → Int → Int, ∀ a b, f a b = (Int32.ofInt a ^^^ Int32.ofInt b).toInt) a b
noncomputable def zshl : Int → Int → Int := Classical.choose (⟨fun a b => (Int32.ofInt a <<< (Int32.ofInt b &&& 31)).toInt, fun _ _ => rfl⟩ : ∃ f : Int → Int → Int, ∀ a b, f a b = (Int32.ofInt a <<< (Int32.ofInt b &&& 31)).toInt)
theorem zshl_def (a b : Int) : zshl a b = (Int32.ofInt a <<< (Int32.ofInt b &&& 31)).toInt := Classical.choose_spec (⟨fun a b => (Int32.ofInt a <<< (Int32.ofInt b &&& 31)).toInt, fun _ _ => rfl⟩ : ∃ f : Int → Int → Int, ∀ a b, f a b = (Int32.ofInt a <<< (Int32.ofInt b &&& 31)).toInt) a b
noncomputable def zshr : Int → Int → Int := Classical.choose (⟨fun a b => (Int32.ofInt a >>> (Int32.ofInt b &&& 31)).toInt, fun _ _ => rfl⟩ : ∃ f : Int → Int → Int, ∀ a b, f a b = (Int32.ofInt a >>> (Int32.ofInt b &&& 31)).toInt)
theorem zshr_def (a b : Int) : zshr a b = (Int32.ofInt a >>> (Int32.ofInt b &&& 31)).toInt := Classical.choose_spec (⟨fun a b => (Int32.ofInt a >>> (Int32.ofInt b &&& 31)).toInt, fun _ _ => rfl⟩ : ∃ f : Int → Int → Int, ∀ a b, f a b = (Int32.ofInt a >>> (Int32.ofInt b &&& 31)).toInt) a b
noncomputable def zushr : Int → Int → Int := Classical.choose (⟨fun a b => (((Int32.ofInt a).toUInt32 >>> ((Int32.ofInt b).toUInt32 &&& Int32.toUInt32 31)).toInt32).toInt, fun _ _ => rfl⟩ : ∃ f : Int → Int → Int, ∀ a b, f a b = (((Int32.ofInt a).toUInt32 >>> ((Int32.ofInt b).toUInt32 &&& Int32.toUInt32 31)).toInt32).toInt)
theorem zushr_def (a b : Int) : zushr a b = (((Int32.ofInt a).toUInt32 >>> ((Int32.ofInt b).toUInt32 &&& Int32.toUInt32 31)).toInt32).toInt := Classical.choose_spec (⟨fun a b => (((Int32.ofInt a).toUInt32 >>> ((Int32.ofInt b).toUInt32 &&& Int32.toUInt32 31)).toInt32).toInt, fun _ _ => rfl⟩ : ∃ f : Int → Int → Int, ∀ a b, f a b = (((Int32.ofInt a).toUInt32 >>> ((Int32.ofInt b).toUInt32 &&& Int32.toUInt32 31)).toInt32).toInt) a b
noncomputable def yand : Int → Int → Int := Classical.choose (⟨fun a b => (Int64.ofInt a &&& Int64.ofInt b).toInt, fun _ _ => rfl⟩ : ∃ f : Int → Int → Int, ∀ a b, f a b = (Int64.ofInt a &&& Int64.ofInt b).toInt)
theorem yand_def (a b : Int) : yand a b = (Int64.ofInt a &&& Int64.ofInt b).toInt := Classical.choose_spec (⟨fun a b => (Int64.ofInt a &&& Int64.ofInt b).toInt, fun _ _ => rfl⟩ : ∃ f : Int → Int → Int, ∀ a b, f a b = (Int64.ofInt a &&& Int64.ofInt b).toInt) a b
noncomputable def yor : Int → Int → Int := Classical.choose (⟨fun a b => (Int64.ofInt a ||| Int64.ofInt b).toInt, fun _ _ => rfl⟩ : ∃ f : Int → Int → Int, ∀ a b, f a b = (Int64.ofInt a ||| Int64.ofInt b).toInt)
theorem yor_def (a b : Int) : yor a b = (Int64.ofInt a ||| Int64.ofInt b).toInt := Classical.choose_spec (⟨fun a b => (Int64.ofInt a ||| Int64.ofInt b).toInt, fun _ _ => rfl⟩ : ∃ f : Int → Int → Int, ∀ a b, f a b = (Int64.ofInt a ||| Int64.ofInt b).toInt) a b
noncomputable def yshl : Int → Int → Int := Classical.choose (⟨fun a b => (Int64.ofInt a <<< ((Int32.ofInt b).toInt64 &&& 63)).toInt, fun _ _ => rfl⟩ : ∃ f : Int → Int → Int, ∀ a b, f a b = (Int64.ofInt a <<< ((Int32.ofInt b).toInt64 &&& 63)).toInt)
theorem yshl_def (a b : Int) : yshl a b = (Int64.ofInt a <<< ((Int32.ofInt b).toInt64 &&& 63)).toInt := Classical.choose_spec (⟨fun a b => (Int64.ofInt a <<< ((Int32.ofInt b).toInt64 &&& 63)).toInt, fun _ _ => rfl⟩ : ∃ f : Int → Int → Int, ∀ a b, f a b = (Int64.ofInt a <<< ((Int32.ofInt b).toInt64 &&& 63)).toInt) a b
noncomputable def yshr : Int → Int → Int := Classical.choose (⟨fun a b => (Int64.ofInt a >>> ((Int32.ofInt b).toInt64 &&& 63)).toInt, fun _ _ => rfl⟩ : ∃ f : Int → Int → Int, ∀ a b, f a b = (Int64.ofInt a >>> ((Int32.ofInt b).toInt64 &&& 63)).toInt)
theorem yshr_def (a b : Int) : yshr a b = (Int64.ofInt a >>> ((Int32.ofInt b).toInt64 &&& 63)).toInt := Classical.choose_spec (⟨fun a b => (Int64.ofInt a >>> ((Int32.ofInt b).toInt64 &&& 63)).toInt, fun _ _ => rfl⟩ : ∃ f : Int → Int → Int, ∀ a b, f a b = (Int64.ofInt a >>> ((Int32.ofInt b).toInt64 &&& 63)).toInt) a b
/-- signs of a comparison of longs -/
noncomputable def ycmp (a b : Int) : Int := if w64 b < w64 a then 1 else if w64 a = w64 b then 0 else -1
/-! locals -/
def lget : AL → Nat → Option AV
  | [], _ => none
  | x :: _, 0 => x
  | _ :: t, n + 1 => lget t n
def lset : AL → Nat → Option AV → AL
  | [], _, _ => []
  | _ :: t, 0, v => v :: t
  | x :: t, n + 1, v => x :: lset t n v
/-- what stands ahead of a place is no long any more -/
def lclr (L : AL) : Nat → AL
  | 0 => L
  | j + 1 => match lget L j with
    | some (.inr (.inl _)) => lset L j none
    | _ => L
def lst1 (L : AL) (i : Nat) (v : AV) : AL := lset (lclr L i) i (some v)
def lst2 (L : AL) (i : Nat) (v : AV) : AL := lset (lset (lclr L i) i (some v)) (i + 1) none
/-- fewer locals are known -/
def lle : AL → AL → Prop
  | [], _ => True
  | none :: a, [] => lle a []
  | some _ :: _, [] => False
  | none :: a, _ :: b => lle a b
  | some x :: a, y :: b => y = some x ∧ lle a b
def largs : List AV → AL
  | [] => []
  | .inr (.inl z) :: t => some (.inr (.inl z)) :: none :: largs t
  | v :: t => some v :: largs t
def lpad : AL → Nat → AL
  | L, 0 => L
  | [], n + 1 => none :: lpad [] n
  | x :: t, n + 1 => x :: lpad t n
def acat : AV → Nat
  | .inr (.inl _) => 2
  | _ => 1
def acats : List AV → Nat
  | [] => 0
  | v :: t => acat v + acats t
theorem lget_lset (L : AL) (i j : Nat) (v : Option AV) : lget (lset L i v) j = if j = i ∧ i < L.length then v else lget L j := by
  induction L generalizing i j with
  | nil => simp [lset, lget]
  | cons x t ih =>
    cases i with
    | zero =>
      cases j with
      | zero => simp [lset, lget]
      | succ j => simp [lset, lget]
    | succ i =>
      cases j with
      | zero => simp [lset, lget]
      | succ j => simp [lset, lget, ih]
theorem lset_length (L : AL) (i : Nat) (v : Option AV) : (lset L i v).length = L.length := by
  induction L generalizing i with
  | nil => rfl
  | cons x t ih => cases i <;> simp [lset, ih]
theorem lclr_succ (L : AL) (j : Nat) : lclr L (j + 1) = (match lget L j with
    | some (.inr (.inl _)) => lset L j none
    | _ => L) := rfl
theorem lclr_length (L : AL) (i : Nat) : (lclr L i).length = L.length := by
  cases i with
  | zero => rfl
  | succ j =>
    rw [lclr_succ]
    split
    · exact lset_length _ _ _
    · rfl
theorem lget_lt {L : AL} {i : Nat} {v : AV} (h : lget L i = some v) : i < L.length := by
  induction L generalizing i with
  | nil => simp [lget] at h
  | cons x t ih =>
    cases i with
    | zero => simp
    | succ i =>
      have := ih (i := i) (by simpa [lget] using h)
      simp; omega
theorem lget_lclr {L : AL} {i j : Nat} {v : AV} (h : lget (lclr L i) j = some v) : lget L j = some v ∧ ¬ (j + 1 = i ∧ acat v = 2) := by
  cases i with
  | zero => exact ⟨h, fun q => by omega⟩
  | succ i =>
    rw [lclr_succ] at h
    split at h
    next z e =>
      rw [lget_lset] at h
      split at h
      · cases h
      next hn =>
        refine ⟨h, fun q => ?_⟩
        have hji : j = i := by omega
        subst hji
        exact hn ⟨rfl, lget_lt h⟩
    next hne =>
      refine ⟨h, fun q => ?_⟩
      have hji : j = i := by omega
      subst hji
      rcases v with z | z | z
      · simp [acat] at q
      · exact hne z h
      · simp [acat] at q
theorem lle_get {A B : AL} (h : lle A B) {i : Nat} {v : AV} (e : lget A i = some v) : lget B i = some v := by
  induction A generalizing B i with
  | nil => simp [lget] at e
  | cons x a ih =>
    cases x with
    | none =>
      cases B with
      | nil =>
        cases i with
        | zero => simp [lget] at e
        | succ i => exact absurd (ih (B := []) (by simpa [lle] using h) (i := i) (by simpa [lget] using e)) (by simp [lget])
      | cons y b =>
        cases i with
        | zero => simp [lget] at e
        | succ i => exact ih (B := b) (by simpa [lle] using h) (i := i) (by simpa [lget] using e)
    | some x =>
      cases B with
      | nil => simp [lle] at h
      | cons y b =>
        simp only [lle] at h
        cases i with
        | zero =>
          simp only [lget] at e ⊢
          rw [h.1, e]
        | succ i => exact ih h.2 (by simpa [lget] using e)
