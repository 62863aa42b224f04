/-! the classes of the world, by number -/
abbrev clL : List vw_C := [(RX0, TX0, 33), (RX1, TX1, 10), (RX2, TX2, 7), (RX3, TX3, 6), (RX4, TX4, 1), (RX5, TX5, 45), (RX6, TX6, 11), (RX8, TX8, 1), (RX9, TX9, 3), (RX10, TX10, 3), (RX12, TX12, 3), (RX13, TX13, 1), (RX14, TX14, 1), (RX15, TX15, 3)]
def clTy : Nat → Nat → FieldType := fun c => match c with
  | 0 => tyX0
  | 1 => tyX1
  | 2 => tyX2
  | 3 => tyX3
  | 4 => tyX4
  | 5 => tyX5
  | 6 => tyX6
  | 7 => tyX8
  | 8 => tyX9
  | 9 => tyX10
  | 10 => tyX12
  | 11 => tyX13
  | 12 => tyX14
  | _ => tyX15
def clOKat (c : Nat) (q : vw_C) : Prop := (∀ w ∈ u_ws q.1 q.2.1 q.2.2, w ∈ lw_all) ∧ (∀ k, k < q.2.2 → parseFieldDescriptor (q.2.1 k).2.2.1 = some (clTy c k)) ∧ (∀ a, a < q.2.2 → ∀ b, b < q.2.2 → a ≠ b → (q.2.1 a).2.1 ≠ (q.2.1 b).2.1) ∧ Cond.instantiable q.1 q.2.2 ∈ lw_all ∧ Cond.initialized q.1 ∈ lw_all
theorem clOK_0 : clOKat 0 (RX0, TX0, 33) := ⟨in_X0, tyX0_ok, nmX0, q178, q146⟩
theorem clOK_1 : clOKat 1 (RX1, TX1, 10) := ⟨in_X1, tyX1_ok, nmX1, q186, q147⟩
theorem clOK_2 : clOKat 2 (RX2, TX2, 7) := ⟨in_X2, tyX2_ok, nmX2, q239, q148⟩
theorem clOK_3 : clOKat 3 (RX3, TX3, 6) := ⟨in_X3, tyX3_ok, nmX3, q274, q149⟩
theorem clOK_4 : clOKat 4 (RX4, TX4, 1) := ⟨in_X4, tyX4_ok, nmX4, q303, q150⟩
theorem clOK_5 : clOKat 5 (RX5, TX5, 45) := ⟨in_X5, tyX5_ok, nmX5, q1476, q151⟩
theorem clOK_6 : clOKat 6 (RX6, TX6, 11) := ⟨in_X6, tyX6_ok, nmX6, q439, q152⟩
theorem clOK_7 : clOKat 7 (RX8, TX8, 1) := ⟨in_X8, tyX8_ok, nmX8, q707, q160⟩
theorem clOK_8 : clOKat 8 (RX9, TX9, 3) := ⟨in_X9, tyX9_ok, nmX9, q724, q161⟩
theorem clOK_9 : clOKat 9 (RX10, TX10, 3) := ⟨in_X10, tyX10_ok, nmX10, q741, q162⟩
theorem clOK_10 : clOKat 10 (RX12, TX12, 3) := ⟨in_X12, tyX12_ok, nmX12, q761, q164⟩
theorem clOK_11 : clOKat 11 (RX13, TX13, 1) := ⟨in_X13, tyX13_ok, nmX13, q788, q165⟩
theorem clOK_12 : clOKat 12 (RX14, TX14, 1) := ⟨in_X14, tyX14_ok, nmX14, q798, q166⟩
theorem clOK_13 : clOKat 13 (RX15, TX15, 3) := ⟨in_X15, tyX15_ok, nmX15, q808, q167⟩
theorem clOK {c : Nat} {q : vw_C} (h : clL[c]? = some q) : clOKat c q := by
  match c, h with
  | 0, h => cases h; exact clOK_0
  | 1, h => cases h; exact clOK_1
  | 2, h => cases h; exact clOK_2
  | 3, h => cases h; exact clOK_3
  | 4, h => cases h; exact clOK_4
  | 5, h => cases h; exact clOK_5
  | 6, h => cases h; exact clOK_6
  | 7, h => cases h; exact clOK_7
  | 8, h => cases h; exact clOK_8
  | 9, h => cases h; exact clOK_9
  | 10, h => cases h; exact clOK_10
  | 11, h => cases h; exact clOK_11
  | 12, h => cases h; exact clOK_12
  | 13, h => cases h; exact clOK_13
  | c + 14, h => simp [clL] at h
/-! the String constants, by number -/
def stTx : List String := [";:+-*()[]=<>", "street", "tables", "moon", "stands", "rule", "nothing", "picks", "if", "not", "and", "or", "then", "else", "end", "night", "front", "back", "rest", "sleeps", " street tables moon stands rule nothing picks sleeps if then else end night front back rest and or not "]
def stLen : List Nat := [12, 6, 6, 4, 6, 4, 7, 5, 2, 3, 3, 2, 4, 4, 3, 5, 5, 4, 4, 6, 103]
def stByt : List (List Int32) := [[59, 58, 43, 45, 42, 40, 41, 91, 93, 61, 60, 62], [115, 116, 114, 101, 101, 116], [116, 97, 98, 108, 101, 115], [109, 111, 111, 110], [115, 116, 97, 110, 100, 115], [114, 117, 108, 101], [110, 111, 116, 104, 105, 110, 103], [112, 105, 99, 107, 115], [105, 102], [110, 111, 116], [97, 110, 100], [111, 114], [116, 104, 101, 110], [101, 108, 115, 101], [101, 110, 100], [110, 105, 103, 104, 116], [102, 114, 111, 110, 116], [98, 97, 99, 107], [114, 101, 115, 116], [115, 108, 101, 101, 112, 115], [32, 115, 116, 114, 101, 101, 116, 32, 116, 97, 98, 108, 101, 115, 32, 109, 111, 111, 110, 32, 115, 116, 97, 110, 100, 115, 32, 114, 117, 108, 101, 32, 110, 111, 116, 104, 105, 110, 103, 32, 112, 105, 99, 107, 115, 32, 115, 108, 101, 101, 112, 115, 32, 105, 102, 32, 116, 104, 101, 110, 32, 101, 108, 115, 101, 32, 101, 110, 100, 32, 110, 105, 103, 104, 116, 32, 102, 114, 111, 110, 116, 32, 98, 97, 99, 107, 32, 114, 101, 115, 116, 32, 97, 110, 100, 32, 111, 114, 32, 110, 111, 116, 32]]
abbrev stN : Nat := 21
/-- where String constants are loaded: class, entry, number of the text -/
def stRf : List (String × Nat × Nat) := [("LetterNights$Reader", 72, 0), ("LetterNights$Reader", 106, 1), ("LetterNights$Reader", 112, 2), ("LetterNights$Reader", 120, 3), ("LetterNights$Reader", 136, 4), ("LetterNights$Reader", 140, 5), ("LetterNights$Reader", 163, 6), ("LetterNights$Reader", 144, 7), ("LetterNights$Reader", 237, 8), ("LetterNights$Reader", 202, 9), ("LetterNights$Reader", 200, 10), ("LetterNights$Reader", 190, 11), ("LetterNights$Reader", 252, 12), ("LetterNights$Reader", 254, 13), ("LetterNights$Reader", 256, 14), ("LetterNights$Reader", 229, 15), ("LetterNights$Reader", 231, 16), ("LetterNights$Reader", 233, 17), ("LetterNights$Reader", 235, 18), ("LetterNights$Reader", 149, 19), ("LetterNightsModel", 113, 20), ("LetterNightsModel", 151, 0)]
/-! ghosts of a run: the classes' numbers, the array classes' numbers, the first address, the Strings' and their arrays' addresses, the script (address, length, ints), the formatter's address -/
abbrev GT : Type := va_G × (Nat → ClassId) × Nat × (Nat → Nat) × (Nat → Nat) × (Nat × Nat × (Nat → Int32)) × Nat × Launch
abbrev gD (G : GT) : va_G := G.1
abbrev gA (G : GT) : Nat → ClassId := G.2.1
abbrev gZ (G : GT) : Nat := G.2.2.1
abbrev gK (G : GT) : Nat → Nat := G.2.2.2.1
abbrev gV (G : GT) : Nat → Nat := G.2.2.2.2.1
abbrev gX (G : GT) : Nat × Nat × (Nat → Int32) := G.2.2.2.2.2.1
abbrev gF (G : GT) : Nat := G.2.2.2.2.2.2.1
abbrev gL (G : GT) : Launch := G.2.2.2.2.2.2.2
/-- what may be written: the cells made since the law's start -/
def aW (G : GT) : Nat → Prop := fun q => gZ G ≤ q
/-- kinds of arrays: 100 int, 101 long, 102 byte, 103 short, 104 boolean, 110 State, 111 Part, 112 Numbers, 113 Street -/
def kTy : Nat → FieldType := fun k => match k with
  | 100 => .int
  | 101 => .long
  | 102 => .byte
  | 103 => .short
  | 104 => .boolean
  | 110 => .object RX2
  | 111 => .object RX3
  | 112 => .object RX4
  | _ => .object RX1
def kKs : List Nat := [100, 101, 102, 103, 104, 110, 111, 112, 113]
/-- constants' addresses: 0 the script, 1 the formatter, 2 + 2 i String i, 3 + 2 i its array -/
def gC (G : GT) (k : Nat) : Nat := if k = 0 then (gX G).1 else if k = 1 then gF G else if k % 2 = 0 then gK G (k / 2 - 1) else gV G (k / 2 - 1)
def rV (G : GT) (z : Int) : Value := if z = -1 then .null else if 0 ≤ z then .ref (gZ G + z.toNat) else .ref (gC G (-2 - z).toNat)
def cv (G : GT) : AV → Value
  | .inl z => .int (Int32.ofInt z)
  | .inr (.inl z) => .long (Int64.ofInt z)
  | .inr (.inr z) => rV G z
/-- a value of a field or element of a type, out of its Int -/
def tV (G : GT) (ty : FieldType) (z : Int) : Value := match ty with
  | .long => .long (Int64.ofInt z)
  | .object _ => rV G z
  | .array _ => rV G z
  | _ => .int (Int32.ofInt z)
def tA (ty : FieldType) (z : Int) : AV := match ty with
  | .long => .inr (.inl z)
  | .object _ => .inr (.inr z)
  | .array _ => .inr (.inr z)
  | _ => .inl z
theorem cv_tA (G : GT) (ty : FieldType) (z : Int) : cv G (tA ty z) = tV G ty z := by cases ty <;> rfl
/-- a cell stands at an address -/
def cAt (G : GT) (a : Nat) (k : Nat × Nat) (f : Nat → Int) (H : Heap) : Prop :=
  (k.1 < 100 → ∃ q : vw_C, clL[k.1 - 1]? = some q ∧ t_OB a ((gD G).1 (k.1 - 1)) q.2.2 ((gD G).2 (k.1 - 1)) H (fun j => tV G (clTy (k.1 - 1) j) (f j))) ∧
  (100 ≤ k.1 → k.1 ∈ kKs ∧ k.2 < 2147483648 ∧ H[a]? = some (arrV (gA G k.1) k.2 (fun j => tV G (kTy k.1) (f j))))
/-- the abstract heap stands for the real one -/
def RelA (G : GT) (h : AH) (H : Heap) : Prop := H.size = gZ G + nN h ∧ ∀ i : Nat, (hkd h i).1 ≠ 0 → i < nN h ∧ cAt G (gZ G + i) (hkd h i) (hdt h i) H
def isNest : Cond → Bool
  | .fieldLinkNest .. => true
  | .methodLinkNest .. => true
  | .declares .. => true
  | _ => false
/-- pairs of array classes of which the first isn't castable to the second -/
def ncL : List (String × String) := [("[B", "[I"), ("[B", "[S"), ("[I", "[B"), ("[I", "[S"), ("[J", "[B"), ("[J", "[I"), ("[J", "[S"), ("[S", "[B"), ("[S", "[I")]
/-- what is known of the tables all through the run -/
def KnA (G : GT) (U : State) : Prop := va_K (gD G) clL (kKs.map fun k => (gA G k, kTy k)) U ∧ (∀ w ∈ lw_tbl, isNest w = true → va_Nw w U) ∧ (∀ C : String, Cond.arrayOver (.object C) ∈ lw_tbl → va_AO C U) ∧ (∀ q ∈ ncL, va_Nc q.1 q.2 U) ∧ ∀ q ∈ stRf, vk_R q.1 q.2.1 (stTx.getD q.2.2 "") (gK G q.2.2) U
/-- what lies in the heap all through the run, and is never written: the script, the Strings, two statics -/
def KhA (G : GT) (U : State) (H : Heap) : Prop := va_T .int (gX G).1 (gX G).2.1 (fun j => .int ((gX G).2.2 j)) (aW G) U H ∧ (gX G).2.1 < 2147483648 ∧ vk_S stN stLen stByt (gK G) (gV G) (aW G) U H ∧ va_Z RJ0 "COMPACT_STRINGS" "Z" (.int 1) (aW G) U H ∧ va_Z RJ4 "SIOOBE_FORMATTER" "Ljava/util/function/BiFunction;" (.ref (gF G)) (aW G) U H
theorem KnA.warm {G : GT} {s U : State} (hW : s.WarmedH U.vm) (h : KnA G s) : KnA G U := by
  obtain ⟨h1, h2, h3, h4, h5⟩ := h
  refine ⟨va_K.moved hW.alike h1, fun w hw hn => ?_, fun C hC => (h3 C hC).moved hW.alike, fun q hq => (h4 q hq).moved hW.alike, fun q hq => (h5 q hq).warm hW⟩
  have hz := h2 w hw hn
  cases w with
  | fieldLinkNest a i b n d e => exact va_Nw.warmF hW hz
  | methodLinkNest a i x e => exact va_Nw.warmM hW hz
  | declares x => exact va_Nw.warmD hW hz
  | _ => simp [isNest] at hn
theorem KhA.moved {G : GT} {s U : State} {H : Heap} (hvm : s.vm.Alike U.vm) (h : KhA G s H) : KhA G U H := by
  obtain ⟨h1, h0, h2, h3, h4⟩ := h
  exact ⟨h1.moved hvm, h0, h2.moved hvm, h3.moved hvm, h4.moved hvm⟩
theorem KhA.kept {G : GT} {U : State} {H H1 : Heap} (h : KhA G U H) (hq : ∀ a : Nat, a < H.size → ¬ aW G a → H1[a]? = H[a]?) : KhA G U H1 := by
  obtain ⟨h1, h0, h2, h3, h4⟩ := h
  exact ⟨h1.kept hq, h0, h2.kept hq, h3.kept hq, h4.kept hq⟩
theorem KnA.cls {G : GT} {U : State} (h : KnA G U) {c : Nat} {q : vw_C} (hc : clL[c]? = some q) : u_Kn U q.1 q.2.1 q.2.2 ((gD G).1 c) ((gD G).2 c) := h.1.1 c q hc
theorem KnA.arr {G : GT} {U : State} (h : KnA G U) {k : Nat} (hk : k ∈ kKs) : ArrOfT U (gA G k) (kTy k) ∧ va_RA U (gA G k) (kTy k) := by
  obtain ⟨i, hi⟩ := List.getElem?_of_mem hk
  exact h.1.2 i (gA G k, kTy k) (by rw [List.getElem?_map, hi]; rfl)
