/-! LIBRARY 2: loops by counting, frames by cell and place, bits -/
set_option maxRecDepth 100000
theorem lpI {P : Nat → Prop} (N : Nat) (hs : ∀ i, i ≤ N → (i < N → P (i + 1)) → P i) : ∀ i, i ≤ N → P i := by
  have key : ∀ d i, i ≤ N → d = N - i → P i := by
    intro d
    induction d with
    | zero => exact fun i hi e => hs i hi fun h => by omega
    | succ d ih => exact fun i hi e => hs i hi fun h => ih (i + 1) (by omega) (by omega)
  exact fun i hi => key _ i hi rfl
theorem lpD {P : Nat → Prop} (N : Nat) (hs : ∀ n, n ≤ N → (∀ m, n = m + 1 → P m) → P n) : ∀ n, n ≤ N → P n := by
  intro n
  induction n with
  | zero => exact fun h => hs 0 h (fun m e => by omega)
  | succ n ih => exact fun h => hs (n + 1) h (fun m e => by
      have : m = n := by omega
      subst this
      exact ih (by omega))
/-- only these places are written, no cell is made, none charged -/
def FrP (A : Nat → Nat → Prop) (h h1 : AH) : Prop := (∀ b, hkd h1 b = hkd h b) ∧ (nN h1 = nN h ∧ nC h1 = nC h ∧ nS h1 = nS h) ∧ ∀ b j, ¬ A b j → hdt h1 b j = hdt h b j
theorem FrP.rf {A : Nat → Nat → Prop} {h : AH} : FrP A h h := ⟨fun _ => rfl, ⟨rfl, rfl, rfl⟩, fun _ _ _ => rfl⟩
theorem FrP.tr {A : Nat → Nat → Prop} {h h1 h2 : AH} (x : FrP A h h1) (y : FrP A h1 h2) : FrP A h h2 :=
  ⟨fun b => (y.1 b).trans (x.1 b), ⟨y.2.1.1.trans x.2.1.1, y.2.1.2.1.trans x.2.1.2.1, y.2.1.2.2.trans x.2.1.2.2⟩, fun b j hb => (y.2.2 b j hb).trans (x.2.2 b j hb)⟩
theorem FrP.mono {A B : Nat → Nat → Prop} {h h1 : AH} (x : FrP A h h1) (hAB : ∀ b j, A b j → B b j) : FrP B h h1 := ⟨x.1, x.2.1, fun b j hb => x.2.2 b j fun q => hb (hAB b j q)⟩
theorem FrP.wr {A : Nat → Nat → Prop} {h h1 : AH} (x : FrP A h h1) {a j : Nat} (ha : A a j) (v : Int) : FrP A h (hwr h1 a j v) :=
  x.tr ⟨fun _ => rfl, ⟨rfl, rfl, rfl⟩, fun b i hb => by
    rw [hdt_hwr]
    split
    next e =>
      rw [fup_n _ _ (fun e2 => hb (by rw [e, e2]; exact ha)), e]
    next => rfl⟩
theorem FrP.rw {A : Nat → Nat → Prop} {h h1 : AH} (x : FrP A h h1) {a : Nat} (ha : ∀ j, A a j) (f : Nat → Int) : FrP A h (hrw h1 a f) :=
  x.tr ⟨fun _ => rfl, ⟨rfl, rfl, rfl⟩, fun b i hb => by rw [hdt_hrw_n h1 f (show b ≠ a from fun e => hb (by rw [e]; exact ha i))]⟩
theorem OutA.fr {A : Nat → Prop} {h h1 : AH} (x : OutA A h h1) (e1 : nC h1 = nC h + 0) (e2 : nS h1 = nS h + 0) : FrP (fun b _ => A b) h h1 := ⟨x.1, ⟨x.2.1, e1, e2⟩, fun b j hb => by rw [x.2.2 b hb]⟩
theorem FrP.cell {A : Nat → Nat → Prop} {h h1 : AH} (x : FrP A h h1) {b : Nat} (hb : ∀ j, ¬ A b j) : hdt h1 b = hdt h b := funext fun j => x.2.2 b j (hb j)
/-- the reference's places: whole cells, fields of its object -/
def mA (cs fs : List Nat) : Nat → Nat → Prop := fun b j => b ∈ cs ∨ (b = 124 ∧ j ∈ fs)
abbrev FrM (cs fs : List Nat) (h h1 : AH) : Prop := FrP (mA cs fs) h h1
theorem FrM.k {cs fs : List Nat} {h h1 : AH} (x : FrM cs fs h h1) (b : Nat) : hkd h1 b = hkd h b := x.1 b
theorem FrM.c {cs fs : List Nat} {h h1 : AH} (x : FrM cs fs h h1) {b : Nat} (e1 : b ∉ cs) (e2 : b ≠ 124) : hdt h1 b = hdt h b := x.cell fun j q => by
  rcases q with q | q
  · exact e1 q
  · exact e2 q.1
theorem FrM.f {cs fs : List Nat} {h h1 : AH} (x : FrM cs fs h h1) {j : Nat} (e1 : 124 ∉ cs) (e2 : j ∉ fs) : hdt h1 124 j = hdt h 124 j := x.2.2 124 j fun q => by
  rcases q with q | q
  · exact e1 q
  · exact e2 q.2
theorem FrM.up {cs fs cs2 fs2 : List Nat} {h h1 : AH} (x : FrM cs fs h h1) (a : ∀ c ∈ cs, c ∈ cs2) (b : ∀ j ∈ fs, j ∈ fs2) : FrM cs2 fs2 h h1 := x.mono fun c j q => by
  rcases q with q | q
  · exact Or.inl (a c q)
  · exact Or.inr ⟨q.1, b j q.2⟩
theorem FrM.wc {cs fs : List Nat} {h h1 : AH} (x : FrM cs fs h h1) {a : Nat} (ha : a ∈ cs) (j : Nat) (v : Int) : FrM cs fs h (hwr h1 a j v) := x.wr (Or.inl ha) v
theorem FrM.wf {cs fs : List Nat} {h h1 : AH} (x : FrM cs fs h h1) {j : Nat} (hj : j ∈ fs) (v : Int) : FrM cs fs h (hwr h1 124 j v) := x.wr (Or.inr ⟨rfl, hj⟩) v
theorem FrM.rc {cs fs : List Nat} {h h1 : AH} (x : FrM cs fs h h1) {a : Nat} (ha : a ∈ cs) (f : Nat → Int) : FrM cs fs h (hrw h1 a f) := x.rw (fun _ => Or.inl ha) f
theorem FrM.of_rw {h : AH} {a : Nat} (f : Nat → Int) : FrM [a] [] h (hrw h a f) := FrM.rc FrP.rf (by simp) f
/-- the fixed cells stay so under a frame -/
theorem FxA.fr {h h1 : AH} (hF : FxA h) {A : Nat → Nat → Prop} (x : FrP A h h1) (hA : ∀ q ∈ rFl, ¬ A q.1 q.2.1) : FxA h1 :=
  ⟨by rw [x.2.1.1]; exact hF.1, fun i hi => by rw [x.1]; exact hF.2.1 i hi, fun q hq => by rw [x.2.2 _ _ (hA q hq)]; exact hF.2.2 q hq⟩
def chM (cs fs : List Nat) : Bool := rFl.all fun q => !(cs.contains q.1) && !(q.1 == 124 && fs.contains q.2.1)
theorem FxA.frm {h h1 : AH} (hF : FxA h) {cs fs : List Nat} (x : FrM cs fs h h1) (hc : chM cs fs = true) : FxA h1 := hF.fr x fun q hq => by
  have h1 := List.all_eq_true.mp hc q hq
  simp only [Bool.and_eq_true, Bool.not_eq_true', Bool.and_eq_false_iff, beq_eq_false_iff_ne, ne_eq, List.contains_eq_mem, decide_eq_false_iff_not] at h1
  rintro (q2 | q2)
  · exact h1.1 q2
  · rcases h1.2 with q3 | q3
    · exact q3 q2.1
    · exact q3 q2.2
/-- what a walk of the reference reads of the fixed cells -/
theorem FxA.m {h : AH} (hF : FxA h) : (hkd h 124 = (6, 45) ∧ hkd h 125 = (100, 3318) ∧ hkd h 126 = (104, 2) ∧ hkd h 127 = (100, 900) ∧ hkd h 128 = (100, 1106) ∧ hkd h 129 = (100, 12) ∧ hkd h 130 = (101, 366) ∧ hkd h 131 = (101, 366) ∧ hkd h 132 = (100, 900) ∧ hkd h 133 = (100, 5) ∧ hkd h 134 = (100, 3) ∧ hkd h 135 = (100, 60) ∧ hkd h 136 = (100, 2196) ∧ hkd h 137 = (100, 6) ∧ hkd h 138 = (101, 2196) ∧ hkd h 139 = (100, 7) ∧ hkd h 140 = (100, 6) ∧ hkd h 141 = (101, 84) ∧ hkd h 142 = (100, 64) ∧ hkd h 143 = (100, 8) ∧ hkd h 144 = (100, 8) ∧ hkd h 145 = (101, 19683) ∧ hkd h 146 = (101, 64) ∧ hkd h 147 = (101, 64) ∧ hkd h 148 = (101, 6) ∧ hkd h 149 = (101, 6) ∧ hkd h 150 = (100, 4) ∧ hkd h 151 = (100, 4) ∧ hkd h 152 = (101, 160)) ∧
    (hdt h 124 1 = 125 ∧ hdt h 124 2 = 126 ∧ hdt h 124 3 = 127 ∧ hdt h 124 4 = 128 ∧ hdt h 124 15 = 129 ∧ hdt h 124 16 = 130 ∧ hdt h 124 17 = 131 ∧ hdt h 124 19 = 132 ∧ hdt h 124 20 = 133 ∧ hdt h 124 21 = 134 ∧ hdt h 124 24 = 135 ∧ hdt h 124 26 = 136 ∧ hdt h 124 27 = 137 ∧ hdt h 124 28 = 138 ∧ hdt h 124 30 = 139 ∧ hdt h 124 31 = 140 ∧ hdt h 124 32 = 141 ∧ hdt h 124 33 = 142 ∧ hdt h 124 34 = 143 ∧ hdt h 124 35 = 144 ∧ hdt h 124 36 = 145 ∧ hdt h 124 38 = 146 ∧ hdt h 124 39 = 147 ∧ hdt h 124 40 = 148 ∧ hdt h 124 41 = 149 ∧ hdt h 124 42 = 150 ∧ hdt h 124 43 = 151 ∧ hdt h 124 44 = 152) := by
  have k : ∀ i, i < 153 → hkd h i = kF i := hF.2.1
  have r : ∀ {i j v : Nat}, (i, j, v) ∈ rFl → hdt h i j = ((v : Nat) : Int) := fun hm => hF.2.2 _ hm
  refine ⟨⟨?_, ?_, ?_, ?_, ?_, ?_, ?_, ?_, ?_, ?_, ?_, ?_, ?_, ?_, ?_, ?_, ?_, ?_, ?_, ?_, ?_, ?_, ?_, ?_, ?_, ?_, ?_, ?_, ?_⟩, ?_, ?_, ?_, ?_, ?_, ?_, ?_, ?_, ?_, ?_, ?_, ?_, ?_, ?_, ?_, ?_, ?_, ?_, ?_, ?_, ?_, ?_, ?_, ?_, ?_, ?_, ?_, ?_⟩
  all_goals first | exact (k _ (by omega)).trans (by decide +kernel) | exact r (by decide +kernel)
/-! bits -/
theorem i32bv (a : Nat) : (Int32.ofInt (a : Int)).toBitVec = BitVec.ofNat 32 a := BitVec.ofInt_natCast 32 a
theorem i64bv (a : Nat) : (Int64.ofInt (a : Int)).toBitVec = BitVec.ofNat 64 a := BitVec.ofInt_natCast 64 a
theorem bvInt {x : BitVec 32} {n : Nat} (h : x.toNat = n) (hn : n < 2147483648) : x.toInt = (n : Int) := by
  rw [BitVec.toInt_eq_toNat_of_lt (by omega), h]
theorem bvInt64 {x : BitVec 64} {n : Nat} (h : x.toNat = n) (hn : n < 9223372036854775808) : x.toInt = (n : Int) := by
  rw [BitVec.toInt_eq_toNat_of_lt (by omega), h]
theorem zand_nat {a b : Nat} (ha : a < 2147483648) (hb : b < 2147483648) : zand (a : Int) (b : Int) = ((a &&& b : Nat) : Int) := by
  rw [zand_def]
  show ((Int32.ofInt (a : Int)).toBitVec &&& (Int32.ofInt (b : Int)).toBitVec).toInt = _
  rw [i32bv, i32bv]
  refine bvInt ?_ (Nat.lt_of_le_of_lt Nat.and_le_left ha)
  rw [BitVec.toNat_and, BitVec.toNat_ofNat, BitVec.toNat_ofNat, Nat.mod_eq_of_lt (by omega), Nat.mod_eq_of_lt (by omega)]
theorem zor_nat {a b : Nat} (ha : a < 2147483648) (hb : b < 2147483648) : zor (a : Int) (b : Int) = ((a ||| b : Nat) : Int) := by
  rw [zor_def]
  show ((Int32.ofInt (a : Int)).toBitVec ||| (Int32.ofInt (b : Int)).toBitVec).toInt = _
  rw [i32bv, i32bv]
  refine bvInt ?_ (Nat.or_lt_two_pow (n := 31) ha hb)
  rw [BitVec.toNat_or, BitVec.toNat_ofNat, BitVec.toNat_ofNat, Nat.mod_eq_of_lt (by omega), Nat.mod_eq_of_lt (by omega)]
theorem zshl_one : ∀ {k : Nat}, k < 31 → zshl 1 (k : Int) = ((2 ^ k : Nat) : Int) := by
  intro k hk
  rw [zshl_def]
  have : ∀ k : Fin 31, (Int32.ofInt 1 <<< (Int32.ofInt ((k : Nat) : Int) &&& 31)).toInt = ((2 ^ (k : Nat) : Nat) : Int) := by decide +kernel
  exact this ⟨k, hk⟩
theorem sh32 : ∀ k : Fin 32, ((Int32.ofInt ((k : Nat) : Int) &&& 31).toBitVec.smod 32).toNat = (k : Nat) := by decide +kernel
theorem zshr_eq (z : Int) {k : Nat} (hk : k < 32) : zshr z (k : Int) = w32 z / (2 ^ k : Nat) := by
  rw [zshr_def, pk_shr _ _ k (sh32 ⟨k, hk⟩), i32_toInt, Int.shiftRight_eq_div_pow]
theorem zshr_nat {a k : Nat} (ha : a < 2147483648) (hk : k < 32) : zshr (a : Int) (k : Int) = ((a / 2 ^ k : Nat) : Int) := by
  rw [zshr_eq _ hk, w32_eq (by omega) (by omega)]
  exact (Int.natCast_ediv a (2 ^ k)).symm
theorem bit1 (a k : Nat) : (a / 2 ^ k) &&& 1 = if a.testBit k then 1 else 0 := by
  rw [Nat.and_one_is_mod, Nat.testBit_eq_decide_div_mod_eq]
  by_cases h : a / 2 ^ k % 2 = 1
  · simp [h]
  · have : a / 2 ^ k % 2 = 0 := by omega
    simp [this]
/-- is a bit set? -/
theorem zbit {a k : Nat} (ha : a < 2147483648) (hk : k < 32) : zand (zshr (a : Int) (k : Int)) 1 = if a.testBit k then 1 else 0 := by
  have h1 : a / 2 ^ k ≤ a := Nat.div_le_self _ _
  rw [zshr_nat ha hk]
  have := zand_nat (a := a / 2 ^ k) (b := 1) (by omega) (by omega)
  rw [show ((1 : Nat) : Int) = 1 from rfl] at this
  rw [this, bit1]
  split <;> rfl
theorem sh64 : ∀ k : Fin 64, (((Int32.ofInt ((k : Nat) : Int)).toInt64 &&& 63).toBitVec.smod 64).toNat = (k : Nat) := by decide +kernel
theorem ybit {a k : Nat} (ha : a < 2147483648) (hk : k < 64) : yand (yshr (a : Int) (k : Int)) 1 = if a.testBit k then 1 else 0 := by
  have h1 : a / 2 ^ k ≤ a := Nat.div_le_self _ _
  have e : yshr (a : Int) (k : Int) = ((a / 2 ^ k : Nat) : Int) := by
    rw [yshr_def]
    have q : (Int64.ofInt (a : Int) >>> ((Int32.ofInt (k : Int)).toInt64 &&& 63)).toInt = (Int64.ofInt (a : Int)).toInt >>> k := by
      have e0 : (((Int32.ofInt (k : Int)).toInt64 &&& 63).toBitVec.smod 64).toNat = k := sh64 ⟨k, hk⟩
      conv => rhs; rw [← e0]
      exact BitVec.toInt_sshiftRight ..
    rw [q, i64_toInt, w64_eq (by omega) (by omega), Int.shiftRight_eq_div_pow]
    exact (Int.natCast_ediv a (2 ^ k)).symm
  rw [e, yand_def]
  show ((Int64.ofInt ((a / 2 ^ k : Nat) : Int)).toBitVec &&& (Int64.ofInt ((1 : Nat) : Int)).toBitVec).toInt = _
  rw [i64bv, i64bv]
  have := bvInt64 (x := BitVec.ofNat 64 (a / 2 ^ k) &&& BitVec.ofNat 64 1) (n := a / 2 ^ k &&& 1) (by rw [BitVec.toNat_and, BitVec.toNat_ofNat, BitVec.toNat_ofNat, Nat.mod_eq_of_lt (by omega), Nat.mod_eq_of_lt (by omega)]) (Nat.lt_of_le_of_lt Nat.and_le_left (by omega))
  rw [this, bit1]
  split <;> rfl
/-! places -/
theorem tn_add {a b : Int} (ha : 0 ≤ a) (hb : 0 ≤ b) : (a + b).toNat = a.toNat + b.toNat := Int.toNat_add ha hb
theorem tn_mul {a b : Int} (ha : 0 ≤ a) (hb : 0 ≤ b) : (a * b).toNat = a.toNat * b.toNat := Int.toNat_mul ha hb
theorem hwr_hrw (h : AH) (a j : Nat) (f : Nat → Int) (v : Int) : hwr (hrw h a f) a j v = hrw h a (fup f j v) := by
  unfold hwr
  rw [hrw_hrw, hdt_hrw_s]
theorem hwr_hwr (h : AH) (a j k : Nat) (v w : Int) : hwr (hwr h a j v) a k w = hrw h a (fup (fup (hdt h a) j v) k w) := by
  rw [show hwr h a j v = hrw h a (fup (hdt h a) j v) from rfl, hwr_hrw]
