/-! ROWS: instructions that leave the heap alone -/
theorem i32_add (a b : Int) : Int32.ofInt a + Int32.ofInt b = Int32.ofInt (a + b) := (Int32.ofInt_add a b).symm
theorem i32_sub (a b : Int) : Int32.ofInt a - Int32.ofInt b = Int32.ofInt (a - b) := (Int32.ofInt_sub a b).symm
theorem i32_mul (a b : Int) : Int32.ofInt a * Int32.ofInt b = Int32.ofInt (a * b) := (Int32.ofInt_mul a b).symm
theorem i64_add (a b : Int) : Int64.ofInt a + Int64.ofInt b = Int64.ofInt (a + b) := (Int64.ofInt_add a b).symm
theorem i64_sub (a b : Int) : Int64.ofInt a - Int64.ofInt b = Int64.ofInt (a - b) := (Int64.ofInt_sub a b).symm
theorem i64_mul (a b : Int) : Int64.ofInt a * Int64.ofInt b = Int64.ofInt (a * b) := (Int64.ofInt_mul a b).symm
theorem w32_bmod (z : Int) : w32 z = z.bmod (2 ^ 32) := by rw [← i32_toInt, Int32.toInt_ofInt]
theorem w64_bmod (z : Int) : w64 z = z.bmod (2 ^ 64) := by rw [← i64_toInt, Int64.toInt_ofInt]
theorem w32_w32 (z : Int) : w32 (w32 z) = w32 z := by simp only [w32_def]; omega
theorem w64_w64 (z : Int) : w64 (w64 z) = w64 z := by simp only [w64_def]; omega
theorem i32_w (z : Int) : Int32.ofInt (w32 z) = Int32.ofInt z := i32_same (w32_w32 z)
theorem i64_w (z : Int) : Int64.ofInt (w64 z) = Int64.ofInt z := i64_same (w64_w64 z)
theorem i32_div (a b : Int) : Int32.ofInt a / Int32.ofInt b = Int32.ofInt ((w32 a).tdiv (w32 b)) := by
  rw [← i32_of (Int32.ofInt a / Int32.ofInt b), Int32.toInt_div, i32_toInt, i32_toInt, ← w32_bmod, i32_w]
theorem i64_div (a b : Int) : Int64.ofInt a / Int64.ofInt b = Int64.ofInt ((w64 a).tdiv (w64 b)) := by
  rw [← i64_of (Int64.ofInt a / Int64.ofInt b), Int64.toInt_div, i64_toInt, i64_toInt, ← w64_bmod, i64_w]
theorem i32_rem (a b : Int) : Int32.ofInt a - Int32.ofInt a / Int32.ofInt b * Int32.ofInt b = Int32.ofInt ((w32 a).tmod (w32 b)) := by
  rw [i32_div, ← i32_w a, ← i32_w b, i32_mul, i32_sub]
  congr 1
  have := Int.mul_tdiv_add_tmod (w32 a) (w32 b)
  rw [Int.mul_comm] at this
  omega
theorem i64_rem (a b : Int) : Int64.ofInt a - Int64.ofInt a / Int64.ofInt b * Int64.ofInt b = Int64.ofInt ((w64 a).tmod (w64 b)) := by
  rw [i64_div, ← i64_w a, ← i64_w b, i64_mul, i64_sub]
  congr 1
  have := Int.mul_tdiv_add_tmod (w64 a) (w64 b)
  rw [Int.mul_comm] at this
  omega
theorem i32_z {b : Int} (h : w32 b ≠ 0) : ¬ Int32.ofInt b = 0 := by
  intro q
  have := i32_toInt b
  rw [q] at this
  exact h (by rw [← this]; rfl)
theorem i64_z {b : Int} (h : w64 b ≠ 0) : ¬ Int64.ofInt b = 0 := by
  intro q
  have := i64_toInt b
  rw [q] at this
  exact h (by rw [← this]; rfl)
theorem i32_l (z : Int) : (Int32.ofInt z).toInt64 = Int64.ofInt (w32 z) := by
  rw [← i64_of (Int32.ofInt z).toInt64, Int32.toInt_toInt64, i32_toInt]
theorem i64_i (z : Int) : (Int64.ofInt z).toInt32 = Int32.ofInt z := by
  rw [← i32_of (Int64.ofInt z).toInt32, Int64.toInt_toInt32, i64_toInt]
  apply i32_same
  rw [w32_bmod, w32_bmod, Int.bmod_bmod, ← w32_bmod, ← w32_bmod]
  simp only [w32_def, w64_def]
  omega
theorem i32_b (z : Int) : (Int32.ofInt z).toInt8.toInt32 = Int32.ofInt (w8 z) := by
  rw [← i32_of (Int32.ofInt z).toInt8.toInt32, Int8.toInt_toInt32, Int32.toInt_toInt8, i32_toInt]
  congr 1
  simp only [w8_def, w32_def]
  rw [Int.bmod_def]
  omega
theorem i32_s (z : Int) : (Int32.ofInt z).toInt16.toInt32 = Int32.ofInt (w16 z) := by
  rw [← i32_of (Int32.ofInt z).toInt16.toInt32, Int16.toInt_toInt32, Int32.toInt_toInt16, i32_toInt]
  congr 1
  simp only [w16_def, w32_def]
  rw [Int.bmod_def]
  omega
theorem i8_of {i : Int} (h : w8 i = i) : (Int8.ofInt i).toInt32 = Int32.ofInt i := by
  rw [← i32_of (Int8.ofInt i).toInt32, Int8.toInt_toInt32, Int8.toInt_ofInt]
  congr 1
  show i.bmod 256 = i
  simp only [w8_def] at h
  rw [Int.bmod_def]
  omega
theorem i16_of {i : Int} (h : w16 i = i) : (Int16.ofInt i).toInt32 = Int32.ofInt i := by
  rw [← i32_of (Int16.ofInt i).toInt32, Int16.toInt_toInt32, Int16.toInt_ofInt]
  congr 1
  show i.bmod 65536 = i
  simp only [w16_def] at h
  rw [Int.bmod_def]
  omega
theorem i64_nat : ∀ i : Fin 2, Int64.ofNat i = Int64.ofInt (i : Nat) := by decide
theorem i32_c (z : Int) : ((Int32.ofInt z).toUInt32 % 65536).toInt32 = Int32.ofInt (z % 65536) := by
  rw [pk_char]
  have e : (Int32.ofInt z).toBitVec.toNat = (z % 4294967296).toNat := by
    show (BitVec.ofInt 32 z).toNat = _
    rw [BitVec.toNat_ofInt]
    rfl
  rw [e]
  obtain ⟨n, hn⟩ := Int.eq_ofNat_of_zero_le (show 0 ≤ z % 65536 by omega)
  rw [hn]
  have : (z % 4294967296).toNat % 65536 = n := by omega
  rw [this]
  exact Int32.ofInt_eq_ofNat.symm
theorem i32_and (a b : Int) : Int32.ofInt a &&& Int32.ofInt b = Int32.ofInt (zand a b) := by rw [zand_def]; exact (i32_of _).symm
theorem i32_or (a b : Int) : Int32.ofInt a ||| Int32.ofInt b = Int32.ofInt (zor a b) := by rw [zor_def]; exact (i32_of _).symm
theorem i32_xor (a b : Int) : Int32.ofInt a ^^^ Int32.ofInt b = Int32.ofInt (zxor a b) := by rw [zxor_def]; exact (i32_of _).symm
theorem i32_shl (a b : Int) : Int32.ofInt a <<< (Int32.ofInt b &&& 31) = Int32.ofInt (zshl a b) := by rw [zshl_def]; exact (i32_of _).symm
theorem i32_shr (a b : Int) : Int32.ofInt a >>> (Int32.ofInt b &&& 31) = Int32.ofInt (zshr a b) := by rw [zshr_def]; exact (i32_of _).symm
theorem i64_and (a b : Int) : Int64.ofInt a &&& Int64.ofInt b = Int64.ofInt (yand a b) := by rw [yand_def]; exact (i64_of _).symm
theorem i64_or (a b : Int) : Int64.ofInt a ||| Int64.ofInt b = Int64.ofInt (yor a b) := by rw [yor_def]; exact (i64_of _).symm
theorem i32_lt (a b : Int) : Int32.ofInt a < Int32.ofInt b ↔ w32 a < w32 b := by rw [Int32.lt_iff_toInt_lt, i32_toInt, i32_toInt]
theorem i32_le (a b : Int) : Int32.ofInt a ≤ Int32.ofInt b ↔ w32 a ≤ w32 b := by rw [Int32.le_iff_toInt_le, i32_toInt, i32_toInt]
theorem i32_eq (a b : Int) : Int32.ofInt a = Int32.ofInt b ↔ w32 a = w32 b := by
  constructor
  · intro h
    rw [← i32_toInt, ← i32_toInt, h]
  · exact i32_same
theorem i32_0 : (0 : Int32) = Int32.ofInt 0 := by decide
theorem w32_0 : w32 0 = 0 := w32_eq (by decide) (by decide)
theorem i64_lt (a b : Int) : Int64.ofInt a < Int64.ofInt b ↔ w64 a < w64 b := by rw [Int64.lt_iff_toInt_lt, i64_toInt, i64_toInt]
theorem i64_eq (a b : Int) : Int64.ofInt a = Int64.ofInt b ↔ w64 a = w64 b := by
  constructor
  · intro h
    rw [← i64_toInt, ← i64_toInt, h]
  · exact i64_same
theorem i64_cmp (a b : Int) : lg_cmp (Int64.ofInt a) (Int64.ofInt b) = Int32.ofInt (ycmp a b) := by
  unfold lg_cmp ycmp
  by_cases h1 : w64 b < w64 a
  · rw [if_pos ((i64_lt b a).mpr h1), if_pos h1]
    decide
  · rw [if_neg (fun q => h1 ((i64_lt b a).mp q)), if_neg h1]
    by_cases h2 : w64 a = w64 b
    · rw [if_pos ((i64_eq a b).mpr h2), if_pos h2]
      decide
    · rw [if_neg (fun q => h2 ((i64_eq a b).mp q)), if_neg h2]
      decide
section
variable {E : EV} {pc : Nat} {L : AL} {st : List AV} {h : AH}

theorem s_aconst_null (hd : decode (eM E).2.1 pc = .ok (.aconst_null, 1)) (k : ExA E (pc + 1) L (.inr (.inr (-1)) :: st) h) : ExA E pc L (st) h :=
  k.pure fun Z R p e s m args below meth c H locs ls x n C hR hS hL w => lv_null C.1 C.2.1 hd w
theorem s_iconst {i : Int} (hd : decode (eM E).2.1 pc = .ok (.iconst i, 1)) (k : ExA E (pc + 1) L (.inl i :: st) h) : ExA E pc L (st) h :=
  k.pure fun Z R p e s m args below meth c H locs ls x n C hR hS hL w => lv_iconst C.1 C.2.1 hd rfl w
theorem s_bipush {i : Int} (hv : w8 i = i) (hd : decode (eM E).2.1 pc = .ok (.bipush i, 2)) (k : ExA E (pc + 2) L (.inl i :: st) h) : ExA E pc L (st) h :=
  k.pure fun Z R p e s m args below meth c H locs ls x n C hR hS hL w => lv_bipush C.1 C.2.1 hd (i8_of hv) w
theorem s_sipush {i : Int} (hv : w16 i = i) (hd : decode (eM E).2.1 pc = .ok (.sipush i, 3)) (k : ExA E (pc + 3) L (.inl i :: st) h) : ExA E pc L (st) h :=
  k.pure fun Z R p e s m args below meth c H locs ls x n C hR hS hL w => lv_sipush C.1 C.2.1 hd (i16_of hv) w
theorem s_lconst {i : Fin 2} (hd : decode (eM E).2.1 pc = .ok (.lconst i, 1)) (k : ExA E (pc + 1) L (.inr (.inl (i : Nat)) :: st) h) : ExA E pc L (st) h :=
  k.pure fun Z R p e s m args below meth c H locs ls x n C hR hS hL w => lv_lconst C.1 C.2.1 hd (i64_nat i) w
theorem s_iadd {a b : Int} (hd : decode (eM E).2.1 pc = .ok (.iadd, 1)) (k : ExA E (pc + 1) L (.inl (a + b) :: st) h) : ExA E pc L (.inl b :: .inl a :: st) h :=
  k.pure fun Z R p e s m args below meth c H locs ls x n C hR hS hL w => lv_iadd C.1 C.2.1 hd (by rw [i32_add]; exact w)
theorem s_isub {a b : Int} (hd : decode (eM E).2.1 pc = .ok (.isub, 1)) (k : ExA E (pc + 1) L (.inl (a - b) :: st) h) : ExA E pc L (.inl b :: .inl a :: st) h :=
  k.pure fun Z R p e s m args below meth c H locs ls x n C hR hS hL w => lv_isub C.1 C.2.1 hd (by rw [i32_sub]; exact w)
theorem s_imul {a b : Int} (hd : decode (eM E).2.1 pc = .ok (.imul, 1)) (k : ExA E (pc + 1) L (.inl (a * b) :: st) h) : ExA E pc L (.inl b :: .inl a :: st) h :=
  k.pure fun Z R p e s m args below meth c H locs ls x n C hR hS hL w => lv_imul C.1 C.2.1 hd (by rw [i32_mul]; exact w)
theorem s_ladd {a b : Int} (hd : decode (eM E).2.1 pc = .ok (.ladd, 1)) (k : ExA E (pc + 1) L (.inr (.inl (a + b)) :: st) h) : ExA E pc L (.inr (.inl b) :: .inr (.inl a) :: st) h :=
  k.pure fun Z R p e s m args below meth c H locs ls x n C hR hS hL w => lv_ladd C.1 C.2.1 hd (by rw [i64_add]; exact w)
theorem s_lsub {a b : Int} (hd : decode (eM E).2.1 pc = .ok (.lsub, 1)) (k : ExA E (pc + 1) L (.inr (.inl (a - b)) :: st) h) : ExA E pc L (.inr (.inl b) :: .inr (.inl a) :: st) h :=
  k.pure fun Z R p e s m args below meth c H locs ls x n C hR hS hL w => lv_lsub C.1 C.2.1 hd (by rw [i64_sub]; exact w)
theorem s_lmul {a b : Int} (hd : decode (eM E).2.1 pc = .ok (.lmul, 1)) (k : ExA E (pc + 1) L (.inr (.inl (a * b)) :: st) h) : ExA E pc L (.inr (.inl b) :: .inr (.inl a) :: st) h :=
  k.pure fun Z R p e s m args below meth c H locs ls x n C hR hS hL w => lv_lmul C.1 C.2.1 hd (by rw [i64_mul]; exact w)
theorem s_idiv {a b : Int} (hb : w32 b ≠ 0) (hd : decode (eM E).2.1 pc = .ok (.idiv, 1)) (k : ExA E (pc + 1) L (.inl ((w32 a).tdiv (w32 b)) :: st) h) : ExA E pc L (.inl b :: .inl a :: st) h :=
  k.pure fun Z R p e s m args below meth c H locs ls x n C hR hS hL w => lv_idiv C.1 C.2.1 hd (i32_z hb) (by rw [i32_div]; exact w)
theorem s_irem {a b : Int} (hb : w32 b ≠ 0) (hd : decode (eM E).2.1 pc = .ok (.irem, 1)) (k : ExA E (pc + 1) L (.inl ((w32 a).tmod (w32 b)) :: st) h) : ExA E pc L (.inl b :: .inl a :: st) h :=
  k.pure fun Z R p e s m args below meth c H locs ls x n C hR hS hL w => lv_irem C.1 C.2.1 hd (i32_z hb) (by rw [i32_rem]; exact w)
theorem s_ldiv {a b : Int} (hb : w64 b ≠ 0) (hd : decode (eM E).2.1 pc = .ok (.ldiv, 1)) (k : ExA E (pc + 1) L (.inr (.inl ((w64 a).tdiv (w64 b))) :: st) h) : ExA E pc L (.inr (.inl b) :: .inr (.inl a) :: st) h :=
  k.pure fun Z R p e s m args below meth c H locs ls x n C hR hS hL w => lv_ldiv C.1 C.2.1 hd (i64_z hb) (by rw [i64_div]; exact w)
theorem s_lrem {a b : Int} (hb : w64 b ≠ 0) (hd : decode (eM E).2.1 pc = .ok (.lrem, 1)) (k : ExA E (pc + 1) L (.inr (.inl ((w64 a).tmod (w64 b))) :: st) h) : ExA E pc L (.inr (.inl b) :: .inr (.inl a) :: st) h :=
  k.pure fun Z R p e s m args below meth c H locs ls x n C hR hS hL w => lv_lrem C.1 C.2.1 hd (i64_z hb) (by rw [i64_rem]; exact w)
theorem s_iand {a b : Int} (hd : decode (eM E).2.1 pc = .ok (.iand, 1)) (k : ExA E (pc + 1) L (.inl (zand a b) :: st) h) : ExA E pc L (.inl b :: .inl a :: st) h :=
  k.pure fun Z R p e s m args below meth c H locs ls x n C hR hS hL w => lv_iand C.1 C.2.1 hd (by rw [i32_and]; exact w)
theorem s_ior {a b : Int} (hd : decode (eM E).2.1 pc = .ok (.ior, 1)) (k : ExA E (pc + 1) L (.inl (zor a b) :: st) h) : ExA E pc L (.inl b :: .inl a :: st) h :=
  k.pure fun Z R p e s m args below meth c H locs ls x n C hR hS hL w => lv_ior C.1 C.2.1 hd (by rw [i32_or]; exact w)
theorem s_ixor {a b : Int} (hd : decode (eM E).2.1 pc = .ok (.ixor, 1)) (k : ExA E (pc + 1) L (.inl (zxor a b) :: st) h) : ExA E pc L (.inl b :: .inl a :: st) h :=
  k.pure fun Z R p e s m args below meth c H locs ls x n C hR hS hL w => lv_ixor C.1 C.2.1 hd (by rw [i32_xor]; exact w)
theorem s_land {a b : Int} (hd : decode (eM E).2.1 pc = .ok (.land, 1)) (k : ExA E (pc + 1) L (.inr (.inl (yand a b)) :: st) h) : ExA E pc L (.inr (.inl b) :: .inr (.inl a) :: st) h :=
  k.pure fun Z R p e s m args below meth c H locs ls x n C hR hS hL w => lv_land C.1 C.2.1 hd (by rw [i64_and]; exact w)
theorem s_lor {a b : Int} (hd : decode (eM E).2.1 pc = .ok (.lor, 1)) (k : ExA E (pc + 1) L (.inr (.inl (yor a b)) :: st) h) : ExA E pc L (.inr (.inl b) :: .inr (.inl a) :: st) h :=
  k.pure fun Z R p e s m args below meth c H locs ls x n C hR hS hL w => lv_lor C.1 C.2.1 hd (by rw [i64_or]; exact w)
theorem s_ishl {a b : Int} (hd : decode (eM E).2.1 pc = .ok (.ishl, 1)) (k : ExA E (pc + 1) L (.inl (zshl a b) :: st) h) : ExA E pc L (.inl b :: .inl a :: st) h :=
  k.pure fun Z R p e s m args below meth c H locs ls x n C hR hS hL w => lv_ishl C.1 C.2.1 hd (by rw [i32_shl]; exact w)
theorem s_ishr {a b : Int} (hd : decode (eM E).2.1 pc = .ok (.ishr, 1)) (k : ExA E (pc + 1) L (.inl (zshr a b) :: st) h) : ExA E pc L (.inl b :: .inl a :: st) h :=
  k.pure fun Z R p e s m args below meth c H locs ls x n C hR hS hL w => lv_ishr C.1 C.2.1 hd (by rw [i32_shr]; exact w)
theorem s_iushr {a b : Int} (hd : decode (eM E).2.1 pc = .ok (.iushr, 1)) (k : ExA E (pc + 1) L (.inl (zushr a b) :: st) h) : ExA E pc L (.inl b :: .inl a :: st) h :=
  k.pure fun Z R p e s m args below meth c H locs ls x n C hR hS hL w => lv_iushr C.1 C.2.1 hd (v := Int32.ofInt (zushr a b)) (by rw [zushr_def, i32_of]) w
theorem s_lshl {a b : Int} (hd : decode (eM E).2.1 pc = .ok (.lshl, 1)) (k : ExA E (pc + 1) L (.inr (.inl (yshl a b)) :: st) h) : ExA E pc L (.inl b :: .inr (.inl a) :: st) h :=
  k.pure fun Z R p e s m args below meth c H locs ls x n C hR hS hL w => lv_lshl C.1 C.2.1 hd (v := Int64.ofInt (yshl a b)) (by rw [yshl_def, i64_of]) w
theorem s_lshr {a b : Int} (hd : decode (eM E).2.1 pc = .ok (.lshr, 1)) (k : ExA E (pc + 1) L (.inr (.inl (yshr a b)) :: st) h) : ExA E pc L (.inl b :: .inr (.inl a) :: st) h :=
  k.pure fun Z R p e s m args below meth c H locs ls x n C hR hS hL w => lv_lshr C.1 C.2.1 hd (v := Int64.ofInt (yshr a b)) (by rw [yshr_def, i64_of]) w
theorem s_lcmp {a b : Int} (hd : decode (eM E).2.1 pc = .ok (.lcmp, 1)) (k : ExA E (pc + 1) L (.inl (ycmp a b) :: st) h) : ExA E pc L (.inr (.inl b) :: .inr (.inl a) :: st) h :=
  k.pure fun Z R p e s m args below meth c H locs ls x n C hR hS hL w => W.lcmp C.1 C.2.1 hd (by rw [i64_cmp]; exact w)
theorem s_i2l {a : Int} (hd : decode (eM E).2.1 pc = .ok (.i2l, 1)) (k : ExA E (pc + 1) L (.inr (.inl (w32 a)) :: st) h) : ExA E pc L (.inl a :: st) h :=
  k.pure fun Z R p e s m args below meth c H locs ls x n C hR hS hL w => lv_i2l C.1 C.2.1 hd (i32_l a) w
theorem s_l2i {a : Int} (hd : decode (eM E).2.1 pc = .ok (.l2i, 1)) (k : ExA E (pc + 1) L (.inl a :: st) h) : ExA E pc L (.inr (.inl a) :: st) h :=
  k.pure fun Z R p e s m args below meth c H locs ls x n C hR hS hL w => lv_l2i C.1 C.2.1 hd (i64_i a) w
theorem s_i2b {a : Int} (hd : decode (eM E).2.1 pc = .ok (.i2b, 1)) (k : ExA E (pc + 1) L (.inl (w8 a) :: st) h) : ExA E pc L (.inl a :: st) h :=
  k.pure fun Z R p e s m args below meth c H locs ls x n C hR hS hL w => lv_i2b C.1 C.2.1 hd (i32_b a) w
theorem s_i2c {a : Int} (hd : decode (eM E).2.1 pc = .ok (.i2c, 1)) (k : ExA E (pc + 1) L (.inl (a % 65536) :: st) h) : ExA E pc L (.inl a :: st) h :=
  k.pure fun Z R p e s m args below meth c H locs ls x n C hR hS hL w => lv_i2c C.1 C.2.1 hd (i32_c a) w
theorem s_i2s {a : Int} (hd : decode (eM E).2.1 pc = .ok (.i2s, 1)) (k : ExA E (pc + 1) L (.inl (w16 a) :: st) h) : ExA E pc L (.inl a :: st) h :=
  k.pure fun Z R p e s m args below meth c H locs ls x n C hR hS hL w => lv_i2s C.1 C.2.1 hd (i32_s a) w
theorem s_dup {v : AV} (hc : acat v = 1) (hd : decode (eM E).2.1 pc = .ok (.dup, 1)) (k : ExA E (pc + 1) L (v :: v :: st) h) : ExA E pc L (v :: st) h :=
  k.pure fun Z R p e s m args below meth c H locs ls x n C hR hS hL w => lv_dup C.1 C.2.1 hd (by rw [cv_cat]; exact hc) w
theorem s_pop {v : AV} (hc : acat v = 1) (hd : decode (eM E).2.1 pc = .ok (.pop, 1)) (k : ExA E (pc + 1) L (st) h) : ExA E pc L (v :: st) h :=
  k.pure fun Z R p e s m args below meth c H locs ls x n C hR hS hL w => lv_pop C.1 C.2.1 hd (by rw [cv_cat]; exact hc) w
theorem s_pop2 {v : AV} (hc : acat v = 2) (hd : decode (eM E).2.1 pc = .ok (.pop2, 1)) (k : ExA E (pc + 1) L (st) h) : ExA E pc L (v :: st) h :=
  k.pure fun Z R p e s m args below meth c H locs ls x n C hR hS hL w => lv_pop2_2 C.1 C.2.1 hd (by rw [cv_cat]; exact hc) w
theorem s_dup2_2 {v : AV} (hc : acat v = 2) (hd : decode (eM E).2.1 pc = .ok (.dup2, 1)) (k : ExA E (pc + 1) L (v :: v :: st) h) : ExA E pc L (v :: st) h :=
  k.pure fun Z R p e s m args below meth c H locs ls x n C hR hS hL w => lv_dup2_2 C.1 C.2.1 hd (by rw [cv_cat]; exact hc) w
theorem s_dup2_11 {v u : AV} (hc : acat v = 1) (hu : acat u = 1) (hd : decode (eM E).2.1 pc = .ok (.dup2, 1)) (k : ExA E (pc + 1) L (v :: u :: v :: u :: st) h) : ExA E pc L (v :: u :: st) h :=
  k.pure fun Z R p e s m args below meth c H locs ls x n C hR hS hL w => lv_dup2_11 C.1 C.2.1 hd (by rw [cv_cat]; exact hc) (by rw [cv_cat]; exact hu) w
theorem s_iload {i : Nat} {z : Int} (hl : lget L i = some (.inl z)) (hd : decode (eM E).2.1 pc = .ok (.iload i, 2)) (k : ExA E (pc + 2) L (.inl z :: st) h) : ExA E pc L (st) h :=
  k.pure fun Z R p e s m args below meth c H locs ls x n C hR hS hL w => lv_iload C.1 C.2.1 hd (hL.2.2.2 i _ hl) w
theorem s_iload_n {i : Fin 4} {z : Int} (hl : lget L i = some (.inl z)) (hd : decode (eM E).2.1 pc = .ok (.iload_n i, 1)) (k : ExA E (pc + 1) L (.inl z :: st) h) : ExA E pc L (st) h :=
  k.pure fun Z R p e s m args below meth c H locs ls x n C hR hS hL w => lv_iload_n C.1 C.2.1 hd rfl (hL.2.2.2 i _ hl) w
theorem s_lload {i : Nat} {z : Int} (hl : lget L i = some (.inr (.inl z))) (hd : decode (eM E).2.1 pc = .ok (.lload i, 2)) (k : ExA E (pc + 2) L (.inr (.inl z) :: st) h) : ExA E pc L (st) h :=
  k.pure fun Z R p e s m args below meth c H locs ls x n C hR hS hL w => lv_lload C.1 C.2.1 hd (hL.2.2.2 i _ hl) w
theorem s_lload_n {i : Fin 4} {z : Int} (hl : lget L i = some (.inr (.inl z))) (hd : decode (eM E).2.1 pc = .ok (.lload_n i, 1)) (k : ExA E (pc + 1) L (.inr (.inl z) :: st) h) : ExA E pc L (st) h :=
  k.pure fun Z R p e s m args below meth c H locs ls x n C hR hS hL w => lv_lload_n C.1 C.2.1 hd rfl (hL.2.2.2 i _ hl) w
theorem s_aload {i : Nat} {z : Int} (hl : lget L i = some (.inr (.inr z))) (hd : decode (eM E).2.1 pc = .ok (.aload i, 2)) (k : ExA E (pc + 2) L (.inr (.inr z) :: st) h) : ExA E pc L st h := by
  refine k.pure fun Z R p e s m args below meth c H locs ls x n C hR hS hL w => ?_
  have hv := hL.2.2.2 i _ hl
  have w : W p (gL (eG E)) e R s m args below meth c H locs x n Z (F0 m (pc + 2) ls (rV (eG E) z :: st.map (cv (eG E)))) := w
  have hv : ls[(i : Nat)]? = some (.val (rV (eG E) z)) := hv
  rcases rV_or (eG E) z with q | ⟨y, q⟩
  · rw [q] at w hv
    exact lv_aloadN C.1 C.2.1 hd hv w
  · rw [q] at w hv
    exact lv_aload C.1 C.2.1 hd hv w
theorem s_aload_n {i : Fin 4} {z : Int} (hl : lget L i = some (.inr (.inr z))) (hd : decode (eM E).2.1 pc = .ok (.aload_n i, 1)) (k : ExA E (pc + 1) L (.inr (.inr z) :: st) h) : ExA E pc L st h := by
  refine k.pure fun Z R p e s m args below meth c H locs ls x n C hR hS hL w => ?_
  have hv := hL.2.2.2 i _ hl
  have w : W p (gL (eG E)) e R s m args below meth c H locs x n Z (F0 m (pc + 1) ls (rV (eG E) z :: st.map (cv (eG E)))) := w
  have hv : ls[(i : Nat)]? = some (.val (rV (eG E) z)) := hv
  rcases rV_or (eG E) z with q | ⟨y, q⟩
  · rw [q] at w hv
    exact lv_aload_nN C.1 C.2.1 hd rfl hv w
  · rw [q] at w hv
    exact lv_aload_n C.1 C.2.1 hd rfl hv w
theorem s_istore {i : Nat} {z : Int} (hi : i < (eM E).2.2.1) (hd : decode (eM E).2.1 pc = .ok (.istore i, 2)) (k : ExA E (pc + 2) (lst1 L i (.inl z)) st h) : ExA E pc L (.inl z :: st) h := by
  intro Z R p e s m args below meth c C H locs ls x n hR hS hL h1 h2 T hT X
  obtain ⟨ls', e', hL'⟩ := hL.st1 (i := i) hi (v := .inl z) rfl
  obtain ⟨t, a, b⟩ := k Z R p e s m args below meth c C H locs ls' x n hR hS hL' h1 h2 T hT X
  refine ⟨t, ?_, b⟩
  have hx := C.1
  have hb := C.2.1
  have e' : storeLocals ls i (.int (Int32.ofInt z)) = some ls' := e'
  show Steps p.tables e below (T.setTop (F0 m pc ls (.int (Int32.ofInt z) :: st.map (cv (eG E))))) t
  jvm_step X.here [X.here.top, ↓top_set X.here.top, hx, hb, hd, e']
  exact a
theorem s_lstore {i : Nat} {z : Int} (hi : i + 1 < (eM E).2.2.1) (hd : decode (eM E).2.1 pc = .ok (.lstore i, 2)) (k : ExA E (pc + 2) (lst2 L i (.inr (.inl z))) st h) : ExA E pc L (.inr (.inl z) :: st) h := by
  intro Z R p e s m args below meth c C H locs ls x n hR hS hL h1 h2 T hT X
  obtain ⟨ls', e', hL'⟩ := hL.st2 (i := i) hi (v := .inr (.inl z)) rfl
  obtain ⟨t, a, b⟩ := k Z R p e s m args below meth c C H locs ls' x n hR hS hL' h1 h2 T hT X
  refine ⟨t, ?_, b⟩
  have hx := C.1
  have hb := C.2.1
  have e' : storeLocals ls i (.long (Int64.ofInt z)) = some ls' := e'
  show Steps p.tables e below (T.setTop (F0 m pc ls (.long (Int64.ofInt z) :: st.map (cv (eG E))))) t
  jvm_step X.here [X.here.top, ↓top_set X.here.top, hx, hb, hd, e']
  exact a
theorem s_astore {i : Nat} {z : Int} (hi : i < (eM E).2.2.1) (hd : decode (eM E).2.1 pc = .ok (.astore i, 2)) (k : ExA E (pc + 2) (lst1 L i (.inr (.inr z))) st h) : ExA E pc L (.inr (.inr z) :: st) h := by
  intro Z R p e s m args below meth c C H locs ls x n hR hS hL h1 h2 T hT X
  obtain ⟨ls', e', hL'⟩ := hL.st1 (i := i) hi (v := .inr (.inr z)) rfl
  obtain ⟨t, a, b⟩ := k Z R p e s m args below meth c C H locs ls' x n hR hS hL' h1 h2 T hT X
  refine ⟨t, ?_, b⟩
  have hx := C.1
  have hb := C.2.1
  have e' : storeLocals ls i (rV (eG E) z) = some ls' := e'
  show Steps p.tables e below (T.setTop (F0 m pc ls (rV (eG E) z :: st.map (cv (eG E))))) t
  rcases rV_or (eG E) z with q | ⟨y, q⟩
  · rw [q] at e' ⊢
    jvm_step X.here [X.here.top, ↓top_set X.here.top, hx, hb, hd, e', Value.isRef]
    exact a
  · rw [q] at e' ⊢
    jvm_step X.here [X.here.top, ↓top_set X.here.top, hx, hb, hd, e', Value.isRef]
    exact a
theorem s_istore_n {i : Fin 4} {z : Int} (hi : i < (eM E).2.2.1) (hd : decode (eM E).2.1 pc = .ok (.istore_n i, 1)) (k : ExA E (pc + 1) (lst1 L i (.inl z)) st h) : ExA E pc L (.inl z :: st) h := by
  intro Z R p e s m args below meth c C H locs ls x n hR hS hL h1 h2 T hT X
  obtain ⟨ls', e', hL'⟩ := hL.st1 (i := i) hi (v := .inl z) rfl
  obtain ⟨t, a, b⟩ := k Z R p e s m args below meth c C H locs ls' x n hR hS hL' h1 h2 T hT X
  refine ⟨t, ?_, b⟩
  have hx := C.1
  have hb := C.2.1
  have e' : storeLocals ls i (.int (Int32.ofInt z)) = some ls' := e'
  show Steps p.tables e below (T.setTop (F0 m pc ls (.int (Int32.ofInt z) :: st.map (cv (eG E))))) t
  jvm_step X.here [X.here.top, ↓top_set X.here.top, hx, hb, hd, e']
  exact a
theorem s_lstore_n {i : Fin 4} {z : Int} (hi : i + 1 < (eM E).2.2.1) (hd : decode (eM E).2.1 pc = .ok (.lstore_n i, 1)) (k : ExA E (pc + 1) (lst2 L i (.inr (.inl z))) st h) : ExA E pc L (.inr (.inl z) :: st) h := by
  intro Z R p e s m args below meth c C H locs ls x n hR hS hL h1 h2 T hT X
  obtain ⟨ls', e', hL'⟩ := hL.st2 (i := i) hi (v := .inr (.inl z)) rfl
  obtain ⟨t, a, b⟩ := k Z R p e s m args below meth c C H locs ls' x n hR hS hL' h1 h2 T hT X
  refine ⟨t, ?_, b⟩
  have hx := C.1
  have hb := C.2.1
  have e' : storeLocals ls i (.long (Int64.ofInt z)) = some ls' := e'
  show Steps p.tables e below (T.setTop (F0 m pc ls (.long (Int64.ofInt z) :: st.map (cv (eG E))))) t
  jvm_step X.here [X.here.top, ↓top_set X.here.top, hx, hb, hd, e']
  exact a
theorem s_astore_n {i : Fin 4} {z : Int} (hi : i < (eM E).2.2.1) (hd : decode (eM E).2.1 pc = .ok (.astore_n i, 1)) (k : ExA E (pc + 1) (lst1 L i (.inr (.inr z))) st h) : ExA E pc L (.inr (.inr z) :: st) h := by
  intro Z R p e s m args below meth c C H locs ls x n hR hS hL h1 h2 T hT X
  obtain ⟨ls', e', hL'⟩ := hL.st1 (i := i) hi (v := .inr (.inr z)) rfl
  obtain ⟨t, a, b⟩ := k Z R p e s m args below meth c C H locs ls' x n hR hS hL' h1 h2 T hT X
  refine ⟨t, ?_, b⟩
  have hx := C.1
  have hb := C.2.1
  have e' : storeLocals ls i (rV (eG E) z) = some ls' := e'
  show Steps p.tables e below (T.setTop (F0 m pc ls (rV (eG E) z :: st.map (cv (eG E))))) t
  rcases rV_or (eG E) z with q | ⟨y, q⟩
  · rw [q] at e' ⊢
    jvm_step X.here [X.here.top, ↓top_set X.here.top, hx, hb, hd, e', Value.isRef]
    exact a
  · rw [q] at e' ⊢
    jvm_step X.here [X.here.top, ↓top_set X.here.top, hx, hb, hd, e', Value.isRef]
    exact a
theorem s_iinc {i : Nat} {d z : Int} (hi : i < (eM E).2.2.1) (hl : lget L i = some (.inl z)) (hd : decode (eM E).2.1 pc = .ok (.iinc i d, 3)) (k : ExA E (pc + 3) (lst1 L i (.inl (z + d))) st h) : ExA E pc L st h := by
  intro Z R p e s m args below meth c C H locs ls x n hR hS hL h1 h2 T hT X
  obtain ⟨ls', e', hL'⟩ := hL.st1 (i := i) hi (v := .inl (z + d)) rfl
  obtain ⟨t, a, b⟩ := k Z R p e s m args below meth c C H locs ls' x n hR hS hL' h1 h2 T hT X
  refine ⟨t, ?_, b⟩
  have hx := C.1
  have hb := C.2.1
  have hg : ls[i]? = some (.val (.int (Int32.ofInt z))) := hL.2.2.2 i _ hl
  have e' : storeLocals ls i (.int (Int32.ofInt (z + d))) = some ls' := e'
  rw [← i32_add] at e'
  jvm_step X.here [X.here.top, ↓top_set X.here.top, hx, hb, hd, hg, e']
  exact a
theorem s_icmp_lt {a b off : Int} {tgt : Nat} (hd : decode (eM E).2.1 pc = .ok (.if_icmp .lt off, 3)) (ht : (pc : Int) + off = (tgt : Int)) (kt : w32 a < w32 b → ExA E tgt L st h) (kf : ¬ (w32 a < w32 b) → ExA E (pc + 3) L st h) : ExA E pc L (.inl b :: .inl a :: st) h :=
  fun Z R p e s m args below meth c C H locs ls x n hR hS hL h1 h2 => lv_icmp_lt C.1 C.2.1 hd ht (fun q => kt ((i32_lt a b).mp q) Z R p e s m args below meth c C H locs ls x n hR hS hL h1 h2) (fun q => kf (fun z => q ((i32_lt a b).mpr z)) Z R p e s m args below meth c C H locs ls x n hR hS hL h1 h2)
theorem s_icmp_le {a b off : Int} {tgt : Nat} (hd : decode (eM E).2.1 pc = .ok (.if_icmp .le off, 3)) (ht : (pc : Int) + off = (tgt : Int)) (kt : w32 a ≤ w32 b → ExA E tgt L st h) (kf : ¬ (w32 a ≤ w32 b) → ExA E (pc + 3) L st h) : ExA E pc L (.inl b :: .inl a :: st) h :=
  fun Z R p e s m args below meth c C H locs ls x n hR hS hL h1 h2 => lv_icmp_le C.1 C.2.1 hd ht (fun q => kt ((i32_le a b).mp q) Z R p e s m args below meth c C H locs ls x n hR hS hL h1 h2) (fun q => kf (fun z => q ((i32_le a b).mpr z)) Z R p e s m args below meth c C H locs ls x n hR hS hL h1 h2)
theorem s_icmp_gt {a b off : Int} {tgt : Nat} (hd : decode (eM E).2.1 pc = .ok (.if_icmp .gt off, 3)) (ht : (pc : Int) + off = (tgt : Int)) (kt : w32 b < w32 a → ExA E tgt L st h) (kf : ¬ (w32 b < w32 a) → ExA E (pc + 3) L st h) : ExA E pc L (.inl b :: .inl a :: st) h :=
  fun Z R p e s m args below meth c C H locs ls x n hR hS hL h1 h2 => lv_icmp_gt C.1 C.2.1 hd ht (fun q => kt ((i32_lt b a).mp q) Z R p e s m args below meth c C H locs ls x n hR hS hL h1 h2) (fun q => kf (fun z => q ((i32_lt b a).mpr z)) Z R p e s m args below meth c C H locs ls x n hR hS hL h1 h2)
theorem s_icmp_ge {a b off : Int} {tgt : Nat} (hd : decode (eM E).2.1 pc = .ok (.if_icmp .ge off, 3)) (ht : (pc : Int) + off = (tgt : Int)) (kt : w32 b ≤ w32 a → ExA E tgt L st h) (kf : ¬ (w32 b ≤ w32 a) → ExA E (pc + 3) L st h) : ExA E pc L (.inl b :: .inl a :: st) h :=
  fun Z R p e s m args below meth c C H locs ls x n hR hS hL h1 h2 => lv_icmp_ge C.1 C.2.1 hd ht (fun q => kt ((i32_le b a).mp q) Z R p e s m args below meth c C H locs ls x n hR hS hL h1 h2) (fun q => kf (fun z => q ((i32_le b a).mpr z)) Z R p e s m args below meth c C H locs ls x n hR hS hL h1 h2)
theorem s_icmp_eq {a b off : Int} {tgt : Nat} (hd : decode (eM E).2.1 pc = .ok (.if_icmp .eq off, 3)) (ht : (pc : Int) + off = (tgt : Int)) (kt : w32 a = w32 b → ExA E tgt L st h) (kf : ¬ (w32 a = w32 b) → ExA E (pc + 3) L st h) : ExA E pc L (.inl b :: .inl a :: st) h :=
  fun Z R p e s m args below meth c C H locs ls x n hR hS hL h1 h2 => lv_icmp_eq C.1 C.2.1 hd ht (fun q => kt ((i32_eq a b).mp q) Z R p e s m args below meth c C H locs ls x n hR hS hL h1 h2) (fun q => kf (fun z => q ((i32_eq a b).mpr z)) Z R p e s m args below meth c C H locs ls x n hR hS hL h1 h2)
theorem s_icmp_ne {a b off : Int} {tgt : Nat} (hd : decode (eM E).2.1 pc = .ok (.if_icmp .ne off, 3)) (ht : (pc : Int) + off = (tgt : Int)) (kt : ¬ w32 a = w32 b → ExA E tgt L st h) (kf : w32 a = w32 b → ExA E (pc + 3) L st h) : ExA E pc L (.inl b :: .inl a :: st) h :=
  fun Z R p e s m args below meth c C H locs ls x n hR hS hL h1 h2 => lv_icmp_ne C.1 C.2.1 hd ht (fun q => kt (fun z => q ((i32_eq a b).mpr z)) Z R p e s m args below meth c C H locs ls x n hR hS hL h1 h2) (fun q => kf ((i32_eq a b).mp q) Z R p e s m args below meth c C H locs ls x n hR hS hL h1 h2)
theorem s_if_lt {a off : Int} {tgt : Nat} (hd : decode (eM E).2.1 pc = .ok (.ifCond .lt off, 3)) (ht : (pc : Int) + off = (tgt : Int)) (kt : w32 a < 0 → ExA E tgt L st h) (kf : ¬ (w32 a < 0) → ExA E (pc + 3) L st h) : ExA E pc L (.inl a :: st) h := by
  intro Z R p e s m args below meth c C H locs ls x n hR hS hL h1 h2
  have q0 := i32_lt a 0
  rw [← i32_0, w32_0] at q0
  exact lv_if_lt C.1 C.2.1 hd ht (fun q => kt (q0.mp q) Z R p e s m args below meth c C H locs ls x n hR hS hL h1 h2) (fun q => kf (fun z => q (q0.mpr z)) Z R p e s m args below meth c C H locs ls x n hR hS hL h1 h2)
theorem s_if_le {a off : Int} {tgt : Nat} (hd : decode (eM E).2.1 pc = .ok (.ifCond .le off, 3)) (ht : (pc : Int) + off = (tgt : Int)) (kt : w32 a ≤ 0 → ExA E tgt L st h) (kf : ¬ (w32 a ≤ 0) → ExA E (pc + 3) L st h) : ExA E pc L (.inl a :: st) h := by
  intro Z R p e s m args below meth c C H locs ls x n hR hS hL h1 h2
  have q0 := i32_le a 0
  rw [← i32_0, w32_0] at q0
  exact lv_if_le C.1 C.2.1 hd ht (fun q => kt (q0.mp q) Z R p e s m args below meth c C H locs ls x n hR hS hL h1 h2) (fun q => kf (fun z => q (q0.mpr z)) Z R p e s m args below meth c C H locs ls x n hR hS hL h1 h2)
theorem s_if_gt {a off : Int} {tgt : Nat} (hd : decode (eM E).2.1 pc = .ok (.ifCond .gt off, 3)) (ht : (pc : Int) + off = (tgt : Int)) (kt : 0 < w32 a → ExA E tgt L st h) (kf : ¬ (0 < w32 a) → ExA E (pc + 3) L st h) : ExA E pc L (.inl a :: st) h := by
  intro Z R p e s m args below meth c C H locs ls x n hR hS hL h1 h2
  have q0 := i32_lt 0 a
  rw [← i32_0, w32_0] at q0
  exact lv_if_gt C.1 C.2.1 hd ht (fun q => kt (q0.mp q) Z R p e s m args below meth c C H locs ls x n hR hS hL h1 h2) (fun q => kf (fun z => q (q0.mpr z)) Z R p e s m args below meth c C H locs ls x n hR hS hL h1 h2)
theorem s_if_ge {a off : Int} {tgt : Nat} (hd : decode (eM E).2.1 pc = .ok (.ifCond .ge off, 3)) (ht : (pc : Int) + off = (tgt : Int)) (kt : 0 ≤ w32 a → ExA E tgt L st h) (kf : ¬ (0 ≤ w32 a) → ExA E (pc + 3) L st h) : ExA E pc L (.inl a :: st) h := by
  intro Z R p e s m args below meth c C H locs ls x n hR hS hL h1 h2
  have q0 := i32_le 0 a
  rw [← i32_0, w32_0] at q0
  exact lv_if_ge C.1 C.2.1 hd ht (fun q => kt (q0.mp q) Z R p e s m args below meth c C H locs ls x n hR hS hL h1 h2) (fun q => kf (fun z => q (q0.mpr z)) Z R p e s m args below meth c C H locs ls x n hR hS hL h1 h2)
theorem s_if_eq {a off : Int} {tgt : Nat} (hd : decode (eM E).2.1 pc = .ok (.ifCond .eq off, 3)) (ht : (pc : Int) + off = (tgt : Int)) (kt : w32 a = 0 → ExA E tgt L st h) (kf : ¬ (w32 a = 0) → ExA E (pc + 3) L st h) : ExA E pc L (.inl a :: st) h := by
  intro Z R p e s m args below meth c C H locs ls x n hR hS hL h1 h2
  have q0 := i32_eq a 0
  rw [← i32_0, w32_0] at q0
  exact lv_if_eq C.1 C.2.1 hd ht (fun q => kt (q0.mp q) Z R p e s m args below meth c C H locs ls x n hR hS hL h1 h2) (fun q => kf (fun z => q (q0.mpr z)) Z R p e s m args below meth c C H locs ls x n hR hS hL h1 h2)
theorem s_if_ne {a off : Int} {tgt : Nat} (hd : decode (eM E).2.1 pc = .ok (.ifCond .ne off, 3)) (ht : (pc : Int) + off = (tgt : Int)) (kt : ¬ w32 a = 0 → ExA E tgt L st h) (kf : w32 a = 0 → ExA E (pc + 3) L st h) : ExA E pc L (.inl a :: st) h := by
  intro Z R p e s m args below meth c C H locs ls x n hR hS hL h1 h2
  have q0 := i32_eq a 0
  rw [← i32_0, w32_0] at q0
  exact lv_if_ne C.1 C.2.1 hd ht (fun q => kt (fun z => q (q0.mpr z)) Z R p e s m args below meth c C H locs ls x n hR hS hL h1 h2) (fun q => kf (q0.mp q) Z R p e s m args below meth c C H locs ls x n hR hS hL h1 h2)
theorem s_goto {off : Int} {tgt : Nat} (hd : decode (eM E).2.1 pc = .ok (.goto off, 3)) (ht : (pc : Int) + off = (tgt : Int)) (k : ExA E tgt L st h) : ExA E pc L st h :=
  k.pure fun Z R p e s m args below meth c H locs ls x n C hR hS hL w => lv_goto C.1 C.2.1 hd ht w
theorem s_ifnull {z off : Int} {tgt : Nat} (hd : decode (eM E).2.1 pc = .ok (.ifnull off, 3)) (ht : (pc : Int) + off = (tgt : Int)) (kt : z = -1 → ExA E tgt L st h) (kf : ¬ z = -1 → ExA E (pc + 3) L st h) : ExA E pc L (.inr (.inr z) :: st) h := by
  intro Z R p e s m args below meth c C H locs ls x n hR hS hL h1 h2
  show W p (gL (eG E)) e R s m args below meth c H locs x n Z (F0 m pc ls (rV (eG E) z :: st.map (cv (eG E))))
  by_cases q : z = -1
  · rw [show rV (eG E) z = .null by rw [q]; rfl]
    exact lv_ifnullN C.1 C.2.1 hd ht (kt q Z R p e s m args below meth c C H locs ls x n hR hS hL h1 h2)
  · rcases rV_or (eG E) z with y | ⟨y, hy⟩
    · unfold rV at y
      rw [if_neg q] at y
      split at y <;> cases y
    · rw [hy]
      exact lv_ifnull C.1 C.2.1 hd (kf q Z R p e s m args below meth c C H locs ls x n hR hS hL h1 h2)
theorem s_ifnonnull {z off : Int} {tgt : Nat} (hd : decode (eM E).2.1 pc = .ok (.ifnonnull off, 3)) (ht : (pc : Int) + off = (tgt : Int)) (kt : ¬ z = -1 → ExA E tgt L st h) (kf : z = -1 → ExA E (pc + 3) L st h) : ExA E pc L (.inr (.inr z) :: st) h := by
  intro Z R p e s m args below meth c C H locs ls x n hR hS hL h1 h2
  show W p (gL (eG E)) e R s m args below meth c H locs x n Z (F0 m pc ls (rV (eG E) z :: st.map (cv (eG E))))
  by_cases q : z = -1
  · rw [show rV (eG E) z = .null by rw [q]; rfl]
    exact lv_ifnonnullN C.1 C.2.1 hd (kf q Z R p e s m args below meth c C H locs ls x n hR hS hL h1 h2)
  · rcases rV_or (eG E) z with y | ⟨y, hy⟩
    · unfold rV at y
      rw [if_neg q] at y
      split at y <;> cases y
    · rw [hy]
      exact lv_ifnonnull C.1 C.2.1 hd ht (kt q Z R p e s m args below meth c C H locs ls x n hR hS hL h1 h2)
theorem s_ldc {idx : Nat} {v : Int} (hw : Cond.constant (eM E).1.cls idx (Int32.ofInt v) ∈ lw_all) (hd : decode (eM E).2.1 pc = .ok (.ldc idx, 2)) (k : ExA E (pc + 2) L (.inl v :: st) h) : ExA E pc L st h :=
  k.pure fun Z R p e s m args below meth c H locs ls x n C hR hS hL w => lv_ldc C.1 C.2.1 C.2.2.2.2.1 (C.2.2.2.2.2.1 _ hw) hd w
theorem s_ldc_w {idx : Nat} {v : Int} (hw : Cond.constant (eM E).1.cls idx (Int32.ofInt v) ∈ lw_all) (hd : decode (eM E).2.1 pc = .ok (.ldc_w idx, 3)) (k : ExA E (pc + 3) L (.inl v :: st) h) : ExA E pc L st h :=
  k.pure fun Z R p e s m args below meth c H locs ls x n C hR hS hL w => lv_ldcw C.1 C.2.1 C.2.2.2.2.1 (C.2.2.2.2.2.1 _ hw) hd w
theorem s_ldc2_w {idx : Nat} {v : Int} (hw : Cond.constantLong (eM E).1.cls idx (Int64.ofInt v) ∈ lw_all) (hd : decode (eM E).2.1 pc = .ok (.ldc2_w idx, 3)) (k : ExA E (pc + 3) L (.inr (.inl v) :: st) h) : ExA E pc L st h :=
  k.pure fun Z R p e s m args below meth c H locs ls x n C hR hS hL w => lv_ldc2 C.1 C.2.1 C.2.2.2.2.1 (C.2.2.2.2.2.1 _ hw) hd w
theorem s_ldcS {idx i : Nat} (hw : ((eM E).1.cls, idx, i) ∈ stRf) (hd : decode (eM E).2.1 pc = .ok (.ldc idx, 2)) (k : ExA E (pc + 2) L (.inr (.inr (-4 - 2 * (i : Int))) :: st) h) : ExA E pc L st h := by
  refine k.pure fun Z R p e s m args below meth c H locs ls x n C hR hS hL w => ?_
  have hv : rV (eG E) (-4 - 2 * (i : Int)) = .ref (gK (eG E) i) := by
    unfold rV gC
    rw [if_neg (by omega), if_neg (by omega), if_neg (by omega), if_neg (by omega), if_pos (by omega)]
    congr 2
    omega
  have w : W p (gL (eG E)) e R s m args below meth c H locs x n Z (F0 m (pc + 2) ls (rV (eG E) (-4 - 2 * (i : Int)) :: st.map (cv (eG E)))) := w
  rw [hv] at w
  exact va_ldcS C.1 C.2.1 C.2.2.2.2.1 (C.2.2.2.2.2.2.1.2.2.2.2 _ hw) hd w
theorem s_ldcwS {idx i : Nat} (hw : ((eM E).1.cls, idx, i) ∈ stRf) (hd : decode (eM E).2.1 pc = .ok (.ldc_w idx, 3)) (k : ExA E (pc + 3) L (.inr (.inr (-4 - 2 * (i : Int))) :: st) h) : ExA E pc L st h := by
  refine k.pure fun Z R p e s m args below meth c H locs ls x n C hR hS hL w => ?_
  have hv : rV (eG E) (-4 - 2 * (i : Int)) = .ref (gK (eG E) i) := by
    unfold rV gC
    rw [if_neg (by omega), if_neg (by omega), if_neg (by omega), if_neg (by omega), if_pos (by omega)]
    congr 2
    omega
  have w : W p (gL (eG E)) e R s m args below meth c H locs x n Z (F0 m (pc + 3) ls (rV (eG E) (-4 - 2 * (i : Int)) :: st.map (cv (eG E)))) := w
  rw [hv] at w
  have hZ := C.2.2.2.2.2.2.1.2.2.2.2 _ hw
  have hown := C.2.2.2.2.1
  have hb := C.2.1
  have hexec := C.1
  intro T hT X
  obtain ⟨t, a1, b1⟩ := w T hT X
  refine ⟨t, ?_, b1⟩
  obtain ⟨k0, cf, i0, a', hk, hcf, hcp, -, hr, hev'⟩ := Cond.stringRef_spec hown hZ.1
  cases hZ.2.symm.trans hev'
  obtain ⟨k', hk', he⟩ := X.warmed.alike.2.2 _ _ hk
  have hr' : k'.resolved[idx]? = some (some (.string (gK (eG E) i))) := by
    rcases X.warmed.entry hk hk' idx with h | ⟨h, -⟩
    · rw [h]; exact hr
    · rw [hr] at h; cases h
  rw [← hb] at hd
  jvm_step X.here [hexec, hd, ldc_w.wp_string (e := e) (s := T) (f := F0 m pc ls (st.map (cv (eG E)))) X.here.top hk' (by rw [he]; exact hcf) hcp hr']
  exact a1
/-- a table switch: by cases -/
def tsw (pc : Nat) (z : Int) (kk : Nat → Prop) : List Int → Int → Prop
  | [], _ => True
  | o :: t, lo => (w32 z = lo → kk ((pc : Int) + o).toNat) ∧ tsw pc z kk t (lo + 1)
theorem tsw_at {pc : Nat} {z : Int} {kk : Nat → Prop} {offs : List Int} {lo : Int} (h : tsw pc z kk offs lo) {i : Nat} {o : Int} (hi : offs[i]? = some o) (hz : w32 z = lo + i) : kk ((pc : Int) + o).toNat := by
  induction offs generalizing lo i with
  | nil => simp at hi
  | cons a t ih =>
    cases i with
    | zero =>
      simp at hi
      subst hi
      exact h.1 (by omega)
    | succ i => exact ih h.2 (i := i) (by simpa using hi) (by omega)
theorem s_tswitch {d lo hi z : Int} {offs : Array Int} {len : Nat} (hd : decode (eM E).2.1 pc = .ok (.tableswitch d lo hi offs, len)) (hp : 0 ≤ (pc : Int) + d ∧ (∀ o ∈ offs.toList, 0 ≤ (pc : Int) + o) ∧ hi - lo < offs.toList.length)
    (kd : w32 z < lo ∨ hi < w32 z → ExA E ((pc : Int) + d).toNat L st h) (kt : tsw pc z (fun t => ExA E t L st h) offs.toList lo) : ExA E pc L (.inl z :: st) h := by
  intro Z R p e s m args below meth c C H locs ls x n hR hS hL h1 h2
  show W p (gL (eG E)) e R s m args below meth c H locs x n Z (F0 m pc ls (.int (Int32.ofInt z) :: st.map (cv (eG E))))
  by_cases q : w32 z < lo ∨ hi < w32 z
  · exact lv_tableOut C.1 C.2.1 hd (by rw [i32_toInt]; exact q) (tgt := ((pc : Int) + d).toNat) (by omega) (kd q Z R p e s m args below meth c C H locs ls x n hR hS hL h1 h2)
  · have hlt : (w32 z - lo).toNat < offs.toList.length := by omega
    have ho : offs.toList[(w32 z - lo).toNat]? = some (offs.toList[(w32 z - lo).toNat]) := List.getElem?_eq_getElem hlt
    have hk := tsw_at kt ho (by omega)
    have hm := hp.2.1 _ (List.mem_of_getElem? ho)
    exact lv_tableIn C.1 C.2.1 hd (by rw [i32_toInt]; omega) (by rw [i32_toInt]; omega) (off := offs.toList[(w32 z - lo).toNat]) (by rw [i32_toInt, ← Array.getElem?_toList]; exact ho) (tgt := ((pc : Int) + offs.toList[(w32 z - lo).toNat]).toNat) (by omega)
      (hk Z R p e s m args below meth c C H locs ls x n hR hS hL h1 h2)
/-- the end of a method -/
theorem s_ret {r : Option AV} (hd : decode (eM E).2.1 pc = .ok ((match r with | none => Instr.return_ | some (.inl _) => .ireturn | some (.inr (.inl _)) => .lreturn | _ => .areturn), 1))
    (hr : rzA (eM E).2.2.2.1 r) (hc : nC h = nC (eH E) + eC E) (hs : nS h = nS (eH E) + eS E) (hq : eQ E r h) : ExA E pc L r.toList h := by
  intro Z R p e s m args below meth c C H locs ls x n hR hS hL h1 h2
  have e1 : x = eC E := by omega
  have e2 : n = eS E := by omega
  subst e1
  subst e2
  have w := C.2.2.2.2.2.2.2.2.2.2 r h H locs pc ls hr hq hc hs hR hS hd
  cases r with
  | none => exact w
  | some v => exact w
end
