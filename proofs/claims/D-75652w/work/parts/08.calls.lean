/-! ROWS: new cells, casts, constants of the JDK, calls -/
theorem rV_str {G : GT} (i : Nat) : rV G (-4 - 2 * (i : Int)) = .ref (gK G i) := by
  unfold rV gC
  rw [if_neg (by omega), if_neg (by omega), if_neg (by omega), if_neg (by omega), if_pos (by omega)]
  congr 2
  omega
theorem rV_stv {G : GT} (i : Nat) : rV G (-5 - 2 * (i : Int)) = .ref (gV G i) := by
  unfold rV gC
  rw [if_neg (by omega), if_neg (by omega), if_neg (by omega), if_neg (by omega), if_neg (by omega)]
  congr 2
  omega
theorem rV_scr {G : GT} : rV G (-2) = .ref (gX G).1 := by
  unfold rV gC
  rw [if_neg (by omega), if_neg (by omega), if_pos (by omega)]
theorem rV_fmt {G : GT} : rV G (-3) = .ref (gF G) := by
  unfold rV gC
  rw [if_neg (by omega), if_neg (by omega), if_neg (by omega), if_pos (by omega)]
/-- an object's contents as 'new' lays them -/
def dzA (ci : Nat) : Nat → Int := fun j => if tcOf (clTy ci j) = 2 then -1 else 0
theorem dz_default {G : GT} (ty : FieldType) (h : tcOf ty ≠ 9) : defaultValue ty = tV G ty (if tcOf ty = 2 then -1 else 0) := by
  cases ty <;> first | rfl | (simp [tcOf] at h)
section
variable {E : EV} {pc : Nat} {L : AL} {st : List AV} {h : AH}
theorem s_new {idx kd N : Nat} (hq : ∃ q, clL[kd - 1]? = some q ∧ q.2.2 = N ∧ kd < 100 ∧ kd ≠ 0 ∧ Cond.classLink (eM E).1.cls idx q.1 ∈ lw_all ∧ ∀ j, j < N → tcOf (clTy (kd - 1) j) ≠ 9) (hcC : nC h + 1 ≤ nC (eH E) + eC E) (hcS : nS h + N ≤ nS (eH E) + eS E)
    (hd : decode (eM E).2.1 pc = .ok (.new idx, 3)) (kk : ExA E (pc + 3) L (.inr (.inr (nN h)) :: st) (hnw h kd N (dzA (kd - 1)))) : ExA E pc L st h := by
  obtain ⟨q, hc, rfl, hk1, hk0, hl, h9⟩ := hq
  intro Z R p e s m args below meth c C H locs ls x n hR hS hL h1 h2
  have hOK := clOK hc
  have hts := C.2.2.2.2.2.1
  have hRm := C.2.2.2.2.2.2.2.2.2.1
  have hKc := C.2.2.2.2.2.2.1.cls hc
  refine W.newcK C.1 C.2.1 C.2.2.2.2.1 (hts _ hl) (hts _ hOK.2.2.2.1) (hts _ hOK.2.2.2.2) rfl hd (by omega) (by omega) hKc.2.1 rfl fun H1 kC g1 g2 g3 g4 => ?_
  have hb := u_born (clTy (kd - 1)) hts hOK.1 hKc g1 g2 hOK.2.1
  have hR1 : RelA (eG E) (hnw h kd q.2.2 (dzA (kd - 1))) H1 := hR.new g3 g4 ⟨fun _ => ⟨q, hc, hb.to fun j hj => dz_default _ (h9 j hj)⟩, fun hh => absurd hh (by show ¬ 100 ≤ kd; omega)⟩
  have hz : gZ (eG E) ≤ s.heap.size := C.2.2.2.2.2.2.2.2.1
  have hS1 : va_S (aW (eG E)) s.heap H1 locs := ⟨by rw [g3]; exact Nat.le_succ_of_le hS.1, fun y y1 y2 => by rw [g4 y (Nat.lt_of_lt_of_le y1 hS.1)]; exact hS.2.1 y y1 y2, hS.2.2⟩
  have w := kk Z R p e s m args below meth c C H1 locs ls (x + 1) (n + q.2.2) hR1 hS1 hL (by rw [nC_hnw]; omega) (by rw [nS_hnw]; omega)
  have w : W p (gL (eG E)) e R s m args below meth c H1 locs (x + 1) (n + q.2.2) Z (F0 m (pc + 3) ls (rV (eG E) (nN h) :: st.map (cv (eG E)))) := w
  rw [rV_ref (by omega), Int.toNat_natCast, ← hR.1] at w
  exact w
/-- kinds of arrays of numbers -/
def kAt : ArrayType → Nat
  | .int => 100
  | .long => 101
  | .byte => 102
  | .short => 103
  | .boolean => 104
  | _ => 0
theorem kAt_ok {a : ArrayType} (h : kAt a ≠ 0) : kAt a ∈ kKs ∧ newarray.typeOf a = kTy (kAt a) ∧ Cond.arrayClass (newarray.typeOf a) ∈ lw_all ∧ (∀ G, defaultValue (newarray.typeOf a) = tV G (kTy (kAt a)) 0) ∧ componentBytes (newarray.typeOf a) ≤ 8 ∧ 100 ≤ kAt a := by
  cases a
  case int => exact ⟨by decide, rfl, q237, fun _ => rfl, by decide, by decide⟩
  case long => exact ⟨by decide, rfl, q270, fun _ => rfl, by decide, by decide⟩
  case byte => exact ⟨by decide, rfl, q300, fun _ => rfl, by decide, by decide⟩
  case short => exact ⟨by decide, rfl, q1396, fun _ => rfl, by decide, by decide⟩
  case boolean => exact ⟨by decide, rfl, q1620, fun _ => rfl, by decide, by decide⟩
  all_goals exact absurd rfl h
theorem s_newa {a : ArrayType} {n : Int} (ha : kAt a ≠ 0) (h0 : 0 ≤ n) (hn : n ≤ 100000) (hcC : nC h + 1 ≤ nC (eH E) + eC E) (hcS : nS h + n.toNat ≤ nS (eH E) + eS E)
    (hd : decode (eM E).2.1 pc = .ok (.newarray a, 2)) (kk : ExA E (pc + 2) L (.inr (.inr (nN h)) :: st) (hnw h (kAt a) n.toNat (fun _ => 0))) : ExA E pc L (.inl n :: st) h := by
  intro Z R p e s m args below meth c C H locs ls x y hR hS hL h1 h2
  show W p (gL (eG E)) e R s m args below meth c H locs x y Z (F0 m pc ls (.int (Int32.ofInt n) :: st.map (cv (eG E))))
  obtain ⟨k1, k2, k3, k4, k5, k6⟩ := kAt_ok ha
  have hts := C.2.2.2.2.2.1
  have hRm := C.2.2.2.2.2.2.2.2.2.1
  have hw : (Int32.ofInt n).toInt = n := by rw [i32_toInt]; exact w32_eq (by omega) (by omega)
  have hcl : (Int32.ofInt n).toNatClampNeg = n.toNat := by show (Int32.ofInt n).toInt.toNat = _; rw [hw]
  refine va_newaK C.1 C.2.1 (hts _ k3) rfl hd rfl (by rw [Int32.lt_iff_toInt_lt, hw]; show ¬ n < 0; omega) hcl
    (Nat.le_trans (Nat.mul_le_mul (show n.toNat ≤ 100000 by omega) k5) (by decide)) (by omega) (by omega) rfl fun H1 cA g1 g2 g3 g4 g5 => ?_
  have hcA : cA = gA (eG E) (kAt a) := by
    have := (C.2.2.2.2.2.2.1.arr k1).2
    rw [← k2] at this
    have e2 : s.vm.findClass ("[" ++ (newarray.typeOf a).toString) = some (gA (eG E) (kAt a)) := by
      cases a <;> exact this
    exact Option.some.inj (g5.symm.trans e2)
  subst hcA
  have hR1 : RelA (eG E) (hnw h (kAt a) n.toNat (fun _ => 0)) H1 := hR.new g2 g3 ⟨fun hh => absurd hh (by show ¬ kAt a < 100; omega), fun _ => ⟨k1, by show n.toNat < _; omega, by rw [g1, k4 (eG E)]⟩⟩
  have hS1 : va_S (aW (eG E)) s.heap H1 locs := ⟨by rw [g2]; exact Nat.le_succ_of_le hS.1, fun y y1 y2 => by rw [g3 y (Nat.lt_of_lt_of_le y1 hS.1)]; exact hS.2.1 y y1 y2, hS.2.2⟩
  have w := kk Z R p e s m args below meth c C H1 locs ls (x + 1) (y + n.toNat) hR1 hS1 hL (by rw [nC_hnw]; omega) (by rw [nS_hnw]; omega)
  have w : W p (gL (eG E)) e R s m args below meth c H1 locs (x + 1) (y + n.toNat) Z (F0 m (pc + 2) ls (rV (eG E) (nN h) :: st.map (cv (eG E)))) := w
  rw [rV_ref (by omega), Int.toNat_natCast, ← hR.1] at w
  exact w
theorem s_anew {idx kd : Nat} {n : Int} (hq : ∃ C, 110 ≤ kd ∧ kd ∈ kKs ∧ kTy kd = .object C ∧ Cond.classLink (eM E).1.cls idx C ∈ lw_all ∧ Cond.arrayOver (.object C) ∈ lw_tbl) (h0 : 0 ≤ n) (hn : n ≤ 100000) (hcC : nC h + 1 ≤ nC (eH E) + eC E) (hcS : nS h + n.toNat ≤ nS (eH E) + eS E)
    (hd : decode (eM E).2.1 pc = .ok (.anewarray idx, 3)) (kk : ExA E (pc + 3) L (.inr (.inr (nN h)) :: st) (hnw h kd n.toNat (fun _ => -1))) : ExA E pc L (.inl n :: st) h := by
  obtain ⟨C0, hk1, hk2, hk3, hl, hov⟩ := hq
  intro Z R p e s m args below meth c C H locs ls x y hR hS hL h1 h2
  show W p (gL (eG E)) e R s m args below meth c H locs x y Z (F0 m pc ls (.int (Int32.ofInt n) :: st.map (cv (eG E))))
  have hts := C.2.2.2.2.2.1
  have hRm := C.2.2.2.2.2.2.2.2.2.1
  have hKn := C.2.2.2.2.2.2.1
  have hw : (Int32.ofInt n).toInt = n := by rw [i32_toInt]; exact w32_eq (by omega) (by omega)
  have hcl : (Int32.ofInt n).toNatClampNeg = n.toNat := by show (Int32.ofInt n).toInt.toNat = _; rw [hw]
  refine W.anew C.1 C.2.1 C.2.2.2.2.1 (hts _ hl) (va_AO.use (hKn.2.2.1 C0 hov)) rfl hd rfl (by rw [Int32.lt_iff_toInt_lt, hw]; show ¬ n < 0; omega) (by rw [hcl]; omega) (by omega) (by rw [hcl]; omega) fun cA kA comp f1 f2 f3 f4 => ?_
  have hcA : cA = gA (eG E) kd := by
    have := (hKn.arr hk2).2
    rw [hk3] at this
    obtain ⟨_, _, -, -, -, e4⟩ := this
    exact Option.some.inj (f1.symm.trans e4)
  subst hcA
  rw [hcl]
  generalize hH1 : H.push ({ cls := gA (eG E) kd, slots := Array.replicate n.toNat .null, vm := .none } : Cell) = H1
  have g2 : H1.size = H.size + 1 := by rw [← hH1, Array.size_push]
  have g1 : H1[H.size]? = some (arrV (gA (eG E) kd) n.toNat (fun _ => .null)) := by rw [← hH1, Array.getElem?_push_size, ← arrV_new]
  have g3 : ∀ q : Nat, q < H.size → H1[q]? = H[q]? := fun q hq => by rw [← hH1, Array.getElem?_push, if_neg (Nat.ne_of_lt hq)]
  have hR1 : RelA (eG E) (hnw h kd n.toNat (fun _ => -1)) H1 := hR.new g2 g3 ⟨fun hh => absurd hh (by show ¬ kd < 100; omega), fun _ => ⟨hk2, by show n.toNat < _; omega, by rw [g1, hk3]; rfl⟩⟩
  have hS1 : va_S (aW (eG E)) s.heap H1 locs := ⟨by rw [g2]; exact Nat.le_succ_of_le hS.1, fun y y1 y2 => by rw [g3 y (Nat.lt_of_lt_of_le y1 hS.1)]; exact hS.2.1 y y1 y2, hS.2.2⟩
  have w := kk Z R p e s m args below meth c C H1 locs ls (x + 1) (y + n.toNat) hR1 hS1 hL (by rw [nC_hnw]; omega) (by rw [nS_hnw]; omega)
  have w : W p (gL (eG E)) e R s m args below meth c H1 locs (x + 1) (y + n.toNat) Z (F0 m (pc + 3) ls (rV (eG E) (nN h) :: st.map (cv (eG E)))) := w
  rw [rV_ref (by omega), Int.toNat_natCast, ← hR.1] at w
  exact w
/-- names of array classes by kind -/
def kNm : Nat → String := fun k => match k with
  | 100 => "[I"
  | 101 => "[J"
  | 102 => "[B"
  | 103 => "[S"
  | _ => ""
theorem kNm_ok {G : GT} {U : State} {k : Nat} (hKn : KnA G U) (h1 : 100 ≤ k) (h2 : k ≤ 103) : k ∈ kKs ∧ U.vm.findClass (kNm k) = some (gA G k) := by
  have hk : k ∈ kKs := by
    rcases (by omega : k = 100 ∨ k = 101 ∨ k = 102 ∨ k = 103) with rfl | rfl | rfl | rfl <;> decide
  refine ⟨hk, ?_⟩
  have := (hKn.arr hk).2
  rcases (by omega : k = 100 ∨ k = 101 ∨ k = 102 ∨ k = 103) with rfl | rfl | rfl | rfl <;> exact this
theorem s_inst {z : Int} {idx t : Nat} (ht : 100 ≤ t ∧ t ≤ 103 ∧ Cond.classLink (eM E).1.cls idx (kNm t) ∈ lw_all) (h0 : 0 ≤ z) (hk : 100 ≤ (hkd h z.toNat).1 ∧ (hkd h z.toNat).1 ≤ 103) (hnc : (hkd h z.toNat).1 ≠ t → (kNm (hkd h z.toNat).1, kNm t) ∈ ncL)
    (hd : decode (eM E).2.1 pc = .ok (.instanceof idx, 3)) (k1 : (hkd h z.toNat).1 = t → ExA E (pc + 3) L (.inl 1 :: st) h) (k0 : (hkd h z.toNat).1 ≠ t → ExA E (pc + 3) L (.inl 0 :: st) h) : ExA E pc L (.inr (.inr z) :: st) h := by
  intro Z R p e s m args below meth c C H locs ls x y hR hS hL h1 h2
  show W p (gL (eG E)) e R s m args below meth c H locs x y Z (F0 m pc ls (rV (eG E) z :: st.map (cv (eG E))))
  rw [rV_ref h0]
  have hts := C.2.2.2.2.2.1
  have hKn := C.2.2.2.2.2.2.1
  obtain ⟨a1, a2, a3⟩ := arr_of (z := z) hR rfl hk.1
  have hcl := (kNm_ok hKn hk.1 hk.2).2
  by_cases e0 : (hkd h z.toNat).1 = t
  · refine va_instE C.1 C.2.1 C.2.2.2.2.1 (hts _ ht.2.2) ⟨_, a3, rfl, ?_⟩ hd (k1 e0 Z R p e s m args below meth c C H locs ls x y hR hS hL h1 h2)
    rw [← e0]
    exact hcl
  · exact va_instNo C.1 C.2.1 C.2.2.2.2.1 (hts _ ht.2.2) (hKn.2.2.2.1 _ (hnc e0)) ⟨_, a3, rfl, hcl⟩ hd (k0 e0 Z R p e s m args below meth c C H locs ls x y hR hS hL h1 h2)
theorem s_instN {idx : Nat} (hd : decode (eM E).2.1 pc = .ok (.instanceof idx, 3)) (k : ExA E (pc + 3) L (.inl 0 :: st) h) : ExA E pc L (.inr (.inr (-1)) :: st) h :=
  k.pure fun Z R p e s m args below meth c H locs ls x n C hR hS hL w => lv_instN C.1 C.2.1 hd w
theorem s_cast {z : Int} {idx t : Nat} (ht : 100 ≤ t ∧ t ≤ 103 ∧ Cond.classLink (eM E).1.cls idx (kNm t) ∈ lw_all) (h0 : 0 ≤ z) (hk : (hkd h z.toNat).1 = t)
    (hd : decode (eM E).2.1 pc = .ok (.checkcast idx, 3)) (k : ExA E (pc + 3) L (.inr (.inr z) :: st) h) : ExA E pc L (.inr (.inr z) :: st) h := by
  refine k.pure fun Z R p e s m args below meth c H locs ls x n C hR hS hL w => ?_
  have w : W p (gL (eG E)) e R s m args below meth c H locs x n Z (F0 m (pc + 3) ls (rV (eG E) z :: st.map (cv (eG E)))) := w
  show W p (gL (eG E)) e R s m args below meth c H locs x n Z (F0 m pc ls (rV (eG E) z :: st.map (cv (eG E))))
  rw [rV_ref h0] at w ⊢
  obtain ⟨a1, a2, a3⟩ := arr_of hR hk ht.1
  exact va_castE C.1 C.2.1 C.2.2.2.2.1 (C.2.2.2.2.2.1 _ ht.2.2) ⟨_, a3, rfl, (kNm_ok C.2.2.2.2.2.2.1 ht.1 ht.2.1).2⟩ hd w
/-! the JDK's constants, the script -/
theorem s_getSv {idx i : Nat} (hi : i < stN) (hl : Cond.fieldLink (eM E).1.cls idx "java/lang/String" "value" "[B" ∈ lw_all) (hd : decode (eM E).2.1 pc = .ok (.getfield idx, 3)) (k : ExA E (pc + 3) L (.inr (.inr (-5 - 2 * (i : Int))) :: st) h) : ExA E pc L (.inr (.inr (-4 - 2 * (i : Int))) :: st) h := by
  refine k.pure fun Z R p e s m args below meth c H locs ls x n C hR hS hL w => ?_
  have w : W p (gL (eG E)) e R s m args below meth c H locs x n Z (F0 m (pc + 3) ls (rV (eG E) (-5 - 2 * (i : Int)) :: st.map (cv (eG E)))) := w
  show W p (gL (eG E)) e R s m args below meth c H locs x n Z (F0 m pc ls (rV (eG E) (-4 - 2 * (i : Int)) :: st.map (cv (eG E))))
  rw [rV_stv] at w
  rw [rV_str]
  exact vk_getf C.1 C.2.1 (C.2.2.2.2.2.2.2.1.2.2.1.1 i hi).2.2.1 hS C.2.2.2.2.1 (C.2.2.2.2.2.1 _ hl) (fun _ q => q) hd w
theorem s_getSc {idx i : Nat} (hi : i < stN) (hl : Cond.fieldLink (eM E).1.cls idx "java/lang/String" "coder" "B" ∈ lw_all) (hd : decode (eM E).2.1 pc = .ok (.getfield idx, 3)) (k : ExA E (pc + 3) L (.inl 0 :: st) h) : ExA E pc L (.inr (.inr (-4 - 2 * (i : Int))) :: st) h := by
  refine k.pure fun Z R p e s m args below meth c H locs ls x n C hR hS hL w => ?_
  show W p (gL (eG E)) e R s m args below meth c H locs x n Z (F0 m pc ls (rV (eG E) (-4 - 2 * (i : Int)) :: st.map (cv (eG E))))
  rw [rV_str]
  exact vk_getf C.1 C.2.1 (C.2.2.2.2.2.2.2.1.2.2.1.1 i hi).2.1 hS C.2.2.2.2.1 (C.2.2.2.2.2.1 _ hl) (fun _ q => q) hd w
theorem s_slen {i : Nat} (hi : i < stN) (hd : decode (eM E).2.1 pc = .ok (.arraylength, 1)) (k : ExA E (pc + 1) L (.inl ((stLen.getD i 0 : Nat) : Int) :: st) h) : ExA E pc L (.inr (.inr (-5 - 2 * (i : Int))) :: st) h := by
  refine k.pure fun Z R p e s m args below meth c H locs ls x n C hR hS hL w => ?_
  show W p (gL (eG E)) e R s m args below meth c H locs x n Z (F0 m pc ls (rV (eG E) (-5 - 2 * (i : Int)) :: st.map (cv (eG E))))
  rw [rV_stv]
  exact va_tlen C.1 C.2.1 (C.2.2.2.2.2.2.2.1.2.2.1.1 i hi).2.2.2 hS (Int32.ofInt_eq_ofNat).symm hd w
theorem s_sbald {i : Nat} {j : Int} (hi : i < stN) (h0 : 0 ≤ j) (hj : j < (stLen.getD i 0 : Nat)) (hl : stLen.getD i 0 < 1000) (hd : decode (eM E).2.1 pc = .ok (.baload, 1)) (k : ExA E (pc + 1) L (.inl ((stByt.getD i []).getD j.toNat 0).toInt :: st) h) : ExA E pc L (.inl j :: .inr (.inr (-5 - 2 * (i : Int))) :: st) h := by
  refine k.pure fun Z R p e s m args below meth c H locs ls x n C hR hS hL w => ?_
  show W p (gL (eG E)) e R s m args below meth c H locs x n Z (F0 m pc ls (.int (Int32.ofInt j) :: rV (eG E) (-5 - 2 * (i : Int)) :: st.map (cv (eG E))))
  rw [rV_stv]
  obtain ⟨b1, b2⟩ := vpin_raw h0 hj (by omega)
  refine va_tb C.1 C.2.1 (C.2.2.2.2.2.2.2.1.2.2.1.1 i hi).2.2.2 hS b1 ?_ hd w
  rw [b2]
  show _ = Value.int (Int32.ofInt _)
  rw [i32_of]
theorem s_gets1 {idx : Nat} (hl : Cond.fieldLink (eM E).1.cls idx "java/lang/String" "COMPACT_STRINGS" "Z" ∈ lw_all) (hd : decode (eM E).2.1 pc = .ok (.getstatic idx, 3)) (k : ExA E (pc + 3) L (.inl 1 :: st) h) : ExA E pc L st h :=
  k.pure fun Z R p e s m args below meth c H locs ls x n C hR hS hL w => va_gets C.1 C.2.1 C.2.2.2.2.2.2.2.1.2.2.2.1 hS C.2.2.2.2.1 (C.2.2.2.2.2.1 _ hl) (fun _ q => q) hd w
theorem s_gets2 {idx : Nat} (hl : Cond.fieldLink (eM E).1.cls idx "jdk/internal/util/Preconditions" "SIOOBE_FORMATTER" "Ljava/util/function/BiFunction;" ∈ lw_all) (hd : decode (eM E).2.1 pc = .ok (.getstatic idx, 3)) (k : ExA E (pc + 3) L (.inr (.inr (-3)) :: st) h) : ExA E pc L st h := by
  refine k.pure fun Z R p e s m args below meth c H locs ls x n C hR hS hL w => ?_
  have w : W p (gL (eG E)) e R s m args below meth c H locs x n Z (F0 m (pc + 3) ls (rV (eG E) (-3) :: st.map (cv (eG E)))) := w
  rw [rV_fmt] at w
  exact va_gets C.1 C.2.1 C.2.2.2.2.2.2.2.1.2.2.2.2 hS C.2.2.2.2.1 (C.2.2.2.2.2.1 _ hl) (fun _ q => q) hd w
theorem s_xlen (hd : decode (eM E).2.1 pc = .ok (.arraylength, 1)) (k : ExA E (pc + 1) L (.inl ((gX (eG E)).2.1 : Int) :: st) h) : ExA E pc L (.inr (.inr (-2)) :: st) h := by
  refine k.pure fun Z R p e s m args below meth c H locs ls x n C hR hS hL w => ?_
  show W p (gL (eG E)) e R s m args below meth c H locs x n Z (F0 m pc ls (rV (eG E) (-2) :: st.map (cv (eG E))))
  rw [rV_scr]
  exact va_tlen C.1 C.2.1 C.2.2.2.2.2.2.2.1.1 hS (Int32.ofInt_eq_ofNat).symm hd w
theorem s_xald {j : Int} (h0 : 0 ≤ j) (hj : j < (gX (eG E)).2.1) (hd : decode (eM E).2.1 pc = .ok (.iaload, 1)) (k : ExA E (pc + 1) L (.inl ((gX (eG E)).2.2 j.toNat).toInt :: st) h) : ExA E pc L (.inl j :: .inr (.inr (-2)) :: st) h := by
  refine k.pure fun Z R p e s m args below meth c H locs ls x n C hR hS hL w => ?_
  show W p (gL (eG E)) e R s m args below meth c H locs x n Z (F0 m pc ls (.int (Int32.ofInt j) :: rV (eG E) (-2) :: st.map (cv (eG E))))
  rw [rV_scr]
  obtain ⟨b1, b2⟩ := vpin_raw h0 hj C.2.2.2.2.2.2.2.1.2.1
  refine va_ti C.1 C.2.1 C.2.2.2.2.2.2.2.1.1 hS b1 ?_ hd w
  rw [b2]
  show _ = Value.int (Int32.ofInt _)
  rw [i32_of]
/-! calls -/
theorem KnA.same {G : GT} {u U : State} (hv : U.vm = u.vm) (h : KnA G u) : KnA G U := by
  have hA : u.vm.Alike U.vm := by rw [hv]; exact Vm.Alike.refl u.vm
  obtain ⟨h1, h2, h3, h4, h5⟩ := h
  refine ⟨va_K.moved hA h1, fun w hw hn => ?_, fun C hC => (h3 C hC).moved hA, fun q hq => (h4 q hq).moved hA, fun q hq => (h5 q hq).same hv⟩
  have hz := h2 w hw hn
  cases w with
  | fieldLinkNest a i b n d e => exact va_tabs rfl hv.symm hz
  | methodLinkNest a i x e => exact va_tabs rfl hv.symm hz
  | declares x => exact va_tabs rfl hv.symm hz
  | _ => simp [isNest] at hn
theorem PcA.blind {G : GT} {args : List AV} {h : AH} : FrameBlind (PcA G args h) := by
  intro a U g mk ⟨h1, h2, h3, h4⟩
  exact ⟨h1, h2, KnA.same (u := U) rfl h3, KhA.moved (s := U) (Vm.Alike.refl U.vm) h4⟩
/-- what is known of a method from the tables -/
def MokA (M : MR) (stat : Bool) : Prop := (M.1.cls ≠ "java/lang/invoke/MethodHandle" ∧ M.1.cls ≠ "java/lang/invoke/VarHandle" ∧ (parseMethodDescriptor M.1.desc).map (fun d => d.parameters.length) = some (if stat then M.2.2.2.2 else M.2.2.2.2 - 1)) ∧
  Cond.code M.1 M.2.1 M.2.2.1 M.2.2.2.1 ∈ lw_all ∧ Cond.initialized M.1.cls ∈ lw_all ∧ M.2.2.1 ≤ 21 ∧ (if stat then Cond.static M.1 ∈ lw_all else Cond.instanceMethod M.1 ∈ lw_all ∧ 1 ≤ M.2.2.2.2)
def LokA (own : String) (idx : Nat) (y : MethodName) : Prop := Cond.methodLink own idx y ∈ lw_all ∨ ∃ host, Cond.methodLinkNest own idx y host ∈ lw_tbl
/-- a call of M on these arguments: a contract at hand, its room within ours, and behind it K -/
def ClA (E : EV) (M : MR) (args : List AV) (h : AH) (K : Option AV → AH → Prop) : Prop :=
  ∃ (dpc mcc msc : Nat) (Q1 : Option AV → AH → Prop), CnA (eG E) M dpc mcc msc args h Q1 ∧ dpc < eD E ∧ nC h + mcc ≤ nC (eH E) + eC E ∧ nS h + msc ≤ nS (eH E) + eS E ∧ ∀ r h1, Q1 r h1 → nC h1 = nC h + mcc → nS h1 = nS h + msc → K r h1
theorem va_callA {G : GT} {p : Program} {l : Launch} {e : Env} {R : Room} {s : State} {m : MethodId} {args : Array Value} {below : List Frame} {meth : Method} {c : Code} {H : Heap} {locs : List Loc} {cells slots mc ms : Nat} {Z : State → Prop} {ls : Array Slot} {rest st0 : List Value} {a : Array Value} {H0 : Heap} {Q1 : Option AV → AH → Prop}
    (hr : va_Run p l e R s m args below meth c H locs cells slots mc ms (F0 m pc ls st0) rest (QcA G mc ms h Q1 a) (aW G)) (hS : va_S (aW G) H0 H locs)
    (kk : ∀ (r : Option AV) (h1 : AH) (H1 : Heap) (locs1 : List Loc), Q1 r h1 → nC h1 = nC h + mc → nS h1 = nS h + ms → RelA G h1 H1 → va_S (aW G) H0 H1 locs1 → W p l e R s m args below meth c H1 locs1 (cells + mc) (slots + ms) Z (F0 m (pc + 3) ls ((r.map (cv G)).toList ++ rest))) : W p l e R s m args below meth c H locs cells slots Z (F0 m pc ls st0) := by
  intro T hT X
  obtain ⟨v, st₀, t, T', L1, h0, X', hL, e1, e2, ⟨⟨r, h1, hv, hq, hc1, hs1, hR1⟩, hz, hk⟩, st⟩ := hr T hT X
  cases hv
  rw [h0] at hz hk
  obtain ⟨t2, a1, b1⟩ := kk r h1 T'.heap (locs ++ L1) hq hc1 hs1 (by rw [e1]; exact hR1)
    ⟨Nat.le_trans hS.1 (by rw [e1]; exact hz), fun q h1 h2 => by rw [e1, hk q (Nat.lt_of_lt_of_le h1 hS.1) h2]; exact hS.2.1 q h1 h2, fun q hq => by
      rcases List.mem_append.mp hq with h | h
      · exact hS.2.2 q h
      · exact hL q h⟩ T' rfl X'
  exact ⟨t2, st t2 a1, b1⟩
theorem KhA.now {G : GT} {s U : State} {H : Heap} {locs : List Loc} (hz : gZ G ≤ s.heap.size) (hS : va_S (aW G) s.heap H locs) (hvm : s.vm.Alike U.vm) (h : KhA G s s.heap) : KhA G U H :=
  KhA.moved hvm (h.kept fun a h1 h2 => hS.2.1 a h1 h2)
theorem s_callS {M : MR} {idx : Nat} {As rest : List AV} (hM : MokA M true) (hl : LokA (eM E).1.cls idx M.1) (hn : As.length = M.2.2.2.2) (hc : acats rest ≤ 8) (hd : decode (eM E).2.1 pc = .ok (.invokestatic idx, 3))
    (kk : ClA E M As h (fun r h1 => ExA E (pc + 3) L (r.toList ++ rest) h1)) : ExA E pc L (As.reverse ++ rest) h := by
  obtain ⟨dpc, mcc, msc, Q1, hMet, hdp, hcc, hcs, kk⟩ := kk
  obtain ⟨⟨m1, m2, m3⟩, m4, m5, m6, m7⟩ := hM
  simp only [if_true] at m3 m7
  intro Z R p e s m args below meth c C H locs ls x y hR hS hL h1 h2
  have hts := C.2.2.2.2.2.1
  have hRm := C.2.2.2.2.2.2.2.2.2.1
  have hz := C.2.2.2.2.2.2.2.2.1
  have hSt : (As.reverse ++ rest).map (cv (eG E)) = (As.map (cv (eG E))).reverse ++ rest.map (cv (eG E)) := by simp
  rw [hSt]
  have hP : PreS s H (PcA (eG E) As h) (As.map (cv (eG E))) := ⟨PcA.blind, fun U hU hW => ⟨rfl, by rw [hU]; exact hR, KnA.warm hW C.2.2.2.2.2.2.1, by rw [hU]; exact KhA.now hz hS hW.alike C.2.2.2.2.2.2.2.1⟩⟩
  have hRR : (rmA dpc mcc msc).frames + 1 ≤ R.frames ∧ 8 + (M.2.2.1 + 11) + (rmA dpc mcc msc).locals ≤ R.locals := ⟨by show dpc + 1 ≤ _; omega, by show 8 + (M.2.2.1 + 11) + (40 * dpc + 12) ≤ _; omega⟩
  have S0 : CallFix p m c (eM E).2.1 (eM E).2.2.1 s args lw_all (eM E).1.cls := ⟨C.1, C.2.1, C.2.2.1, C.2.2.2.2.1, hts⟩
  have hrun : va_Run p (gL (eG E)) e R s m args below meth c H locs x y mcc msc (F0 m pc ls ((As.map (cv (eG E))).reverse ++ rest.map (cv (eG E)))) (rest.map (cv (eG E))) (QcA (eG E) mcc msc h Q1 (As.map (cv (eG E))).toArray) (aW (eG E)) := by
    rcases hl with hl | ⟨host, hl⟩
    · exact va_runS S0 hMet ⟨callB_of M.2.2.2.2 hts (lw_meth m4) rfl rfl rfl (hts _ m5) (hts _ hl) ⟨m1, m2, m3⟩ hRR, hts _ m7⟩ hP rfl (by simp [hn]) hL.1 rfl (lv_room (by rw [cv_cats]; exact hc)) hd ⟨by omega, by omega⟩
    · exact va_runSN S0 hMet ⟨va_cnB M.2.2.2.2 hts (lw_meth m4) rfl rfl rfl (C.2.2.2.2.2.2.1.2.1 _ hl rfl) (hts _ m5) ⟨m1, m2, m3⟩ hRR, hts _ m7, trivial⟩ hP rfl (by simp [hn]) hL.1 rfl (lv_room (by rw [cv_cats]; exact hc)) hd ⟨by omega, by omega⟩
  refine va_callA hrun hS fun r h3 H1 locs1 hq e1 e2 hR1 hS1 => ?_
  have w := kk r h3 hq e1 e2 Z R p e s m args below meth c C H1 locs1 ls (x + mcc) (y + msc) hR1 hS1 hL (by omega) (by omega)
  have e3 : (r.toList ++ rest).map (cv (eG E)) = (r.map (cv (eG E))).toList ++ rest.map (cv (eG E)) := by cases r <;> simp
  rw [e3] at w
  exact w
theorem s_callV {M : MR} {idx kd : Nat} {z : Int} {As rest : List AV} (hM : MokA M false) (hl : LokA (eM E).1.cls idx M.1) (hsel : Cond.selects M.1.cls M.1 M.1 ∈ lw_all) (hq : ∃ q, clL[kd - 1]? = some q ∧ q.1 = M.1.cls ∧ kd < 100 ∧ kd ≠ 0) (h0 : 0 ≤ z) (hk : (hkd h z.toNat).1 = kd)
    (hn : As.length + 1 = M.2.2.2.2) (hc : acats rest ≤ 8) (hd : decode (eM E).2.1 pc = .ok (.invokevirtual idx, 3)) (kk : ClA E M (.inr (.inr z) :: As) h (fun r h1 => ExA E (pc + 3) L (r.toList ++ rest) h1)) : ExA E pc L (As.reverse ++ .inr (.inr z) :: rest) h := by
  obtain ⟨dpc, mcc, msc, Q1, hMet, hdp, hcc, hcs, kk⟩ := kk
  obtain ⟨⟨m1, m2, m3⟩, m4, m5, m6, m7⟩ := hM
  simp only [Bool.false_eq_true, if_false] at m3 m7
  obtain ⟨q, hq1, hq2, hk1, hk0⟩ := hq
  intro Z R p e s m args below meth c C H locs ls x y hR hS hL h1 h2
  have hts := C.2.2.2.2.2.1
  have hRm := C.2.2.2.2.2.2.2.2.2.1
  have hz := C.2.2.2.2.2.2.2.2.1
  have hSt : (As.reverse ++ .inr (.inr z) :: rest).map (cv (eG E)) = (As.map (cv (eG E))).reverse ++ .ref (gZ (eG E) + z.toNat) :: rest.map (cv (eG E)) := by
    simp only [List.map_append, List.map_reverse, List.map_cons]
    congr 2
    exact rV_ref h0
  rw [hSt]
  obtain ⟨-, hcat⟩ := hR.2 z.toNat (by omega)
  obtain ⟨q', hq', cell, g1, g2, g3, -⟩ := hcat.1 (by omega)
  rw [hk] at hq' g2
  have hqq : q' = q := Option.some.inj (hq'.symm.trans hq1)
  subst hqq
  have hcls := (C.2.2.2.2.2.2.1.cls hq1).2
  have hP : PreV s H M.1.cls (gZ (eG E) + z.toNat) (PcA (eG E) (.inr (.inr z) :: As) h) (As.map (cv (eG E))) := ⟨PcA.blind, ⟨cell, g1, by rw [g3]; rfl, by rw [← hq2, g2]; exact hcls.1⟩, fun U hU hW => ⟨by
    show _ = (rV (eG E) z :: As.map (cv (eG E))).toArray
    rw [rV_ref h0], by rw [hU]; exact hR, KnA.warm hW C.2.2.2.2.2.2.1, by rw [hU]; exact KhA.now hz hS hW.alike C.2.2.2.2.2.2.2.1⟩⟩
  have hRR : (rmA dpc mcc msc).frames + 1 ≤ R.frames ∧ 8 + (M.2.2.1 + 11) + (rmA dpc mcc msc).locals ≤ R.locals := ⟨by show dpc + 1 ≤ _; omega, by show 8 + (M.2.2.1 + 11) + (40 * dpc + 12) ≤ _; omega⟩
  have S0 : CallFix p m c (eM E).2.1 (eM E).2.2.1 s args lw_all (eM E).1.cls := ⟨C.1, C.2.1, C.2.2.1, C.2.2.2.2.1, hts⟩
  have hrun : va_Run p (gL (eG E)) e R s m args below meth c H locs x y mcc msc (F0 m pc ls ((As.map (cv (eG E))).reverse ++ .ref (gZ (eG E) + z.toNat) :: rest.map (cv (eG E)))) (rest.map (cv (eG E))) (QcA (eG E) mcc msc h Q1 (Value.ref (gZ (eG E) + z.toNat) :: As.map (cv (eG E))).toArray) (aW (eG E)) := by
    rcases hl with hl | ⟨host, hl⟩
    · exact va_runV S0 hMet ⟨callB_of (M.2.2.2.2 - 1) hts (lw_meth m4) rfl rfl rfl (hts _ m5) (hts _ hl) ⟨m1, m2, m3⟩ hRR, hts _ m7.1, hts _ hsel⟩ hP rfl (by simp; omega) hL.1 rfl (lv_room (by rw [cv_cats]; exact hc)) hd ⟨by omega, by omega⟩
    · exact va_runVN S0 hMet ⟨va_cnB (M.2.2.2.2 - 1) hts (lw_meth m4) rfl rfl rfl (C.2.2.2.2.2.2.1.2.1 _ hl rfl) (hts _ m5) ⟨m1, m2, m3⟩ hRR, hts _ m7.1, hts _ hsel⟩ hP rfl (by simp; omega) hL.1 rfl (lv_room (by rw [cv_cats]; exact hc)) hd ⟨by omega, by omega⟩
  refine va_callA hrun hS fun r h3 H1 locs1 hq e1 e2 hR1 hS1 => ?_
  have w := kk r h3 hq e1 e2 Z R p e s m args below meth c C H1 locs1 ls (x + mcc) (y + msc) hR1 hS1 hL (by omega) (by omega)
  have e3 : (r.toList ++ rest).map (cv (eG E)) = (r.map (cv (eG E))).toList ++ rest.map (cv (eG E)) := by cases r <;> simp
  rw [e3] at w
  exact w
end
