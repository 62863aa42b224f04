/-! ROWS: constructors, a receiver's class, Strings, Object's constructor, arraycopy -/
section
variable {E : EV} {pc : Nat} {L : AL} {st : List AV} {h : AH}
theorem s_callI {M : MR} {idx : Nat} {z : Int} {As rest : List AV} (hM : MokA M false) (hr0 : M.2.2.2.1 = none ∧ M.1.name = "<init>") (hl : LokA (eM E).1.cls idx M.1) (h0 : 0 ≤ z)
    (hn : As.length + 1 = M.2.2.2.2) (hc : acats rest ≤ 8) (hd : decode (eM E).2.1 pc = .ok (.invokespecial idx, 3)) (kk : ClA E M (.inr (.inr z) :: As) h (fun r h1 => ExA E (pc + 3) L (r.toList ++ rest) h1)) : ExA E pc L (As.reverse ++ .inr (.inr z) :: rest) h := by
  obtain ⟨dpc, mcc, msc, Q1, hMet, hdp, hcc, hcs, kk⟩ := kk
  obtain ⟨⟨m1, m2, m3⟩, m4, m5, m6, m7⟩ := hM
  simp only [Bool.false_eq_true, if_false] at m3 m7
  obtain ⟨y, bytes, maxL, ret, na⟩ := M
  obtain ⟨hr0, hy⟩ := hr0
  simp only at hr0 hy m1 m2 m3 m4 m5 m6 m7 hn hl
  subst hr0
  intro Z R p e s m args below meth c C H locs ls x yy hR hS hL h1 h2
  have hts := C.2.2.2.2.2.1
  have hRm := C.2.2.2.2.2.2.2.2.2.1
  have hz := C.2.2.2.2.2.2.2.2.1
  have hSt : (As.reverse ++ .inr (.inr z) :: rest).map (cv (eG E)) = (As.map (cv (eG E))).reverse ++ .ref (gZ (eG E) + z.toNat) :: rest.map (cv (eG E)) := by
    simp only [List.map_append, List.map_reverse, List.map_cons]
    congr 2
    exact rV_ref h0
  rw [hSt]
  have hP : PreS s H (PcA (eG E) (.inr (.inr z) :: As) h) (.ref (gZ (eG E) + z.toNat) :: As.map (cv (eG E))) := ⟨PcA.blind, fun U hU hW => ⟨by
    show _ = (rV (eG E) z :: As.map (cv (eG E))).toArray
    rw [rV_ref h0], by rw [hU]; exact hR, KnA.warm hW C.2.2.2.2.2.2.1, by rw [hU]; exact KhA.now hz hS hW.alike C.2.2.2.2.2.2.2.1⟩⟩
  have hRR : (rmA dpc mcc msc).frames + 1 ≤ R.frames ∧ 8 + (maxL + 11) + (rmA dpc mcc msc).locals ≤ R.locals := ⟨by show dpc + 1 ≤ _; omega, by show 8 + (maxL + 11) + (40 * dpc + 12) ≤ _; omega⟩
  have S0 : CallFix p m c (eM E).2.1 (eM E).2.2.1 s args lw_all (eM E).1.cls := ⟨C.1, C.2.1, C.2.2.1, C.2.2.2.2.1, hts⟩
  have hrun : va_Run p (gL (eG E)) e R s m args below meth c H locs x yy mcc msc (F0 m pc ls ((As.map (cv (eG E))).reverse ++ .ref (gZ (eG E) + z.toNat) :: rest.map (cv (eG E)))) (rest.map (cv (eG E))) (QcA (eG E) mcc msc h Q1 (Value.ref (gZ (eG E) + z.toNat) :: As.map (cv (eG E))).toArray) (aW (eG E)) := by
    rcases hl with hl | ⟨host, hl⟩
    · exact va_runI S0 hMet ⟨callB_of (na - 1) hts (lw_meth m4) rfl rfl rfl (hts _ m5) (hts _ hl) ⟨m1, m2, m3⟩ hRR, hy, hts _ m7.1⟩ hP rfl (by simp; omega) hL.1 rfl (lv_room (by rw [cv_cats]; exact hc)) hd ⟨by omega, by omega⟩
    · exact va_runIN S0 hMet ⟨va_cnB (na - 1) hts (lw_meth m4) rfl rfl rfl (C.2.2.2.2.2.2.1.2.1 _ hl rfl) (hts _ m5) ⟨m1, m2, m3⟩ hRR, hy, hts _ m7.1⟩ hP rfl (by simp; omega) hL.1 rfl (lv_room (by rw [cv_cats]; exact hc)) hd ⟨by omega, by omega⟩
  refine va_callA hrun hS fun r h3 H1 locs1 hq e1 e2 hR1 hS1 => ?_
  have w := kk r h3 hq e1 e2 Z R p e s m args below meth c C H1 locs1 ls (x + mcc) (yy + msc) hR1 hS1 hL (by omega) (by omega)
  have e3 : (r.toList ++ rest).map (cv (eG E)) = (r.map (cv (eG E))).toList ++ rest.map (cv (eG E)) := by cases r <;> simp
  rw [e3] at w
  exact w
/-- a method by its receiver's class: x is the name called -/
def DokA (own : String) (idx : Nat) (x : MethodName) (C : String) (M : MR) : Prop := Cond.methodLink own idx x ∈ lw_all ∧ Cond.sameMethod x.cls x.cls x.name x.desc ∈ lw_all ∧ Cond.selects C x M.1 ∈ lw_all ∧ Cond.declares ⟨x.cls, x.name, x.desc⟩ ∈ lw_tbl ∧ x.cls ≠ "java/lang/invoke/MethodHandle" ∧ x.cls ≠ "java/lang/invoke/VarHandle" ∧ x.desc = M.1.desc
theorem s_callU {M : MR} {idx kd : Nat} {z : Int} {x : MethodName} {As rest : List AV} (hM : MokA M false) (hq : ∃ q, clL[kd - 1]? = some q ∧ DokA (eM E).1.cls idx x q.1 M ∧ kd < 100 ∧ kd ≠ 0) (h0 : 0 ≤ z) (hk : (hkd h z.toNat).1 = kd)
    (hn : As.length + 1 = M.2.2.2.2) (hc : acats rest ≤ 8) (hd : decode (eM E).2.1 pc = .ok (.invokevirtual idx, 3)) (kk : ClA E M (.inr (.inr z) :: As) h (fun r h1 => ExA E (pc + 3) L (r.toList ++ rest) h1)) : ExA E pc L (As.reverse ++ .inr (.inr z) :: rest) h := by
  obtain ⟨dpc, mcc, msc, Q1, hMet, hdp, hcc, hcs, kk⟩ := kk
  obtain ⟨⟨m1, m2, m3⟩, m4, m5, m6, m7⟩ := hM
  simp only [Bool.false_eq_true, if_false] at m3 m7
  obtain ⟨q, hq1, ⟨d1, d2, d3, d4, d5, d6, d7⟩, hk1, hk0⟩ := hq
  intro Z R p e s m args below meth c C H locs ls xx y hR hS hL h1 h2
  have hts := C.2.2.2.2.2.1
  have hRm := C.2.2.2.2.2.2.2.2.2.1
  have hz := C.2.2.2.2.2.2.2.2.1
  have hSt : (As.reverse ++ .inr (.inr z) :: rest).map (cv (eG E)) = (As.map (cv (eG E))).reverse ++ .ref (gZ (eG E) + z.toNat) :: rest.map (cv (eG E)) := by
    simp only [List.map_append, List.map_reverse, List.map_cons]
    congr 2
    exact rV_ref h0
  rw [hSt]
  obtain ⟨-, hcat⟩ := hR.2 z.toNat (by omega)
  obtain ⟨q', hq', cell, g1, g2, g3, -⟩ := hcat.1 (by omega)
  rw [hk] at hq' g2
  have hqq : q' = q := Option.some.inj (hq'.symm.trans hq1)
  subst hqq
  have hcls := (C.2.2.2.2.2.2.1.cls hq1).2
  have hP : PreV s H q'.1 (gZ (eG E) + z.toNat) (PcA (eG E) (.inr (.inr z) :: As) h) (As.map (cv (eG E))) := ⟨PcA.blind, ⟨cell, g1, by rw [g3]; rfl, by rw [g2]; exact hcls.1⟩, fun U hU hW => ⟨by
    show _ = (rV (eG E) z :: As.map (cv (eG E))).toArray
    rw [rV_ref h0], by rw [hU]; exact hR, KnA.warm hW C.2.2.2.2.2.2.1, by rw [hU]; exact KhA.now hz hS hW.alike C.2.2.2.2.2.2.2.1⟩⟩
  have hRR : (rmA dpc mcc msc).frames + 1 ≤ R.frames ∧ 8 + (M.2.2.1 + 11) + (rmA dpc mcc msc).locals ≤ R.locals := ⟨by show dpc + 1 ≤ _; omega, by show 8 + (M.2.2.1 + 11) + (40 * dpc + 12) ≤ _; omega⟩
  have S0 : CallFix p m c (eM E).2.1 (eM E).2.2.1 s args lw_all (eM E).1.cls := ⟨C.1, C.2.1, C.2.2.1, C.2.2.2.2.1, hts⟩
  have hG : GoodIn lw_all (va_wsU (eM E).1.cls idx q'.1 x.cls x M.1 (ws_ M.1 M.2.1 M.2.2.1 M.2.2.2.1)) := by
    refine lw_app ?_ (lw_meth m4)
    intro w hw
    simp only [List.mem_cons, List.not_mem_nil, or_false] at hw
    rcases hw with e | e | e | e | e
    · rw [e]; exact d1
    · rw [e]; exact d2
    · rw [e]; exact d3
    · rw [e]; exact m7.1
    · rw [e]; exact m5
  have hrun : va_Run p (gL (eG E)) e R s m args below meth c H locs xx y mcc msc (F0 m pc ls ((As.map (cv (eG E))).reverse ++ .ref (gZ (eG E) + z.toNat) :: rest.map (cv (eG E)))) (rest.map (cv (eG E))) (QcA (eG E) mcc msc h Q1 (Value.ref (gZ (eG E) + z.toNat) :: As.map (cv (eG E))).toArray) (aW (eG E)) :=
    va_runU S0 hMet (va_cwA (M.2.2.2.2 - 1) hts hG rfl rfl rfl (C.2.2.2.2.2.2.1.2.1 _ d4 rfl) ⟨d5, d6, by rw [d7]; exact m3⟩ hRR) hP rfl (by simp; omega) hL.1 rfl (lv_room (by rw [cv_cats]; exact hc)) hd ⟨by omega, by omega⟩
  refine va_callA hrun hS fun r h3 H1 locs1 hq e1 e2 hR1 hS1 => ?_
  have w := kk r h3 hq e1 e2 Z R p e s m args below meth c C H1 locs1 ls (xx + mcc) (y + msc) hR1 hS1 hL (by omega) (by omega)
  have e3 : (r.toList ++ rest).map (cv (eG E)) = (r.map (cv (eG E))).toList ++ rest.map (cv (eG E)) := by cases r <;> simp
  rw [e3] at w
  exact w
/-- a call on a String constant -/
theorem s_callT {M : MR} {idx i : Nat} {As rest : List AV} (hM : MokA M false) (hl : Cond.methodLink (eM E).1.cls idx M.1 ∈ lw_all) (hsel : Cond.selects M.1.cls M.1 M.1 ∈ lw_all) (hcl : M.1.cls = "java/lang/String") (hi : i < stN)
    (hn : As.length + 1 = M.2.2.2.2) (hc : acats rest ≤ 8) (hd : decode (eM E).2.1 pc = .ok (.invokevirtual idx, 3)) (kk : ClA E M (.inr (.inr (-4 - 2 * (i : Int))) :: As) h (fun r h1 => ExA E (pc + 3) L (r.toList ++ rest) h1)) : ExA E pc L (As.reverse ++ .inr (.inr (-4 - 2 * (i : Int))) :: rest) h := by
  obtain ⟨dpc, mcc, msc, Q1, hMet, hdp, hcc, hcs, kk⟩ := kk
  obtain ⟨⟨m1, m2, m3⟩, m4, m5, m6, m7⟩ := hM
  simp only [Bool.false_eq_true, if_false] at m3 m7
  intro Z R p e s m args below meth c C H locs ls x y hR hS hL h1 h2
  have hts := C.2.2.2.2.2.1
  have hRm := C.2.2.2.2.2.2.2.2.2.1
  have hz := C.2.2.2.2.2.2.2.2.1
  have hSt : (As.reverse ++ .inr (.inr (-4 - 2 * (i : Int))) :: rest).map (cv (eG E)) = (As.map (cv (eG E))).reverse ++ .ref (gK (eG E) i) :: rest.map (cv (eG E)) := by
    simp only [List.map_append, List.map_reverse, List.map_cons]
    congr 2
    exact rV_str i
  rw [hSt]
  have hP : PreV s H M.1.cls (gK (eG E) i) (PcA (eG E) (.inr (.inr (-4 - 2 * (i : Int))) :: As) h) (As.map (cv (eG E))) := ⟨PcA.blind, by rw [hcl]; exact vk_recv C.2.2.2.2.2.2.2.1.2.2.1 hi hS, fun U hU hW => ⟨by
    show _ = (rV (eG E) (-4 - 2 * (i : Int)) :: As.map (cv (eG E))).toArray
    rw [rV_str], by rw [hU]; exact hR, KnA.warm hW C.2.2.2.2.2.2.1, by rw [hU]; exact KhA.now hz hS hW.alike C.2.2.2.2.2.2.2.1⟩⟩
  have hRR : (rmA dpc mcc msc).frames + 1 ≤ R.frames ∧ 8 + (M.2.2.1 + 11) + (rmA dpc mcc msc).locals ≤ R.locals := ⟨by show dpc + 1 ≤ _; omega, by show 8 + (M.2.2.1 + 11) + (40 * dpc + 12) ≤ _; omega⟩
  have S0 : CallFix p m c (eM E).2.1 (eM E).2.2.1 s args lw_all (eM E).1.cls := ⟨C.1, C.2.1, C.2.2.1, C.2.2.2.2.1, hts⟩
  have hrun : va_Run p (gL (eG E)) e R s m args below meth c H locs x y mcc msc (F0 m pc ls ((As.map (cv (eG E))).reverse ++ .ref (gK (eG E) i) :: rest.map (cv (eG E)))) (rest.map (cv (eG E))) (QcA (eG E) mcc msc h Q1 (Value.ref (gK (eG E) i) :: As.map (cv (eG E))).toArray) (aW (eG E)) :=
    va_runV S0 hMet ⟨callB_of (M.2.2.2.2 - 1) hts (lw_meth m4) rfl rfl rfl (hts _ m5) (hts _ hl) ⟨m1, m2, m3⟩ hRR, hts _ m7.1, hts _ hsel⟩ hP rfl (by simp; omega) hL.1 rfl (lv_room (by rw [cv_cats]; exact hc)) hd ⟨by omega, by omega⟩
  refine va_callA hrun hS fun r h3 H1 locs1 hq e1 e2 hR1 hS1 => ?_
  have w := kk r h3 hq e1 e2 Z R p e s m args below meth c C H1 locs1 ls (x + mcc) (y + msc) hR1 hS1 hL (by omega) (by omega)
  have e3 : (r.toList ++ rest).map (cv (eG E)) = (r.map (cv (eG E))).toList ++ rest.map (cv (eG E)) := by cases r <;> simp
  rw [e3] at w
  exact w
theorem s_objInit {z : Int} {idx : Nat} {rest : List AV} (hl : Cond.methodLink (eM E).1.cls idx objectInit ∈ lw_all) (hi : Cond.instanceMethod objectInit ∈ lw_all) (hco : Cond.code objectInit ⟨#[0xb1]⟩ 1 none ∈ lw_all) (h0 : 0 ≤ z) (hD : 1 ≤ eD E) (hc : acats rest ≤ 8)
    (hd : decode (eM E).2.1 pc = .ok (.invokespecial idx, 3)) (k : ExA E (pc + 3) L rest h) : ExA E pc L (.inr (.inr z) :: rest) h := by
  refine k.pure fun Z R p e s m args below meth c H locs ls x n C hR hS hL w => ?_
  have hts := C.2.2.2.2.2.1
  have hRm := C.2.2.2.2.2.2.2.2.2.1
  show W p (gL (eG E)) e R s m args below meth c H locs x n Z (F0 m pc ls (rV (eG E) z :: rest.map (cv (eG E))))
  rw [rV_ref h0]
  refine W.objInit C.1 C.2.1 C.2.2.2.2.1 (hts _ hl) (hts _ hi) (hts _ hco) rfl (by rw [C.2.2.1]; exact hL.1) rfl hd (by omega) ?_ w
  have := lv_room (m := m) (pc := pc) (ls := ls) (rest := rest.map (cv (eG E))) (st := rest.map (cv (eG E))) (by rw [cv_cats]; exact hc)
  show 2 * (F0 m pc ls _).monitorRoom + _ + 12 ≤ _
  have e2 : (F0 m pc ls (Value.ref (gZ (eG E) + z.toNat) :: rest.map (cv (eG E)))).monitorRoom = (F0 m pc ls (rest.map (cv (eG E)))).monitorRoom := rfl
  rw [e2]
  omega
/-- what System.arraycopy lays -/
def cpyA (f g : Nat → Int) (sp dp n : Nat) : Nat → Int := fun k => if dp ≤ k ∧ k < dp + n then f (sp + (k - dp)) else g k
set_option maxHeartbeats 1000000 in
theorem s_copy {a0 a sp dp n : Int} {idx : Nat} {rest : List AV} (hl : Cond.methodLink (eM E).1.cls idx arraycopyName ∈ lw_all) (hD : 1 ≤ eD E) (h0 : 0 ≤ a0) (ha : 0 ≤ a) (hk0 : (hkd h a0.toNat).1 = 100) (hk1 : (hkd h a.toNat).1 = 100) (hsp : 0 ≤ sp) (hdp : 0 ≤ dp) (hn : 0 ≤ n) (hs0 : sp + n ≤ (hkd h a0.toNat).2) (hd0 : dp + n ≤ (hkd h a.toNat).2)
    (hc : acats rest ≤ 8) (hd : decode (eM E).2.1 pc = .ok (.invokestatic idx, 3)) (k : ExA E (pc + 3) L rest (hrw h a.toNat (cpyA (hdt h a0.toNat) (hdt h a.toNat) sp.toNat dp.toNat n.toNat))) : ExA E pc L (.inl n :: .inl dp :: .inr (.inr a) :: .inl sp :: .inr (.inr a0) :: rest) h := by
  intro Z R p e s m args below meth c C H locs ls x y hR hS hL h1 h2
  have hts := C.2.2.2.2.2.1
  have hRm := C.2.2.2.2.2.2.2.2.2.1
  show W p (gL (eG E)) e R s m args below meth c H locs x y Z (F0 m pc ls (.int (Int32.ofInt n) :: .int (Int32.ofInt dp) :: rV (eG E) a :: .int (Int32.ofInt sp) :: rV (eG E) a0 :: rest.map (cv (eG E))))
  rw [rV_ref h0, rV_ref ha]
  obtain ⟨b1, b2, b3⟩ := arr_of hR hk0 (by omega)
  obtain ⟨c1, c2, c3⟩ := arr_of hR hk1 (by omega)
  have hA := (C.2.2.2.2.2.2.1.arr b1).1
  have tn : ∀ z : Int, 0 ≤ z → z < 2147483648 → (Int32.ofInt z).toInt = z ∧ (Int32.ofInt z).toNatClampNeg = z.toNat ∧ ¬ Int32.ofInt z < 0 := fun z g1 g2 => by
    have hw : (Int32.ofInt z).toInt = z := by rw [i32_toInt]; exact w32_eq (by omega) (by omega)
    refine ⟨hw, ?_, ?_⟩
    · show (Int32.ofInt z).toInt.toNat = _
      rw [hw]
    · rw [Int32.lt_iff_toInt_lt, hw]
      show ¬ z < 0
      omega
  obtain ⟨n1, n2, n3⟩ := tn n hn (by omega)
  obtain ⟨p1, p2, p3⟩ := tn sp hsp (by omega)
  obtain ⟨q1, q2, q3⟩ := tn dp hdp (by omega)
  have e0 : (fun j => tV (eG E) (kTy 100) (hdt h a0.toNat j)) = fun j => Value.int (Int32.ofInt (hdt h a0.toNat j)) := rfl
  have e1 : (fun j => tV (eG E) (kTy 100) (hdt h a.toNat j)) = fun j => Value.int (Int32.ofInt (hdt h a.toNat j)) := rfl
  rw [e0] at b3
  rw [e1] at c3
  intro T hT X
  have hc0 : H[gZ (eG E) + a0.toNat]? = some (vp_cell (gA (eG E) 100) ((hkd h a0.toNat).2, .inl (fun j => Int32.ofInt (hdt h a0.toNat j)))) := b3
  have hc1 : H[gZ (eG E) + a.toNat]? = some (vp_cell (gA (eG E) 100) ((hkd h a.toNat).2, .inl (fun j => Int32.ofInt (hdt h a.toNat j)))) := c3
  obtain ⟨-, kk0, hkk0, cm0, hkk00⟩ := hA (hkd h a0.toNat).2 (fun j => .int (Int32.ofInt (hdt h a0.toNat j)))
  obtain ⟨-, kk1, hkk1, cm1, hkk11⟩ := hA (hkd h a.toNat).2 (fun j => .int (Int32.ofInt (hdt h a.toNat j)))
  obtain ⟨vm', X', step⟩ := X.arraycopy C.1 C.2.2.2.2.1 (hts _ hl) (hts _ q1004) (hts _ q1003) (hts _ q168) (src := gZ (eG E) + a0.toNat) (dst := gZ (eG E) + a.toNat) (cs := vp_cell (gA (eG E) 100) ((hkd h a0.toNat).2, .inl (fun j => Int32.ofInt (hdt h a0.toNat j)))) (cd := vp_cell (gA (eG E) 100) ((hkd h a.toNat).2, .inl (fun j => Int32.ofInt (hdt h a.toNat j)))) (srcPos := Int32.ofInt sp) (destPos := Int32.ofInt dp) (n := Int32.ofInt n) (by rw [hT]; exact hc0) (by rw [hT]; exact hc1)
    (fun _ h => by cases h) (fun _ h => by cases h) (fun h => by cases h) (fun h => by cases h) hkk0 hkk1 hkk00 hkk11 (by simp [kTy, refKind]) p3 q3 n3
    (by rw [p1, n1]; show ¬ _ > ((arrV (gA (eG E) 100) (hkd h a0.toNat).2 (fun j => .int (Int32.ofInt (hdt h a0.toNat j)))).slots.size : Int); rw [arrV_size]; omega)
    (by rw [q1, n1]; show ¬ _ > ((arrV (gA (eG E) 100) (hkd h a.toNat).2 (fun j => .int (Int32.ofInt (hdt h a.toNat j)))).slots.size : Int); rw [arrV_size]; omega)
    (fun vm₁ _ i hi => by
      rw [n2] at hi
      have e : (vp_cell (gA (eG E) 100) ((hkd h a0.toNat).2, .inl (fun j => Int32.ofInt (hdt h a0.toNat j)))).slots.getD ((Int32.ofInt sp).toNatClampNeg + i) .null = .int (Int32.ofInt (hdt h a0.toNat ((Int32.ofInt sp).toNatClampNeg + i))) := by
        show (arrV (gA (eG E) 100) (hkd h a0.toNat).2 (fun j => .int (Int32.ofInt (hdt h a0.toNat j)))).slots.getD _ _ = _
        rw [Array.getD_eq_getD_getElem?, arrV_read _ _ (by rw [p2]; omega)]
        rfl
      refine ⟨?_, ?_⟩
      · rw [e]
        rfl
      · rw [e]
        exact trivial)
    (g := F0 m pc ls (.int (Int32.ofInt n) :: .int (Int32.ofInt dp) :: .ref (gZ (eG E) + a.toNat) :: .int (Int32.ofInt sp) :: .ref (gZ (eG E) + a0.toNat) :: rest.map (cv (eG E)))) rfl (by rw [C.2.2.1]; exact hL.1) (rest := rest.map (cv (eG E))) rfl (by rw [C.2.1]; exact hd) (by omega) (by
      show 2 * 0 + ((rest.map (cv (eG E))).map fun v => v.category).sum + _ ≤ _
      rw [cv_cats]
      have : nativeFrameWords "java/lang/System" "arraycopy" 5 = 7 := by decide +kernel
      omega)
  have ec : copied (vp_cell (gA (eG E) 100) ((hkd h a0.toNat).2, .inl (fun j => Int32.ofInt (hdt h a0.toNat j)))) (vp_cell (gA (eG E) 100) ((hkd h a.toNat).2, .inl (fun j => Int32.ofInt (hdt h a.toNat j)))) (Int32.ofInt sp) (Int32.ofInt dp) (Int32.ofInt n) = arrV (gA (eG E) 100) (hkd h a.toNat).2 (fun j => tV (eG E) (kTy 100) (cpyA (hdt h a0.toNat) (hdt h a.toNat) sp.toNat dp.toNat n.toNat j)) := by
    refine (va_copied (fun z => .int z) (gA (eG E) 100) (gA (eG E) 100) (fun j => Int32.ofInt (hdt h a0.toNat j)) (fun j => Int32.ofInt (hdt h a.toNat j)) (by rw [p2, n2]; omega)).trans ?_
    rw [p2, q2, n2]
    show arrV _ _ _ = arrV _ _ _
    congr 1
    funext j
    show Value.int (va_cpy _ _ _ _ _ j) = Value.int (Int32.ofInt (cpyA _ _ _ _ _ j))
    congr 1
    unfold va_cpy cpyA
    split <;> rfl
  rw [ec] at X' step
  generalize hcell : arrV (gA (eG E) 100) (hkd h a.toNat).2 (fun j => tV (eG E) (kTy 100) (cpyA (hdt h a0.toNat) (hdt h a.toNat) sp.toNat dp.toNat n.toNat j)) = cell at X' step
  have hlen : gZ (eG E) + a.toNat < H.size := (Array.getElem?_eq_some_iff.mp hc1).1
  have hheap : ((T.setVm vm').setCell (gZ (eG E) + a.toNat) cell).heap = H.setIfInBounds (gZ (eG E) + a.toNat) cell := by rw [← hT]; rfl
  have oq : ∀ q : Nat, q ≠ gZ (eG E) + a.toNat → (H.setIfInBounds (gZ (eG E) + a.toNat) cell)[q]? = H[q]? := fun q hq => by simp [Array.getElem?_setIfInBounds, Ne.symm hq]
  have o1 : (H.setIfInBounds (gZ (eG E) + a.toNat) cell)[gZ (eG E) + a.toNat]? = some cell := by simp [Array.getElem?_setIfInBounds, hlen]
  have hR1 : RelA (eG E) (hrw h a.toNat (cpyA (hdt h a0.toNat) (hdt h a.toNat) sp.toNat dp.toNat n.toNat)) (H.setIfInBounds (gZ (eG E) + a.toNat) cell) := hR.upd (by simp) oq fun _ => ⟨fun hh => by omega, fun _ => by
    rw [hk1]
    exact ⟨c1, c2, by rw [o1, ← hcell]⟩⟩
  have hS1 : ∀ L2 : List Loc, (∀ q ∈ L2, q.base = gZ (eG E) + a.toNat) → va_S (aW (eG E)) s.heap (H.setIfInBounds (gZ (eG E) + a.toNat) cell) (locs ++ L2) := fun L2 hL2 => ⟨by simp; exact hS.1, fun q g1 g2 => by
      rw [oq q (fun e => g2 (by rw [e]; show gZ _ ≤ _; omega))]
      exact hS.2.1 q g1 g2, fun q hq => by
      rcases List.mem_append.mp hq with h | h
      · exact hS.2.2 q h
      · show gZ _ ≤ q.base
        rw [hL2 q h]
        omega⟩
  obtain ⟨t, a1, b1⟩ := k Z R p e s m args below meth c C _ _ ls x y hR1 (hS1 _ fun q hq => by
      obtain ⟨z, -, hz⟩ := List.mem_map.mp hq
      rw [← hz]) hL h1 h2 _ hheap X'
  exact ⟨t, step t a1, b1⟩
end
