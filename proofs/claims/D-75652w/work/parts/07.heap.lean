/-! ROWS: fields and arrays -/
/-- codes of types of fields: 0 int, 1 long, 2 a reference, 3 boolean -/
def tcOf : FieldType → Nat
  | .int => 0
  | .long => 1
  | .object _ => 2
  | .array _ => 2
  | .boolean => 3
  | _ => 9
def tcA (t : Nat) (z : Int) : AV := if t = 1 then .inr (.inl z) else if t = 2 then .inr (.inr z) else .inl z
theorem tcA_of {ty : FieldType} (z : Int) : tcA (tcOf ty) z = tA ty z := by cases ty <;> rfl
/-- a value's number, if it fits a field's type -/
def tcN (t : Nat) (v : AV) (P : Int → Prop) : Prop := match v with
  | .inl z => (t = 0 ∨ (t = 3 ∧ (z = 0 ∨ z = 1))) ∧ P z
  | .inr (.inl z) => t = 1 ∧ P z
  | .inr (.inr z) => t = 2 ∧ P z
theorem tcN_fit {G : GT} {ty : FieldType} {v : AV} {P : Int → Prop} (h : tcN (tcOf ty) v P) : ∃ z, P z ∧ cv G v = tV G ty z ∧ narrow ty (cv G v) = cv G v ∧ fits ty (cv G v) = true := by
  rcases v with z | z | z
  · obtain ⟨h1, h2⟩ := h
    refine ⟨z, h2, ?_⟩
    cases ty with
    | int => exact ⟨rfl, rfl, rfl⟩
    | boolean =>
      rcases h1 with h1 | ⟨-, h1⟩
      · cases h1
      · rcases h1 with rfl | rfl
        · exact ⟨rfl, rfl, rfl⟩
        · exact ⟨rfl, rfl, rfl⟩
    | _ => simp [tcOf] at h1
  · obtain ⟨h1, h2⟩ := h
    refine ⟨z, h2, ?_⟩
    cases ty with
    | long => exact ⟨rfl, rfl, rfl⟩
    | _ => simp [tcOf] at h1
  · obtain ⟨h1, h2⟩ := h
    refine ⟨z, h2, ?_⟩
    have hr := rV_or G z
    cases ty with
    | object n =>
      refine ⟨rfl, ?_⟩
      show narrow _ (rV G z) = rV G z ∧ fits _ (rV G z) = true
      rcases hr with q | ⟨a, q⟩ <;> rw [q] <;> exact ⟨rfl, rfl⟩
    | array n =>
      refine ⟨rfl, ?_⟩
      show narrow _ (rV G z) = rV G z ∧ fits _ (rV G z) = true
      rcases hr with q | ⟨a, q⟩ <;> rw [q] <;> exact ⟨rfl, rfl⟩
    | _ => simp [tcOf] at h1
theorem tcN_get {t : Nat} {v : AV} {P : Int → Prop} (h : tcN t v P) : ∃ z, P z ∧ tcN t v (fun y => y = z) := by
  rcases v with z | z | z
  · exact ⟨z, h.2, h.1, rfl⟩
  · exact ⟨z, h.2, h.1, rfl⟩
  · exact ⟨z, h.2, h.1, rfl⟩
theorem cAt.kept {G : GT} {a : Nat} {k : Nat × Nat} {f : Nat → Int} {H H1 : Heap} (h : cAt G a k f H) (hq : H1[a]? = H[a]?) : cAt G a k f H1 := by
  refine ⟨fun hk => ?_, fun hk => ?_⟩
  · obtain ⟨q, h1, h2⟩ := h.1 hk
    exact ⟨q, h1, h2.kept hq⟩
  · obtain ⟨h1, h2, h3⟩ := h.2 hk
    exact ⟨h1, h2, hq.trans h3⟩
theorem cAt.lt {G : GT} {a : Nat} {k : Nat × Nat} {f : Nat → Int} {H : Heap} (h : cAt G a k f H) : a < H.size := by
  by_cases hk : k.1 < 100
  · obtain ⟨q, -, cell, h2, -⟩ := h.1 hk
    exact (Array.getElem?_eq_some_iff.mp h2).1
  · exact (Array.getElem?_eq_some_iff.mp (h.2 (by omega)).2.2).1
theorem RelA.upd {G : GT} {h : AH} {H H1 : Heap} {a : Nat} {f : Nat → Int} (hR : RelA G h H) (hz : H1.size = H.size) (ho : ∀ q : Nat, q ≠ gZ G + a → H1[q]? = H[q]?) (hc : (hkd h a).1 ≠ 0 → cAt G (gZ G + a) (hkd h a) f H1) : RelA G (hrw h a f) H1 := by
  refine ⟨hz.trans hR.1, fun i hi => ?_⟩
  rw [hkd_hrw] at hi ⊢
  obtain ⟨h1, h2⟩ := hR.2 i hi
  refine ⟨h1, ?_⟩
  by_cases e : i = a
  · subst e
    rw [hdt_hrw_s]
    exact hc hi
  · rw [hdt_hrw_n _ _ e]
    exact h2.kept (ho _ (by omega))
theorem RelA.new {G : GT} {h : AH} {H H1 : Heap} {kd len : Nat} {f : Nat → Int} (hR : RelA G h H) (hz : H1.size = H.size + 1) (ho : ∀ q : Nat, q < H.size → H1[q]? = H[q]?) (hc : cAt G H.size (kd, len) f H1) : RelA G (hnw h kd len f) H1 := by
  refine ⟨by rw [nN_hnw, hz, hR.1]; omega, fun i hi => ?_⟩
  rw [hkd_hnw] at hi ⊢
  rw [hdt_hnw, nN_hnw]
  by_cases e : i = nN h
  · subst e
    rw [if_pos rfl, if_pos rfl]
    refine ⟨by omega, ?_⟩
    rw [← hR.1]
    exact hc
  · rw [if_neg e] at hi
    rw [if_neg e, if_neg e]
    obtain ⟨h1, h2⟩ := hR.2 i hi
    exact ⟨by omega, h2.kept (ho _ (h2.lt))⟩
/-- links of fields -/
def FokA (own : String) (idx ci k : Nat) (q : vw_C) : Prop := clL[ci]? = some q ∧ k < q.2.2 ∧ (Cond.fieldLink own idx (q.2.1 k).1 (q.2.1 k).2.1 (q.2.1 k).2.2.1 ∈ lw_all ∨ ∃ host, Cond.fieldLinkNest own idx (q.2.1 k).1 (q.2.1 k).2.1 (q.2.1 k).2.2.1 host ∈ lw_tbl)
section
variable {E : EV} {pc : Nat} {L : AL} {st : List AV} {h : AH}
theorem s_getf {z : Int} {idx kd k t : Nat} (hF : ∃ q, FokA (eM E).1.cls idx (kd - 1) k q ∧ tcOf (clTy (kd - 1) k) = t ∧ kd < 100 ∧ kd ≠ 0) (h0 : 0 ≤ z) (hk : (hkd h z.toNat).1 = kd) (hd : decode (eM E).2.1 pc = .ok (.getfield idx, 3)) (kk : ExA E (pc + 3) L (tcA t (hdt h z.toNat k) :: st) h) : ExA E pc L (.inr (.inr z) :: st) h := by
  obtain ⟨q, ⟨hc, hkl, hl⟩, ht, hk1, hk0⟩ := hF
  refine kk.pure fun Z R p e s m args below meth c H locs ls x n C hR hS hL w => ?_
  show W p (gL (eG E)) e R s m args below meth c H locs x n Z (F0 m pc ls (rV (eG E) z :: st.map (cv (eG E))))
  rw [rV_ref h0]
  obtain ⟨-, hcat⟩ := hR.2 z.toNat (by omega)
  obtain ⟨q', hq', cell, q1, q2, q3, q4⟩ := hcat.1 (by omega)
  rw [hk] at hq' q2 q4
  have hqq : q' = q := Option.some.inj (hq'.symm.trans hc)
  subst hqq
  have hOK := clOK hc
  obtain ⟨hSl, hfc, kC, hkC, hkind⟩ := (C.2.2.2.2.2.2.1).cls hc
  obtain ⟨cf, kf, fi, f, hi, hsl⟩ := hSl k hkl
  have hst := (u_facts hfc hkC (u_lays C.2.2.2.2.2.1 hOK.1 hkl) hi).1
  have hval : cell.slots[f.slot]? = some (cv (eG E) (tcA t (hdt h z.toNat k))) := by
    rw [← ht, tcA_of, cv_tA, hsl]
    exact q4 k hkl
  rcases hl with hl | ⟨host, hl⟩
  · exact W.getf C.1 C.2.1 C.2.2.2.2.1 (C.2.2.2.2.2.1 _ hl) hi hst q1 (by rw [q3]; exact fun h => by cases h) hval rfl rfl hd w
  · exact va_Wgetf C.1 C.2.1 C.2.2.2.2.1 (va_Nw.use rfl (C.2.2.2.2.2.2.1.2.1 _ hl rfl)) hi hst q1 (by rw [q3]; exact fun h => by cases h) hval rfl rfl hd w
theorem s_putf {z : Int} {v : AV} {idx kd k t : Nat} (hF : ∃ q, FokA (eM E).1.cls idx (kd - 1) k q ∧ tcOf (clTy (kd - 1) k) = t ∧ kd < 100 ∧ kd ≠ 0 ∧ ((q.2.1 k).2.2.2 = false ∨ ((q.2.1 k).2.2.2 = true ∧ (eM E).1.name = "<init>" ∧ (q.2.1 k).1 = (eM E).1.cls ∧ Cond.fieldLink (eM E).1.cls idx (q.2.1 k).1 (q.2.1 k).2.1 (q.2.1 k).2.2.1 ∈ lw_all)))
    (h0 : 0 ≤ z) (hk : (hkd h z.toNat).1 = kd) (hd : decode (eM E).2.1 pc = .ok (.putfield idx, 3)) (kk : tcN t v (fun x => ExA E (pc + 3) L st (hwr h z.toNat k x))) : ExA E pc L (v :: .inr (.inr z) :: st) h := by
  obtain ⟨q, ⟨hc, hkl, hl⟩, ht, hk1, hk0, hfin⟩ := hF
  obtain ⟨y, kk, hfit⟩ := tcN_get kk
  intro Z R p e s m args below meth c C H locs ls x n hR hS hL h1 h2
  rw [← ht] at hfit
  obtain ⟨y', rfl, hv, hn, hf⟩ := tcN_fit (G := eG E) hfit
  show W p (gL (eG E)) e R s m args below meth c H locs x n Z (F0 m pc ls (cv (eG E) v :: rV (eG E) z :: st.map (cv (eG E))))
  rw [rV_ref h0]
  obtain ⟨-, hcat⟩ := hR.2 z.toNat (by omega)
  obtain ⟨q', hq', cell, q1, q2, q3, q4⟩ := hcat.1 (by omega)
  rw [hk] at hq' q2 q4
  have hqq : q' = q := Option.some.inj (hq'.symm.trans hc)
  subst hqq
  have hOK := clOK hc
  have hts := C.2.2.2.2.2.1
  have hown := C.2.2.2.2.1
  obtain ⟨hSl, hfc, kC, hkC, hkind⟩ := (C.2.2.2.2.2.2.1).cls hc
  obtain ⟨cf, kf, fi, f, hi, hsl⟩ := hSl k hkl
  have hst := (u_facts hfc hkC (u_lays hts hOK.1 hkl) hi).1
  have hap : ∀ a b, a < q'.2.2 → b < q'.2.2 → a ≠ b → (gD (eG E)).2 (kd - 1) a ≠ (gD (eG E)).2 (kd - 1) b := by
    intro a b ha hb hne
    obtain ⟨_, _, _, fa, hia, ea⟩ := hSl a ha
    obtain ⟨_, _, _, fb, hib, eb⟩ := hSl b hb
    rw [← ea, ← eb]
    refine u_apart (u_lays hts hOK.1 ha) (u_lays hts hOK.1 hb) hia hib ?_
    rw [(State.fieldFound?_type hia (hOK.2.1 a ha)).1, (State.fieldFound?_type hib (hOK.2.1 b hb)).1]
    exact hOK.2.2.1 a ha b hb hne
  have hlt : f.slot < cell.slots.size := by rw [hsl]; exact k2_hasslot (q4 k hkl)
  have fin : ∀ (H1 : Heap) (locs1 : List Loc), H1[gZ (eG E) + z.toNat]? = some (cell.setSlot ((gD (eG E)).2 (kd - 1) k) (cv (eG E) v)) → H1.size = H.size → (∀ q, q ≠ gZ (eG E) + z.toNat → H1[q]? = H[q]?) → locs1 = locs ++ [⟨gZ (eG E) + z.toNat, f.slot⟩] →
      W p (gL (eG E)) e R s m args below meth c H1 locs1 x n Z (F0 m (pc + 3) ls (st.map (cv (eG E)))) := by
    intro H1 locs1 e1 e2 e3 e4
    subst e4
    refine kk Z R p e s m args below meth c C H1 _ ls x n (hR.upd e2 e3 fun _ => ?_) (hS.put e2 e3 (by show gZ _ ≤ _; omega)) hL h1 h2
    refine ⟨fun _ => ⟨q', by rw [hk]; exact hc, ?_⟩, fun hh => by omega⟩
    rw [hk]
    refine ⟨_, e1, q2, q3, fun j hj => ?_⟩
    rw [t_set q4 hap hkl (cv (eG E) v) j hj]
    congr 1
    by_cases e : j = k
    · subst e
      simp [updV, fup_s, hv]
    · simp [updV, fup_n _ _ e, e]
  rcases hfin with hf0 | ⟨hf1, hin, hdecl, hl1⟩
  · have hlay := hts _ (hOK.1 _ (u_in_lay hkl))
    unfold u_lay at hlay
    rw [if_neg (by rw [hf0]; decide)] at hlay
    have h6 := u_store hfc hkC hkind hlay hi (hOK.2.1 k hkl) hn hf
    rcases hl with hl | ⟨host, hl⟩
    · refine W.putK C.1 C.2.1 (f := f) ⟨hown, hts _ hl, ⟨_, _, _, hi⟩, hst⟩ (by rw [q2]; exact h6) q1 q3 hlt rfl rfl hd fun H' e1 e2 e3 => ?_
      rw [hsl] at e1
      exact fin H' _ e1 e2 e3 rfl
    · refine va_WputK C.1 C.2.1 (f := f) hown (va_Nw.use rfl (C.2.2.2.2.2.2.1.2.1 _ hl rfl)) hi hst (by rw [q2]; exact h6) q1 q3 hlt rfl rfl hd fun H' e1 e2 e3 => ?_
      rw [hsl] at e1
      exact fin H' _ e1 e2 e3 rfl
  · have hlay := hts _ (hOK.1 _ (u_in_lay hkl))
    unfold u_lay at hlay
    rw [if_pos hf1] at hlay
    have hcf : m.cls = cf := by
      obtain ⟨_, _, c', _, _, _, -, -, hf', -, -, -, hown2, -⟩ := Cond.laysFinal_spec hlay
      have e1 : c' = cf := by have := hi.symm.trans hf'; simp at this; exact this.1.symm
      rw [hdecl] at hown2
      rw [← e1]; exact Option.some.inj (hown.symm.trans hown2)
    have h6 := u_fits hfc hkC hkind (Or.inr hlay) hi (hOK.2.1 k hkl) hn hf
    refine W.putFinK C.1 C.2.1 hown (hts _ hl1) hi hst hcf (C.2.2.2.1.trans hin) (by rw [q2]; exact h6) q1 q3 hlt rfl rfl hd fun H' e1 e2 e3 => ?_
    rw [hsl] at e1
    exact fin H' _ e1 e2 e3 rfl
theorem arr_of {G : GT} {h : AH} {H : Heap} {z : Int} {kd : Nat} (hR : RelA G h H) (hk : (hkd h z.toNat).1 = kd) (h1 : 100 ≤ kd) : kd ∈ kKs ∧ (hkd h z.toNat).2 < 2147483648 ∧ H[gZ G + z.toNat]? = some (arrV (gA G kd) (hkd h z.toNat).2 (fun j => tV G (kTy kd) (hdt h z.toNat j))) := by
  obtain ⟨-, hcat⟩ := hR.2 z.toNat (by omega)
  have := hcat.2 (by omega)
  rw [hk] at this
  exact this
theorem vpin_raw {i : Int} {n : Nat} (h0 : 0 ≤ i) (h1 : i < n) (hn : n < 2147483648) : ¬ (Int32.ofInt i < 0 ∨ n ≤ (Int32.ofInt i).toNatClampNeg) ∧ (Int32.ofInt i).toNatClampNeg = i.toNat := by
  have hw : w32 i = i := w32_eq (by omega) (by omega)
  have := vpin_of (z := i) (n := n) (by omega) (by omega)
  rw [hw] at this
  exact this
theorem s_alen {z : Int} (h0 : 0 ≤ z) (hk : 100 ≤ (hkd h z.toNat).1) (hd : decode (eM E).2.1 pc = .ok (.arraylength, 1)) (kk : ExA E (pc + 1) L (.inl ((hkd h z.toNat).2 : Int) :: st) h) : ExA E pc L (.inr (.inr z) :: st) h := by
  refine kk.pure fun Z R p e s m args below meth c H locs ls x n C hR hS hL w => ?_
  show W p (gL (eG E)) e R s m args below meth c H locs x n Z (F0 m pc ls (rV (eG E) z :: st.map (cv (eG E))))
  rw [rV_ref h0]
  obtain ⟨a1, a2, a3⟩ := arr_of hR rfl hk
  refine W.alen C.1 C.2.1 a3 ((C.2.2.2.2.2.2.1.arr a1).1 _ _) ?_ rfl rfl hd w
  rw [arrV_size]
  exact (Int32.ofInt_eq_ofNat).symm
/-- reading arrays -/
theorem s_iald {i z : Int} (h0 : 0 ≤ z) (hk : (hkd h z.toNat).1 = 100) (hi0 : 0 ≤ i) (hi1 : i < (hkd h z.toNat).2) (hd : decode (eM E).2.1 pc = .ok (.iaload, 1)) (kk : ExA E (pc + 1) L (.inl (hdt h z.toNat i.toNat) :: st) h) : ExA E pc L (.inl i :: .inr (.inr z) :: st) h := by
  refine kk.pure fun Z R p e s m args below meth c H locs ls x n C hR hS hL w => ?_
  show W p (gL (eG E)) e R s m args below meth c H locs x n Z (F0 m pc ls (.int (Int32.ofInt i) :: rV (eG E) z :: st.map (cv (eG E))))
  rw [rV_ref h0]
  obtain ⟨a1, a2, a3⟩ := arr_of hR hk (by omega)
  obtain ⟨b1, b2⟩ := vpin_raw hi0 hi1 a2
  exact W.iald C.1 C.2.1 a3 ((C.2.2.2.2.2.2.1.arr a1).1 _ _) (fun q => by cases q) (by rw [arrV_size]; exact b1) (by rw [b2]; exact arrV_read _ _ (by omega)) rfl rfl hd w
theorem s_lald {i z : Int} (h0 : 0 ≤ z) (hk : (hkd h z.toNat).1 = 101) (hi0 : 0 ≤ i) (hi1 : i < (hkd h z.toNat).2) (hd : decode (eM E).2.1 pc = .ok (.laload, 1)) (kk : ExA E (pc + 1) L (.inr (.inl (hdt h z.toNat i.toNat)) :: st) h) : ExA E pc L (.inl i :: .inr (.inr z) :: st) h := by
  refine kk.pure fun Z R p e s m args below meth c H locs ls x n C hR hS hL w => ?_
  show W p (gL (eG E)) e R s m args below meth c H locs x n Z (F0 m pc ls (.int (Int32.ofInt i) :: rV (eG E) z :: st.map (cv (eG E))))
  rw [rV_ref h0]
  obtain ⟨a1, a2, a3⟩ := arr_of hR hk (by omega)
  obtain ⟨b1, b2⟩ := vpin_raw hi0 hi1 a2
  exact W.lald C.1 C.2.1 a3 ((C.2.2.2.2.2.2.1.arr a1).1 _ _) (fun q => by cases q) (by rw [arrV_size]; exact b1) (by rw [b2]; exact arrV_read _ _ (by omega)) rfl rfl hd w
theorem s_bald {i z : Int} (h0 : 0 ≤ z) (hk : (hkd h z.toNat).1 = 102 ∨ (hkd h z.toNat).1 = 104) (hi0 : 0 ≤ i) (hi1 : i < (hkd h z.toNat).2) (hd : decode (eM E).2.1 pc = .ok (.baload, 1)) (kk : ExA E (pc + 1) L (.inl (hdt h z.toNat i.toNat) :: st) h) : ExA E pc L (.inl i :: .inr (.inr z) :: st) h := by
  refine kk.pure fun Z R p e s m args below meth c H locs ls x n C hR hS hL w => ?_
  show W p (gL (eG E)) e R s m args below meth c H locs x n Z (F0 m pc ls (.int (Int32.ofInt i) :: rV (eG E) z :: st.map (cv (eG E))))
  rw [rV_ref h0]
  rcases hk with hk | hk
  · obtain ⟨a1, a2, a3⟩ := arr_of hR hk (by omega)
    obtain ⟨b1, b2⟩ := vpin_raw hi0 hi1 a2
    exact W.bald C.1 C.2.1 a3 ((C.2.2.2.2.2.2.1.arr a1).1 _ _) (fun q => by cases q) (by rw [arrV_size]; exact b1) (by rw [b2]; exact arrV_read _ _ (by omega)) rfl rfl hd w
  · obtain ⟨a1, a2, a3⟩ := arr_of hR hk (by omega)
    obtain ⟨b1, b2⟩ := vpin_raw hi0 hi1 a2
    exact W.zald C.1 C.2.1 a3 ((C.2.2.2.2.2.2.1.arr a1).1 _ _) (fun q => by cases q) (by rw [arrV_size]; exact b1) (by rw [b2]; exact arrV_read _ _ (by omega)) rfl rfl hd w
theorem s_sald {i z : Int} (h0 : 0 ≤ z) (hk : (hkd h z.toNat).1 = 103) (hi0 : 0 ≤ i) (hi1 : i < (hkd h z.toNat).2) (hd : decode (eM E).2.1 pc = .ok (.saload, 1)) (kk : ExA E (pc + 1) L (.inl (hdt h z.toNat i.toNat) :: st) h) : ExA E pc L (.inl i :: .inr (.inr z) :: st) h := by
  refine kk.pure fun Z R p e s m args below meth c H locs ls x n C hR hS hL w => ?_
  show W p (gL (eG E)) e R s m args below meth c H locs x n Z (F0 m pc ls (.int (Int32.ofInt i) :: rV (eG E) z :: st.map (cv (eG E))))
  rw [rV_ref h0]
  obtain ⟨a1, a2, a3⟩ := arr_of hR hk (by omega)
  obtain ⟨b1, b2⟩ := vpin_raw hi0 hi1 a2
  exact W.sald C.1 C.2.1 a3 ((C.2.2.2.2.2.2.1.arr a1).1 _ _) (fun q => by cases q) (by rw [arrV_size]; exact b1) (by rw [b2]; exact arrV_read _ _ (by omega)) rfl rfl hd w
/-- the classes of arrays of references, by kind: the kind of their elements -/
def kEl : Nat → Nat := fun k => if k = 110 then 3 else if k = 111 then 4 else if k = 112 then 5 else if k = 113 then 2 else 0
theorem kEl_ok {k : Nat} (h : k ∈ kKs) (h1 : 110 ≤ k) : ∃ q : vw_C, clL[kEl k - 1]? = some q ∧ kTy k = .object q.1 ∧ kEl k < 100 ∧ kEl k ≠ 0 := by
  simp only [kKs, List.mem_cons, List.not_mem_nil, or_false] at h
  rcases h with rfl | rfl | rfl | rfl | rfl | rfl | rfl | rfl | rfl
  all_goals first | omega | exact ⟨_, rfl, rfl, by decide, by decide⟩
theorem s_aald {i z : Int} (h0 : 0 ≤ z) (hk : 110 ≤ (hkd h z.toNat).1) (hi0 : 0 ≤ i) (hi1 : i < (hkd h z.toNat).2) (hd : decode (eM E).2.1 pc = .ok (.aaload, 1)) (kk : ExA E (pc + 1) L (.inr (.inr (hdt h z.toNat i.toNat)) :: st) h) : ExA E pc L (.inl i :: .inr (.inr z) :: st) h := by
  refine kk.pure fun Z R p e s m args below meth c H locs ls x n C hR hS hL w => ?_
  show W p (gL (eG E)) e R s m args below meth c H locs x n Z (F0 m pc ls (.int (Int32.ofInt i) :: rV (eG E) z :: st.map (cv (eG E))))
  rw [rV_ref h0]
  obtain ⟨a1, a2, a3⟩ := arr_of (z := z) hR rfl (by omega)
  obtain ⟨b1, b2⟩ := vpin_raw hi0 hi1 a2
  obtain ⟨q, -, hq, -⟩ := kEl_ok a1 hk
  have hA := (C.2.2.2.2.2.2.1.arr a1).1
  rw [hq] at a3 hA
  exact W.aald C.1 C.2.1 a3 (hA _ _) rfl (fun q => by cases q) (by rw [arrV_size]; exact b1) (by rw [b2]; exact arrV_read _ _ (by omega)) rfl rfl hd w
/-- writing arrays -/
theorem arr_put {G : GT} {h : AH} {H H1 : Heap} {z y : Int} {kd i : Nat} (hR : RelA G h H) (hk : (hkd h z.toNat).1 = kd) (h1 : 100 ≤ kd) (e : H1[gZ G + z.toNat]? = some ((arrV (gA G kd) (hkd h z.toNat).2 (fun j => tV G (kTy kd) (hdt h z.toNat j))).setSlot i (tV G (kTy kd) y))) (hz : H1.size = H.size) (ho : ∀ q : Nat, q ≠ gZ G + z.toNat → H1[q]? = H[q]?) : RelA G (hwr h z.toNat i y) H1 := by
  obtain ⟨a1, a2, a3⟩ := arr_of hR hk h1
  refine hR.upd hz ho fun _ => ⟨fun hh => by omega, fun _ => ?_⟩
  rw [hk]
  refine ⟨a1, a2, e.trans ?_⟩
  rw [arrV_store]
  congr 2
  funext j
  by_cases q : j = i
  · subst q
    simp [updV, fup_s]
  · simp [updV, fup_n _ _ q, q]
theorem s_iast {v i z : Int} (h0 : 0 ≤ z) (hk : (hkd h z.toNat).1 = 100) (hi0 : 0 ≤ i) (hi1 : i < (hkd h z.toNat).2) (hd : decode (eM E).2.1 pc = .ok (.iastore, 1)) (kk : ExA E (pc + 1) L st (hwr h z.toNat i.toNat v)) : ExA E pc L (.inl v :: .inl i :: .inr (.inr z) :: st) h := by
  intro Z R p e s m args below meth c C H locs ls x n hR hS hL h1 h2
  show W p (gL (eG E)) e R s m args below meth c H locs x n Z (F0 m pc ls (.int (Int32.ofInt v) :: .int (Int32.ofInt i) :: rV (eG E) z :: st.map (cv (eG E))))
  rw [rV_ref h0]
  obtain ⟨a1, a2, a3⟩ := arr_of hR hk (by omega)
  obtain ⟨b1, b2⟩ := vpin_raw hi0 hi1 a2
  refine W.iast C.1 C.2.1 a3 ((C.2.2.2.2.2.2.1.arr a1).1 _ _) (fun q => by cases q) (by rw [arrV_size]; exact b1) rfl rfl hd fun H1 e1 e2 e3 => ?_
  rw [b2] at e1 ⊢
  exact kk Z R p e s m args below meth c C H1 _ ls x n (arr_put hR hk (by omega) e1 e2 e3) (hS.put e2 e3 (by show gZ _ ≤ _; omega)) hL h1 h2
theorem s_last {v i z : Int} (h0 : 0 ≤ z) (hk : (hkd h z.toNat).1 = 101) (hi0 : 0 ≤ i) (hi1 : i < (hkd h z.toNat).2) (hd : decode (eM E).2.1 pc = .ok (.lastore, 1)) (kk : ExA E (pc + 1) L st (hwr h z.toNat i.toNat v)) : ExA E pc L (.inr (.inl v) :: .inl i :: .inr (.inr z) :: st) h := by
  intro Z R p e s m args below meth c C H locs ls x n hR hS hL h1 h2
  show W p (gL (eG E)) e R s m args below meth c H locs x n Z (F0 m pc ls (.long (Int64.ofInt v) :: .int (Int32.ofInt i) :: rV (eG E) z :: st.map (cv (eG E))))
  rw [rV_ref h0]
  obtain ⟨a1, a2, a3⟩ := arr_of hR hk (by omega)
  obtain ⟨b1, b2⟩ := vpin_raw hi0 hi1 a2
  refine W.last C.1 C.2.1 a3 ((C.2.2.2.2.2.2.1.arr a1).1 _ _) (fun q => by cases q) (by rw [arrV_size]; exact b1) rfl rfl hd fun H1 e1 e2 e3 => ?_
  rw [b2] at e1 ⊢
  exact kk Z R p e s m args below meth c C H1 _ ls x n (arr_put hR hk (by omega) e1 e2 e3) (hS.put e2 e3 (by show gZ _ ≤ _; omega)) hL h1 h2
theorem s_bast {v i z : Int} (h0 : 0 ≤ z) (hk : (hkd h z.toNat).1 = 102) (hi0 : 0 ≤ i) (hi1 : i < (hkd h z.toNat).2) (hd : decode (eM E).2.1 pc = .ok (.bastore, 1)) (kk : ExA E (pc + 1) L st (hwr h z.toNat i.toNat (w8 v))) : ExA E pc L (.inl v :: .inl i :: .inr (.inr z) :: st) h := by
  intro Z R p e s m args below meth c C H locs ls x n hR hS hL h1 h2
  show W p (gL (eG E)) e R s m args below meth c H locs x n Z (F0 m pc ls (.int (Int32.ofInt v) :: .int (Int32.ofInt i) :: rV (eG E) z :: st.map (cv (eG E))))
  rw [rV_ref h0]
  obtain ⟨a1, a2, a3⟩ := arr_of hR hk (by omega)
  obtain ⟨b1, b2⟩ := vpin_raw hi0 hi1 a2
  refine W.bast C.1 C.2.1 a3 ((C.2.2.2.2.2.2.1.arr a1).1 _ _) (fun q => by cases q) (by rw [arrV_size]; exact b1) rfl rfl hd fun H1 e1 e2 e3 => ?_
  rw [b2] at e1 ⊢
  refine kk Z R p e s m args below meth c C H1 _ ls x n (arr_put hR hk (by omega) (e1.trans ?_) e2 e3) (hS.put e2 e3 (by show gZ _ ≤ _; omega)) hL h1 h2
  congr 2
  show Value.int (Int32.ofInt v).toInt8.toInt32 = Value.int (Int32.ofInt (w8 v))
  rw [i32_b]
theorem s_sast {v i z : Int} (h0 : 0 ≤ z) (hk : (hkd h z.toNat).1 = 103) (hi0 : 0 ≤ i) (hi1 : i < (hkd h z.toNat).2) (hd : decode (eM E).2.1 pc = .ok (.sastore, 1)) (kk : ExA E (pc + 1) L st (hwr h z.toNat i.toNat (w16 v))) : ExA E pc L (.inl v :: .inl i :: .inr (.inr z) :: st) h := by
  intro Z R p e s m args below meth c C H locs ls x n hR hS hL h1 h2
  show W p (gL (eG E)) e R s m args below meth c H locs x n Z (F0 m pc ls (.int (Int32.ofInt v) :: .int (Int32.ofInt i) :: rV (eG E) z :: st.map (cv (eG E))))
  rw [rV_ref h0]
  obtain ⟨a1, a2, a3⟩ := arr_of hR hk (by omega)
  obtain ⟨b1, b2⟩ := vpin_raw hi0 hi1 a2
  refine W.sast C.1 C.2.1 a3 ((C.2.2.2.2.2.2.1.arr a1).1 _ _) (fun q => by cases q) (by rw [arrV_size]; exact b1) rfl rfl hd fun H1 e1 e2 e3 => ?_
  rw [b2] at e1 ⊢
  refine kk Z R p e s m args below meth c C H1 _ ls x n (arr_put hR hk (by omega) (e1.trans ?_) e2 e3) (hS.put e2 e3 (by show gZ _ ≤ _; omega)) hL h1 h2
  congr 2
  show Value.int (Int32.ofInt v).toInt16.toInt32 = Value.int (Int32.ofInt (w16 v))
  rw [i32_s]
theorem s_zast {v i z : Int} (h0 : 0 ≤ z) (hk : (hkd h z.toNat).1 = 104) (hv : v = 0 ∨ v = 1) (hi0 : 0 ≤ i) (hi1 : i < (hkd h z.toNat).2) (hd : decode (eM E).2.1 pc = .ok (.bastore, 1)) (kk : ExA E (pc + 1) L st (hwr h z.toNat i.toNat v)) : ExA E pc L (.inl v :: .inl i :: .inr (.inr z) :: st) h := by
  intro Z R p e s m args below meth c C H locs ls x n hR hS hL h1 h2
  show W p (gL (eG E)) e R s m args below meth c H locs x n Z (F0 m pc ls (.int (Int32.ofInt v) :: .int (Int32.ofInt i) :: rV (eG E) z :: st.map (cv (eG E))))
  rw [rV_ref h0]
  obtain ⟨a1, a2, a3⟩ := arr_of hR hk (by omega)
  obtain ⟨b1, b2⟩ := vpin_raw hi0 hi1 a2
  refine W.zast C.1 C.2.1 a3 ((C.2.2.2.2.2.2.1.arr a1).1 _ _) (fun q => by cases q) (by rw [arrV_size]; exact b1) rfl rfl hd fun H1 e1 e2 e3 => ?_
  rw [b2] at e1 ⊢
  refine kk Z R p e s m args below meth c C H1 _ ls x n (arr_put hR hk (by omega) (e1.trans ?_) e2 e3) (hS.put e2 e3 (by show gZ _ ≤ _; omega)) hL h1 h2
  congr 2
  rcases hv with rfl | rfl <;> rfl
theorem s_aast {v i z : Int} (h0 : 0 ≤ z) (hk : 110 ≤ (hkd h z.toNat).1) (hv0 : 0 ≤ v) (hv : (hkd h v.toNat).1 = kEl (hkd h z.toNat).1) (hi0 : 0 ≤ i) (hi1 : i < (hkd h z.toNat).2) (hd : decode (eM E).2.1 pc = .ok (.aastore, 1)) (kk : ExA E (pc + 1) L st (hwr h z.toNat i.toNat v)) : ExA E pc L (.inr (.inr v) :: .inl i :: .inr (.inr z) :: st) h := by
  intro Z R p e s m args below meth c C H locs ls x n hR hS hL h1 h2
  show W p (gL (eG E)) e R s m args below meth c H locs x n Z (F0 m pc ls (rV (eG E) v :: .int (Int32.ofInt i) :: rV (eG E) z :: st.map (cv (eG E))))
  rw [rV_ref h0, rV_ref hv0]
  obtain ⟨a1, a2, a3⟩ := arr_of (z := z) hR rfl (by omega)
  obtain ⟨b1, b2⟩ := vpin_raw hi0 hi1 a2
  obtain ⟨q, hq1, hq2, hq3, hq4⟩ := kEl_ok a1 hk
  obtain ⟨-, hRA⟩ := C.2.2.2.2.2.2.1.arr a1
  rw [hq2] at hRA
  obtain ⟨kA, comp, k1, k2, k3, -⟩ := hRA
  obtain ⟨-, hcv⟩ := hR.2 v.toNat (by omega)
  obtain ⟨q', hq', cellV, g1, g2, g3, -⟩ := hcv.1 (by omega)
  rw [hv] at hq' g2
  have hqq : q' = q := Option.some.inj (hq'.symm.trans hq1)
  subst hqq
  have hcls := (C.2.2.2.2.2.2.1.cls hq1).2
  have hcomp : comp = (gD (eG E)).1 (kEl (hkd h z.toNat).1 - 1) := Option.some.inj (k3.symm.trans hcls.1)
  subst hcomp
  obtain ⟨kC, hkC, -⟩ := hcls.2
  refine W.aast C.1 C.2.1 a3 (fun q h => by cases h) (fun h => by cases h) k1 k2 rfl hkC ⟨fun q => b1 (Or.inl q), by show _ < (arrV _ _ _).slots.size; rw [arrV_size]; exact Nat.not_le.mp fun q => b1 (Or.inr q)⟩ g1 (fun q h => by rw [g3] at h; cases h) (by rw [g2]; exact hkC) (by rw [g2]; exact va_assign hcls) rfl rfl hd fun H1 e1 e2 e3 => ?_
  rw [b2] at e1 ⊢
  refine kk Z R p e s m args below meth c C H1 _ ls x n (arr_put (y := v) hR rfl (by omega) (e1.trans ?_) e2 e3) (hS.put e2 e3 (by show gZ _ ≤ _; omega)) hL h1 h2
  congr 2
  rw [hq2]
  show _ = rV (eG E) v
  rw [rV_ref hv0]
end
