/-! CONTRACTS AND CONFIGURATIONS: a method's contract over abstract heaps; a point of its walk -/
/-- a method: its name, its code, its locals, its answer, its arguments (the receiver among them) -/
abbrev MR : Type := MethodName × ByteArray × Nat × Option FieldType × Nat
/-- a resolved instruction: the instruction, its length, (three numbers, an Int, the method that is called, by the class of its receiver) -/
abbrev Op : Type := Instr × Nat × (Nat × Nat × Nat × Int × (Nat → MR))
def rmA (dp mc ms : Nat) : Room := { frames := dp, cells := mc, slots := ms, locals := 40 * dp + 12 }
def PcA (G : GT) (args : List AV) (h : AH) : Array Value → State → Prop := fun v U => v = (args.map (cv G)).toArray ∧ RelA G h U.heap ∧ KnA G U ∧ KhA G U U.heap
def QcA (G : GT) (mc ms : Nat) (h : AH) (Q : Option AV → AH → Prop) : Array Value → State → Outcome → State → Prop := fun _ st o t =>
  (∃ (r : Option AV) (h1 : AH), o = .returned (r.map (cv G)) ∧ Q r h1 ∧ nC h1 = nC h + mc ∧ nS h1 = nS h + ms ∧ RelA G h1 t.heap) ∧ va_F (aW G) st t
/-- THE CONTRACT of method M: called with these arguments on this heap, in a room of dp frames, mc cells and ms slots, it returns, and Q holds of its answer and of the heap behind it -/
def CnA (G : GT) (M : MR) (dp mc ms : Nat) (args : List AV) (h : AH) (Q : Option AV → AH → Prop) : Prop :=
  Met (gL G) M.1 (ws_ M.1 M.2.1 M.2.2.1 M.2.2.2.1) (rmA dp mc ms) (PcA G args h) (QcA G mc ms h Q) mc ms (aW G)
/-- the surroundings of a walk: ghosts, the method, depth, cells and slots in all (from the charged ones at its start on), what is to hold at its end, its start -/
abbrev EV : Type := GT × MR × Nat × Nat × Nat × (Option AV → AH → Prop) × AH
abbrev eG (E : EV) : GT := E.1
abbrev eM (E : EV) : MR := E.2.1
abbrev eD (E : EV) : Nat := E.2.2.1
abbrev eC (E : EV) : Nat := E.2.2.2.1
abbrev eS (E : EV) : Nat := E.2.2.2.2.1
abbrev eQ (E : EV) : Option AV → AH → Prop := E.2.2.2.2.2.1
abbrev eH (E : EV) : AH := E.2.2.2.2.2.2
/-- an answer fits the type that the method returns -/
def rzA (ty : Option FieldType) (r : Option AV) : Prop := match ty, r with
  | none, none => True
  | some .int, some (.inl _) => True
  | some .boolean, some (.inl z) => z = 0 ∨ z = 1
  | some .byte, some (.inl z) => -128 ≤ z ∧ z < 128
  | some .char, some (.inl z) => 0 ≤ z ∧ z < 65536
  | some .long, some (.inr (.inl _)) => True
  | some (.object _), some (.inr (.inr _)) => True
  | some (.array _), some (.inr (.inr _)) => True
  | _, _ => False
def LocA (G : GT) (ls : Array Slot) (n : Nat) (L : AL) : Prop := ls.size = n ∧ L.length = n ∧ lv_wf ls ∧ ∀ (i : Nat) (v : AV), lget L i = some v → ls[i]? = some (.val (cv G v))
def CtxA (E : EV) (Z : State → Prop) (R : Room) (p : Program) (e : Env) (s : State) (m : MethodId) (args : Array Value) (below : List Frame) (meth : Method) (c : Code) : Prop :=
  p.tables.exec = Jvm.exec ∧ c.code = (eM E).2.1 ∧ c.maxLocals = (eM E).2.2.1 ∧ meth.name = (eM E).1.name ∧ s.vm.findClass (eM E).1.cls = some m.cls ∧ (∀ w ∈ lw_all, w.before args s = true) ∧
  KnA (eG E) s ∧ KhA (eG E) s s.heap ∧ gZ (eG E) ≤ s.heap.size ∧ (eD E ≤ R.frames ∧ eC E ≤ R.cells ∧ eS E ≤ R.slots ∧ 40 * eD E + 12 ≤ R.locals) ∧
  ∀ (r : Option AV) (h : AH) (H : Heap) (locs : List Loc) (pc : Nat) (ls : Array Slot), rzA (eM E).2.2.2.1 r → eQ E r h → nC h = nC (eH E) + eC E → nS h = nS (eH E) + eS E → RelA (eG E) h H → va_S (aW (eG E)) s.heap H locs →
    decode (eM E).2.1 pc = .ok ((match r with | none => Instr.return_ | some (.inl _) => .ireturn | some (.inr (.inl _)) => .lreturn | _ => .areturn), 1) →
    W p (gL (eG E)) e R s m args below meth c H locs (eC E) (eS E) Z (F0 m pc ls (r.map (cv (eG E))).toList)
/-- A POINT OF A WALK: from here, at pc with these locals, this stack and this heap, the method comes to its end -/
def ExA (E : EV) (pc : Nat) (L : AL) (st : List AV) (h : AH) : Prop :=
  ∀ (Z : State → Prop) (R : Room) (p : Program) (e : Env) (s : State) (m : MethodId) (args : Array Value) (below : List Frame) (meth : Method) (c : Code), CtxA E Z R p e s m args below meth c →
  ∀ (H : Heap) (locs : List Loc) (ls : Array Slot) (k n : Nat), RelA (eG E) h H → va_S (aW (eG E)) s.heap H locs → LocA (eG E) ls (eM E).2.2.1 L → nC h = nC (eH E) + k → nS h = nS (eH E) + n →
    W p (gL (eG E)) e R s m args below meth c H locs k n Z (F0 m pc ls (st.map (cv (eG E))))
/-! ## helpers -/
theorem rV_ref {G : GT} {z : Int} (h : 0 ≤ z) : rV G z = .ref (gZ G + z.toNat) := by
  unfold rV
  rw [if_neg (by omega), if_pos h]
theorem rV_or (G : GT) (z : Int) : rV G z = .null ∨ ∃ a, rV G z = .ref a := by
  unfold rV
  split
  · exact Or.inl rfl
  · split
    · exact Or.inr ⟨_, rfl⟩
    · exact Or.inr ⟨_, rfl⟩
theorem cv_cat (G : GT) (v : AV) : (cv G v).category = acat v := by
  rcases v with z | z | z
  · rfl
  · rfl
  · show (rV G z).category = 1
    rcases rV_or G z with h | ⟨a, h⟩ <;> rw [h] <;> rfl
theorem cv_cats (G : GT) (st : List AV) : ((st.map (cv G)).map fun v => v.category).sum = acats st := by
  induction st with
  | nil => rfl
  | cons v t ih => simp only [List.map_cons, List.sum_cons, acats, ih, cv_cat]
theorem LocA.weak {G : GT} {ls : Array Slot} {n : Nat} {A B : AL} (h : LocA G ls n B) (hl : A.length = B.length) (hw : lle A B) : LocA G ls n A :=
  ⟨h.1, hl.trans h.2.1, h.2.2.1, fun i v e => h.2.2.2 i v (lle_get hw e)⟩
def lpairs (G : GT) (L : AL) : List (Nat × Value) := (List.range L.length).filterMap fun i => (lget L i).map fun v => (i, cv G v)
theorem lpairs_mem {G : GT} {L : AL} {q : Nat × Value} : q ∈ lpairs G L ↔ ∃ v, lget L q.1 = some v ∧ q.2 = cv G v := by
  unfold lpairs
  rw [List.mem_filterMap]
  constructor
  · rintro ⟨i, -, h⟩
    cases e : lget L i with
    | none => rw [e] at h; cases h
    | some v =>
      rw [e] at h
      cases h
      exact ⟨v, e, rfl⟩
  · rintro ⟨v, e, h⟩
    refine ⟨q.1, List.mem_range.mpr (lget_lt e), ?_⟩
    rw [e]
    show some (q.1, cv G v) = some q
    rw [← h]
theorem LocA.has {G : GT} {ls : Array Slot} {n : Nat} {L : AL} (h : LocA G ls n L) : lv_has ls n (lpairs G L) := by
  refine ⟨h.1, h.2.2.1, fun q hq => ?_⟩
  obtain ⟨v, e, e2⟩ := lpairs_mem.mp hq
  rw [e2]
  exact h.2.2.2 q.1 v e
theorem LocA.st1 {G : GT} {ls : Array Slot} {n : Nat} {L : AL} (h : LocA G ls n L) {i : Nat} (hi : i < n) {v : AV} (hc : acat v = 1) : ∃ ls', storeLocals ls i (cv G v) = some ls' ∧ LocA G ls' n (lst1 L i v) := by
  obtain ⟨ls', e, e2⟩ := lv_store1 (v := cv G v) h.has hi (by rw [cv_cat]; exact hc)
  refine ⟨ls', e, e2.1, by unfold lst1; rw [lset_length, lclr_length]; exact h.2.1, e2.2.1, fun j w hj => ?_⟩
  unfold lst1 at hj
  rw [lget_lset] at hj
  split at hj
  next q =>
    cases hj
    rw [q.1]
    exact e2.2.2 (i, cv G v) List.mem_cons_self
  next q =>
    have hn : ¬ j = i := fun z => q ⟨z, by rw [lclr_length, h.2.1]; exact hi⟩
    obtain ⟨h1, h2⟩ := lget_lclr hj
    refine e2.2.2 (j, cv G w) (List.mem_cons_of_mem _ (List.mem_filter.mpr ⟨lpairs_mem.mpr ⟨w, h1, rfl⟩, ?_⟩))
    simp only [Bool.and_eq_true, Bool.not_eq_true', beq_eq_false_iff_ne, ne_eq, Bool.and_eq_false_iff, cv_cat]
    refine ⟨hn, ?_⟩
    by_cases z : j + 1 = i
    · exact Or.inr fun z2 => h2 ⟨z, z2⟩
    · exact Or.inl z
theorem LocA.st2 {G : GT} {ls : Array Slot} {n : Nat} {L : AL} (h : LocA G ls n L) {i : Nat} (hi : i + 1 < n) {v : AV} (hc : acat v = 2) : ∃ ls', storeLocals ls i (cv G v) = some ls' ∧ LocA G ls' n (lst2 L i v) := by
  obtain ⟨ls', e, e2⟩ := lv_store2 (v := cv G v) h.has hi (by rw [cv_cat]; exact hc)
  refine ⟨ls', e, e2.1, by unfold lst2; rw [lset_length, lset_length, lclr_length]; exact h.2.1, e2.2.1, fun j w hj => ?_⟩
  unfold lst2 at hj
  rw [lget_lset] at hj
  split at hj
  · cases hj
  next q0 =>
    have hn0 : ¬ j = i + 1 := fun z => q0 ⟨z, by rw [lset_length, lclr_length, h.2.1]; exact hi⟩
    rw [lget_lset] at hj
    split at hj
    next q =>
      cases hj
      rw [q.1]
      exact e2.2.2 (i, cv G v) List.mem_cons_self
    next q =>
      have hn : ¬ j = i := fun z => q ⟨z, by rw [lclr_length, h.2.1]; omega⟩
      obtain ⟨h1, h2⟩ := lget_lclr hj
      refine e2.2.2 (j, cv G w) (List.mem_cons_of_mem _ (List.mem_filter.mpr ⟨lpairs_mem.mpr ⟨w, h1, rfl⟩, ?_⟩))
      simp only [Bool.and_eq_true, Bool.not_eq_true', beq_eq_false_iff_ne, ne_eq, Bool.and_eq_false_iff, cv_cat]
      refine ⟨hn, hn0, ?_⟩
      by_cases z : j + 1 = i
      · exact Or.inr fun z2 => h2 ⟨z, z2⟩
      · exact Or.inl z
theorem vpin_of {z : Int} {n : Nat} (h0 : 0 ≤ w32 z) (h1 : w32 z < n) : vp_in (Int32.ofInt z) n ∧ (Int32.ofInt z).toNatClampNeg = (w32 z).toNat := by
  refine ⟨vp_in_iff.mpr ⟨by rw [i32_toInt]; exact h0, by rw [i32_toInt]; exact h1⟩, ?_⟩
  show (Int32.ofInt z).toInt.toNat = _
  rw [i32_toInt]
/-- an instruction that leaves the heap alone -/
theorem ExA.pure {E : EV} {pc pc2 : Nat} {L : AL} {st st2 : List AV} {h : AH} (k : ExA E pc2 L st2 h)
    (row : ∀ (Z : State → Prop) (R : Room) (p : Program) (e : Env) (s : State) (m : MethodId) (args : Array Value) (below : List Frame) (meth : Method) (c : Code) (H : Heap) (locs : List Loc) (ls : Array Slot) (x n : Nat), CtxA E Z R p e s m args below meth c → RelA (eG E) h H → va_S (aW (eG E)) s.heap H locs → LocA (eG E) ls (eM E).2.2.1 L →
      W p (gL (eG E)) e R s m args below meth c H locs x n Z (F0 m pc2 ls (st2.map (cv (eG E)))) → W p (gL (eG E)) e R s m args below meth c H locs x n Z (F0 m pc ls (st.map (cv (eG E))))) : ExA E pc L st h :=
  fun Z R p e s m args below meth c C H locs ls x n hR hS hL h1 h2 => row Z R p e s m args below meth c H locs ls x n C hR hS hL (k Z R p e s m args below meth c C H locs ls x n hR hS hL h1 h2)
theorem ExA.weak {E : EV} {pc : Nat} {A B : AL} {st : List AV} {h : AH} (k : ExA E pc A st h) (hl : A.length = B.length) (hw : lle A B) : ExA E pc B st h :=
  fun Z R p e s m args below meth c C H locs ls x n hR hS hL h1 h2 => k Z R p e s m args below meth c C H locs ls x n hR hS (hL.weak hl hw) h1 h2
theorem ExA.widen {E : EV} {pc : Nat} {L : AL} {st : List AV} {h : AH} {c s : Nat} (h1 : nC h ≤ c) (h2 : nS h ≤ s) (k : ExA E pc L st (hch h c s)) : ExA E pc L st h := by
  intro Z R p e s0 m args below meth c0 C H locs ls x n hR hS hL e1 e2
  refine W.widen (k := c - nC (eH E)) (n := s - nS (eH E)) (by omega) (by omega) ?_
  exact k Z R p e s0 m args below meth c0 C H locs ls _ _ hR hS hL (by rw [nC_hch]; omega) (by rw [nS_hch]; omega)
