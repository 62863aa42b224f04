/-! LIBRARY for proofs over the abstract machine: comparisons, calls, loops -/
theorem ci0 : ((0 : Nat) : Int) = 0 := rfl
theorem ci1 : ((1 : Nat) : Int) = 1 := rfl
theorem cnn (n : Nat) : (0 : Int) ≤ ((n : Nat) : Int) := by omega
theorem yc_in (a b : Int) : ycmp a b = 1 ∨ ycmp a b = 0 ∨ ycmp a b = -1 := by
  unfold ycmp
  split
  · exact Or.inl rfl
  · split
    · exact Or.inr (Or.inl rfl)
    · exact Or.inr (Or.inr rfl)
theorem yc_w (a b : Int) : w32 (ycmp a b) = ycmp a b := by
  rcases yc_in a b with h | h | h <;> rw [h] <;> exact w32_eq (by decide) (by decide)
theorem yc_lt (a b : Int) : w32 (ycmp a b) < 0 ↔ w64 a < w64 b := by
  rw [yc_w]
  unfold ycmp
  split
  · omega
  · split <;> omega
theorem yc_le (a b : Int) : w32 (ycmp a b) ≤ 0 ↔ w64 a ≤ w64 b := by
  rw [yc_w]
  unfold ycmp
  split
  · omega
  · split <;> omega
theorem yc_gt (a b : Int) : 0 < w32 (ycmp a b) ↔ w64 b < w64 a := by
  rw [yc_w]
  unfold ycmp
  split
  · omega
  · split <;> omega
theorem yc_ge (a b : Int) : 0 ≤ w32 (ycmp a b) ↔ w64 b ≤ w64 a := by
  rw [yc_w]
  unfold ycmp
  split
  · omega
  · split <;> omega
theorem yc_eq (a b : Int) : w32 (ycmp a b) = 0 ↔ w64 a = w64 b := by
  rw [yc_w]
  unfold ycmp
  split
  · omega
  · split <;> omega
/-- as Met.ofW, for a method of a class of which others are run by entries -/
theorem Met.ofWF {l : Launch} {y : MethodName} {ws ws' : List Cond} {rm : Room} {Pc : Array Value → State → Prop} {Qc : Array Value → State → Outcome → State → Prop} {mc ms : Nat} {free : Addr → Prop} {cc : ByteArray} {maxL : Nat} {ret : Option FieldType}
    (hy : plainFor y = true) (hw : ws = Cond.code y cc maxL ret :: ws')
    (body : ∀ p e s m args below meth c s₁, BodyLoose p l y (headSpec ws rm) cc maxL ret e s m args below meth c s₁ → c.maxLocals = maxL → Pc args s →
      W p l e (headSpec ws rm).room s m args below meth c s.heap [] 0 0 (MQ below Qc args s mc ms free) (entryFrame m args maxL)) : Met l y ws rm Pc Qc mc ms free := by
  refine MetFree.of_bodySF (code := cc) (maxLocals := maxL) (ret := ret) hy ?_ ?_
  · intro args s m h hn
    obtain ⟨meth, c, h1, h2, h3, h4, h5, h6, -, -⟩ := Cond.code_spec hn (atoms_spec (ws := ws) h _ (by rw [hw]; exact List.mem_cons_self))
    exact ⟨meth, c, h1, h2, h3, h4, h5, h6⟩
  · intro p e s m args below meth c s₁ B hml hP _
    have hh0 : s₁.heap = s.heap := by rw [B.state]; rfl
    obtain ⟨t, a1, o, b1, b2, b3⟩ := body p e s m args below meth c s₁ B hml hP s₁ hh0 (Stand.of_body B)
    exact ⟨t, o, a1, b1, b2, ⟨b3.1, b3.2⟩⟩
theorem CnA.ofF {G : GT} {M : MR} {dp mc ms : Nat} {args : List AV} {h : AH} {Q : Option AV → AH → Prop} (hM : plainFor M.1 = true) (hA : (largs args).length ≤ M.2.2.1) (k : ExA (G, M, dp, mc, ms, Q, h) 0 (lpad (largs args) M.2.2.1) [] h) : CnA G M dp mc ms args h Q := by
  refine Met.ofWF (cc := M.2.1) (maxL := M.2.2.1) (ret := M.2.2.2.1) hM rfl ?_
  intro p e s m args0 below meth c s₁ B hml hv
  obtain ⟨rfl, hR, hK, hH⟩ := hv
  have hts := atoms_spec (ws := ws_ M.1 M.2.1 M.2.2.1 M.2.2.2.1) B.pre
  have hts : ∀ w ∈ lw_all, w.before _ s = true := fun w h => hts w (List.mem_cons_of_mem _ h)
  have hlocks := B.notSynchronized
  have hr : meth.sig.returnType = M.2.2.2.1 := B.returns
  have hx := B.exec
  have hb : c.code = M.2.1 := B.bytes
  have hl := lv_entry (args.map (cv G)) (n := M.2.2.1) (by rw [largs_slots]; exact hA)
  rw [lg_entry_eq]
  generalize (lg_sl (args.map (cv G)) ++ List.replicate (M.2.2.1 - (lg_sl (args.map (cv G))).length) Slot.unset).toArray = ls at hl ⊢
  have hLoc : LocA G ls M.2.2.1 (lpad (largs args) M.2.2.1) := by
    refine ⟨hl.1, lpad_length hA, hl.2.1, fun i v hi => ?_⟩
    have := largs_mem G args 0 i v (lget_lpad hi)
    rw [Nat.zero_add] at this
    exact hl.2.2 _ this
  refine k (MQ below (QcA G mc ms h Q) (args.map (cv G)).toArray s mc ms (aW G)) (rmA dp mc ms) p e s m _ below meth c ⟨hx, hb, hml, (name_of_methodNamed B.named B.method).1, findClass_of_methodNamed B.named, hts, hK, hH, by have := hR.1; show gZ G ≤ _; omega, ⟨Nat.le_refl _, Nat.le_refl _, Nat.le_refl _, Nat.le_refl _⟩, ?_⟩ s.heap [] ls 0 0 hR va_S.rf hLoc rfl rfl
  intro r h1 H locs pc ls1 hz hq hc1 hs1 hR1 hS1 hd
  have fin : ∀ t : State, t.heap = H → s.WarmedH t.vm → QcA G mc ms h Q (args.map (cv G)).toArray s (.returned (r.map (cv G))) t := fun t ht _ => ⟨⟨r, h1, rfl, hq, hc1, hs1, by rw [ht]; exact hR1⟩, hS1.F ht⟩
  have hz : rzA M.2.2.2.1 r := hz
  generalize hrt : M.2.2.2.1 = rt at hz hr
  cases rt with
  | none =>
    cases r with
    | none => exact W.vret hx hb hr fin hS1.2.2 hd
    | some v => simp [rzA] at hz
  | some ty =>
    cases r with
    | none => cases ty <;> simp [rzA] at hz
    | some v =>
      rcases v with z | z | z
      · cases ty with
        | int => exact W.zret hx hb hr rfl fin hS1.2.2 hd
        | boolean =>
          refine W.zret hx hb hr ?_ fin hS1.2.2 hd
          rcases hz with rfl | rfl <;> rfl
        | byte =>
          refine W.zret hx hb hr ?_ fin hS1.2.2 hd
          show Value.int (Int32.ofInt z).toInt8.toInt32 = _
          rw [i32_b]
          congr 2
          simp only [w8_def]
          obtain ⟨g1, g2⟩ := hz
          omega
        | char => exact W.zret hx hb hr (i32_char hz.1 hz.2) fin hS1.2.2 hd
        | _ => simp [rzA] at hz
      · cases ty with
        | long => exact W.lret hx hb hr fin hS1.2.2 hd
        | _ => simp [rzA] at hz
      · cases ty with
        | object n => exact W.aret hx hb hr (Or.inl ⟨n, rfl⟩) (rV_or G z) fin hS1.2.2 hd
        | array n => exact W.aret hx hb hr (Or.inr ⟨n, rfl⟩) (rV_or G z) fin hS1.2.2 hd
        | _ => simp [rzA] at hz
/-- a call by a contract -/
theorem ClA.of {E : EV} {M : MR} {args : List AV} {h : AH} {K : Option AV → AH → Prop} {dpc mcc msc : Nat} {Q1 : Option AV → AH → Prop} (hc : CnA (eG E) M dpc mcc msc args h Q1) (hd : dpc < eD E) (h1 : nC h + mcc ≤ nC (eH E) + eC E) (h2 : nS h + msc ≤ nS (eH E) + eS E)
    (hk : ∀ r h1, Q1 r h1 → nC h1 = nC h + mcc → nS h1 = nS h + msc → K r h1) : ClA E M args h K := ⟨dpc, mcc, msc, Q1, hc, hd, h1, h2, hk⟩
/-- a call that answers v and leaves the heap -/
theorem ClA.pure {E : EV} {M : MR} {args : List AV} {h : AH} {K : Option AV → AH → Prop} {dpc : Nat} {v : Option AV} (hc : CnA (eG E) M dpc 0 0 args h (fun r h1 => r = v ∧ h1 = h)) (hd : dpc < eD E) (h1 : nC h ≤ nC (eH E) + eC E) (h2 : nS h ≤ nS (eH E) + eS E) (hk : K v h) : ClA E M args h K :=
  ⟨dpc, 0, 0, _, hc, hd, h1, h2, fun r h1 q _ _ => by rw [q.1, q.2]; exact hk⟩
theorem CnA.imp {G : GT} {M : MR} {dp mc ms : Nat} {args : List AV} {h : AH} {Q Q2 : Option AV → AH → Prop} (hc : CnA G M dp mc ms args h Q) (hQ : ∀ r h1, Q r h1 → Q2 r h1) : CnA G M dp mc ms args h Q2 := by
  intro p e ha hcs hck s m a below hf happ hP hK
  obtain ⟨n, o, g1, g2, g3, ⟨⟨r, h1, q1, q2, q3⟩, q4⟩, g5⟩ := hc p e ha hcs hck s m a below hf happ hP hK
  exact ⟨n, o, g1, g2, g3, ⟨⟨r, h1, q1, hQ _ _ q2, q3⟩, q4⟩, g5⟩
/-- loops: by a measure that falls -/
theorem lpM {σ : Type} {P : σ → Prop} (I : σ → Prop) (μ : σ → Nat) (hs : ∀ s, I s → (∀ s', I s' → μ s' < μ s → P s') → P s) (s : σ) (h : I s) : P s := by
  have key : ∀ n s, μ s = n → I s → P s := by
    intro n
    induction n using Nat.strongRecOn with
    | _ n ih =>
      intro s hn hi
      exact hs s hi fun s' hi' hlt => ih (μ s') (by omega) s' rfl hi'
  exact key _ s rfl h
/-- loops: counting up from i to N -/
theorem lpU {σ : Type} {P : Nat → σ → Prop} (N : Nat) (I : Nat → σ → Prop) (hs : ∀ i s, i ≤ N → I i s → (i < N → ∀ s', I (i + 1) s' → P (i + 1) s') → P i s) : ∀ i s, i ≤ N → I i s → P i s := by
  intro i s hi h
  refine lpM (P := fun q : Nat × σ => P q.1 q.2) (fun q => q.1 ≤ N ∧ I q.1 q.2) (fun q => N - q.1) ?_ (i, s) ⟨hi, h⟩
  rintro ⟨j, s⟩ ⟨hj, hI⟩ ih
  exact hs j s hj hI fun hlt s' hI' => ih (j + 1, s') ⟨hlt, hI'⟩ (by show N - (j + 1) < N - j; omega)
theorem ne_kd {h : AH} {b r x y : Nat} (hb : (hkd h b).1 = x) (hr : (hkd h r).1 = y) (hxy : x ≠ y) : b ≠ r := by
  intro e
  subst e
  exact hxy (hb.symm.trans hr)
theorem ne_kk {h : AH} {b r : Nat} {x y : Nat × Nat} (hb : hkd h b = x) (hr : hkd h r = y) (hxy : x ≠ y) : b ≠ r := by
  intro e
  subst e
  exact hxy (hb.symm.trans hr)
/-- only cells of A are written, none is made -/
def OutA (A : Nat → Prop) (h h1 : AH) : Prop := (∀ b, hkd h1 b = hkd h b) ∧ nN h1 = nN h ∧ ∀ b, ¬ A b → hdt h1 b = hdt h b
theorem OutA.rf {A : Nat → Prop} {h : AH} : OutA A h h := ⟨fun _ => rfl, rfl, fun _ _ => rfl⟩
theorem OutA.tr {A : Nat → Prop} {h h1 h2 : AH} (x : OutA A h h1) (y : OutA A h1 h2) : OutA A h h2 := ⟨fun b => (y.1 b).trans (x.1 b), y.2.1.trans x.2.1, fun b hb => (y.2.2 b hb).trans (x.2.2 b hb)⟩
theorem OutA.mono {A B : Nat → Prop} {h h1 : AH} (x : OutA A h h1) (hAB : ∀ b, A b → B b) : OutA B h h1 := ⟨x.1, x.2.1, fun b hb => x.2.2 b fun q => hb (hAB b q)⟩
theorem OutA.row {A : Nat → Prop} {h : AH} {r : Nat} (hr : A r) (f : Nat → Int) : OutA A h (hrw h r f) := ⟨fun _ => rfl, rfl, fun b hb => hdt_hrw_n _ _ fun q => hb (q ▸ hr)⟩
theorem OutA.wr {A : Nat → Prop} {h : AH} {r j : Nat} (hr : A r) (v : Int) : OutA A h (hwr h r j v) := OutA.row hr _
