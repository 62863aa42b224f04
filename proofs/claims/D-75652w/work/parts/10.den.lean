/-! A METHOD'S ENTRY AND END -/
theorem lget_lpad {L : AL} {n i : Nat} {v : AV} (h : lget (lpad L n) i = some v) : lget L i = some v := by
  induction n generalizing L i with
  | zero => simpa [lpad] using h
  | succ n ih =>
    cases L with
    | nil =>
      cases i with
      | zero => simp [lpad, lget] at h
      | succ i => exact absurd (ih (L := []) (i := i) (by simpa [lpad, lget] using h)) (by simp [lget])
    | cons x t =>
      cases i with
      | zero => simpa [lpad, lget] using h
      | succ i => simpa [lget] using ih (L := t) (i := i) (by simpa [lpad, lget] using h)
theorem lpad_length {L : AL} {n : Nat} (h : L.length ≤ n) : (lpad L n).length = n := by
  induction n generalizing L with
  | zero =>
    have : L = [] := List.length_eq_zero_iff.mp (by omega)
    subst this
    rfl
  | succ n ih =>
    cases L with
    | nil => simpa [lpad] using ih (L := []) (by simp)
    | cons x t => simpa [lpad] using ih (L := t) (by simpa using h)
theorem largs_mem (G : GT) : ∀ (args : List AV) (k i : Nat) (v : AV), lget (largs args) i = some v → (k + i, cv G v) ∈ lv_args k (args.map (cv G))
  | [], k, i, v, h => by simp [largs, lget] at h
  | x :: t, k, i, v, h => by
    have ih := largs_mem G t
    rcases x with z | z | z
    · cases i with
      | zero =>
        simp only [largs, lget, Option.some.injEq] at h
        subst h
        simp [lv_args]
      | succ i =>
        have := ih (k + 1) i v (by simpa [largs, lget] using h)
        simp only [List.map_cons, lv_args, cv_cat, acat]
        rw [if_neg (by decide)]
        exact List.mem_cons_of_mem _ (by rw [show k + (i + 1) = k + 1 + i by omega]; exact this)
    · cases i with
      | zero =>
        simp only [largs, lget, Option.some.injEq] at h
        subst h
        simp [lv_args]
      | succ i =>
        cases i with
        | zero => simp [largs, lget] at h
        | succ i =>
          have := ih (k + 2) i v (by simpa [largs, lget] using h)
          simp only [List.map_cons, lv_args, cv_cat, acat]
          rw [if_pos trivial]
          exact List.mem_cons_of_mem _ (by rw [show k + (i + 1 + 1) = k + 2 + i by omega]; exact this)
    · cases i with
      | zero =>
        simp only [largs, lget, Option.some.injEq] at h
        subst h
        simp [lv_args]
      | succ i =>
        have := ih (k + 1) i v (by simpa [largs, lget] using h)
        simp only [List.map_cons, lv_args, cv_cat, acat]
        rw [if_neg (by decide)]
        exact List.mem_cons_of_mem _ (by rw [show k + (i + 1) = k + 1 + i by omega]; exact this)
theorem largs_slots (G : GT) (args : List AV) : (lg_sl (args.map (cv G))).length = (largs args).length := by
  induction args with
  | nil => rfl
  | cons x t ih =>
    have e : lg_sl ((x :: t).map (cv G)) = (if (cv G x).category = 2 then [Slot.val (cv G x), .second] else [.val (cv G x)]) ++ lg_sl (t.map (cv G)) := rfl
    rw [e, List.length_append, ih, cv_cat]
    rcases x with z | z | z
    · simp [acat, largs]; omega
    · simp [acat, largs]; omega
    · simp [acat, largs]; omega
theorem i32_char {z : Int} (h0 : 0 ≤ z) (h1 : z < 65536) : narrow .char (.int (Int32.ofInt z)) = .int (Int32.ofInt z) := by
  obtain ⟨n, rfl⟩ := Int.eq_ofNat_of_zero_le h0
  have e : Int32.ofInt (n : Int) = nI n := Int32.ofInt_eq_ofNat
  rw [e]
  exact (pk_charN (by omega)).1
theorem CnA.of {G : GT} {M : MR} {dp mc ms : Nat} {args : List AV} {h : AH} {Q : Option AV → AH → Prop} (hM : plainName M.1.cls = true) (hA : (largs args).length ≤ M.2.2.1) (k : ExA (G, M, dp, mc, ms, Q, h) 0 (lpad (largs args) M.2.2.1) [] h) : CnA G M dp mc ms args h Q := by
  refine Met.ofW (cc := M.2.1) (maxL := M.2.2.1) (ret := M.2.2.2.1) hM rfl ?_
  intro p e s m args0 below meth c s₁ B hml hv
  obtain ⟨rfl, hR, hK, hH⟩ := hv
  have hts := atoms_spec (ws := ws_ M.1 M.2.1 M.2.2.1 M.2.2.2.1) B.pre
  have hts : ∀ w ∈ lw_all, w.before _ s = true := fun w h => hts w (List.mem_cons_of_mem _ h)
  have hlocks := B.notSynchronized
  have hr : meth.sig.returnType = M.2.2.2.1 := B.returns
  have hx := B.exec
  have hb : c.code = M.2.1 := B.bytes
  have hl := lv_entry (args.map (cv G)) (n := M.2.2.1) (by rw [largs_slots]; exact hA)
  rw [lg_entry_eq]
  generalize (lg_sl (args.map (cv G)) ++ List.replicate (M.2.2.1 - (lg_sl (args.map (cv G))).length) Slot.unset).toArray = ls at hl ⊢
  have hLoc : LocA G ls M.2.2.1 (lpad (largs args) M.2.2.1) := by
    refine ⟨hl.1, lpad_length hA, hl.2.1, fun i v hi => ?_⟩
    have := largs_mem G args 0 i v (lget_lpad hi)
    rw [Nat.zero_add] at this
    exact hl.2.2 _ this
  refine k (MQ below (QcA G mc ms h Q) (args.map (cv G)).toArray s mc ms (aW G)) (rmA dp mc ms) p e s m _ below meth c ⟨hx, hb, hml, (name_of_methodNamed B.named B.method).1, findClass_of_methodNamed B.named, hts, hK, hH, by have := hR.1; show gZ G ≤ _; omega, ⟨Nat.le_refl _, Nat.le_refl _, Nat.le_refl _, Nat.le_refl _⟩, ?_⟩ s.heap [] ls 0 0 hR va_S.rf hLoc rfl rfl
  intro r h1 H locs pc ls1 hz hq hc1 hs1 hR1 hS1 hd
  have fin : ∀ t : State, t.heap = H → s.WarmedH t.vm → QcA G mc ms h Q (args.map (cv G)).toArray s (.returned (r.map (cv G))) t := fun t ht _ => ⟨⟨r, h1, rfl, hq, hc1, hs1, by rw [ht]; exact hR1⟩, hS1.F ht⟩
  have hz : rzA M.2.2.2.1 r := hz
  generalize hrt : M.2.2.2.1 = rt at hz hr
  cases rt with
  | none =>
    cases r with
    | none => exact W.vret hx hb hr fin hS1.2.2 hd
    | some v => simp [rzA] at hz
  | some ty =>
    cases r with
    | none => cases ty <;> simp [rzA] at hz
    | some v =>
      rcases v with z | z | z
      · cases ty with
        | int => exact W.zret hx hb hr rfl fin hS1.2.2 hd
        | boolean =>
          refine W.zret hx hb hr ?_ fin hS1.2.2 hd
          rcases hz with rfl | rfl <;> rfl
        | byte =>
          refine W.zret hx hb hr ?_ fin hS1.2.2 hd
          show Value.int (Int32.ofInt z).toInt8.toInt32 = _
          rw [i32_b]
          congr 2
          simp only [w8_def]
          obtain ⟨g1, g2⟩ := hz
          omega
        | char => exact W.zret hx hb hr (i32_char hz.1 hz.2) fin hS1.2.2 hd
        | _ => simp [rzA] at hz
      · cases ty with
        | long => exact W.lret hx hb hr fin hS1.2.2 hd
        | _ => simp [rzA] at hz
      · cases ty with
        | object n => exact W.aret hx hb hr (Or.inl ⟨n, rfl⟩) (rV_or G z) fin hS1.2.2 hd
        | array n => exact W.aret hx hb hr (Or.inr ⟨n, rfl⟩) (rV_or G z) fin hS1.2.2 hd
        | _ => simp [rzA] at hz
/-! THE VERIFICATION CONDITIONS OF AN INSTRUCTION -/
def argsA : Nat → List AV → List AV → List AV
  | 0, _, acc => acc
  | n + 1, v :: st, acc => argsA n st (v :: acc)
  | _ + 1, [], acc => acc
def restA : Nat → List AV → List AV
  | 0, st => st
  | n + 1, _ :: st => restA n st
  | _ + 1, [] => []
theorem argsA_split : ∀ (n : Nat) (st acc : List AV), n ≤ st.length → (argsA n st acc).reverse ++ restA n st = acc.reverse ++ st ∧ (argsA n st acc).length = n + acc.length
  | 0, st, acc, _ => ⟨rfl, by simp [argsA]⟩
  | n + 1, v :: st, acc, h => by
    obtain ⟨h1, h2⟩ := argsA_split n st (v :: acc) (by simpa using h)
    refine ⟨by simp only [argsA, restA]; rw [h1]; simp, by simp only [argsA]; rw [h2]; simp; omega⟩
  | n + 1, [], acc, h => by simp at h
theorem tcN_mono {t : Nat} {v : AV} {P P2 : Int → Prop} (h : tcN t v P) (hP : ∀ z, P z → P2 z) : tcN t v P2 := by
  rcases v with z | z | z
  · exact ⟨h.1, hP _ h.2⟩
  · exact ⟨h.1, hP _ h.2⟩
  · exact ⟨h.1, hP _ h.2⟩
theorem tsw_mono {pc : Nat} {z : Int} {P P2 : Nat → Prop} {offs : List Int} {lo : Int} (h : tsw pc z P offs lo) (hP : ∀ t, P t → P2 t) : tsw pc z P2 offs lo := by
  induction offs generalizing lo with
  | nil => trivial
  | cons x t ih => exact ⟨fun q => hP _ (h.1 q), ih h.2⟩
abbrev KA : Type := Nat → AL → List AV → AH → Prop

/-- what is to be shown at an instruction; k: what is to be shown behind it -/
def denA (E : EV) (M : MR) (r : Nat × Nat × Nat × Int × (Nat → MR)) (k : KA) (pc : Nat) (L : AL) (st : List AV) (h : AH) : Instr → Prop
  | .aconst_null => k (pc + 1) L (.inr (.inr (-1)) :: st) h
  | .iconst i => k (pc + 1) L (.inl i :: st) h
  | .bipush i => k (pc + 2) L (.inl i :: st) h
  | .sipush i => k (pc + 3) L (.inl i :: st) h
  | .lconst i => k (pc + 1) L (.inr (.inl ((i : Nat) : Int)) :: st) h
  | .ldc idx => (if r.2.1 = 0 then k (pc + 2) L (.inl r.2.2.2.1 :: st) h else k (pc + 2) L (.inr (.inr (-4 - 2 * (r.1 : Int))) :: st) h)
  | .ldc_w idx => (if r.2.1 = 0 then k (pc + 3) L (.inl r.2.2.2.1 :: st) h else k (pc + 3) L (.inr (.inr (-4 - 2 * (r.1 : Int))) :: st) h)
  | .ldc2_w idx => k (pc + 3) L (.inr (.inl r.2.2.2.1) :: st) h
  | .iload i => (match lget L i with | some (.inl z) => k (pc + 2) L (.inl z :: st) h | _ => False)
  | .iload_n i => (match lget L (i : Nat) with | some (.inl z) => k (pc + 1) L (.inl z :: st) h | _ => False)
  | .lload i => (match lget L i with | some (.inr (.inl z)) => k (pc + 2) L (.inr (.inl z) :: st) h | _ => False)
  | .lload_n i => (match lget L (i : Nat) with | some (.inr (.inl z)) => k (pc + 1) L (.inr (.inl z) :: st) h | _ => False)
  | .aload i => (match lget L i with | some (.inr (.inr z)) => k (pc + 2) L (.inr (.inr z) :: st) h | _ => False)
  | .aload_n i => (match lget L (i : Nat) with | some (.inr (.inr z)) => k (pc + 1) L (.inr (.inr z) :: st) h | _ => False)
  | .istore i => (match st with | .inl z :: st => k (pc + 2) (lst1 L i (.inl z)) st h | _ => False)
  | .istore_n i => (match st with | .inl z :: st => k (pc + 1) (lst1 L (i : Nat) (.inl z)) st h | _ => False)
  | .lstore i => (match st with | .inr (.inl z) :: st => k (pc + 2) (lst2 L i (.inr (.inl z))) st h | _ => False)
  | .lstore_n i => (match st with | .inr (.inl z) :: st => k (pc + 1) (lst2 L (i : Nat) (.inr (.inl z))) st h | _ => False)
  | .astore i => (match st with | .inr (.inr z) :: st => k (pc + 2) (lst1 L i (.inr (.inr z))) st h | _ => False)
  | .astore_n i => (match st with | .inr (.inr z) :: st => k (pc + 1) (lst1 L (i : Nat) (.inr (.inr z))) st h | _ => False)
  | .iinc i d => (match lget L i with | some (.inl z) => k (pc + 3) (lst1 L i (.inl (z + d))) st h | _ => False)
  | .iadd => (match st with | .inl b :: .inl a :: st => k (pc + 1) L (.inl (a + b) :: st) h | _ => False)
  | .isub => (match st with | .inl b :: .inl a :: st => k (pc + 1) L (.inl (a - b) :: st) h | _ => False)
  | .imul => (match st with | .inl b :: .inl a :: st => k (pc + 1) L (.inl (a * b) :: st) h | _ => False)
  | .iand => (match st with | .inl b :: .inl a :: st => k (pc + 1) L (.inl (zand a b) :: st) h | _ => False)
  | .ior => (match st with | .inl b :: .inl a :: st => k (pc + 1) L (.inl (zor a b) :: st) h | _ => False)
  | .ixor => (match st with | .inl b :: .inl a :: st => k (pc + 1) L (.inl (zxor a b) :: st) h | _ => False)
  | .ishl => (match st with | .inl b :: .inl a :: st => k (pc + 1) L (.inl (zshl a b) :: st) h | _ => False)
  | .ishr => (match st with | .inl b :: .inl a :: st => k (pc + 1) L (.inl (zshr a b) :: st) h | _ => False)
  | .iushr => (match st with | .inl b :: .inl a :: st => k (pc + 1) L (.inl (zushr a b) :: st) h | _ => False)
  | .ladd => (match st with | .inr (.inl b) :: .inr (.inl a) :: st => k (pc + 1) L (.inr (.inl (a + b)) :: st) h | _ => False)
  | .lsub => (match st with | .inr (.inl b) :: .inr (.inl a) :: st => k (pc + 1) L (.inr (.inl (a - b)) :: st) h | _ => False)
  | .lmul => (match st with | .inr (.inl b) :: .inr (.inl a) :: st => k (pc + 1) L (.inr (.inl (a * b)) :: st) h | _ => False)
  | .land => (match st with | .inr (.inl b) :: .inr (.inl a) :: st => k (pc + 1) L (.inr (.inl (yand a b)) :: st) h | _ => False)
  | .lor => (match st with | .inr (.inl b) :: .inr (.inl a) :: st => k (pc + 1) L (.inr (.inl (yor a b)) :: st) h | _ => False)
  | .lshl => (match st with | .inl b :: .inr (.inl a) :: st => k (pc + 1) L (.inr (.inl (yshl a b)) :: st) h | _ => False)
  | .lshr => (match st with | .inl b :: .inr (.inl a) :: st => k (pc + 1) L (.inr (.inl (yshr a b)) :: st) h | _ => False)
  | .idiv => (match st with | .inl b :: .inl a :: st => w32 b ≠ 0 ∧ k (pc + 1) L (.inl ((w32 a).tdiv (w32 b)) :: st) h | _ => False)
  | .irem => (match st with | .inl b :: .inl a :: st => w32 b ≠ 0 ∧ k (pc + 1) L (.inl ((w32 a).tmod (w32 b)) :: st) h | _ => False)
  | .ldiv => (match st with | .inr (.inl b) :: .inr (.inl a) :: st => w64 b ≠ 0 ∧ k (pc + 1) L (.inr (.inl ((w64 a).tdiv (w64 b))) :: st) h | _ => False)
  | .lrem => (match st with | .inr (.inl b) :: .inr (.inl a) :: st => w64 b ≠ 0 ∧ k (pc + 1) L (.inr (.inl ((w64 a).tmod (w64 b))) :: st) h | _ => False)
  | .lcmp => (match st with | .inr (.inl b) :: .inr (.inl a) :: st => k (pc + 1) L (.inl (ycmp a b) :: st) h | _ => False)
  | .i2l => (match st with | .inl a :: st => k (pc + 1) L (.inr (.inl (w32 a)) :: st) h | _ => False)
  | .l2i => (match st with | .inr (.inl a) :: st => k (pc + 1) L (.inl a :: st) h | _ => False)
  | .i2b => (match st with | .inl a :: st => k (pc + 1) L (.inl (w8 a) :: st) h | _ => False)
  | .i2c => (match st with | .inl a :: st => k (pc + 1) L (.inl (a % 65536) :: st) h | _ => False)
  | .i2s => (match st with | .inl a :: st => k (pc + 1) L (.inl (w16 a) :: st) h | _ => False)
  | .dup => (match st with | v :: st => acat v = 1 ∧ k (pc + 1) L (v :: v :: st) h | _ => False)
  | .pop => (match st with | v :: st => acat v = 1 ∧ k (pc + 1) L (st) h | _ => False)
  | .pop2 => (match st with | v :: st => acat v = 2 ∧ k (pc + 1) L (st) h | _ => False)
  | .dup2 => (match st with | .inr (.inl z) :: st => k (pc + 1) L (.inr (.inl z) :: .inr (.inl z) :: st) h | v :: u :: st => (acat v = 1 ∧ acat u = 1) ∧ k (pc + 1) L (v :: u :: v :: u :: st) h | _ => False)
  | .if_icmp .lt off => (match st with | .inl b :: .inl a :: st => (w32 a < w32 b → k r.1 L st h) ∧ (¬ (w32 a < w32 b) → k (pc + 3) L st h) | _ => False)
  | .if_icmp .le off => (match st with | .inl b :: .inl a :: st => (w32 a ≤ w32 b → k r.1 L st h) ∧ (¬ (w32 a ≤ w32 b) → k (pc + 3) L st h) | _ => False)
  | .if_icmp .gt off => (match st with | .inl b :: .inl a :: st => (w32 b < w32 a → k r.1 L st h) ∧ (¬ (w32 b < w32 a) → k (pc + 3) L st h) | _ => False)
  | .if_icmp .ge off => (match st with | .inl b :: .inl a :: st => (w32 b ≤ w32 a → k r.1 L st h) ∧ (¬ (w32 b ≤ w32 a) → k (pc + 3) L st h) | _ => False)
  | .if_icmp .eq off => (match st with | .inl b :: .inl a :: st => (w32 a = w32 b → k r.1 L st h) ∧ (¬ (w32 a = w32 b) → k (pc + 3) L st h) | _ => False)
  | .if_icmp .ne off => (match st with | .inl b :: .inl a :: st => (¬ w32 a = w32 b → k r.1 L st h) ∧ (w32 a = w32 b → k (pc + 3) L st h) | _ => False)
  | .ifCond .lt off => (match st with | .inl a :: st => (w32 a < 0 → k r.1 L st h) ∧ (¬ (w32 a < 0) → k (pc + 3) L st h) | _ => False)
  | .ifCond .le off => (match st with | .inl a :: st => (w32 a ≤ 0 → k r.1 L st h) ∧ (¬ (w32 a ≤ 0) → k (pc + 3) L st h) | _ => False)
  | .ifCond .gt off => (match st with | .inl a :: st => (0 < w32 a → k r.1 L st h) ∧ (¬ (0 < w32 a) → k (pc + 3) L st h) | _ => False)
  | .ifCond .ge off => (match st with | .inl a :: st => (0 ≤ w32 a → k r.1 L st h) ∧ (¬ (0 ≤ w32 a) → k (pc + 3) L st h) | _ => False)
  | .ifCond .eq off => (match st with | .inl a :: st => (w32 a = 0 → k r.1 L st h) ∧ (¬ (w32 a = 0) → k (pc + 3) L st h) | _ => False)
  | .ifCond .ne off => (match st with | .inl a :: st => (¬ w32 a = 0 → k r.1 L st h) ∧ (w32 a = 0 → k (pc + 3) L st h) | _ => False)
  | .goto off => k r.1 L st h
  | .ifnull off => (match st with | .inr (.inr z) :: st => (z = -1 → k r.1 L st h) ∧ (¬ z = -1 → k (pc + 3) L st h) | _ => False)
  | .ifnonnull off => (match st with | .inr (.inr z) :: st => (¬ z = -1 → k r.1 L st h) ∧ (z = -1 → k (pc + 3) L st h) | _ => False)
  | .tableswitch d lo hi offs => (match st with | .inl z :: st => (w32 z < lo ∨ hi < w32 z → k ((pc : Int) + d).toNat L st h) ∧ tsw pc z (fun t => k t L st h) offs.toList lo | _ => False)
  | .getfield idx => (match st with | .inr (.inr z) :: st => (if r.1 < 100 then 0 ≤ z ∧ (hkd h z.toNat).1 = r.1 ∧ k (pc + 3) L (tcA r.2.2.1 (hdt h z.toNat r.2.1) :: st) h else ∃ i : Nat, i < stN ∧ z = -4 - 2 * (i : Int) ∧ (if r.1 = 200 then k (pc + 3) L (.inr (.inr (-5 - 2 * (i : Int))) :: st) h else k (pc + 3) L (.inl 0 :: st) h)) | _ => False)
  | .putfield idx => (match st with | v :: .inr (.inr z) :: st => 0 ≤ z ∧ (hkd h z.toNat).1 = r.1 ∧ tcN r.2.2.1 v (fun x => k (pc + 3) L st (hwr h z.toNat r.2.1 x)) | _ => False)
  | .getstatic idx => (if r.1 = 0 then k (pc + 3) L (.inl 1 :: st) h else k (pc + 3) L (.inr (.inr (-3)) :: st) h)
  | .arraylength => (match st with | .inr (.inr z) :: st => (if r.1 = 0 then 0 ≤ z ∧ 100 ≤ (hkd h z.toNat).1 ∧ k (pc + 1) L (.inl ((hkd h z.toNat).2 : Int) :: st) h else if r.1 = 1 then ∃ i : Nat, i < stN ∧ z = -5 - 2 * (i : Int) ∧ k (pc + 1) L (.inl ((stLen.getD i 0 : Nat) : Int) :: st) h else z = -2 ∧ k (pc + 1) L (.inl ((gX (eG E)).2.1 : Int) :: st) h) | _ => False)
  | .iaload => (match st with | .inl i :: .inr (.inr z) :: st => (if r.1 = 0 then 0 ≤ z ∧ (hkd h z.toNat).1 = 100 ∧ 0 ≤ i ∧ i < (hkd h z.toNat).2 ∧ k (pc + 1) L (.inl (hdt h z.toNat i.toNat) :: st) h else z = -2 ∧ 0 ≤ i ∧ i < (gX (eG E)).2.1 ∧ k (pc + 1) L (.inl ((gX (eG E)).2.2 i.toNat).toInt :: st) h) | _ => False)
  | .laload => (match st with | .inl i :: .inr (.inr z) :: st => 0 ≤ z ∧ (hkd h z.toNat).1 = 101 ∧ 0 ≤ i ∧ i < (hkd h z.toNat).2 ∧ k (pc + 1) L (.inr (.inl (hdt h z.toNat i.toNat)) :: st) h | _ => False)
  | .saload => (match st with | .inl i :: .inr (.inr z) :: st => 0 ≤ z ∧ (hkd h z.toNat).1 = 103 ∧ 0 ≤ i ∧ i < (hkd h z.toNat).2 ∧ k (pc + 1) L (.inl (hdt h z.toNat i.toNat) :: st) h | _ => False)
  | .baload => (match st with | .inl i :: .inr (.inr z) :: st => (if r.1 = 0 then 0 ≤ z ∧ ((hkd h z.toNat).1 = 102 ∨ (hkd h z.toNat).1 = 104) ∧ 0 ≤ i ∧ i < (hkd h z.toNat).2 ∧ k (pc + 1) L (.inl (hdt h z.toNat i.toNat) :: st) h else ∃ j : Nat, j < stN ∧ z = -5 - 2 * (j : Int) ∧ 0 ≤ i ∧ i < (stLen.getD j 0 : Nat) ∧ stLen.getD j 0 < 1000 ∧ k (pc + 1) L (.inl ((stByt.getD j []).getD i.toNat 0).toInt :: st) h) | _ => False)
  | .aaload => (match st with | .inl i :: .inr (.inr z) :: st => 0 ≤ z ∧ 110 ≤ (hkd h z.toNat).1 ∧ 0 ≤ i ∧ i < (hkd h z.toNat).2 ∧ k (pc + 1) L (.inr (.inr (hdt h z.toNat i.toNat)) :: st) h | _ => False)
  | .iastore => (match st with | .inl v :: .inl i :: .inr (.inr z) :: st => 0 ≤ z ∧ (hkd h z.toNat).1 = 100 ∧ 0 ≤ i ∧ i < (hkd h z.toNat).2 ∧ k (pc + 1) L st (hwr h z.toNat i.toNat v) | _ => False)
  | .lastore => (match st with | .inr (.inl v) :: .inl i :: .inr (.inr z) :: st => 0 ≤ z ∧ (hkd h z.toNat).1 = 101 ∧ 0 ≤ i ∧ i < (hkd h z.toNat).2 ∧ k (pc + 1) L st (hwr h z.toNat i.toNat v) | _ => False)
  | .sastore => (match st with | .inl v :: .inl i :: .inr (.inr z) :: st => 0 ≤ z ∧ (hkd h z.toNat).1 = 103 ∧ 0 ≤ i ∧ i < (hkd h z.toNat).2 ∧ k (pc + 1) L st (hwr h z.toNat i.toNat (w16 v)) | _ => False)
  | .bastore => (match st with | .inl v :: .inl i :: .inr (.inr z) :: st => (if r.1 = 0 then 0 ≤ z ∧ (hkd h z.toNat).1 = 102 ∧ 0 ≤ i ∧ i < (hkd h z.toNat).2 ∧ k (pc + 1) L st (hwr h z.toNat i.toNat (w8 v)) else 0 ≤ z ∧ (hkd h z.toNat).1 = 104 ∧ (v = 0 ∨ v = 1) ∧ 0 ≤ i ∧ i < (hkd h z.toNat).2 ∧ k (pc + 1) L st (hwr h z.toNat i.toNat v)) | _ => False)
  | .aastore => (match st with | .inr (.inr v) :: .inl i :: .inr (.inr z) :: st => 0 ≤ z ∧ 110 ≤ (hkd h z.toNat).1 ∧ 0 ≤ v ∧ (hkd h v.toNat).1 = kEl (hkd h z.toNat).1 ∧ 0 ≤ i ∧ i < (hkd h z.toNat).2 ∧ k (pc + 1) L st (hwr h z.toNat i.toNat v) | _ => False)
  | .new idx => nC h + 1 ≤ nC (eH E) + eC E ∧ nS h + r.2.1 ≤ nS (eH E) + eS E ∧ k (pc + 3) L (.inr (.inr (nN h)) :: st) (hnw h r.1 r.2.1 (dzA (r.1 - 1)))
  | .newarray t => (match st with | .inl n :: st => 0 ≤ n ∧ n ≤ 100000 ∧ nC h + 1 ≤ nC (eH E) + eC E ∧ nS h + n.toNat ≤ nS (eH E) + eS E ∧ k (pc + 2) L (.inr (.inr (nN h)) :: st) (hnw h (kAt t) n.toNat (fun _ => 0)) | _ => False)
  | .anewarray idx => (match st with | .inl n :: st => 0 ≤ n ∧ n ≤ 100000 ∧ nC h + 1 ≤ nC (eH E) + eC E ∧ nS h + n.toNat ≤ nS (eH E) + eS E ∧ k (pc + 3) L (.inr (.inr (nN h)) :: st) (hnw h r.1 n.toNat (fun _ => -1)) | _ => False)
  | .instanceof idx => (match st with | .inr (.inr z) :: st => (z = -1 → k (pc + 3) L (.inl 0 :: st) h) ∧ (¬ z = -1 → 0 ≤ z ∧ (100 ≤ (hkd h z.toNat).1 ∧ (hkd h z.toNat).1 ≤ 103) ∧ ((hkd h z.toNat).1 ≠ r.1 → (kNm (hkd h z.toNat).1, kNm r.1) ∈ ncL) ∧ ((hkd h z.toNat).1 = r.1 → k (pc + 3) L (.inl 1 :: st) h) ∧ ((hkd h z.toNat).1 ≠ r.1 → k (pc + 3) L (.inl 0 :: st) h)) | _ => False)
  | .checkcast idx => (match st with | .inr (.inr z) :: st => 0 ≤ z ∧ (hkd h z.toNat).1 = r.1 ∧ k (pc + 3) L (.inr (.inr z) :: st) h | _ => False)
  | .ireturn => (match st with | [.inl z] => rzA M.2.2.2.1 (some (.inl z)) ∧ nC h = nC (eH E) + eC E ∧ nS h = nS (eH E) + eS E ∧ eQ E (some (.inl z)) h | _ => False)
  | .lreturn => (match st with | [.inr (.inl z)] => rzA M.2.2.2.1 (some (.inr (.inl z))) ∧ nC h = nC (eH E) + eC E ∧ nS h = nS (eH E) + eS E ∧ eQ E (some (.inr (.inl z))) h | _ => False)
  | .areturn => (match st with | [.inr (.inr z)] => rzA M.2.2.2.1 (some (.inr (.inr z))) ∧ nC h = nC (eH E) + eC E ∧ nS h = nS (eH E) + eS E ∧ eQ E (some (.inr (.inr z))) h | _ => False)
  | .return_ => (match st with | [] => rzA M.2.2.2.1 (none) ∧ nC h = nC (eH E) + eC E ∧ nS h = nS (eH E) + eS E ∧ eQ E (none) h | _ => False)
  | .invokestatic idx => (if r.1 = 0 then r.2.2.1 ≤ st.length ∧ acats (restA r.2.2.1 st) ≤ 8 ∧ ClA E (r.2.2.2.2 0) (argsA r.2.2.1 st []) h (fun x h1 => ExA E (pc + 3) L (x.toList ++ restA r.2.2.1 st) h1) else match st with | .inl n :: .inl dp :: .inr (.inr a) :: .inl sp :: .inr (.inr a0) :: t => 1 ≤ eD E ∧ 0 ≤ a0 ∧ 0 ≤ a ∧ (hkd h a0.toNat).1 = 100 ∧ (hkd h a.toNat).1 = 100 ∧ 0 ≤ sp ∧ 0 ≤ dp ∧ 0 ≤ n ∧ sp + n ≤ (hkd h a0.toNat).2 ∧ dp + n ≤ (hkd h a.toNat).2 ∧ acats t ≤ 8 ∧ k (pc + 3) L t (hrw h a.toNat (cpyA (hdt h a0.toNat) (hdt h a.toNat) sp.toNat dp.toNat n.toNat)) | _ => False)
  | .invokespecial idx => (if r.1 = 7 then match st with | .inr (.inr z) :: t => 0 ≤ z ∧ 1 ≤ eD E ∧ acats t ≤ 8 ∧ k (pc + 3) L t h | _ => False else r.2.2.1 ≤ st.length ∧ acats (restA r.2.2.1 st) ≤ 8 ∧ (match argsA r.2.2.1 st [] with | .inr (.inr z) :: as => 0 ≤ z ∧ ClA E (r.2.2.2.2 0) (.inr (.inr z) :: as) h (fun x h1 => ExA E (pc + 3) L (x.toList ++ restA r.2.2.1 st) h1) | _ => False))
  | .invokevirtual idx => r.2.2.1 ≤ st.length ∧ acats (restA r.2.2.1 st) ≤ 8 ∧ (match argsA r.2.2.1 st [] with | .inr (.inr z) :: as => (if r.1 = 2 then 0 ≤ z ∧ (hkd h z.toNat).1 = r.2.1 ∧ ClA E (r.2.2.2.2 0) (.inr (.inr z) :: as) h (fun x h1 => ExA E (pc + 3) L (x.toList ++ restA r.2.2.1 st) h1) else if r.1 = 9 then ∃ i : Nat, i < stN ∧ z = -4 - 2 * (i : Int) ∧ ClA E (r.2.2.2.2 0) (.inr (.inr z) :: as) h (fun x h1 => ExA E (pc + 3) L (x.toList ++ restA r.2.2.1 st) h1) else 0 ≤ z ∧ r.2.1 ≤ (hkd h z.toNat).1 ∧ ((hkd h z.toNat).1 : Int) ≤ r.2.2.2.1 ∧ ClA E (r.2.2.2.2 (hkd h z.toNat).1) (.inr (.inr z) :: as) h (fun x h1 => ExA E (pc + 3) L (x.toList ++ restA r.2.2.1 st) h1)) | _ => False)
  | _ => False
/-- what is to be shown of an instruction once: its links -/
def RokA (M : MR) (r : Nat × Nat × Nat × Int × (Nat → MR)) (pc len : Nat) : Instr → Prop
  | .aconst_null => len = 1 ∧ True
  | .iconst i => len = 1 ∧ True
  | .bipush i => len = 2 ∧ (-128 ≤ i ∧ i < 128)
  | .sipush i => len = 3 ∧ (-32768 ≤ i ∧ i < 32768)
  | .lconst i => len = 1 ∧ True
  | .ldc idx => len = 2 ∧ ((r.2.1 = 0 ∧ Cond.constant M.1.cls idx (Int32.ofInt r.2.2.2.1) ∈ lw_all) ∨ (r.2.1 = 1 ∧ (M.1.cls, idx, r.1) ∈ stRf))
  | .ldc_w idx => len = 3 ∧ ((r.2.1 = 0 ∧ Cond.constant M.1.cls idx (Int32.ofInt r.2.2.2.1) ∈ lw_all) ∨ (r.2.1 = 1 ∧ (M.1.cls, idx, r.1) ∈ stRf))
  | .ldc2_w idx => len = 3 ∧ (Cond.constantLong M.1.cls idx (Int64.ofInt r.2.2.2.1) ∈ lw_all)
  | .iload i => len = 2 ∧ True
  | .iload_n i => len = 1 ∧ True
  | .lload i => len = 2 ∧ True
  | .lload_n i => len = 1 ∧ True
  | .aload i => len = 2 ∧ True
  | .aload_n i => len = 1 ∧ True
  | .istore i => len = 2 ∧ (i < M.2.2.1)
  | .istore_n i => len = 1 ∧ ((i : Nat) < M.2.2.1)
  | .lstore i => len = 2 ∧ (i + 1 < M.2.2.1)
  | .lstore_n i => len = 1 ∧ ((i : Nat) + 1 < M.2.2.1)
  | .astore i => len = 2 ∧ (i < M.2.2.1)
  | .astore_n i => len = 1 ∧ ((i : Nat) < M.2.2.1)
  | .iinc i d => len = 3 ∧ (i < M.2.2.1)
  | .iadd => len = 1 ∧ True
  | .isub => len = 1 ∧ True
  | .imul => len = 1 ∧ True
  | .iand => len = 1 ∧ True
  | .ior => len = 1 ∧ True
  | .ixor => len = 1 ∧ True
  | .ishl => len = 1 ∧ True
  | .ishr => len = 1 ∧ True
  | .iushr => len = 1 ∧ True
  | .ladd => len = 1 ∧ True
  | .lsub => len = 1 ∧ True
  | .lmul => len = 1 ∧ True
  | .land => len = 1 ∧ True
  | .lor => len = 1 ∧ True
  | .lshl => len = 1 ∧ True
  | .lshr => len = 1 ∧ True
  | .idiv => len = 1 ∧ True
  | .irem => len = 1 ∧ True
  | .ldiv => len = 1 ∧ True
  | .lrem => len = 1 ∧ True
  | .lcmp => len = 1 ∧ True
  | .i2l => len = 1 ∧ True
  | .l2i => len = 1 ∧ True
  | .i2b => len = 1 ∧ True
  | .i2c => len = 1 ∧ True
  | .i2s => len = 1 ∧ True
  | .dup => len = 1 ∧ True
  | .pop => len = 1 ∧ True
  | .pop2 => len = 1 ∧ True
  | .dup2 => len = 1 ∧ True
  | .if_icmp .lt off => len = 3 ∧ ((pc : Int) + off = (r.1 : Int))
  | .if_icmp .le off => len = 3 ∧ ((pc : Int) + off = (r.1 : Int))
  | .if_icmp .gt off => len = 3 ∧ ((pc : Int) + off = (r.1 : Int))
  | .if_icmp .ge off => len = 3 ∧ ((pc : Int) + off = (r.1 : Int))
  | .if_icmp .eq off => len = 3 ∧ ((pc : Int) + off = (r.1 : Int))
  | .if_icmp .ne off => len = 3 ∧ ((pc : Int) + off = (r.1 : Int))
  | .ifCond .lt off => len = 3 ∧ ((pc : Int) + off = (r.1 : Int))
  | .ifCond .le off => len = 3 ∧ ((pc : Int) + off = (r.1 : Int))
  | .ifCond .gt off => len = 3 ∧ ((pc : Int) + off = (r.1 : Int))
  | .ifCond .ge off => len = 3 ∧ ((pc : Int) + off = (r.1 : Int))
  | .ifCond .eq off => len = 3 ∧ ((pc : Int) + off = (r.1 : Int))
  | .ifCond .ne off => len = 3 ∧ ((pc : Int) + off = (r.1 : Int))
  | .goto off => len = 3 ∧ ((pc : Int) + off = (r.1 : Int))
  | .ifnull off => len = 3 ∧ ((pc : Int) + off = (r.1 : Int))
  | .ifnonnull off => len = 3 ∧ ((pc : Int) + off = (r.1 : Int))
  | .tableswitch d lo hi offs => True ∧ (0 ≤ (pc : Int) + d ∧ (∀ x ∈ offs.toList, 0 ≤ (pc : Int) + x) ∧ hi - lo < offs.toList.length)
  | .getfield idx => len = 3 ∧ ((∃ q, FokA M.1.cls idx (r.1 - 1) r.2.1 q ∧ tcOf (clTy (r.1 - 1) r.2.1) = r.2.2.1 ∧ r.1 < 100 ∧ r.1 ≠ 0) ∨ (r.1 = 200 ∧ Cond.fieldLink M.1.cls idx "java/lang/String" "value" "[B" ∈ lw_all) ∨ (r.1 = 201 ∧ Cond.fieldLink M.1.cls idx "java/lang/String" "coder" "B" ∈ lw_all))
  | .putfield idx => len = 3 ∧ (∃ q, FokA M.1.cls idx (r.1 - 1) r.2.1 q ∧ tcOf (clTy (r.1 - 1) r.2.1) = r.2.2.1 ∧ r.1 < 100 ∧ r.1 ≠ 0 ∧ ((q.2.1 r.2.1).2.2.2 = false ∨ ((q.2.1 r.2.1).2.2.2 = true ∧ M.1.name = "<init>" ∧ (q.2.1 r.2.1).1 = M.1.cls ∧ Cond.fieldLink M.1.cls idx (q.2.1 r.2.1).1 (q.2.1 r.2.1).2.1 (q.2.1 r.2.1).2.2.1 ∈ lw_all)))
  | .getstatic idx => len = 3 ∧ ((r.1 = 0 ∧ Cond.fieldLink M.1.cls idx "java/lang/String" "COMPACT_STRINGS" "Z" ∈ lw_all) ∨ (r.1 = 1 ∧ Cond.fieldLink M.1.cls idx "jdk/internal/util/Preconditions" "SIOOBE_FORMATTER" "Ljava/util/function/BiFunction;" ∈ lw_all))
  | .arraylength => len = 1 ∧ (True)
  | .iaload => len = 1 ∧ (True)
  | .laload => len = 1 ∧ True
  | .saload => len = 1 ∧ True
  | .baload => len = 1 ∧ (True)
  | .aaload => len = 1 ∧ True
  | .iastore => len = 1 ∧ True
  | .lastore => len = 1 ∧ True
  | .sastore => len = 1 ∧ True
  | .bastore => len = 1 ∧ (True)
  | .aastore => len = 1 ∧ True
  | .new idx => len = 3 ∧ (∃ q, clL[r.1 - 1]? = some q ∧ q.2.2 = r.2.1 ∧ r.1 < 100 ∧ r.1 ≠ 0 ∧ Cond.classLink M.1.cls idx q.1 ∈ lw_all ∧ ∀ j, j < r.2.1 → tcOf (clTy (r.1 - 1) j) ≠ 9)
  | .newarray t => len = 2 ∧ (kAt t ≠ 0)
  | .anewarray idx => len = 3 ∧ (∃ C, 110 ≤ r.1 ∧ r.1 ∈ kKs ∧ kTy r.1 = .object C ∧ Cond.classLink M.1.cls idx C ∈ lw_all ∧ Cond.arrayOver (.object C) ∈ lw_tbl)
  | .instanceof idx => len = 3 ∧ (100 ≤ r.1 ∧ r.1 ≤ 103 ∧ Cond.classLink M.1.cls idx (kNm r.1) ∈ lw_all)
  | .checkcast idx => len = 3 ∧ (100 ≤ r.1 ∧ r.1 ≤ 103 ∧ Cond.classLink M.1.cls idx (kNm r.1) ∈ lw_all)
  | .ireturn => len = 1 ∧ True
  | .lreturn => len = 1 ∧ True
  | .areturn => len = 1 ∧ True
  | .return_ => len = 1 ∧ True
  | .invokestatic idx => len = 3 ∧ ((r.1 = 0 ∧ MokA (r.2.2.2.2 0) true ∧ LokA M.1.cls idx (r.2.2.2.2 0).1 ∧ r.2.2.1 = (r.2.2.2.2 0).2.2.2.2) ∨ (r.1 = 8 ∧ Cond.methodLink M.1.cls idx arraycopyName ∈ lw_all))
  | .invokespecial idx => len = 3 ∧ ((r.1 = 7 ∧ Cond.methodLink M.1.cls idx objectInit ∈ lw_all) ∨ (r.1 = 4 ∧ MokA (r.2.2.2.2 0) false ∧ ((r.2.2.2.2 0).2.2.2.1 = none ∧ (r.2.2.2.2 0).1.name = "<init>") ∧ LokA M.1.cls idx (r.2.2.2.2 0).1 ∧ r.2.2.1 = (r.2.2.2.2 0).2.2.2.2))
  | .invokevirtual idx => len = 3 ∧ ((r.1 = 2 ∧ MokA (r.2.2.2.2 0) false ∧ LokA M.1.cls idx (r.2.2.2.2 0).1 ∧ Cond.selects (r.2.2.2.2 0).1.cls (r.2.2.2.2 0).1 (r.2.2.2.2 0).1 ∈ lw_all ∧ (∃ q, clL[r.2.1 - 1]? = some q ∧ q.1 = (r.2.2.2.2 0).1.cls ∧ r.2.1 < 100 ∧ r.2.1 ≠ 0) ∧ r.2.2.1 = (r.2.2.2.2 0).2.2.2.2) ∨ (r.1 = 9 ∧ MokA (r.2.2.2.2 0) false ∧ Cond.methodLink M.1.cls idx (r.2.2.2.2 0).1 ∈ lw_all ∧ Cond.selects (r.2.2.2.2 0).1.cls (r.2.2.2.2 0).1 (r.2.2.2.2 0).1 ∈ lw_all ∧ (r.2.2.2.2 0).1.cls = "java/lang/String" ∧ r.2.2.1 = (r.2.2.2.2 0).2.2.2.2) ∨ (r.1 = 6 ∧ ∃ x, ∀ kd, r.2.1 ≤ kd → (kd : Int) ≤ r.2.2.2.1 → MokA (r.2.2.2.2 kd) false ∧ (∃ q, clL[kd - 1]? = some q ∧ DokA M.1.cls idx x q.1 (r.2.2.2.2 kd) ∧ kd < 100 ∧ kd ≠ 0) ∧ r.2.2.1 = (r.2.2.2.2 kd).2.2.2.2))
  | _ => False
/-- an instruction of M's code at pc, resolved -/
def OpOK (M : MR) (pc : Nat) (op : Op) : Prop := decode M.2.1 pc = .ok (op.1, op.2.1) ∧ RokA M op.2.2 pc op.2.1 op.1
theorem q16i : Cond.instanceMethod objectInit ∈ lw_all := q183
theorem q17i : Cond.code objectInit ⟨#[0xb1]⟩ 1 none ∈ lw_all := q184
section
variable {E : EV} {pc : Nat} {L : AL} {st : List AV} {h : AH} {k : KA} {r : Nat × Nat × Nat × Int × (Nat → MR)} {len : Nat}
theorem dn_1  (hr : RokA (eM E) r pc len (.aconst_null)) (hd : decode (eM E).2.1 pc = .ok (.aconst_null, len)) (hk : ∀ pc L st h, k pc L st h → ExA E pc L st h) (hv : denA E (eM E) r k pc L st h (.aconst_null)) : ExA E pc L st h := by
  obtain ⟨rfl, hr⟩ := hr
  replace hv : k (pc + 1) L (.inr (.inr (-1)) :: st) h := hv
  exact s_aconst_null hd (hk _ _ _ _ hv)
theorem dn_2 {i : Int} (hr : RokA (eM E) r pc len (.iconst i)) (hd : decode (eM E).2.1 pc = .ok (.iconst i, len)) (hk : ∀ pc L st h, k pc L st h → ExA E pc L st h) (hv : denA E (eM E) r k pc L st h (.iconst i)) : ExA E pc L st h := by
  obtain ⟨rfl, hr⟩ := hr
  replace hv : k (pc + 1) L (.inl i :: st) h := hv
  exact s_iconst hd (hk _ _ _ _ hv)
theorem dn_3 {i : Int} (hr : RokA (eM E) r pc len (.bipush i)) (hd : decode (eM E).2.1 pc = .ok (.bipush i, len)) (hk : ∀ pc L st h, k pc L st h → ExA E pc L st h) (hv : denA E (eM E) r k pc L st h (.bipush i)) : ExA E pc L st h := by
  obtain ⟨rfl, hr⟩ := hr
  replace hv : k (pc + 2) L (.inl i :: st) h := hv
  exact s_bipush (w8_eq hr.1 hr.2) hd (hk _ _ _ _ hv)
theorem dn_4 {i : Int} (hr : RokA (eM E) r pc len (.sipush i)) (hd : decode (eM E).2.1 pc = .ok (.sipush i, len)) (hk : ∀ pc L st h, k pc L st h → ExA E pc L st h) (hv : denA E (eM E) r k pc L st h (.sipush i)) : ExA E pc L st h := by
  obtain ⟨rfl, hr⟩ := hr
  replace hv : k (pc + 3) L (.inl i :: st) h := hv
  exact s_sipush (w16_eq hr.1 hr.2) hd (hk _ _ _ _ hv)
theorem dn_5 {i : Fin 2} (hr : RokA (eM E) r pc len (.lconst i)) (hd : decode (eM E).2.1 pc = .ok (.lconst i, len)) (hk : ∀ pc L st h, k pc L st h → ExA E pc L st h) (hv : denA E (eM E) r k pc L st h (.lconst i)) : ExA E pc L st h := by
  obtain ⟨rfl, hr⟩ := hr
  replace hv : k (pc + 1) L (.inr (.inl ((i : Nat) : Int)) :: st) h := hv
  exact s_lconst hd (hk _ _ _ _ hv)
theorem dn_6 {idx : Nat} (hr : RokA (eM E) r pc len (.ldc idx)) (hd : decode (eM E).2.1 pc = .ok (.ldc idx, len)) (hk : ∀ pc L st h, k pc L st h → ExA E pc L st h) (hv : denA E (eM E) r k pc L st h (.ldc idx)) : ExA E pc L st h := by
  obtain ⟨rfl, hr⟩ := hr
  replace hv : (if r.2.1 = 0 then k (pc + 2) L (.inl r.2.2.2.1 :: st) h else k (pc + 2) L (.inr (.inr (-4 - 2 * (r.1 : Int))) :: st) h) := hv
  rcases hr with ⟨e, hr⟩ | ⟨e, hr⟩
  · rw [if_pos e] at hv
    exact s_ldc hr hd (hk _ _ _ _ hv)
  · rw [if_neg (by rw [e]; decide)] at hv
    exact s_ldcS hr hd (hk _ _ _ _ hv)
theorem dn_7 {idx : Nat} (hr : RokA (eM E) r pc len (.ldc_w idx)) (hd : decode (eM E).2.1 pc = .ok (.ldc_w idx, len)) (hk : ∀ pc L st h, k pc L st h → ExA E pc L st h) (hv : denA E (eM E) r k pc L st h (.ldc_w idx)) : ExA E pc L st h := by
  obtain ⟨rfl, hr⟩ := hr
  replace hv : (if r.2.1 = 0 then k (pc + 3) L (.inl r.2.2.2.1 :: st) h else k (pc + 3) L (.inr (.inr (-4 - 2 * (r.1 : Int))) :: st) h) := hv
  rcases hr with ⟨e, hr⟩ | ⟨e, hr⟩
  · rw [if_pos e] at hv
    exact s_ldc_w hr hd (hk _ _ _ _ hv)
  · rw [if_neg (by rw [e]; decide)] at hv
    exact s_ldcwS hr hd (hk _ _ _ _ hv)
theorem dn_8 {idx : Nat} (hr : RokA (eM E) r pc len (.ldc2_w idx)) (hd : decode (eM E).2.1 pc = .ok (.ldc2_w idx, len)) (hk : ∀ pc L st h, k pc L st h → ExA E pc L st h) (hv : denA E (eM E) r k pc L st h (.ldc2_w idx)) : ExA E pc L st h := by
  obtain ⟨rfl, hr⟩ := hr
  replace hv : k (pc + 3) L (.inr (.inl r.2.2.2.1) :: st) h := hv
  exact s_ldc2_w hr hd (hk _ _ _ _ hv)
theorem dn_9 {i : Nat} (hr : RokA (eM E) r pc len (.iload i)) (hd : decode (eM E).2.1 pc = .ok (.iload i, len)) (hk : ∀ pc L st h, k pc L st h → ExA E pc L st h) (hv : denA E (eM E) r k pc L st h (.iload i)) : ExA E pc L st h := by
  obtain ⟨rfl, hr⟩ := hr
  replace hv : (match (generalizing := false) lget L i with | some (.inl z) => k (pc + 2) L (.inl z :: st) h | _ => False) := hv
  split at hv
  next z e => exact s_iload e hd (hk _ _ _ _ hv)
  next => exact hv.elim
theorem dn_10 {i : Fin 4} (hr : RokA (eM E) r pc len (.iload_n i)) (hd : decode (eM E).2.1 pc = .ok (.iload_n i, len)) (hk : ∀ pc L st h, k pc L st h → ExA E pc L st h) (hv : denA E (eM E) r k pc L st h (.iload_n i)) : ExA E pc L st h := by
  obtain ⟨rfl, hr⟩ := hr
  replace hv : (match (generalizing := false) lget L (i : Nat) with | some (.inl z) => k (pc + 1) L (.inl z :: st) h | _ => False) := hv
  split at hv
  next z e => exact s_iload_n e hd (hk _ _ _ _ hv)
  next => exact hv.elim
theorem dn_11 {i : Nat} (hr : RokA (eM E) r pc len (.lload i)) (hd : decode (eM E).2.1 pc = .ok (.lload i, len)) (hk : ∀ pc L st h, k pc L st h → ExA E pc L st h) (hv : denA E (eM E) r k pc L st h (.lload i)) : ExA E pc L st h := by
  obtain ⟨rfl, hr⟩ := hr
  replace hv : (match (generalizing := false) lget L i with | some (.inr (.inl z)) => k (pc + 2) L (.inr (.inl z) :: st) h | _ => False) := hv
  split at hv
  next z e => exact s_lload e hd (hk _ _ _ _ hv)
  next => exact hv.elim
theorem dn_12 {i : Fin 4} (hr : RokA (eM E) r pc len (.lload_n i)) (hd : decode (eM E).2.1 pc = .ok (.lload_n i, len)) (hk : ∀ pc L st h, k pc L st h → ExA E pc L st h) (hv : denA E (eM E) r k pc L st h (.lload_n i)) : ExA E pc L st h := by
  obtain ⟨rfl, hr⟩ := hr
  replace hv : (match (generalizing := false) lget L (i : Nat) with | some (.inr (.inl z)) => k (pc + 1) L (.inr (.inl z) :: st) h | _ => False) := hv
  split at hv
  next z e => exact s_lload_n e hd (hk _ _ _ _ hv)
  next => exact hv.elim
theorem dn_13 {i : Nat} (hr : RokA (eM E) r pc len (.aload i)) (hd : decode (eM E).2.1 pc = .ok (.aload i, len)) (hk : ∀ pc L st h, k pc L st h → ExA E pc L st h) (hv : denA E (eM E) r k pc L st h (.aload i)) : ExA E pc L st h := by
  obtain ⟨rfl, hr⟩ := hr
  replace hv : (match (generalizing := false) lget L i with | some (.inr (.inr z)) => k (pc + 2) L (.inr (.inr z) :: st) h | _ => False) := hv
  split at hv
  next z e => exact s_aload e hd (hk _ _ _ _ hv)
  next => exact hv.elim
theorem dn_14 {i : Fin 4} (hr : RokA (eM E) r pc len (.aload_n i)) (hd : decode (eM E).2.1 pc = .ok (.aload_n i, len)) (hk : ∀ pc L st h, k pc L st h → ExA E pc L st h) (hv : denA E (eM E) r k pc L st h (.aload_n i)) : ExA E pc L st h := by
  obtain ⟨rfl, hr⟩ := hr
  replace hv : (match (generalizing := false) lget L (i : Nat) with | some (.inr (.inr z)) => k (pc + 1) L (.inr (.inr z) :: st) h | _ => False) := hv
  split at hv
  next z e => exact s_aload_n e hd (hk _ _ _ _ hv)
  next => exact hv.elim
theorem dn_15 {i : Nat} (hr : RokA (eM E) r pc len (.istore i)) (hd : decode (eM E).2.1 pc = .ok (.istore i, len)) (hk : ∀ pc L st h, k pc L st h → ExA E pc L st h) (hv : denA E (eM E) r k pc L st h (.istore i)) : ExA E pc L st h := by
  obtain ⟨rfl, hr⟩ := hr
  replace hv : (match (generalizing := false) st with | .inl z :: st => k (pc + 2) (lst1 L i (.inl z)) st h | _ => False) := hv
  split at hv
  next z st =>
    exact s_istore hr hd (hk _ _ _ _ hv)
  next => exact hv.elim
theorem dn_16 {i : Fin 4} (hr : RokA (eM E) r pc len (.istore_n i)) (hd : decode (eM E).2.1 pc = .ok (.istore_n i, len)) (hk : ∀ pc L st h, k pc L st h → ExA E pc L st h) (hv : denA E (eM E) r k pc L st h (.istore_n i)) : ExA E pc L st h := by
  obtain ⟨rfl, hr⟩ := hr
  replace hv : (match (generalizing := false) st with | .inl z :: st => k (pc + 1) (lst1 L (i : Nat) (.inl z)) st h | _ => False) := hv
  split at hv
  next z st =>
    exact s_istore_n hr hd (hk _ _ _ _ hv)
  next => exact hv.elim
theorem dn_17 {i : Nat} (hr : RokA (eM E) r pc len (.lstore i)) (hd : decode (eM E).2.1 pc = .ok (.lstore i, len)) (hk : ∀ pc L st h, k pc L st h → ExA E pc L st h) (hv : denA E (eM E) r k pc L st h (.lstore i)) : ExA E pc L st h := by
  obtain ⟨rfl, hr⟩ := hr
  replace hv : (match (generalizing := false) st with | .inr (.inl z) :: st => k (pc + 2) (lst2 L i (.inr (.inl z))) st h | _ => False) := hv
  split at hv
  next z st =>
    exact s_lstore hr hd (hk _ _ _ _ hv)
  next => exact hv.elim
theorem dn_18 {i : Fin 4} (hr : RokA (eM E) r pc len (.lstore_n i)) (hd : decode (eM E).2.1 pc = .ok (.lstore_n i, len)) (hk : ∀ pc L st h, k pc L st h → ExA E pc L st h) (hv : denA E (eM E) r k pc L st h (.lstore_n i)) : ExA E pc L st h := by
  obtain ⟨rfl, hr⟩ := hr
  replace hv : (match (generalizing := false) st with | .inr (.inl z) :: st => k (pc + 1) (lst2 L (i : Nat) (.inr (.inl z))) st h | _ => False) := hv
  split at hv
  next z st =>
    exact s_lstore_n hr hd (hk _ _ _ _ hv)
  next => exact hv.elim
theorem dn_19 {i : Nat} (hr : RokA (eM E) r pc len (.astore i)) (hd : decode (eM E).2.1 pc = .ok (.astore i, len)) (hk : ∀ pc L st h, k pc L st h → ExA E pc L st h) (hv : denA E (eM E) r k pc L st h (.astore i)) : ExA E pc L st h := by
  obtain ⟨rfl, hr⟩ := hr
  replace hv : (match (generalizing := false) st with | .inr (.inr z) :: st => k (pc + 2) (lst1 L i (.inr (.inr z))) st h | _ => False) := hv
  split at hv
  next z st =>
    exact s_astore hr hd (hk _ _ _ _ hv)
  next => exact hv.elim
theorem dn_20 {i : Fin 4} (hr : RokA (eM E) r pc len (.astore_n i)) (hd : decode (eM E).2.1 pc = .ok (.astore_n i, len)) (hk : ∀ pc L st h, k pc L st h → ExA E pc L st h) (hv : denA E (eM E) r k pc L st h (.astore_n i)) : ExA E pc L st h := by
  obtain ⟨rfl, hr⟩ := hr
  replace hv : (match (generalizing := false) st with | .inr (.inr z) :: st => k (pc + 1) (lst1 L (i : Nat) (.inr (.inr z))) st h | _ => False) := hv
  split at hv
  next z st =>
    exact s_astore_n hr hd (hk _ _ _ _ hv)
  next => exact hv.elim
theorem dn_21 {i : Nat} {d : Int} (hr : RokA (eM E) r pc len (.iinc i d)) (hd : decode (eM E).2.1 pc = .ok (.iinc i d, len)) (hk : ∀ pc L st h, k pc L st h → ExA E pc L st h) (hv : denA E (eM E) r k pc L st h (.iinc i d)) : ExA E pc L st h := by
  obtain ⟨rfl, hr⟩ := hr
  replace hv : (match (generalizing := false) lget L i with | some (.inl z) => k (pc + 3) (lst1 L i (.inl (z + d))) st h | _ => False) := hv
  split at hv
  next z e => exact s_iinc hr e hd (hk _ _ _ _ hv)
  next => exact hv.elim
theorem dn_22  (hr : RokA (eM E) r pc len (.iadd)) (hd : decode (eM E).2.1 pc = .ok (.iadd, len)) (hk : ∀ pc L st h, k pc L st h → ExA E pc L st h) (hv : denA E (eM E) r k pc L st h (.iadd)) : ExA E pc L st h := by
  obtain ⟨rfl, hr⟩ := hr
  replace hv : (match (generalizing := false) st with | .inl b :: .inl a :: st => k (pc + 1) L (.inl (a + b) :: st) h | _ => False) := hv
  split at hv
  next b a st =>
    exact s_iadd hd (hk _ _ _ _ hv)
  next => exact hv.elim
theorem dn_23  (hr : RokA (eM E) r pc len (.isub)) (hd : decode (eM E).2.1 pc = .ok (.isub, len)) (hk : ∀ pc L st h, k pc L st h → ExA E pc L st h) (hv : denA E (eM E) r k pc L st h (.isub)) : ExA E pc L st h := by
  obtain ⟨rfl, hr⟩ := hr
  replace hv : (match (generalizing := false) st with | .inl b :: .inl a :: st => k (pc + 1) L (.inl (a - b) :: st) h | _ => False) := hv
  split at hv
  next b a st =>
    exact s_isub hd (hk _ _ _ _ hv)
  next => exact hv.elim
theorem dn_24  (hr : RokA (eM E) r pc len (.imul)) (hd : decode (eM E).2.1 pc = .ok (.imul, len)) (hk : ∀ pc L st h, k pc L st h → ExA E pc L st h) (hv : denA E (eM E) r k pc L st h (.imul)) : ExA E pc L st h := by
  obtain ⟨rfl, hr⟩ := hr
  replace hv : (match (generalizing := false) st with | .inl b :: .inl a :: st => k (pc + 1) L (.inl (a * b) :: st) h | _ => False) := hv
  split at hv
  next b a st =>
    exact s_imul hd (hk _ _ _ _ hv)
  next => exact hv.elim
theorem dn_25  (hr : RokA (eM E) r pc len (.iand)) (hd : decode (eM E).2.1 pc = .ok (.iand, len)) (hk : ∀ pc L st h, k pc L st h → ExA E pc L st h) (hv : denA E (eM E) r k pc L st h (.iand)) : ExA E pc L st h := by
  obtain ⟨rfl, hr⟩ := hr
  replace hv : (match (generalizing := false) st with | .inl b :: .inl a :: st => k (pc + 1) L (.inl (zand a b) :: st) h | _ => False) := hv
  split at hv
  next b a st =>
    exact s_iand hd (hk _ _ _ _ hv)
  next => exact hv.elim
theorem dn_26  (hr : RokA (eM E) r pc len (.ior)) (hd : decode (eM E).2.1 pc = .ok (.ior, len)) (hk : ∀ pc L st h, k pc L st h → ExA E pc L st h) (hv : denA E (eM E) r k pc L st h (.ior)) : ExA E pc L st h := by
  obtain ⟨rfl, hr⟩ := hr
  replace hv : (match (generalizing := false) st with | .inl b :: .inl a :: st => k (pc + 1) L (.inl (zor a b) :: st) h | _ => False) := hv
  split at hv
  next b a st =>
    exact s_ior hd (hk _ _ _ _ hv)
  next => exact hv.elim
theorem dn_27  (hr : RokA (eM E) r pc len (.ixor)) (hd : decode (eM E).2.1 pc = .ok (.ixor, len)) (hk : ∀ pc L st h, k pc L st h → ExA E pc L st h) (hv : denA E (eM E) r k pc L st h (.ixor)) : ExA E pc L st h := by
  obtain ⟨rfl, hr⟩ := hr
  replace hv : (match (generalizing := false) st with | .inl b :: .inl a :: st => k (pc + 1) L (.inl (zxor a b) :: st) h | _ => False) := hv
  split at hv
  next b a st =>
    exact s_ixor hd (hk _ _ _ _ hv)
  next => exact hv.elim
theorem dn_28  (hr : RokA (eM E) r pc len (.ishl)) (hd : decode (eM E).2.1 pc = .ok (.ishl, len)) (hk : ∀ pc L st h, k pc L st h → ExA E pc L st h) (hv : denA E (eM E) r k pc L st h (.ishl)) : ExA E pc L st h := by
  obtain ⟨rfl, hr⟩ := hr
  replace hv : (match (generalizing := false) st with | .inl b :: .inl a :: st => k (pc + 1) L (.inl (zshl a b) :: st) h | _ => False) := hv
  split at hv
  next b a st =>
    exact s_ishl hd (hk _ _ _ _ hv)
  next => exact hv.elim
theorem dn_29  (hr : RokA (eM E) r pc len (.ishr)) (hd : decode (eM E).2.1 pc = .ok (.ishr, len)) (hk : ∀ pc L st h, k pc L st h → ExA E pc L st h) (hv : denA E (eM E) r k pc L st h (.ishr)) : ExA E pc L st h := by
  obtain ⟨rfl, hr⟩ := hr
  replace hv : (match (generalizing := false) st with | .inl b :: .inl a :: st => k (pc + 1) L (.inl (zshr a b) :: st) h | _ => False) := hv
  split at hv
  next b a st =>
    exact s_ishr hd (hk _ _ _ _ hv)
  next => exact hv.elim
theorem dn_30  (hr : RokA (eM E) r pc len (.iushr)) (hd : decode (eM E).2.1 pc = .ok (.iushr, len)) (hk : ∀ pc L st h, k pc L st h → ExA E pc L st h) (hv : denA E (eM E) r k pc L st h (.iushr)) : ExA E pc L st h := by
  obtain ⟨rfl, hr⟩ := hr
  replace hv : (match (generalizing := false) st with | .inl b :: .inl a :: st => k (pc + 1) L (.inl (zushr a b) :: st) h | _ => False) := hv
  split at hv
  next b a st =>
    exact s_iushr hd (hk _ _ _ _ hv)
  next => exact hv.elim
theorem dn_31  (hr : RokA (eM E) r pc len (.ladd)) (hd : decode (eM E).2.1 pc = .ok (.ladd, len)) (hk : ∀ pc L st h, k pc L st h → ExA E pc L st h) (hv : denA E (eM E) r k pc L st h (.ladd)) : ExA E pc L st h := by
  obtain ⟨rfl, hr⟩ := hr
  replace hv : (match (generalizing := false) st with | .inr (.inl b) :: .inr (.inl a) :: st => k (pc + 1) L (.inr (.inl (a + b)) :: st) h | _ => False) := hv
  split at hv
  next b a st =>
    exact s_ladd hd (hk _ _ _ _ hv)
  next => exact hv.elim
theorem dn_32  (hr : RokA (eM E) r pc len (.lsub)) (hd : decode (eM E).2.1 pc = .ok (.lsub, len)) (hk : ∀ pc L st h, k pc L st h → ExA E pc L st h) (hv : denA E (eM E) r k pc L st h (.lsub)) : ExA E pc L st h := by
  obtain ⟨rfl, hr⟩ := hr
  replace hv : (match (generalizing := false) st with | .inr (.inl b) :: .inr (.inl a) :: st => k (pc + 1) L (.inr (.inl (a - b)) :: st) h | _ => False) := hv
  split at hv
  next b a st =>
    exact s_lsub hd (hk _ _ _ _ hv)
  next => exact hv.elim
theorem dn_33  (hr : RokA (eM E) r pc len (.lmul)) (hd : decode (eM E).2.1 pc = .ok (.lmul, len)) (hk : ∀ pc L st h, k pc L st h → ExA E pc L st h) (hv : denA E (eM E) r k pc L st h (.lmul)) : ExA E pc L st h := by
  obtain ⟨rfl, hr⟩ := hr
  replace hv : (match (generalizing := false) st with | .inr (.inl b) :: .inr (.inl a) :: st => k (pc + 1) L (.inr (.inl (a * b)) :: st) h | _ => False) := hv
  split at hv
  next b a st =>
    exact s_lmul hd (hk _ _ _ _ hv)
  next => exact hv.elim
theorem dn_34  (hr : RokA (eM E) r pc len (.land)) (hd : decode (eM E).2.1 pc = .ok (.land, len)) (hk : ∀ pc L st h, k pc L st h → ExA E pc L st h) (hv : denA E (eM E) r k pc L st h (.land)) : ExA E pc L st h := by
  obtain ⟨rfl, hr⟩ := hr
  replace hv : (match (generalizing := false) st with | .inr (.inl b) :: .inr (.inl a) :: st => k (pc + 1) L (.inr (.inl (yand a b)) :: st) h | _ => False) := hv
  split at hv
  next b a st =>
    exact s_land hd (hk _ _ _ _ hv)
  next => exact hv.elim
theorem dn_35  (hr : RokA (eM E) r pc len (.lor)) (hd : decode (eM E).2.1 pc = .ok (.lor, len)) (hk : ∀ pc L st h, k pc L st h → ExA E pc L st h) (hv : denA E (eM E) r k pc L st h (.lor)) : ExA E pc L st h := by
  obtain ⟨rfl, hr⟩ := hr
  replace hv : (match (generalizing := false) st with | .inr (.inl b) :: .inr (.inl a) :: st => k (pc + 1) L (.inr (.inl (yor a b)) :: st) h | _ => False) := hv
  split at hv
  next b a st =>
    exact s_lor hd (hk _ _ _ _ hv)
  next => exact hv.elim
theorem dn_36  (hr : RokA (eM E) r pc len (.lshl)) (hd : decode (eM E).2.1 pc = .ok (.lshl, len)) (hk : ∀ pc L st h, k pc L st h → ExA E pc L st h) (hv : denA E (eM E) r k pc L st h (.lshl)) : ExA E pc L st h := by
  obtain ⟨rfl, hr⟩ := hr
  replace hv : (match (generalizing := false) st with | .inl b :: .inr (.inl a) :: st => k (pc + 1) L (.inr (.inl (yshl a b)) :: st) h | _ => False) := hv
  split at hv
  next b a st =>
    exact s_lshl hd (hk _ _ _ _ hv)
  next => exact hv.elim
theorem dn_37  (hr : RokA (eM E) r pc len (.lshr)) (hd : decode (eM E).2.1 pc = .ok (.lshr, len)) (hk : ∀ pc L st h, k pc L st h → ExA E pc L st h) (hv : denA E (eM E) r k pc L st h (.lshr)) : ExA E pc L st h := by
  obtain ⟨rfl, hr⟩ := hr
  replace hv : (match (generalizing := false) st with | .inl b :: .inr (.inl a) :: st => k (pc + 1) L (.inr (.inl (yshr a b)) :: st) h | _ => False) := hv
  split at hv
  next b a st =>
    exact s_lshr hd (hk _ _ _ _ hv)
  next => exact hv.elim
theorem dn_38  (hr : RokA (eM E) r pc len (.idiv)) (hd : decode (eM E).2.1 pc = .ok (.idiv, len)) (hk : ∀ pc L st h, k pc L st h → ExA E pc L st h) (hv : denA E (eM E) r k pc L st h (.idiv)) : ExA E pc L st h := by
  obtain ⟨rfl, hr⟩ := hr
  replace hv : (match (generalizing := false) st with | .inl b :: .inl a :: st => w32 b ≠ 0 ∧ k (pc + 1) L (.inl ((w32 a).tdiv (w32 b)) :: st) h | _ => False) := hv
  split at hv
  next b a st =>
    exact s_idiv hv.1 hd (hk _ _ _ _ hv.2)
  next => exact hv.elim
theorem dn_39  (hr : RokA (eM E) r pc len (.irem)) (hd : decode (eM E).2.1 pc = .ok (.irem, len)) (hk : ∀ pc L st h, k pc L st h → ExA E pc L st h) (hv : denA E (eM E) r k pc L st h (.irem)) : ExA E pc L st h := by
  obtain ⟨rfl, hr⟩ := hr
  replace hv : (match (generalizing := false) st with | .inl b :: .inl a :: st => w32 b ≠ 0 ∧ k (pc + 1) L (.inl ((w32 a).tmod (w32 b)) :: st) h | _ => False) := hv
  split at hv
  next b a st =>
    exact s_irem hv.1 hd (hk _ _ _ _ hv.2)
  next => exact hv.elim
theorem dn_40  (hr : RokA (eM E) r pc len (.ldiv)) (hd : decode (eM E).2.1 pc = .ok (.ldiv, len)) (hk : ∀ pc L st h, k pc L st h → ExA E pc L st h) (hv : denA E (eM E) r k pc L st h (.ldiv)) : ExA E pc L st h := by
  obtain ⟨rfl, hr⟩ := hr
  replace hv : (match (generalizing := false) st with | .inr (.inl b) :: .inr (.inl a) :: st => w64 b ≠ 0 ∧ k (pc + 1) L (.inr (.inl ((w64 a).tdiv (w64 b))) :: st) h | _ => False) := hv
  split at hv
  next b a st =>
    exact s_ldiv hv.1 hd (hk _ _ _ _ hv.2)
  next => exact hv.elim
theorem dn_41  (hr : RokA (eM E) r pc len (.lrem)) (hd : decode (eM E).2.1 pc = .ok (.lrem, len)) (hk : ∀ pc L st h, k pc L st h → ExA E pc L st h) (hv : denA E (eM E) r k pc L st h (.lrem)) : ExA E pc L st h := by
  obtain ⟨rfl, hr⟩ := hr
  replace hv : (match (generalizing := false) st with | .inr (.inl b) :: .inr (.inl a) :: st => w64 b ≠ 0 ∧ k (pc + 1) L (.inr (.inl ((w64 a).tmod (w64 b))) :: st) h | _ => False) := hv
  split at hv
  next b a st =>
    exact s_lrem hv.1 hd (hk _ _ _ _ hv.2)
  next => exact hv.elim
theorem dn_42  (hr : RokA (eM E) r pc len (.lcmp)) (hd : decode (eM E).2.1 pc = .ok (.lcmp, len)) (hk : ∀ pc L st h, k pc L st h → ExA E pc L st h) (hv : denA E (eM E) r k pc L st h (.lcmp)) : ExA E pc L st h := by
  obtain ⟨rfl, hr⟩ := hr
  replace hv : (match (generalizing := false) st with | .inr (.inl b) :: .inr (.inl a) :: st => k (pc + 1) L (.inl (ycmp a b) :: st) h | _ => False) := hv
  split at hv
  next b a st =>
    exact s_lcmp hd (hk _ _ _ _ hv)
  next => exact hv.elim
theorem dn_43  (hr : RokA (eM E) r pc len (.i2l)) (hd : decode (eM E).2.1 pc = .ok (.i2l, len)) (hk : ∀ pc L st h, k pc L st h → ExA E pc L st h) (hv : denA E (eM E) r k pc L st h (.i2l)) : ExA E pc L st h := by
  obtain ⟨rfl, hr⟩ := hr
  replace hv : (match (generalizing := false) st with | .inl a :: st => k (pc + 1) L (.inr (.inl (w32 a)) :: st) h | _ => False) := hv
  split at hv
  next a st =>
    exact s_i2l hd (hk _ _ _ _ hv)
  next => exact hv.elim
theorem dn_44  (hr : RokA (eM E) r pc len (.l2i)) (hd : decode (eM E).2.1 pc = .ok (.l2i, len)) (hk : ∀ pc L st h, k pc L st h → ExA E pc L st h) (hv : denA E (eM E) r k pc L st h (.l2i)) : ExA E pc L st h := by
  obtain ⟨rfl, hr⟩ := hr
  replace hv : (match (generalizing := false) st with | .inr (.inl a) :: st => k (pc + 1) L (.inl a :: st) h | _ => False) := hv
  split at hv
  next a st =>
    exact s_l2i hd (hk _ _ _ _ hv)
  next => exact hv.elim
theorem dn_45  (hr : RokA (eM E) r pc len (.i2b)) (hd : decode (eM E).2.1 pc = .ok (.i2b, len)) (hk : ∀ pc L st h, k pc L st h → ExA E pc L st h) (hv : denA E (eM E) r k pc L st h (.i2b)) : ExA E pc L st h := by
  obtain ⟨rfl, hr⟩ := hr
  replace hv : (match (generalizing := false) st with | .inl a :: st => k (pc + 1) L (.inl (w8 a) :: st) h | _ => False) := hv
  split at hv
  next a st =>
    exact s_i2b hd (hk _ _ _ _ hv)
  next => exact hv.elim
theorem dn_46  (hr : RokA (eM E) r pc len (.i2c)) (hd : decode (eM E).2.1 pc = .ok (.i2c, len)) (hk : ∀ pc L st h, k pc L st h → ExA E pc L st h) (hv : denA E (eM E) r k pc L st h (.i2c)) : ExA E pc L st h := by
  obtain ⟨rfl, hr⟩ := hr
  replace hv : (match (generalizing := false) st with | .inl a :: st => k (pc + 1) L (.inl (a % 65536) :: st) h | _ => False) := hv
  split at hv
  next a st =>
    exact s_i2c hd (hk _ _ _ _ hv)
  next => exact hv.elim
theorem dn_47  (hr : RokA (eM E) r pc len (.i2s)) (hd : decode (eM E).2.1 pc = .ok (.i2s, len)) (hk : ∀ pc L st h, k pc L st h → ExA E pc L st h) (hv : denA E (eM E) r k pc L st h (.i2s)) : ExA E pc L st h := by
  obtain ⟨rfl, hr⟩ := hr
  replace hv : (match (generalizing := false) st with | .inl a :: st => k (pc + 1) L (.inl (w16 a) :: st) h | _ => False) := hv
  split at hv
  next a st =>
    exact s_i2s hd (hk _ _ _ _ hv)
  next => exact hv.elim
theorem dn_48  (hr : RokA (eM E) r pc len (.dup)) (hd : decode (eM E).2.1 pc = .ok (.dup, len)) (hk : ∀ pc L st h, k pc L st h → ExA E pc L st h) (hv : denA E (eM E) r k pc L st h (.dup)) : ExA E pc L st h := by
  obtain ⟨rfl, hr⟩ := hr
  replace hv : (match (generalizing := false) st with | v :: st => acat v = 1 ∧ k (pc + 1) L (v :: v :: st) h | _ => False) := hv
  split at hv
  next v st =>
    exact s_dup hv.1 hd (hk _ _ _ _ hv.2)
  next => exact hv.elim
theorem dn_49  (hr : RokA (eM E) r pc len (.pop)) (hd : decode (eM E).2.1 pc = .ok (.pop, len)) (hk : ∀ pc L st h, k pc L st h → ExA E pc L st h) (hv : denA E (eM E) r k pc L st h (.pop)) : ExA E pc L st h := by
  obtain ⟨rfl, hr⟩ := hr
  replace hv : (match (generalizing := false) st with | v :: st => acat v = 1 ∧ k (pc + 1) L (st) h | _ => False) := hv
  split at hv
  next v st =>
    exact s_pop hv.1 hd (hk _ _ _ _ hv.2)
  next => exact hv.elim
theorem dn_50  (hr : RokA (eM E) r pc len (.pop2)) (hd : decode (eM E).2.1 pc = .ok (.pop2, len)) (hk : ∀ pc L st h, k pc L st h → ExA E pc L st h) (hv : denA E (eM E) r k pc L st h (.pop2)) : ExA E pc L st h := by
  obtain ⟨rfl, hr⟩ := hr
  replace hv : (match (generalizing := false) st with | v :: st => acat v = 2 ∧ k (pc + 1) L (st) h | _ => False) := hv
  split at hv
  next v st =>
    exact s_pop2 hv.1 hd (hk _ _ _ _ hv.2)
  next => exact hv.elim
theorem dn_51  (hr : RokA (eM E) r pc len (.dup2)) (hd : decode (eM E).2.1 pc = .ok (.dup2, len)) (hk : ∀ pc L st h, k pc L st h → ExA E pc L st h) (hv : denA E (eM E) r k pc L st h (.dup2)) : ExA E pc L st h := by
  obtain ⟨rfl, hr⟩ := hr
  replace hv : (match (generalizing := false) st with | .inr (.inl z) :: st => k (pc + 1) L (.inr (.inl z) :: .inr (.inl z) :: st) h | v :: u :: st => (acat v = 1 ∧ acat u = 1) ∧ k (pc + 1) L (v :: u :: v :: u :: st) h | _ => False) := hv
  split at hv
  next z st =>
    exact s_dup2_2 rfl hd (hk _ _ _ _ hv)
  next v u st =>
    exact s_dup2_11 hv.1.1 hv.1.2 hd (hk _ _ _ _ hv.2)
  next => exact hv.elim
theorem dn_52 {off : Int} (hr : RokA (eM E) r pc len (.if_icmp .lt off)) (hd : decode (eM E).2.1 pc = .ok (.if_icmp .lt off, len)) (hk : ∀ pc L st h, k pc L st h → ExA E pc L st h) (hv : denA E (eM E) r k pc L st h (.if_icmp .lt off)) : ExA E pc L st h := by
  obtain ⟨rfl, hr⟩ := hr
  replace hv : (match (generalizing := false) st with | .inl b :: .inl a :: st => (w32 a < w32 b → k r.1 L st h) ∧ (¬ (w32 a < w32 b) → k (pc + 3) L st h) | _ => False) := hv
  split at hv
  next b a st =>
    exact s_icmp_lt hd hr (fun q => hk _ _ _ _ (hv.1 q)) (fun q => hk _ _ _ _ (hv.2 q))
  next => exact hv.elim
theorem dn_53 {off : Int} (hr : RokA (eM E) r pc len (.if_icmp .le off)) (hd : decode (eM E).2.1 pc = .ok (.if_icmp .le off, len)) (hk : ∀ pc L st h, k pc L st h → ExA E pc L st h) (hv : denA E (eM E) r k pc L st h (.if_icmp .le off)) : ExA E pc L st h := by
  obtain ⟨rfl, hr⟩ := hr
  replace hv : (match (generalizing := false) st with | .inl b :: .inl a :: st => (w32 a ≤ w32 b → k r.1 L st h) ∧ (¬ (w32 a ≤ w32 b) → k (pc + 3) L st h) | _ => False) := hv
  split at hv
  next b a st =>
    exact s_icmp_le hd hr (fun q => hk _ _ _ _ (hv.1 q)) (fun q => hk _ _ _ _ (hv.2 q))
  next => exact hv.elim
theorem dn_54 {off : Int} (hr : RokA (eM E) r pc len (.if_icmp .gt off)) (hd : decode (eM E).2.1 pc = .ok (.if_icmp .gt off, len)) (hk : ∀ pc L st h, k pc L st h → ExA E pc L st h) (hv : denA E (eM E) r k pc L st h (.if_icmp .gt off)) : ExA E pc L st h := by
  obtain ⟨rfl, hr⟩ := hr
  replace hv : (match (generalizing := false) st with | .inl b :: .inl a :: st => (w32 b < w32 a → k r.1 L st h) ∧ (¬ (w32 b < w32 a) → k (pc + 3) L st h) | _ => False) := hv
  split at hv
  next b a st =>
    exact s_icmp_gt hd hr (fun q => hk _ _ _ _ (hv.1 q)) (fun q => hk _ _ _ _ (hv.2 q))
  next => exact hv.elim
theorem dn_55 {off : Int} (hr : RokA (eM E) r pc len (.if_icmp .ge off)) (hd : decode (eM E).2.1 pc = .ok (.if_icmp .ge off, len)) (hk : ∀ pc L st h, k pc L st h → ExA E pc L st h) (hv : denA E (eM E) r k pc L st h (.if_icmp .ge off)) : ExA E pc L st h := by
  obtain ⟨rfl, hr⟩ := hr
  replace hv : (match (generalizing := false) st with | .inl b :: .inl a :: st => (w32 b ≤ w32 a → k r.1 L st h) ∧ (¬ (w32 b ≤ w32 a) → k (pc + 3) L st h) | _ => False) := hv
  split at hv
  next b a st =>
    exact s_icmp_ge hd hr (fun q => hk _ _ _ _ (hv.1 q)) (fun q => hk _ _ _ _ (hv.2 q))
  next => exact hv.elim
theorem dn_56 {off : Int} (hr : RokA (eM E) r pc len (.if_icmp .eq off)) (hd : decode (eM E).2.1 pc = .ok (.if_icmp .eq off, len)) (hk : ∀ pc L st h, k pc L st h → ExA E pc L st h) (hv : denA E (eM E) r k pc L st h (.if_icmp .eq off)) : ExA E pc L st h := by
  obtain ⟨rfl, hr⟩ := hr
  replace hv : (match (generalizing := false) st with | .inl b :: .inl a :: st => (w32 a = w32 b → k r.1 L st h) ∧ (¬ (w32 a = w32 b) → k (pc + 3) L st h) | _ => False) := hv
  split at hv
  next b a st =>
    exact s_icmp_eq hd hr (fun q => hk _ _ _ _ (hv.1 q)) (fun q => hk _ _ _ _ (hv.2 q))
  next => exact hv.elim
theorem dn_57 {off : Int} (hr : RokA (eM E) r pc len (.if_icmp .ne off)) (hd : decode (eM E).2.1 pc = .ok (.if_icmp .ne off, len)) (hk : ∀ pc L st h, k pc L st h → ExA E pc L st h) (hv : denA E (eM E) r k pc L st h (.if_icmp .ne off)) : ExA E pc L st h := by
  obtain ⟨rfl, hr⟩ := hr
  replace hv : (match (generalizing := false) st with | .inl b :: .inl a :: st => (¬ w32 a = w32 b → k r.1 L st h) ∧ (w32 a = w32 b → k (pc + 3) L st h) | _ => False) := hv
  split at hv
  next b a st =>
    exact s_icmp_ne hd hr (fun q => hk _ _ _ _ (hv.1 q)) (fun q => hk _ _ _ _ (hv.2 q))
  next => exact hv.elim
theorem dn_58 {off : Int} (hr : RokA (eM E) r pc len (.ifCond .lt off)) (hd : decode (eM E).2.1 pc = .ok (.ifCond .lt off, len)) (hk : ∀ pc L st h, k pc L st h → ExA E pc L st h) (hv : denA E (eM E) r k pc L st h (.ifCond .lt off)) : ExA E pc L st h := by
  obtain ⟨rfl, hr⟩ := hr
  replace hv : (match (generalizing := false) st with | .inl a :: st => (w32 a < 0 → k r.1 L st h) ∧ (¬ (w32 a < 0) → k (pc + 3) L st h) | _ => False) := hv
  split at hv
  next a st =>
    exact s_if_lt hd hr (fun q => hk _ _ _ _ (hv.1 q)) (fun q => hk _ _ _ _ (hv.2 q))
  next => exact hv.elim
theorem dn_59 {off : Int} (hr : RokA (eM E) r pc len (.ifCond .le off)) (hd : decode (eM E).2.1 pc = .ok (.ifCond .le off, len)) (hk : ∀ pc L st h, k pc L st h → ExA E pc L st h) (hv : denA E (eM E) r k pc L st h (.ifCond .le off)) : ExA E pc L st h := by
  obtain ⟨rfl, hr⟩ := hr
  replace hv : (match (generalizing := false) st with | .inl a :: st => (w32 a ≤ 0 → k r.1 L st h) ∧ (¬ (w32 a ≤ 0) → k (pc + 3) L st h) | _ => False) := hv
  split at hv
  next a st =>
    exact s_if_le hd hr (fun q => hk _ _ _ _ (hv.1 q)) (fun q => hk _ _ _ _ (hv.2 q))
  next => exact hv.elim
theorem dn_60 {off : Int} (hr : RokA (eM E) r pc len (.ifCond .gt off)) (hd : decode (eM E).2.1 pc = .ok (.ifCond .gt off, len)) (hk : ∀ pc L st h, k pc L st h → ExA E pc L st h) (hv : denA E (eM E) r k pc L st h (.ifCond .gt off)) : ExA E pc L st h := by
  obtain ⟨rfl, hr⟩ := hr
  replace hv : (match (generalizing := false) st with | .inl a :: st => (0 < w32 a → k r.1 L st h) ∧ (¬ (0 < w32 a) → k (pc + 3) L st h) | _ => False) := hv
  split at hv
  next a st =>
    exact s_if_gt hd hr (fun q => hk _ _ _ _ (hv.1 q)) (fun q => hk _ _ _ _ (hv.2 q))
  next => exact hv.elim
theorem dn_61 {off : Int} (hr : RokA (eM E) r pc len (.ifCond .ge off)) (hd : decode (eM E).2.1 pc = .ok (.ifCond .ge off, len)) (hk : ∀ pc L st h, k pc L st h → ExA E pc L st h) (hv : denA E (eM E) r k pc L st h (.ifCond .ge off)) : ExA E pc L st h := by
  obtain ⟨rfl, hr⟩ := hr
  replace hv : (match (generalizing := false) st with | .inl a :: st => (0 ≤ w32 a → k r.1 L st h) ∧ (¬ (0 ≤ w32 a) → k (pc + 3) L st h) | _ => False) := hv
  split at hv
  next a st =>
    exact s_if_ge hd hr (fun q => hk _ _ _ _ (hv.1 q)) (fun q => hk _ _ _ _ (hv.2 q))
  next => exact hv.elim
theorem dn_62 {off : Int} (hr : RokA (eM E) r pc len (.ifCond .eq off)) (hd : decode (eM E).2.1 pc = .ok (.ifCond .eq off, len)) (hk : ∀ pc L st h, k pc L st h → ExA E pc L st h) (hv : denA E (eM E) r k pc L st h (.ifCond .eq off)) : ExA E pc L st h := by
  obtain ⟨rfl, hr⟩ := hr
  replace hv : (match (generalizing := false) st with | .inl a :: st => (w32 a = 0 → k r.1 L st h) ∧ (¬ (w32 a = 0) → k (pc + 3) L st h) | _ => False) := hv
  split at hv
  next a st =>
    exact s_if_eq hd hr (fun q => hk _ _ _ _ (hv.1 q)) (fun q => hk _ _ _ _ (hv.2 q))
  next => exact hv.elim
theorem dn_63 {off : Int} (hr : RokA (eM E) r pc len (.ifCond .ne off)) (hd : decode (eM E).2.1 pc = .ok (.ifCond .ne off, len)) (hk : ∀ pc L st h, k pc L st h → ExA E pc L st h) (hv : denA E (eM E) r k pc L st h (.ifCond .ne off)) : ExA E pc L st h := by
  obtain ⟨rfl, hr⟩ := hr
  replace hv : (match (generalizing := false) st with | .inl a :: st => (¬ w32 a = 0 → k r.1 L st h) ∧ (w32 a = 0 → k (pc + 3) L st h) | _ => False) := hv
  split at hv
  next a st =>
    exact s_if_ne hd hr (fun q => hk _ _ _ _ (hv.1 q)) (fun q => hk _ _ _ _ (hv.2 q))
  next => exact hv.elim
theorem dn_64 {off : Int} (hr : RokA (eM E) r pc len (.goto off)) (hd : decode (eM E).2.1 pc = .ok (.goto off, len)) (hk : ∀ pc L st h, k pc L st h → ExA E pc L st h) (hv : denA E (eM E) r k pc L st h (.goto off)) : ExA E pc L st h := by
  obtain ⟨rfl, hr⟩ := hr
  replace hv : k r.1 L st h := hv
  exact s_goto hd hr (hk _ _ _ _ hv)
theorem dn_65 {off : Int} (hr : RokA (eM E) r pc len (.ifnull off)) (hd : decode (eM E).2.1 pc = .ok (.ifnull off, len)) (hk : ∀ pc L st h, k pc L st h → ExA E pc L st h) (hv : denA E (eM E) r k pc L st h (.ifnull off)) : ExA E pc L st h := by
  obtain ⟨rfl, hr⟩ := hr
  replace hv : (match (generalizing := false) st with | .inr (.inr z) :: st => (z = -1 → k r.1 L st h) ∧ (¬ z = -1 → k (pc + 3) L st h) | _ => False) := hv
  split at hv
  next z st =>
    exact s_ifnull hd hr (fun q => hk _ _ _ _ (hv.1 q)) (fun q => hk _ _ _ _ (hv.2 q))
  next => exact hv.elim
theorem dn_66 {off : Int} (hr : RokA (eM E) r pc len (.ifnonnull off)) (hd : decode (eM E).2.1 pc = .ok (.ifnonnull off, len)) (hk : ∀ pc L st h, k pc L st h → ExA E pc L st h) (hv : denA E (eM E) r k pc L st h (.ifnonnull off)) : ExA E pc L st h := by
  obtain ⟨rfl, hr⟩ := hr
  replace hv : (match (generalizing := false) st with | .inr (.inr z) :: st => (¬ z = -1 → k r.1 L st h) ∧ (z = -1 → k (pc + 3) L st h) | _ => False) := hv
  split at hv
  next z st =>
    exact s_ifnonnull hd hr (fun q => hk _ _ _ _ (hv.1 q)) (fun q => hk _ _ _ _ (hv.2 q))
  next => exact hv.elim
theorem dn_67 {d : Int} {lo : Int} {hi : Int} {offs : Array Int} (hr : RokA (eM E) r pc len (.tableswitch d lo hi offs)) (hd : decode (eM E).2.1 pc = .ok (.tableswitch d lo hi offs, len)) (hk : ∀ pc L st h, k pc L st h → ExA E pc L st h) (hv : denA E (eM E) r k pc L st h (.tableswitch d lo hi offs)) : ExA E pc L st h := by
  obtain ⟨-, hr⟩ := hr
  replace hv : (match (generalizing := false) st with | .inl z :: st => (w32 z < lo ∨ hi < w32 z → k ((pc : Int) + d).toNat L st h) ∧ tsw pc z (fun t => k t L st h) offs.toList lo | _ => False) := hv
  split at hv
  next z st =>
    exact s_tswitch hd hr (fun q => hk _ _ _ _ (hv.1 q)) (tsw_mono hv.2 fun t q => hk _ _ _ _ q)
  next => exact hv.elim
theorem dn_68 {idx : Nat} (hr : RokA (eM E) r pc len (.getfield idx)) (hd : decode (eM E).2.1 pc = .ok (.getfield idx, len)) (hk : ∀ pc L st h, k pc L st h → ExA E pc L st h) (hv : denA E (eM E) r k pc L st h (.getfield idx)) : ExA E pc L st h := by
  obtain ⟨rfl, hr⟩ := hr
  replace hv : (match (generalizing := false) st with | .inr (.inr z) :: st => (if r.1 < 100 then 0 ≤ z ∧ (hkd h z.toNat).1 = r.1 ∧ k (pc + 3) L (tcA r.2.2.1 (hdt h z.toNat r.2.1) :: st) h else ∃ i : Nat, i < stN ∧ z = -4 - 2 * (i : Int) ∧ (if r.1 = 200 then k (pc + 3) L (.inr (.inr (-5 - 2 * (i : Int))) :: st) h else k (pc + 3) L (.inl 0 :: st) h)) | _ => False) := hv
  split at hv
  next z st =>
    rcases hr with ⟨q, h1, h2, h3, h4⟩ | ⟨e, hr⟩ | ⟨e, hr⟩
    · rw [if_pos h3] at hv
      exact s_getf ⟨q, h1, h2, h3, h4⟩ hv.1 hv.2.1 hd (hk _ _ _ _ hv.2.2)
    · rw [if_neg (by rw [e]; decide), e] at hv
      obtain ⟨i, h1, rfl, hv⟩ := hv
      exact s_getSv h1 hr hd (hk _ _ _ _ hv)
    · rw [if_neg (by rw [e]; decide), e] at hv
      obtain ⟨i, h1, rfl, hv⟩ := hv
      exact s_getSc h1 hr hd (hk _ _ _ _ hv)
  next => exact hv.elim
theorem dn_69 {idx : Nat} (hr : RokA (eM E) r pc len (.putfield idx)) (hd : decode (eM E).2.1 pc = .ok (.putfield idx, len)) (hk : ∀ pc L st h, k pc L st h → ExA E pc L st h) (hv : denA E (eM E) r k pc L st h (.putfield idx)) : ExA E pc L st h := by
  obtain ⟨rfl, hr⟩ := hr
  replace hv : (match (generalizing := false) st with | v :: .inr (.inr z) :: st => 0 ≤ z ∧ (hkd h z.toNat).1 = r.1 ∧ tcN r.2.2.1 v (fun x => k (pc + 3) L st (hwr h z.toNat r.2.1 x)) | _ => False) := hv
  split at hv
  next v z st =>
    exact s_putf hr hv.1 hv.2.1 hd (tcN_mono hv.2.2 fun z q => hk _ _ _ _ q)
  next => exact hv.elim
theorem dn_70 {idx : Nat} (hr : RokA (eM E) r pc len (.getstatic idx)) (hd : decode (eM E).2.1 pc = .ok (.getstatic idx, len)) (hk : ∀ pc L st h, k pc L st h → ExA E pc L st h) (hv : denA E (eM E) r k pc L st h (.getstatic idx)) : ExA E pc L st h := by
  obtain ⟨rfl, hr⟩ := hr
  replace hv : (if r.1 = 0 then k (pc + 3) L (.inl 1 :: st) h else k (pc + 3) L (.inr (.inr (-3)) :: st) h) := hv
  rcases hr with ⟨e, hr⟩ | ⟨e, hr⟩
  · rw [if_pos e] at hv
    exact s_gets1 hr hd (hk _ _ _ _ hv)
  · rw [if_neg (by rw [e]; decide)] at hv
    exact s_gets2 hr hd (hk _ _ _ _ hv)
theorem dn_71  (hr : RokA (eM E) r pc len (.arraylength)) (hd : decode (eM E).2.1 pc = .ok (.arraylength, len)) (hk : ∀ pc L st h, k pc L st h → ExA E pc L st h) (hv : denA E (eM E) r k pc L st h (.arraylength)) : ExA E pc L st h := by
  obtain ⟨rfl, hr⟩ := hr
  replace hv : (match (generalizing := false) st with | .inr (.inr z) :: st => (if r.1 = 0 then 0 ≤ z ∧ 100 ≤ (hkd h z.toNat).1 ∧ k (pc + 1) L (.inl ((hkd h z.toNat).2 : Int) :: st) h else if r.1 = 1 then ∃ i : Nat, i < stN ∧ z = -5 - 2 * (i : Int) ∧ k (pc + 1) L (.inl ((stLen.getD i 0 : Nat) : Int) :: st) h else z = -2 ∧ k (pc + 1) L (.inl ((gX (eG E)).2.1 : Int) :: st) h) | _ => False) := hv
  split at hv
  next z st =>
    split at hv
    · exact s_alen hv.1 hv.2.1 hd (hk _ _ _ _ hv.2.2)
    · split at hv
      · obtain ⟨i, h1, rfl, hv⟩ := hv
        exact s_slen h1 hd (hk _ _ _ _ hv)
      · obtain ⟨rfl, hv⟩ := hv
        exact s_xlen hd (hk _ _ _ _ hv)
  next => exact hv.elim
theorem dn_72  (hr : RokA (eM E) r pc len (.iaload)) (hd : decode (eM E).2.1 pc = .ok (.iaload, len)) (hk : ∀ pc L st h, k pc L st h → ExA E pc L st h) (hv : denA E (eM E) r k pc L st h (.iaload)) : ExA E pc L st h := by
  obtain ⟨rfl, hr⟩ := hr
  replace hv : (match (generalizing := false) st with | .inl i :: .inr (.inr z) :: st => (if r.1 = 0 then 0 ≤ z ∧ (hkd h z.toNat).1 = 100 ∧ 0 ≤ i ∧ i < (hkd h z.toNat).2 ∧ k (pc + 1) L (.inl (hdt h z.toNat i.toNat) :: st) h else z = -2 ∧ 0 ≤ i ∧ i < (gX (eG E)).2.1 ∧ k (pc + 1) L (.inl ((gX (eG E)).2.2 i.toNat).toInt :: st) h) | _ => False) := hv
  split at hv
  next i z st =>
    split at hv
    · exact s_iald hv.1 hv.2.1 hv.2.2.1 hv.2.2.2.1 hd (hk _ _ _ _ hv.2.2.2.2)
    · obtain ⟨rfl, hv⟩ := hv
      exact s_xald hv.1 hv.2.1 hd (hk _ _ _ _ hv.2.2)
  next => exact hv.elim
theorem dn_73  (hr : RokA (eM E) r pc len (.laload)) (hd : decode (eM E).2.1 pc = .ok (.laload, len)) (hk : ∀ pc L st h, k pc L st h → ExA E pc L st h) (hv : denA E (eM E) r k pc L st h (.laload)) : ExA E pc L st h := by
  obtain ⟨rfl, hr⟩ := hr
  replace hv : (match (generalizing := false) st with | .inl i :: .inr (.inr z) :: st => 0 ≤ z ∧ (hkd h z.toNat).1 = 101 ∧ 0 ≤ i ∧ i < (hkd h z.toNat).2 ∧ k (pc + 1) L (.inr (.inl (hdt h z.toNat i.toNat)) :: st) h | _ => False) := hv
  split at hv
  next i z st =>
    exact s_lald hv.1 hv.2.1 hv.2.2.1 hv.2.2.2.1 hd (hk _ _ _ _ hv.2.2.2.2)
  next => exact hv.elim
theorem dn_74  (hr : RokA (eM E) r pc len (.saload)) (hd : decode (eM E).2.1 pc = .ok (.saload, len)) (hk : ∀ pc L st h, k pc L st h → ExA E pc L st h) (hv : denA E (eM E) r k pc L st h (.saload)) : ExA E pc L st h := by
  obtain ⟨rfl, hr⟩ := hr
  replace hv : (match (generalizing := false) st with | .inl i :: .inr (.inr z) :: st => 0 ≤ z ∧ (hkd h z.toNat).1 = 103 ∧ 0 ≤ i ∧ i < (hkd h z.toNat).2 ∧ k (pc + 1) L (.inl (hdt h z.toNat i.toNat) :: st) h | _ => False) := hv
  split at hv
  next i z st =>
    exact s_sald hv.1 hv.2.1 hv.2.2.1 hv.2.2.2.1 hd (hk _ _ _ _ hv.2.2.2.2)
  next => exact hv.elim
theorem dn_75  (hr : RokA (eM E) r pc len (.baload)) (hd : decode (eM E).2.1 pc = .ok (.baload, len)) (hk : ∀ pc L st h, k pc L st h → ExA E pc L st h) (hv : denA E (eM E) r k pc L st h (.baload)) : ExA E pc L st h := by
  obtain ⟨rfl, hr⟩ := hr
  replace hv : (match (generalizing := false) st with | .inl i :: .inr (.inr z) :: st => (if r.1 = 0 then 0 ≤ z ∧ ((hkd h z.toNat).1 = 102 ∨ (hkd h z.toNat).1 = 104) ∧ 0 ≤ i ∧ i < (hkd h z.toNat).2 ∧ k (pc + 1) L (.inl (hdt h z.toNat i.toNat) :: st) h else ∃ j : Nat, j < stN ∧ z = -5 - 2 * (j : Int) ∧ 0 ≤ i ∧ i < (stLen.getD j 0 : Nat) ∧ stLen.getD j 0 < 1000 ∧ k (pc + 1) L (.inl ((stByt.getD j []).getD i.toNat 0).toInt :: st) h) | _ => False) := hv
  split at hv
  next i z st =>
    split at hv
    · exact s_bald hv.1 hv.2.1 hv.2.2.1 hv.2.2.2.1 hd (hk _ _ _ _ hv.2.2.2.2)
    · obtain ⟨j, h1, rfl, hv⟩ := hv
      exact s_sbald h1 hv.1 hv.2.1 hv.2.2.1 hd (hk _ _ _ _ hv.2.2.2)
  next => exact hv.elim
theorem dn_76  (hr : RokA (eM E) r pc len (.aaload)) (hd : decode (eM E).2.1 pc = .ok (.aaload, len)) (hk : ∀ pc L st h, k pc L st h → ExA E pc L st h) (hv : denA E (eM E) r k pc L st h (.aaload)) : ExA E pc L st h := by
  obtain ⟨rfl, hr⟩ := hr
  replace hv : (match (generalizing := false) st with | .inl i :: .inr (.inr z) :: st => 0 ≤ z ∧ 110 ≤ (hkd h z.toNat).1 ∧ 0 ≤ i ∧ i < (hkd h z.toNat).2 ∧ k (pc + 1) L (.inr (.inr (hdt h z.toNat i.toNat)) :: st) h | _ => False) := hv
  split at hv
  next i z st =>
    exact s_aald hv.1 hv.2.1 hv.2.2.1 hv.2.2.2.1 hd (hk _ _ _ _ hv.2.2.2.2)
  next => exact hv.elim
theorem dn_77  (hr : RokA (eM E) r pc len (.iastore)) (hd : decode (eM E).2.1 pc = .ok (.iastore, len)) (hk : ∀ pc L st h, k pc L st h → ExA E pc L st h) (hv : denA E (eM E) r k pc L st h (.iastore)) : ExA E pc L st h := by
  obtain ⟨rfl, hr⟩ := hr
  replace hv : (match (generalizing := false) st with | .inl v :: .inl i :: .inr (.inr z) :: st => 0 ≤ z ∧ (hkd h z.toNat).1 = 100 ∧ 0 ≤ i ∧ i < (hkd h z.toNat).2 ∧ k (pc + 1) L st (hwr h z.toNat i.toNat v) | _ => False) := hv
  split at hv
  next v i z st =>
    exact s_iast hv.1 hv.2.1 hv.2.2.1 hv.2.2.2.1 hd (hk _ _ _ _ hv.2.2.2.2)
  next => exact hv.elim
theorem dn_78  (hr : RokA (eM E) r pc len (.lastore)) (hd : decode (eM E).2.1 pc = .ok (.lastore, len)) (hk : ∀ pc L st h, k pc L st h → ExA E pc L st h) (hv : denA E (eM E) r k pc L st h (.lastore)) : ExA E pc L st h := by
  obtain ⟨rfl, hr⟩ := hr
  replace hv : (match (generalizing := false) st with | .inr (.inl v) :: .inl i :: .inr (.inr z) :: st => 0 ≤ z ∧ (hkd h z.toNat).1 = 101 ∧ 0 ≤ i ∧ i < (hkd h z.toNat).2 ∧ k (pc + 1) L st (hwr h z.toNat i.toNat v) | _ => False) := hv
  split at hv
  next v i z st =>
    exact s_last hv.1 hv.2.1 hv.2.2.1 hv.2.2.2.1 hd (hk _ _ _ _ hv.2.2.2.2)
  next => exact hv.elim
theorem dn_79  (hr : RokA (eM E) r pc len (.sastore)) (hd : decode (eM E).2.1 pc = .ok (.sastore, len)) (hk : ∀ pc L st h, k pc L st h → ExA E pc L st h) (hv : denA E (eM E) r k pc L st h (.sastore)) : ExA E pc L st h := by
  obtain ⟨rfl, hr⟩ := hr
  replace hv : (match (generalizing := false) st with | .inl v :: .inl i :: .inr (.inr z) :: st => 0 ≤ z ∧ (hkd h z.toNat).1 = 103 ∧ 0 ≤ i ∧ i < (hkd h z.toNat).2 ∧ k (pc + 1) L st (hwr h z.toNat i.toNat (w16 v)) | _ => False) := hv
  split at hv
  next v i z st =>
    exact s_sast hv.1 hv.2.1 hv.2.2.1 hv.2.2.2.1 hd (hk _ _ _ _ hv.2.2.2.2)
  next => exact hv.elim
theorem dn_80  (hr : RokA (eM E) r pc len (.bastore)) (hd : decode (eM E).2.1 pc = .ok (.bastore, len)) (hk : ∀ pc L st h, k pc L st h → ExA E pc L st h) (hv : denA E (eM E) r k pc L st h (.bastore)) : ExA E pc L st h := by
  obtain ⟨rfl, hr⟩ := hr
  replace hv : (match (generalizing := false) st with | .inl v :: .inl i :: .inr (.inr z) :: st => (if r.1 = 0 then 0 ≤ z ∧ (hkd h z.toNat).1 = 102 ∧ 0 ≤ i ∧ i < (hkd h z.toNat).2 ∧ k (pc + 1) L st (hwr h z.toNat i.toNat (w8 v)) else 0 ≤ z ∧ (hkd h z.toNat).1 = 104 ∧ (v = 0 ∨ v = 1) ∧ 0 ≤ i ∧ i < (hkd h z.toNat).2 ∧ k (pc + 1) L st (hwr h z.toNat i.toNat v)) | _ => False) := hv
  split at hv
  next v i z st =>
    split at hv
    · exact s_bast hv.1 hv.2.1 hv.2.2.1 hv.2.2.2.1 hd (hk _ _ _ _ hv.2.2.2.2)
    · exact s_zast hv.1 hv.2.1 hv.2.2.1 hv.2.2.2.1 hv.2.2.2.2.1 hd (hk _ _ _ _ hv.2.2.2.2.2)
  next => exact hv.elim
theorem dn_81  (hr : RokA (eM E) r pc len (.aastore)) (hd : decode (eM E).2.1 pc = .ok (.aastore, len)) (hk : ∀ pc L st h, k pc L st h → ExA E pc L st h) (hv : denA E (eM E) r k pc L st h (.aastore)) : ExA E pc L st h := by
  obtain ⟨rfl, hr⟩ := hr
  replace hv : (match (generalizing := false) st with | .inr (.inr v) :: .inl i :: .inr (.inr z) :: st => 0 ≤ z ∧ 110 ≤ (hkd h z.toNat).1 ∧ 0 ≤ v ∧ (hkd h v.toNat).1 = kEl (hkd h z.toNat).1 ∧ 0 ≤ i ∧ i < (hkd h z.toNat).2 ∧ k (pc + 1) L st (hwr h z.toNat i.toNat v) | _ => False) := hv
  split at hv
  next v i z st =>
    exact s_aast hv.1 hv.2.1 hv.2.2.1 hv.2.2.2.1 hv.2.2.2.2.1 hv.2.2.2.2.2.1 hd (hk _ _ _ _ hv.2.2.2.2.2.2)
  next => exact hv.elim
theorem dn_82 {idx : Nat} (hr : RokA (eM E) r pc len (.new idx)) (hd : decode (eM E).2.1 pc = .ok (.new idx, len)) (hk : ∀ pc L st h, k pc L st h → ExA E pc L st h) (hv : denA E (eM E) r k pc L st h (.new idx)) : ExA E pc L st h := by
  obtain ⟨rfl, hr⟩ := hr
  replace hv : nC h + 1 ≤ nC (eH E) + eC E ∧ nS h + r.2.1 ≤ nS (eH E) + eS E ∧ k (pc + 3) L (.inr (.inr (nN h)) :: st) (hnw h r.1 r.2.1 (dzA (r.1 - 1))) := hv
  exact s_new hr hv.1 hv.2.1 hd (hk _ _ _ _ hv.2.2)
theorem dn_83 {t : ArrayType} (hr : RokA (eM E) r pc len (.newarray t)) (hd : decode (eM E).2.1 pc = .ok (.newarray t, len)) (hk : ∀ pc L st h, k pc L st h → ExA E pc L st h) (hv : denA E (eM E) r k pc L st h (.newarray t)) : ExA E pc L st h := by
  obtain ⟨rfl, hr⟩ := hr
  replace hv : (match (generalizing := false) st with | .inl n :: st => 0 ≤ n ∧ n ≤ 100000 ∧ nC h + 1 ≤ nC (eH E) + eC E ∧ nS h + n.toNat ≤ nS (eH E) + eS E ∧ k (pc + 2) L (.inr (.inr (nN h)) :: st) (hnw h (kAt t) n.toNat (fun _ => 0)) | _ => False) := hv
  split at hv
  next n st =>
    exact s_newa hr hv.1 hv.2.1 hv.2.2.1 hv.2.2.2.1 hd (hk _ _ _ _ hv.2.2.2.2)
  next => exact hv.elim
theorem dn_84 {idx : Nat} (hr : RokA (eM E) r pc len (.anewarray idx)) (hd : decode (eM E).2.1 pc = .ok (.anewarray idx, len)) (hk : ∀ pc L st h, k pc L st h → ExA E pc L st h) (hv : denA E (eM E) r k pc L st h (.anewarray idx)) : ExA E pc L st h := by
  obtain ⟨rfl, hr⟩ := hr
  replace hv : (match (generalizing := false) st with | .inl n :: st => 0 ≤ n ∧ n ≤ 100000 ∧ nC h + 1 ≤ nC (eH E) + eC E ∧ nS h + n.toNat ≤ nS (eH E) + eS E ∧ k (pc + 3) L (.inr (.inr (nN h)) :: st) (hnw h r.1 n.toNat (fun _ => -1)) | _ => False) := hv
  split at hv
  next n st =>
    exact s_anew hr hv.1 hv.2.1 hv.2.2.1 hv.2.2.2.1 hd (hk _ _ _ _ hv.2.2.2.2)
  next => exact hv.elim
theorem dn_85 {idx : Nat} (hr : RokA (eM E) r pc len (.instanceof idx)) (hd : decode (eM E).2.1 pc = .ok (.instanceof idx, len)) (hk : ∀ pc L st h, k pc L st h → ExA E pc L st h) (hv : denA E (eM E) r k pc L st h (.instanceof idx)) : ExA E pc L st h := by
  obtain ⟨rfl, hr⟩ := hr
  replace hv : (match (generalizing := false) st with | .inr (.inr z) :: st => (z = -1 → k (pc + 3) L (.inl 0 :: st) h) ∧ (¬ z = -1 → 0 ≤ z ∧ (100 ≤ (hkd h z.toNat).1 ∧ (hkd h z.toNat).1 ≤ 103) ∧ ((hkd h z.toNat).1 ≠ r.1 → (kNm (hkd h z.toNat).1, kNm r.1) ∈ ncL) ∧ ((hkd h z.toNat).1 = r.1 → k (pc + 3) L (.inl 1 :: st) h) ∧ ((hkd h z.toNat).1 ≠ r.1 → k (pc + 3) L (.inl 0 :: st) h)) | _ => False) := hv
  split at hv
  next z st =>
    by_cases q : z = -1
    · subst q
      exact s_instN hd (hk _ _ _ _ (hv.1 rfl))
    · obtain ⟨h1, h2, h3, h4, h5⟩ := hv.2 q
      exact s_inst hr h1 h2 h3 hd (fun q => hk _ _ _ _ (h4 q)) (fun q => hk _ _ _ _ (h5 q))
  next => exact hv.elim
theorem dn_86 {idx : Nat} (hr : RokA (eM E) r pc len (.checkcast idx)) (hd : decode (eM E).2.1 pc = .ok (.checkcast idx, len)) (hk : ∀ pc L st h, k pc L st h → ExA E pc L st h) (hv : denA E (eM E) r k pc L st h (.checkcast idx)) : ExA E pc L st h := by
  obtain ⟨rfl, hr⟩ := hr
  replace hv : (match (generalizing := false) st with | .inr (.inr z) :: st => 0 ≤ z ∧ (hkd h z.toNat).1 = r.1 ∧ k (pc + 3) L (.inr (.inr z) :: st) h | _ => False) := hv
  split at hv
  next z st =>
    exact s_cast hr hv.1 hv.2.1 hd (hk _ _ _ _ hv.2.2)
  next => exact hv.elim
theorem dn_87  (hr : RokA (eM E) r pc len (.ireturn)) (hd : decode (eM E).2.1 pc = .ok (.ireturn, len)) (hk : ∀ pc L st h, k pc L st h → ExA E pc L st h) (hv : denA E (eM E) r k pc L st h (.ireturn)) : ExA E pc L st h := by
  obtain ⟨rfl, hr⟩ := hr
  replace hv : (match (generalizing := false) st with | [.inl z] => rzA (eM E).2.2.2.1 (some (.inl z)) ∧ nC h = nC (eH E) + eC E ∧ nS h = nS (eH E) + eS E ∧ eQ E (some (.inl z)) h | _ => False) := hv
  split at hv
  next z =>
    exact s_ret (r := some (.inl z)) hd hv.1 hv.2.1 hv.2.2.1 hv.2.2.2
  next => exact hv.elim
theorem dn_88  (hr : RokA (eM E) r pc len (.lreturn)) (hd : decode (eM E).2.1 pc = .ok (.lreturn, len)) (hk : ∀ pc L st h, k pc L st h → ExA E pc L st h) (hv : denA E (eM E) r k pc L st h (.lreturn)) : ExA E pc L st h := by
  obtain ⟨rfl, hr⟩ := hr
  replace hv : (match (generalizing := false) st with | [.inr (.inl z)] => rzA (eM E).2.2.2.1 (some (.inr (.inl z))) ∧ nC h = nC (eH E) + eC E ∧ nS h = nS (eH E) + eS E ∧ eQ E (some (.inr (.inl z))) h | _ => False) := hv
  split at hv
  next z =>
    exact s_ret (r := some (.inr (.inl z))) hd hv.1 hv.2.1 hv.2.2.1 hv.2.2.2
  next => exact hv.elim
theorem dn_89  (hr : RokA (eM E) r pc len (.areturn)) (hd : decode (eM E).2.1 pc = .ok (.areturn, len)) (hk : ∀ pc L st h, k pc L st h → ExA E pc L st h) (hv : denA E (eM E) r k pc L st h (.areturn)) : ExA E pc L st h := by
  obtain ⟨rfl, hr⟩ := hr
  replace hv : (match (generalizing := false) st with | [.inr (.inr z)] => rzA (eM E).2.2.2.1 (some (.inr (.inr z))) ∧ nC h = nC (eH E) + eC E ∧ nS h = nS (eH E) + eS E ∧ eQ E (some (.inr (.inr z))) h | _ => False) := hv
  split at hv
  next z =>
    exact s_ret (r := some (.inr (.inr z))) hd hv.1 hv.2.1 hv.2.2.1 hv.2.2.2
  next => exact hv.elim
theorem dn_90  (hr : RokA (eM E) r pc len (.return_)) (hd : decode (eM E).2.1 pc = .ok (.return_, len)) (hk : ∀ pc L st h, k pc L st h → ExA E pc L st h) (hv : denA E (eM E) r k pc L st h (.return_)) : ExA E pc L st h := by
  obtain ⟨rfl, hr⟩ := hr
  replace hv : (match (generalizing := false) st with | [] => rzA (eM E).2.2.2.1 (none) ∧ nC h = nC (eH E) + eC E ∧ nS h = nS (eH E) + eS E ∧ eQ E (none) h | _ => False) := hv
  split at hv
  next  =>
    exact s_ret (r := none) hd hv.1 hv.2.1 hv.2.2.1 hv.2.2.2
  next => exact hv.elim
theorem dn_91 {idx : Nat} (hr : RokA (eM E) r pc len (.invokestatic idx)) (hd : decode (eM E).2.1 pc = .ok (.invokestatic idx, len)) (hk : ∀ pc L st h, k pc L st h → ExA E pc L st h) (hv : denA E (eM E) r k pc L st h (.invokestatic idx)) : ExA E pc L st h := by
  obtain ⟨rfl, hr⟩ := hr
  replace hv : (if r.1 = 0 then r.2.2.1 ≤ st.length ∧ acats (restA r.2.2.1 st) ≤ 8 ∧ ClA E (r.2.2.2.2 0) (argsA r.2.2.1 st []) h (fun x h1 => ExA E (pc + 3) L (x.toList ++ restA r.2.2.1 st) h1) else match (generalizing := false) st with | .inl n :: .inl dp :: .inr (.inr a) :: .inl sp :: .inr (.inr a0) :: t => 1 ≤ eD E ∧ 0 ≤ a0 ∧ 0 ≤ a ∧ (hkd h a0.toNat).1 = 100 ∧ (hkd h a.toNat).1 = 100 ∧ 0 ≤ sp ∧ 0 ≤ dp ∧ 0 ≤ n ∧ sp + n ≤ (hkd h a0.toNat).2 ∧ dp + n ≤ (hkd h a.toNat).2 ∧ acats t ≤ 8 ∧ k (pc + 3) L t (hrw h a.toNat (cpyA (hdt h a0.toNat) (hdt h a.toNat) sp.toNat dp.toNat n.toNat)) | _ => False) := hv
  rcases hr with ⟨e, h1, h2, h3⟩ | ⟨e, hr⟩
  · rw [if_pos e] at hv
    obtain ⟨g1, g2⟩ := argsA_split r.2.2.1 st [] hv.1
    have := s_callS h1 h2 (As := argsA r.2.2.1 st []) (rest := restA r.2.2.1 st) (by rw [g2, h3]; rfl) hv.2.1 hd hv.2.2
    rw [g1] at this
    exact this
  · rw [if_neg (by rw [e]; decide)] at hv
    split at hv
    next n dp a sp a0 t =>
      obtain ⟨v1, v2, v3, v4, v5, v6, v7, v8, v9, v10, v11, v12⟩ := hv
      exact s_copy hr v1 v2 v3 v4 v5 v6 v7 v8 v9 v10 v11 hd (hk _ _ _ _ v12)
    next => exact hv.elim
theorem dn_92 {idx : Nat} (hr : RokA (eM E) r pc len (.invokespecial idx)) (hd : decode (eM E).2.1 pc = .ok (.invokespecial idx, len)) (hk : ∀ pc L st h, k pc L st h → ExA E pc L st h) (hv : denA E (eM E) r k pc L st h (.invokespecial idx)) : ExA E pc L st h := by
  obtain ⟨rfl, hr⟩ := hr
  replace hv : (if r.1 = 7 then match (generalizing := false) st with | .inr (.inr z) :: t => 0 ≤ z ∧ 1 ≤ eD E ∧ acats t ≤ 8 ∧ k (pc + 3) L t h | _ => False else r.2.2.1 ≤ st.length ∧ acats (restA r.2.2.1 st) ≤ 8 ∧ (match (generalizing := false) argsA r.2.2.1 st [] with | .inr (.inr z) :: as => 0 ≤ z ∧ ClA E (r.2.2.2.2 0) (.inr (.inr z) :: as) h (fun x h1 => ExA E (pc + 3) L (x.toList ++ restA r.2.2.1 st) h1) | _ => False)) := hv
  rcases hr with ⟨e, hr⟩ | ⟨e, h1, h2, h3, h4⟩
  · rw [if_pos e] at hv
    split at hv
    next z t => exact s_objInit hr q16i q17i hv.1 hv.2.1 hv.2.2.1 hd (hk _ _ _ _ hv.2.2.2)
    next => exact hv.elim
  · rw [if_neg (by rw [e]; decide)] at hv
    obtain ⟨g0, g3, hv⟩ := hv
    obtain ⟨g1, g2⟩ := argsA_split r.2.2.1 st [] g0
    generalize argsA r.2.2.1 st [] = as at g1 g2 hv
    generalize restA r.2.2.1 st = rs at g1 g3 hv
    split at hv
    next z as =>
      have := s_callI h1 h2 h3 hv.1 (As := as) (rest := rs) (by rw [← h4]; simpa using g2) g3 hd hv.2
      rw [List.reverse_cons, List.append_assoc] at g1
      rw [show as.reverse ++ .inr (.inr z) :: rs = st from g1] at this
      exact this
    next => exact hv.elim
theorem dn_93 {idx : Nat} (hr : RokA (eM E) r pc len (.invokevirtual idx)) (hd : decode (eM E).2.1 pc = .ok (.invokevirtual idx, len)) (hk : ∀ pc L st h, k pc L st h → ExA E pc L st h) (hv : denA E (eM E) r k pc L st h (.invokevirtual idx)) : ExA E pc L st h := by
  obtain ⟨rfl, hr⟩ := hr
  replace hv : r.2.2.1 ≤ st.length ∧ acats (restA r.2.2.1 st) ≤ 8 ∧ (match (generalizing := false) argsA r.2.2.1 st [] with | .inr (.inr z) :: as => (if r.1 = 2 then 0 ≤ z ∧ (hkd h z.toNat).1 = r.2.1 ∧ ClA E (r.2.2.2.2 0) (.inr (.inr z) :: as) h (fun x h1 => ExA E (pc + 3) L (x.toList ++ restA r.2.2.1 st) h1) else if r.1 = 9 then ∃ i : Nat, i < stN ∧ z = -4 - 2 * (i : Int) ∧ ClA E (r.2.2.2.2 0) (.inr (.inr z) :: as) h (fun x h1 => ExA E (pc + 3) L (x.toList ++ restA r.2.2.1 st) h1) else 0 ≤ z ∧ r.2.1 ≤ (hkd h z.toNat).1 ∧ ((hkd h z.toNat).1 : Int) ≤ r.2.2.2.1 ∧ ClA E (r.2.2.2.2 (hkd h z.toNat).1) (.inr (.inr z) :: as) h (fun x h1 => ExA E (pc + 3) L (x.toList ++ restA r.2.2.1 st) h1)) | _ => False) := hv
  obtain ⟨g0, g3, hv⟩ := hv
  obtain ⟨g1, g2⟩ := argsA_split r.2.2.1 st [] g0
  generalize argsA r.2.2.1 st [] = as at g1 g2 hv
  generalize restA r.2.2.1 st = rs at g1 g3 hv
  split at hv
  next z as =>
    rw [List.reverse_cons, List.append_assoc] at g1
    have g1 : as.reverse ++ .inr (.inr z) :: rs = st := g1
    rcases hr with ⟨e, h1, h2, h3, h4, h5⟩ | ⟨e, h1, h2, h3, h4, h5⟩ | ⟨e, x, hx⟩
    · rw [if_pos e] at hv
      have := s_callV h1 h2 h3 h4 hv.1 hv.2.1 (As := as) (rest := rs) (by rw [← h5]; simpa using g2) g3 hd hv.2.2
      rw [g1] at this
      exact this
    · rw [if_neg (by rw [e]; decide), if_pos e] at hv
      obtain ⟨i, hi, rfl, hv⟩ := hv
      have := s_callT h1 h2 h3 h4 hi (As := as) (rest := rs) (by rw [← h5]; simpa using g2) g3 hd hv
      rw [g1] at this
      exact this
    · rw [if_neg (by rw [e]; decide), if_neg (by rw [e]; decide)] at hv
      obtain ⟨h1, h2, h5⟩ := hx _ hv.2.1 hv.2.2.1
      have := s_callU h1 h2 hv.1 rfl (As := as) (rest := rs) (by rw [← h5]; simpa using g2) g3 hd hv.2.2.2
      rw [g1] at this
      exact this
  next => exact hv.elim
theorem denA_ok {op : Op} (ho : OpOK (eM E) pc op) (hk : ∀ pc L st h, k pc L st h → ExA E pc L st h) (hv : denA E (eM E) op.2.2 k pc L st h op.1) : ExA E pc L st h := by
  obtain ⟨ins, len, r⟩ := op
  obtain ⟨hd, hr⟩ := ho
  simp only at hd hr hv
  match ins, hd, hr, hv with
  | .aconst_null, hd, hr, hv => exact dn_1 hr hd hk hv
  | .iconst i, hd, hr, hv => exact dn_2 hr hd hk hv
  | .bipush i, hd, hr, hv => exact dn_3 hr hd hk hv
  | .sipush i, hd, hr, hv => exact dn_4 hr hd hk hv
  | .lconst i, hd, hr, hv => exact dn_5 hr hd hk hv
  | .ldc idx, hd, hr, hv => exact dn_6 hr hd hk hv
  | .ldc_w idx, hd, hr, hv => exact dn_7 hr hd hk hv
  | .ldc2_w idx, hd, hr, hv => exact dn_8 hr hd hk hv
  | .iload i, hd, hr, hv => exact dn_9 hr hd hk hv
  | .iload_n i, hd, hr, hv => exact dn_10 hr hd hk hv
  | .lload i, hd, hr, hv => exact dn_11 hr hd hk hv
  | .lload_n i, hd, hr, hv => exact dn_12 hr hd hk hv
  | .aload i, hd, hr, hv => exact dn_13 hr hd hk hv
  | .aload_n i, hd, hr, hv => exact dn_14 hr hd hk hv
  | .istore i, hd, hr, hv => exact dn_15 hr hd hk hv
  | .istore_n i, hd, hr, hv => exact dn_16 hr hd hk hv
  | .lstore i, hd, hr, hv => exact dn_17 hr hd hk hv
  | .lstore_n i, hd, hr, hv => exact dn_18 hr hd hk hv
  | .astore i, hd, hr, hv => exact dn_19 hr hd hk hv
  | .astore_n i, hd, hr, hv => exact dn_20 hr hd hk hv
  | .iinc i d, hd, hr, hv => exact dn_21 hr hd hk hv
  | .iadd, hd, hr, hv => exact dn_22 hr hd hk hv
  | .isub, hd, hr, hv => exact dn_23 hr hd hk hv
  | .imul, hd, hr, hv => exact dn_24 hr hd hk hv
  | .iand, hd, hr, hv => exact dn_25 hr hd hk hv
  | .ior, hd, hr, hv => exact dn_26 hr hd hk hv
  | .ixor, hd, hr, hv => exact dn_27 hr hd hk hv
  | .ishl, hd, hr, hv => exact dn_28 hr hd hk hv
  | .ishr, hd, hr, hv => exact dn_29 hr hd hk hv
  | .iushr, hd, hr, hv => exact dn_30 hr hd hk hv
  | .ladd, hd, hr, hv => exact dn_31 hr hd hk hv
  | .lsub, hd, hr, hv => exact dn_32 hr hd hk hv
  | .lmul, hd, hr, hv => exact dn_33 hr hd hk hv
  | .land, hd, hr, hv => exact dn_34 hr hd hk hv
  | .lor, hd, hr, hv => exact dn_35 hr hd hk hv
  | .lshl, hd, hr, hv => exact dn_36 hr hd hk hv
  | .lshr, hd, hr, hv => exact dn_37 hr hd hk hv
  | .idiv, hd, hr, hv => exact dn_38 hr hd hk hv
  | .irem, hd, hr, hv => exact dn_39 hr hd hk hv
  | .ldiv, hd, hr, hv => exact dn_40 hr hd hk hv
  | .lrem, hd, hr, hv => exact dn_41 hr hd hk hv
  | .lcmp, hd, hr, hv => exact dn_42 hr hd hk hv
  | .i2l, hd, hr, hv => exact dn_43 hr hd hk hv
  | .l2i, hd, hr, hv => exact dn_44 hr hd hk hv
  | .i2b, hd, hr, hv => exact dn_45 hr hd hk hv
  | .i2c, hd, hr, hv => exact dn_46 hr hd hk hv
  | .i2s, hd, hr, hv => exact dn_47 hr hd hk hv
  | .dup, hd, hr, hv => exact dn_48 hr hd hk hv
  | .pop, hd, hr, hv => exact dn_49 hr hd hk hv
  | .pop2, hd, hr, hv => exact dn_50 hr hd hk hv
  | .dup2, hd, hr, hv => exact dn_51 hr hd hk hv
  | .if_icmp .lt off, hd, hr, hv => exact dn_52 hr hd hk hv
  | .if_icmp .le off, hd, hr, hv => exact dn_53 hr hd hk hv
  | .if_icmp .gt off, hd, hr, hv => exact dn_54 hr hd hk hv
  | .if_icmp .ge off, hd, hr, hv => exact dn_55 hr hd hk hv
  | .if_icmp .eq off, hd, hr, hv => exact dn_56 hr hd hk hv
  | .if_icmp .ne off, hd, hr, hv => exact dn_57 hr hd hk hv
  | .ifCond .lt off, hd, hr, hv => exact dn_58 hr hd hk hv
  | .ifCond .le off, hd, hr, hv => exact dn_59 hr hd hk hv
  | .ifCond .gt off, hd, hr, hv => exact dn_60 hr hd hk hv
  | .ifCond .ge off, hd, hr, hv => exact dn_61 hr hd hk hv
  | .ifCond .eq off, hd, hr, hv => exact dn_62 hr hd hk hv
  | .ifCond .ne off, hd, hr, hv => exact dn_63 hr hd hk hv
  | .goto off, hd, hr, hv => exact dn_64 hr hd hk hv
  | .ifnull off, hd, hr, hv => exact dn_65 hr hd hk hv
  | .ifnonnull off, hd, hr, hv => exact dn_66 hr hd hk hv
  | .tableswitch d lo hi offs, hd, hr, hv => exact dn_67 hr hd hk hv
  | .getfield idx, hd, hr, hv => exact dn_68 hr hd hk hv
  | .putfield idx, hd, hr, hv => exact dn_69 hr hd hk hv
  | .getstatic idx, hd, hr, hv => exact dn_70 hr hd hk hv
  | .arraylength, hd, hr, hv => exact dn_71 hr hd hk hv
  | .iaload, hd, hr, hv => exact dn_72 hr hd hk hv
  | .laload, hd, hr, hv => exact dn_73 hr hd hk hv
  | .saload, hd, hr, hv => exact dn_74 hr hd hk hv
  | .baload, hd, hr, hv => exact dn_75 hr hd hk hv
  | .aaload, hd, hr, hv => exact dn_76 hr hd hk hv
  | .iastore, hd, hr, hv => exact dn_77 hr hd hk hv
  | .lastore, hd, hr, hv => exact dn_78 hr hd hk hv
  | .sastore, hd, hr, hv => exact dn_79 hr hd hk hv
  | .bastore, hd, hr, hv => exact dn_80 hr hd hk hv
  | .aastore, hd, hr, hv => exact dn_81 hr hd hk hv
  | .new idx, hd, hr, hv => exact dn_82 hr hd hk hv
  | .newarray t, hd, hr, hv => exact dn_83 hr hd hk hv
  | .anewarray idx, hd, hr, hv => exact dn_84 hr hd hk hv
  | .instanceof idx, hd, hr, hv => exact dn_85 hr hd hk hv
  | .checkcast idx, hd, hr, hv => exact dn_86 hr hd hk hv
  | .ireturn, hd, hr, hv => exact dn_87 hr hd hk hv
  | .lreturn, hd, hr, hv => exact dn_88 hr hd hk hv
  | .areturn, hd, hr, hv => exact dn_89 hr hd hk hv
  | .return_, hd, hr, hv => exact dn_90 hr hd hk hv
  | .invokestatic idx, hd, hr, hv => exact dn_91 hr hd hk hv
  | .invokespecial idx, hd, hr, hv => exact dn_92 hr hd hk hv
  | .invokevirtual idx, hd, hr, hv => exact dn_93 hr hd hk hv
end
/-- a method's instructions by their places: a loop's head (there a walk stops), and the instruction -/
abbrev TabA : Type := Nat → Option (Bool × Op)
def TokA (M : MR) (T : TabA) : Prop := ∀ (pc : Nat) (b : Bool) (op : Op), T pc = some (b, op) → OpOK M pc op
def vcA (E : EV) (M : MR) (T : TabA) : Nat → KA
  | 0, pc, L, st, h => ExA E pc L st h
  | n + 1, pc, L, st, h => match T pc with
    | some (false, op) => denA E M op.2.2 (vcA E M T n) pc L st h op.1
    | _ => ExA E pc L st h
theorem vcA_ok {E : EV} {T : TabA} (hT : TokA (eM E) T) : ∀ (n : Nat) (pc : Nat) (L : AL) (st : List AV) (h : AH), vcA E (eM E) T n pc L st h → ExA E pc L st h
  | 0, _, _, _, _, q => q
  | n + 1, pc, L, st, h, q => by
    unfold vcA at q
    split at q
    next op e => exact denA_ok (hT pc false op e) (vcA_ok hT n) q
    next => exact q
/-- THE START of a walk at pc: n instructions at most, no further than to loops' heads and calls -/
def vsA (E : EV) (M : MR) (T : TabA) (n pc : Nat) (L : AL) (st : List AV) (h : AH) : Prop := match T pc with
  | some (_, op) => denA E M op.2.2 (vcA E M T n) pc L st h op.1
  | none => False
theorem vsA_ok {E : EV} {M : MR} {T : TabA} (hT : TokA M T) (hM : eM E = M) (n : Nat) {pc : Nat} {L : AL} {st : List AV} {h : AH} (q : vsA E M T n pc L st h) : ExA E pc L st h := by
  subst hM
  unfold vsA at q
  split at q
  next b op e => exact denA_ok (hT pc b op e) (vcA_ok hT n) q
  next => exact q.elim
