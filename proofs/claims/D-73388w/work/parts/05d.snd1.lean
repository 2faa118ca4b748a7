/-! ===== M is sound (1): words, the relation between a heap of M and a heap, the context of a method ===== -/
def zv : zV → Value
  | Sum.inl x => .int (Int32.ofInt x)
  | Sum.inr (Sum.inl none) => .null
  | Sum.inr (Sum.inl (some a)) => .ref a
  | Sum.inr (Sum.inr (Sum.inl x)) => .long (Int64.ofInt x)
  | Sum.inr (Sum.inr (Sum.inr _)) => .retAddr 0
def zcl : List vw_C := [(RX0, TX0, 22), (RX1, TX1, 8), (RX2, TX2, 11), (RX3, TX3, 19), (RX4, TX4, 3), (RX5, TX5, 8), (RX6, TX6, 4), (RX7, TX7, 2), (RX8, TX8, 6), (RX9, TX9, 5), (RX10, TX10, 65), (RX11, TX11, 8), (RJ3, TJ3, 4), (RJ4, TJ4, 4), (RJ12, TJ12, 0), (RJ13, TJ13, 0)]
def zty (ci k : Nat) : FieldType := match ci with
  | 0 => tyX0 k
  | 1 => tyX1 k
  | 2 => tyX2 k
  | 3 => tyX3 k
  | 4 => tyX4 k
  | 5 => tyX5 k
  | 6 => tyX6 k
  | 7 => tyX7 k
  | 8 => tyX8 k
  | 9 => tyX9 k
  | 10 => tyX10 k
  | 11 => tyX11 k
  | 12 => tyJ3 k
  | _ => tyJ4 k
def zval (ty : FieldType) (h : zH) (a k : Nat) : Value := match ty with
  | .long => .long (Int64.ofInt (zL h a k))
  | .object _ => va_rf (zA h a k)
  | .array _ => va_rf (zA h a k)
  | _ => .int (Int32.ofInt (zI h a k))
abbrev zD : Type := (Nat → ClassId) × (Nat → Nat → Nat)
/-- a method: its name, code, locals, what it returns, its handlers -/
abbrev zMI : Type := MethodName × ByteArray × Nat × Option FieldType × List (Nat × Nat × Nat × Nat)
def zob (s0 : State) (D : zD) (h : zH) (a ci : Nat) (H : Heap) : Prop := ∃ (r : vw_C) (cell : Cell), zcl[ci]? = some r ∧ H[a]? = some cell ∧ cell.cls = D.1 ci ∧ cell.vm ≠ .unknown ∧ cell.vm.isStatics = false ∧ (s0.heap.size ≤ a → cell.vm = .none) ∧ ∀ k, k < r.2.2 → cell.slots[D.2 ci k]? = some (zval (zty ci k) h a k)
def zcn (s0 : State) (ty : FieldType) (comp : ClassId) : Prop := match ty with
  | .object C => s0.vm.findClass C = some comp
  | .array t => s0.vm.findClass ("[" ++ t.toString) = some comp
  | _ => True
def zcmp (s0 : State) (ty : FieldType) (cA : ClassId) : Prop := ty.isReference = true → ∃ (kA kc : Class) (comp : ClassId), s0.vm.classes[cA]? = some kA ∧ kA.kind = .array comp ty ∧ s0.vm.classes[comp]? = some kc ∧ zcn s0 ty comp
def zar (s0 : State) (h : zH) (a : Nat) (ty : FieldType) (n : Nat) (H : Heap) : Prop := ∃ cell : Cell, H[a]? = some cell ∧ cell.vm ≠ .unknown ∧ (s0.heap.size ≤ a → cell.vm = .none ∧ s0.vm.findClass ("[" ++ ty.toString) = some cell.cls) ∧ s0.isArrayOf cell ty ∧ zcmp s0 ty cell.cls ∧ n < 2 ^ 31 ∧ cell.slots.size = n ∧ ∀ j, j < n → cell.slots[j]? = some (zval ty h a j) ∧ fits ty (zval ty h a j) = true
def zRel (s0 : State) (D : zD) (h : zH) (H : Heap) : Prop := H.size = zsz h ∧ s0.heap.size ≤ zsz h ∧ (∀ q, q < s0.heap.size → H[q]? = s0.heap[q]?) ∧ (∀ a ci, zK h a = some (Sum.inl ci) → zob s0 D h a ci H) ∧ ∀ a ty n, zK h a = some (Sum.inr (ty, n)) → zar s0 h a ty n H
def zdl : List Cond := [.landsInDefault "VibrationDesk$Op" ⟨"VibrationDesk$Op", "staying", "()I"⟩ ⟨"VibrationDesk$Move", "staying", "()I"⟩, .landsInDefault "VibrationDesk$Both" ⟨"VibrationDesk$Move", "leaves", "(I)Z"⟩ ⟨"VibrationDesk$Move", "leaves", "(I)Z"⟩, .landsInDefault "VibrationDesk$Op" ⟨"VibrationDesk$Move", "leaves", "(I)Z"⟩ ⟨"VibrationDesk$Move", "leaves", "(I)Z"⟩, .landsInDefault "VibrationDesk$Op" ⟨"VibrationDesk$Op", "rounds", "([I)I"⟩ ⟨"VibrationDesk$Move", "rounds", "([I)I"⟩, .landsInDefault "VibrationDesk$Both" ⟨"VibrationDesk$Move", "lengthFrom", "(I)I"⟩ ⟨"VibrationDesk$Move", "lengthFrom", "(I)I"⟩, .landsInDefault "VibrationDesk$Op" ⟨"VibrationDesk$Move", "lengthFrom", "(I)I"⟩ ⟨"VibrationDesk$Move", "lengthFrom", "(I)I"⟩, .landsInDefault "VibrationDesk$Op" ⟨"VibrationDesk$Op", "leaves", "(I)Z"⟩ ⟨"VibrationDesk$Move", "leaves", "(I)Z"⟩]
/-- the words that hold at the law's start -/
def zt : List Cond := lw_tbl ++ (defaultWords_1 ++ zdl)
/-- a word of the tables that holds at every method's start -/
def zW (w : Cond) : Prop := ∀ (s0 s : State) (b0 : Nat) (args : Array Value), (∀ w' ∈ zt, w'.before #[Value.ref b0] s0 = true) → s0.WarmedH s.vm → w.before args s = true
theorem zW_all {w : Cond} (q : w ∈ lw_all) : zW w := fun _ _ _ _ h hW => word_at hW (good_of_word (List.mem_filter.mp q).2) (h w (List.mem_append_left _ (lw_all_tbl q)))
theorem zW_nF {a : String} {i : Nat} {b n d h : String} (q : Cond.fieldLinkNest a i b n d h ∈ lw_tbl) : zW (.fieldLinkNest a i b n d h) := fun _ _ _ _ k hW => va_Nw.use rfl (va_Nw.warmF hW (va_Nw.of rfl (k _ (List.mem_append_left _ q))))
theorem zW_nM {a : String} {i : Nat} {x : MethodName} {h : String} (q : Cond.methodLinkNest a i x h ∈ lw_tbl) : zW (.methodLinkNest a i x h) := fun _ _ _ _ k hW => va_Nw.use rfl (va_Nw.warmM hW (va_Nw.of rfl (k _ (List.mem_append_left _ q))))
theorem zW_nD {x : MethodName} (q : Cond.declares x ∈ lw_tbl) : zW (.declares x) := fun _ _ _ _ k hW => va_Nw.use rfl (va_Nw.warmD hW (va_Nw.of rfl (k _ (List.mem_append_left _ q))))
theorem zW_nC {C T : String} (q : Cond.castable C T ∈ lw_tbl) : zW (.castable C T) := fun _ _ _ _ k hW => va_Nw.use rfl (va_Nw.warmC hW (va_Nw.of rfl (k _ (List.mem_append_left _ q))))
theorem zW_AO {C : String} (q : Cond.arrayOver (.object C) ∈ lw_tbl) : zW (.arrayOver (.object C)) := fun _ _ _ _ k hW => va_AO.use (va_AO.moved hW.alike (va_AO.of (k _ (List.mem_append_left _ q))))
theorem zW_dw {w : Cond} (q : w ∈ defaultWords_1) (hg : goodWord w = true) : zW w := fun _ _ _ _ h hW => word_at hW (good_of_word hg) (h w (List.mem_append_right _ (List.mem_append_left _ q)))
theorem zW_lD {C : String} {x y : MethodName} (q : Cond.landsInDefault C x y ∈ zdl) : zW (.landsInDefault C x y) := fun s0 s b0 args h hW => by
  have h1 := h _ (List.mem_append_right _ (List.mem_append_right _ q))
  have h2 : (Cond.landsInDefault C x y).before args (s0.setVm s.vm) = true := (Cond.landsInDefault_setVm hW.alike (State.methodFound?_setVm hW.alike _ _ _)).trans h1
  exact h2
/-- what is fixed at the law's start: the classes' numbers and slots -/
def zFx (s0 : State) (D : zD) : Prop := (∀ (c : Nat) (q : vw_C), zcl[c]? = some q → u_Kn s0 q.1 q.2.1 q.2.2 (D.1 c) (D.2 c)) ∧ ∀ (c : Nat) (q : vw_C), zcl[c]? = some q → ∀ x y, x < q.2.2 → y < q.2.2 → x ≠ y → D.2 c x ≠ D.2 c y
/-- the String constants: class, entry, text -/
def zSt (st : List (String × Nat × String)) (G : Nat → Nat) (s0 : State) : Prop := ∀ (j : Nat) (q : String × Nat × String), st[j]? = some q → vk_R q.1 q.2.1 q.2.2 (G j) s0
/-- the law's start: the heap's size; the constants' table and addresses; the statics' table and values -/
abbrev zB : Type := Nat × List (String × Nat × String) × (Nat → Nat) × List (String × String × String) × (Nat → zV)
def zSs (B : zB) (s0 : State) : Prop := (∀ (j : Nat) (q : String × String × String), B.2.2.2.1[j]? = some q → va_Z q.1 q.2.1 q.2.2 (zv (B.2.2.2.2 j)) (fun a => s0.heap.size ≤ a) s0 s0.heap) ∧ vx_Zq Bundle.tN "UNASSIGNED_STACK" Bundle.steD (fun a => s0.heap.size ≤ a) s0 s0.heap ∧ vx_Zq Bundle.tN "SUPPRESSED_SENTINEL" Bundle.listD (fun a => s0.heap.size ≤ a) s0 s0.heap
def zCx (B : zB) (s0 : State) (b0 : Nat) (D : zD) (l : Launch) (d : Nat) (I : zMI) (p : Program) (R : Room) (s : State) (m : MethodId) (meth : Method) (c : Code) : Prop :=
  p.tables.exec = Jvm.exec ∧ c.code = I.2.1 ∧ meth.sig.returnType = I.2.2.2.1 ∧ c.maxLocals = I.2.2.1 ∧ s.vm.findClass I.1.cls = some m.cls ∧ meth.locks = false ∧ meth.name = I.1.name ∧ (∀ w ∈ zt, w.before #[Value.ref b0] s0 = true) ∧ s0.WarmedH s.vm ∧ zFx s0 D ∧ d + 11 ≤ R.frames ∧ 128 * (d + 1) + 12000 ≤ R.locals ∧ l.flags = flags0 ∧ c.exceptionTable.toList = tableOf I.2.2.2.2 ∧ s0.heap.size = B.1 ∧ zSt B.2.1 B.2.2.1 s0 ∧ zSs B s0 ∧ s0.heap.size ≤ s.heap.size ∧ ∀ q, q < s0.heap.size → s.heap[q]? = s0.heap[q]?
def zLR (ls : Array Slot) (L : List zV) (nL : Nat) : Prop := ls.size = nL ∧ L.length = nL ∧ lv_wf ls ∧ ∀ (i : Nat) (v : zV), L[i]? = some v → v ≠ zj → ls[i]? = some (.val (zv v))
/-- a return instruction of the right kind, with its value -/
def zRt (I : zMI) (pc : Nat) (r : Option zV) : Prop :=
  (decode I.2.1 pc = .ok (.return_, 1) ∧ I.2.2.2.1 = none ∧ r = none) ∨
  (∃ (x : Int) (ty : FieldType), decode I.2.1 pc = .ok (.ireturn, 1) ∧ I.2.2.2.1 = some ty ∧ r = some (Sum.inl x) ∧ narrow ty (.int (Int32.ofInt x)) = .int (Int32.ofInt x)) ∨
  (∃ x : Int, decode I.2.1 pc = .ok (.lreturn, 1) ∧ I.2.2.2.1 = some .long ∧ r = some (Sum.inr (Sum.inr (Sum.inl x)))) ∨
  (∃ (x : Option Nat) (rt : FieldType), decode I.2.1 pc = .ok (.areturn, 1) ∧ I.2.2.2.1 = some rt ∧ ((∃ n, rt = .object n) ∨ ∃ t, rt = .array t) ∧ r = some (Sum.inr (Sum.inl x)))
/-- the heap, locals, counts of a point of the run -/
def zPt (s0 : State) (D : zD) (nL c0 n0 : Nat) (L : List zV) (h : zH) (H : Heap) (ls : Array Slot) (locs : List Loc) (cells slots : Nat) : Prop :=
  zRel s0 D h H ∧ zLR ls L nL ∧ cells + c0 = zsz h ∧ slots + n0 = zN h ∧ ∀ q ∈ locs, s0.heap.size ≤ q.base
def zKok (s0 : State) (D : zD) (I : zMI) (p : Program) (l : Launch) (e : Env) (R : Room) (s : State) (m : MethodId) (args : Array Value) (below : List Frame) (meth : Method) (c : Code) (Q : State → Prop) (cF sF c0 n0 : Nat) (K : zKt) : Prop :=
  ∀ pc L S h, K pc L S h → (zsz h ≤ cF ∧ zN h ≤ sF) ∧ ∀ H ls locs cells slots, zPt s0 D I.2.2.1 c0 n0 L h H ls locs cells slots → W p l e R s m args below meth c H locs cells slots Q (F0 m pc ls (S.map zv))
def zEok (s0 : State) (D : zD) (I : zMI) (p : Program) (l : Launch) (e : Env) (R : Room) (s : State) (m : MethodId) (args : Array Value) (below : List Frame) (meth : Method) (c : Code) (Q : State → Prop) (cF sF c0 n0 : Nat) (E : zEt) : Prop :=
  (∀ r h, E (Sum.inl r) h → ∀ L H ls locs cells slots pc, zPt s0 D I.2.2.1 c0 n0 L h H ls locs cells slots → zRt I pc r → W p l e R s m args below meth c H locs cells slots Q (F0 m pc ls (r.toList.map zv))) ∧
  (∀ a h, E (Sum.inr a) h → (zsz h ≤ cF ∧ zN h ≤ sF) ∧ ∀ L H ls locs cells slots pc st, zPt s0 D I.2.2.1 c0 n0 L h H ls locs cells slots → (∀ x ∈ c.exceptionTable.toList, covers x pc = false) → (∃ ci, zK h a = some (Sum.inl ci)) → s0.heap.size ≤ a → vx_W p l e R s m args below meth c H locs cells slots Q (F0 m pc ls st) a)
/-! the contract of a call of M -/
def zPc (s0 : State) (D : zD) (a : List zV) (h : zH) : Array Value → State → Prop := fun v U => v = (a.map zv).toArray ∧ zRel s0 D h U.heap ∧ s0.WarmedH U.vm
def zQc (s0 : State) (D : zD) (o : zO) (h' : zH) : Array Value → State → Outcome → State → Prop := fun _ _ oc t => ∃ r : Option zV, o = Sum.inl r ∧ oc = .returned (r.map zv) ∧ zRel s0 D h' t.heap
def zXc (s0 : State) (D : zD) (o : zO) (h' : zH) : Addr → String → State → State → Prop := fun q E _ t => ∃ (ci : Nat) (r : vw_C), o = Sum.inr q ∧ s0.heap.size ≤ q ∧ zK h' q = some (Sum.inl ci) ∧ zcl[ci]? = some r ∧ E = r.1 ∧ zRel s0 D h' t.heap
def zrm (d : Nat) (h h' : zH) : Room := { frames := d + 10, cells := zsz h' - zsz h, slots := zN h' - zN h, locals := 128 * d + 12000 }
def zfree (s0 : State) : Addr → Prop := fun q => s0.heap.size ≤ q
def zws (I : zMI) : List Cond := match I.2.2.2.2 with
  | [] => ws_ I.1 I.2.1 I.2.2.1 I.2.2.2.1
  | hh => wsW_ I.1 I.2.1 I.2.2.1 I.2.2.2.1 hh
def zCok (s0 : State) (D : zD) (l : Launch) (mi : Nat → zMI) (d : Nat) (C : zC) : Prop :=
  ∀ callee a h o h', C callee a h o h' → zsz h ≤ zsz h' ∧ zN h ≤ zN h' ∧
    zx_Met l (mi callee).1 (zws (mi callee)) (zrm d h h') (zPc s0 D a h) (zQc s0 D o h') (zXc s0 D o h') (zsz h' - zsz h) (zN h' - zN h) (zfree s0)
/-- an action is what the machine does at pc -/
def zSnd (B : zB) (mi : Nat → zMI) (I : zMI) (pc : Nat) (act : zAct) : Prop :=
  ∀ (s0 : State) (b0 : Nat) (D : zD) (l : Launch) (d : Nat) (p : Program) (e : Env) (R : Room) (s : State) (m : MethodId) (args : Array Value) (below : List Frame) (meth : Method) (c : Code) (C : zC) (Q : State → Prop) (cF sF c0 n0 : Nat) (L S : List zV) (h : zH) (K : zKt) (E : zEt) (H : Heap) (ls : Array Slot) (locs : List Loc) (cells slots : Nat),
    zCx B s0 b0 D l d I p R s m meth c → zCok s0 D l mi d C → cF ≤ c0 + R.cells → sF ≤ n0 + R.slots → zPt s0 D I.2.2.1 c0 n0 L h H ls locs cells slots → act C L S h K E →
    zKok s0 D I p l e R s m args below meth c Q cF sF c0 n0 K → zEok s0 D I p l e R s m args below meth c Q cF sF c0 n0 E →
    W p l e R s m args below meth c H locs cells slots Q (F0 m pc ls (S.map zv))
theorem snd_no (B : zB) (mi : Nat → zMI) (I : zMI) (pc : Nat) : zSnd B mi I pc za_no := by
  intro s0 b0 D l d p e R s m args below meth c C Q cF sF c0 n0 L S h K E H ls locs cells slots X hC hb1 hb2 hP ha hK hE
  exact ha.elim
/-! numbers -/
theorem zt_i (x : Int) : (Int32.ofInt x).toInt = zn x := by rw [Int32.toInt_ofInt]; rfl
theorem zt_l (x : Int) : (Int64.ofInt x).toInt = zm x := by rw [Int64.toInt_ofInt]; rfl
theorem zc_lt (x y : Int) : Int32.ofInt x < Int32.ofInt y ↔ zn x < zn y := by rw [Int32.lt_iff_toInt_lt, zt_i, zt_i]
theorem zc_le (x y : Int) : Int32.ofInt x ≤ Int32.ofInt y ↔ zn x ≤ zn y := by rw [Int32.le_iff_toInt_le, zt_i, zt_i]
theorem zc_eq (x y : Int) : Int32.ofInt x = Int32.ofInt y ↔ zn x = zn y := by rw [← Int32.toInt_inj, zt_i, zt_i]
theorem zc_0 : (0 : Int32) = Int32.ofInt 0 := by decide
theorem zn_0 : zn 0 = 0 := by decide
theorem zc_lt0 (x : Int) : Int32.ofInt x < 0 ↔ zn x < 0 := by rw [zc_0, zc_lt, zn_0]
theorem zc_le0 (x : Int) : Int32.ofInt x ≤ 0 ↔ zn x ≤ 0 := by rw [zc_0, zc_le, zn_0]
theorem zc_0lt (x : Int) : 0 < Int32.ofInt x ↔ 0 < zn x := by rw [zc_0, zc_lt, zn_0]
theorem zc_0le (x : Int) : 0 ≤ Int32.ofInt x ↔ 0 ≤ zn x := by rw [zc_0, zc_le, zn_0]
theorem zc_eq0 (x : Int) : Int32.ofInt x = 0 ↔ zn x = 0 := by rw [zc_0, zc_eq, zn_0]
theorem zn_lo (x : Int) : -2147483648 ≤ zn x ∧ zn x < 2147483648 := by unfold zn; rw [Int.bmod_def]; omega
theorem zm_lo (x : Int) : -9223372036854775808 ≤ zm x ∧ zm x < 9223372036854775808 := by unfold zm; rw [Int.bmod_def]; omega
theorem zn_zn (x : Int) : zn (zn x) = zn x := zn_id (zn_lo x).1 (zn_lo x).2
theorem zo_i (x : Int) : Int32.ofInt (zn x) = Int32.ofInt x := by rw [zc_eq, zn_zn]
theorem zm_zm (x : Int) : zm (zm x) = zm x := zm_id (zm_lo x).1 (zm_lo x).2
theorem zcl_eq (x y : Int) : Int64.ofInt x = Int64.ofInt y ↔ zm x = zm y := by rw [← Int64.toInt_inj, zt_l, zt_l]
theorem zo_l (x : Int) : Int64.ofInt (zm x) = Int64.ofInt x := by rw [zcl_eq, zm_zm]
theorem zt_c (x : Int) : (Int32.ofInt x).toNatClampNeg = (zn x).toNat := by
  rw [Int32.toNatClampNeg, zt_i]
/-! locals -/
def zlv (L : List zV) : List (Nat × Value) := (List.range L.length).filterMap (fun i => match L[i]? with
  | some v => if v = zj then none else some (i, zv v)
  | none => none)
theorem zlv_mem {L : List zV} {q : Nat × Value} : q ∈ zlv L ↔ ∃ v, L[q.1]? = some v ∧ v ≠ zj ∧ q.2 = zv v := by
  unfold zlv
  rw [List.mem_filterMap]
  constructor
  · rintro ⟨i, hi, h⟩
    cases e : L[i]? with
    | none => rw [e] at h; cases h
    | some v =>
      rw [e] at h
      by_cases hv : v = zj
      · simp [hv] at h
      · simp only [hv, if_false, Option.some.injEq] at h
        subst h
        exact ⟨v, e, hv, rfl⟩
  · rintro ⟨v, e, hv, h2⟩
    obtain ⟨i, w⟩ := q
    refine ⟨i, List.mem_range.mpr (List.getElem?_eq_some_iff.mp e).1, ?_⟩
    dsimp only at e h2
    rw [e]
    simp [hv, h2]
theorem zLR.has {ls : Array Slot} {L : List zV} {nL : Nat} (h : zLR ls L nL) : lv_has ls nL (zlv L) := by
  refine ⟨h.1, h.2.2.1, fun q hq => ?_⟩
  obtain ⟨v, e, hv, h2⟩ := zlv_mem.mp hq
  rw [h2]
  exact h.2.2.2 q.1 v e hv
theorem zcat2 (v : zV) : (zv v).category = 2 ↔ ∃ x, v = Sum.inr (Sum.inr (Sum.inl x)) := by
  rcases v with x | (_ | a) | x | u <;> simp [zv, Value.category]
theorem zkill_succ (L : List zV) (i : Nat) : zkill L (i + 1) = match L[i]? with
    | some (Sum.inr (Sum.inr (Sum.inl _))) => L.set i zj
    | _ => L := rfl
theorem zkill_len (L : List zV) (i : Nat) : (zkill L i).length = L.length := by
  cases i with
  | zero => rfl
  | succ i =>
    rw [zkill_succ]
    split
    · simp
    · rfl
theorem zkill_at {L : List zV} {i j : Nat} {w : zV} (h : (zkill L i)[j]? = some w) (hw : w ≠ zj) : L[j]? = some w ∧ ¬ (j + 1 = i ∧ (zv w).category = 2) := by
  cases i with
  | zero => exact ⟨h, fun q => by omega⟩
  | succ i =>
    rw [zkill_succ] at h
    split at h
    · rename_i x e
      by_cases hj : j = i
      · subst hj
        rw [List.getElem?_set] at h
        simp at h
        exact absurd h.2.symm hw
      · rw [List.getElem?_set_ne (Ne.symm hj)] at h
        exact ⟨h, fun q => hj (by omega)⟩
    · rename_i e
      refine ⟨h, fun q => ?_⟩
      obtain ⟨x, rfl⟩ := (zcat2 w).mp q.2
      have : j = i := by omega
      subst this
      exact e x h
theorem zput_LR {ls ls' : Array Slot} {L : List zV} {nL i : Nat} {v : zV} (hl : zLR ls L nL) (hi : i < nL)
    (h' : lv_has ls' nL ((i, zv v) :: (zlv L).filter (fun q => !(q.1 == i) && !(q.1 + 1 == i && q.2.category == 2)))) : zLR ls' (zput L i v) nL := by
  refine ⟨h'.1, by unfold zput; rw [List.length_set, zkill_len]; exact hl.2.1, h'.2.1, fun j w hj hw => ?_⟩
  unfold zput at hj
  by_cases hji : j = i
  · subst hji
    rw [List.getElem?_set_self (by rw [zkill_len, hl.2.1]; exact hi)] at hj
    cases hj
    exact h'.2.2 _ List.mem_cons_self
  · rw [List.getElem?_set_ne (Ne.symm hji)] at hj
    obtain ⟨e1, e2⟩ := zkill_at hj hw
    refine h'.2.2 (j, zv w) (List.mem_cons_of_mem _ (List.mem_filter.mpr ⟨zlv_mem.mpr ⟨w, e1, hw, rfl⟩, ?_⟩))
    simp only [Bool.and_eq_true, Bool.not_eq_true', beq_eq_false_iff_ne, ne_eq, Bool.and_eq_false_iff]
    refine ⟨hji, ?_⟩
    by_cases hq : j + 1 = i
    · exact Or.inr fun z => e2 ⟨hq, z⟩
    · exact Or.inl hq
theorem zput2_LR {ls ls' : Array Slot} {L : List zV} {nL i : Nat} {v : zV} (hl : zLR ls L nL) (hi : i + 1 < nL)
    (h' : lv_has ls' nL ((i, zv v) :: (zlv L).filter (fun q => !(q.1 == i) && (!(q.1 == i + 1) && !(q.1 + 1 == i && q.2.category == 2))))) : zLR ls' (zput2 L i v) nL := by
  refine ⟨h'.1, by unfold zput2; rw [List.length_set, List.length_set, zkill_len]; exact hl.2.1, h'.2.1, fun j w hj hw => ?_⟩
  unfold zput2 at hj
  by_cases hj1 : j = i + 1
  · subst hj1
    rw [List.getElem?_set_self (by rw [List.length_set, zkill_len, hl.2.1]; exact hi)] at hj
    cases hj
    exact absurd rfl hw
  · rw [List.getElem?_set_ne (Ne.symm hj1)] at hj
    by_cases hji : j = i
    · subst hji
      rw [List.getElem?_set_self (by rw [zkill_len, hl.2.1]; omega)] at hj
      cases hj
      exact h'.2.2 _ List.mem_cons_self
    · rw [List.getElem?_set_ne (Ne.symm hji)] at hj
      obtain ⟨e1, e2⟩ := zkill_at hj hw
      refine h'.2.2 (j, zv w) (List.mem_cons_of_mem _ (List.mem_filter.mpr ⟨zlv_mem.mpr ⟨w, e1, hw, rfl⟩, ?_⟩))
      simp only [Bool.and_eq_true, Bool.not_eq_true', beq_eq_false_iff_ne, ne_eq, Bool.and_eq_false_iff]
      refine ⟨hji, hj1, ?_⟩
      by_cases hq : j + 1 = i
      · exact Or.inr fun z => e2 ⟨hq, z⟩
      · exact Or.inl hq
