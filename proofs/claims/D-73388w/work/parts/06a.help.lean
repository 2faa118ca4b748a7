/-! ===== helpers for the program's rows ===== -/
theorem zq_I (x : Int) (_ : (-2147483648) ≤ zn x) (_ : zn x ≤ 2147483647) : narrow .int (.int (Int32.ofInt x)) = .int (Int32.ofInt x) ∧ fits .int (.int (Int32.ofInt x)) = true := ⟨rfl, rfl⟩
theorem zq_Z (x : Int) (h1 : 0 ≤ zn x) (h2 : zn x ≤ 1) : narrow .boolean (.int (Int32.ofInt x)) = .int (Int32.ofInt x) ∧ fits .boolean (.int (Int32.ofInt x)) = true := by
  have h : zn x = 0 ∨ zn x = 1 := by omega
  rw [← zo_i x]
  rcases h with h | h <;> rw [h] <;> decide
theorem zq_C (x : Int) (h1 : 0 ≤ zn x) (h2 : zn x ≤ 65535) : narrow .char (.int (Int32.ofInt x)) = .int (Int32.ofInt x) ∧ fits .char (.int (Int32.ofInt x)) = true := by
  have e : Int32.ofInt x = nI (zn x).toNat := by
    rw [← zo_i x]
    apply Int32.toInt_inj.mp
    rw [zt_i, zn_zn, nI_toInt (by omega)]
    omega
  rw [e]
  exact pk_charN (by omega)
theorem zq_B (x : Int) (h1 : (-128) ≤ zn x) (h2 : zn x ≤ 127) : narrow .byte (.int (Int32.ofInt x)) = .int (Int32.ofInt x) ∧ fits .byte (.int (Int32.ofInt x)) = true := by
  have e : (Int32.ofInt x).toInt8.toInt32 = Int32.ofInt x := by
    apply Int32.toInt_inj.mp
    rw [Int8.toInt_toInt32, Int32.toInt_toInt8, zt_i, Int.bmod_def]
    omega
  refine ⟨congrArg Value.int e, ?_⟩
  rw [← e]
  exact pk_fb _
theorem zq_J (x : Int) : narrow .long (.long (Int64.ofInt x)) = .long (Int64.ofInt x) ∧ fits .long (.long (Int64.ofInt x)) = true := ⟨rfl, rfl⟩
theorem zq_A {ty : FieldType} (x : Option Nat) (h : (∃ n, ty = .object n) ∨ ∃ t, ty = .array t) : narrow ty (va_rf x) = va_rf x ∧ fits ty (va_rf x) = true := by
  rcases h with ⟨n, rfl⟩ | ⟨t, rfl⟩ <;> cases x <;> exact ⟨rfl, rfl⟩
theorem zr_I (x : Int) (a : (-2147483648) ≤ zn x) (b : zn x ≤ 2147483647) : narrow .int (.int (Int32.ofInt x)) = .int (Int32.ofInt x) := (zq_I x a b).1
theorem zr_Z (x : Int) (a : 0 ≤ zn x) (b : zn x ≤ 1) : narrow .boolean (.int (Int32.ofInt x)) = .int (Int32.ofInt x) := (zq_Z x a b).1
theorem zr_C (x : Int) (a : 0 ≤ zn x) (b : zn x ≤ 65535) : narrow .char (.int (Int32.ofInt x)) = .int (Int32.ofInt x) := (zq_C x a b).1
theorem zr_B (x : Int) (a : (-128) ≤ zn x) (b : zn x ≤ 127) : narrow .byte (.int (Int32.ofInt x)) = .int (Int32.ofInt x) := (zq_B x a b).1
theorem zHok0 {I : zMI} {pc : Nat} (h : I.2.2.2.2 = []) : zHok I pc zh0 := Or.inl ⟨rfl, fun x hx => by rw [h] at hx; cases hx⟩
theorem zHokN {I : zMI} {pc : Nat} (h : (tableOf I.2.2.2.2).all (fun x => !covers x pc) = true) : zHok I pc zh0 := Or.inl ⟨rfl, fun x hx => by
  have := List.all_eq_true.mp h x hx
  cases hc : covers x pc with
  | false => rfl
  | true => rw [hc] at this; cases this⟩
theorem zlen {desc : String} {n : Nat} {sg : MethodDescriptor} (h : parseMethodDescriptor desc = some sg) (hn : n = sg.parameters.length) : ∀ sig, parseMethodDescriptor desc = some sig → n = sig.parameters.length := fun sig hs => by
  cases h.symm.trans hs
  exact hn
def zokO (ci : Nat) : zKd → Bool
  | Sum.inl c => c == ci
  | _ => false
theorem zokO_eq (ci : Nat) : ∀ kd, zokO ci kd = true → kd = Sum.inl ci := by
  intro kd h
  rcases kd with c | q
  · simp [zokO] at h; rw [h]
  · cases h
def zokI : zKd → Bool
  | Sum.inr (.int, _) => true
  | _ => false
theorem zokI_eq : ∀ kd, zokI kd = true → ∃ n, kd = Sum.inr (FieldType.int, n) := by
  intro kd h
  rcases kd with c | ⟨t, n⟩
  · cases h
  · cases t <;> first | exact ⟨n, rfl⟩ | cases h
theorem zW_pu {x : MethodName} (q : Cond.publicMethod x ∈ lw_tbl) : zW (.publicMethod x) := fun s0 s b0 args k hW => va_tabs (A := #[Value.ref b0]) rfl (rfl : (s0.setVm s.vm).vm = s.vm) (by rw [Cond.publicMethod_setVm hW.alike]; exact k _ (List.mem_append_left _ q))
theorem zW_un {a n d : String} (q : Cond.unhidden a n d ∈ lw_tbl) : zW (.unhidden a n d) := fun s0 s b0 args k hW => va_tabs (A := #[Value.ref b0]) rfl (rfl : (s0.setVm s.vm).vm = s.vm) (by rw [Cond.unhidden_setVm hW.alike]; exact k _ (List.mem_append_left _ q))
theorem zW_if {x : MethodName} (qd : Cond.declares x ∈ lw_tbl) (hx : x.cls ≠ "java/lang/invoke/MethodHandle" ∧ x.cls ≠ "java/lang/invoke/VarHandle") (q : Cond.interfaceMethod x.cls x.cls x.name x.desc ∈ lw_tbl) : zW (.interfaceMethod x.cls x.cls x.name x.desc) := fun s0 s b0 args k hW => by
  obtain ⟨r, meth, hn, -⟩ := Cond.declares_spec (k _ (List.mem_append_left _ qd))
  exact va_tabs (A := #[Value.ref b0]) rfl (rfl : (s0.setVm s.vm).vm = s.vm) (by rw [Cond.interfaceMethod_setVm hW.alike (r := r) hn hx]; exact k _ (List.mem_append_left _ q))
theorem sl {B : zB} {mi : Nat → zMI} {I : zMI} {k pc : Nat} {a : zAct} (h : zSnd B mi I k a) : zSnd B mi I pc (if pc = k then a else za_no) := by
  by_cases e : pc = k
  · subst e; rw [if_pos rfl]; exact h
  · rw [if_neg e]; exact snd_no B mi I pc
theorem si {B : zB} {mi : Nat → zMI} {I : zMI} {pc : Nat} {c : Prop} [Decidable c] {a d : zAct} (h1 : zSnd B mi I pc a) (h2 : zSnd B mi I pc d) : zSnd B mi I pc (if c then a else d) := by
  by_cases e : c
  · rw [if_pos e]; exact h1
  · rw [if_neg e]; exact h2
theorem zcls_i {Cn : String} {n : Nat} (q : Cond.instantiable Cn n ∈ lw_tbl) : ∀ (s0 : State) (b0 : Nat), (∀ w ∈ zt, w.before #[Value.ref b0] s0 = true) → ∀ comp, s0.vm.findClass Cn = some comp → ∃ kc, s0.vm.classes[comp]? = some kc := by
  intro s0 b0 h comp hc
  obtain ⟨cC, kC, hfc, hk, -⟩ := Cond.instantiable_spec (h _ (List.mem_append_left _ q))
  cases hfc.symm.trans hc
  exact ⟨kC, hk⟩
theorem zcls_a {t : FieldType} (q : Cond.arrayClass t ∈ lw_tbl) : ∀ (s0 : State) (b0 : Nat), (∀ w ∈ zt, w.before #[Value.ref b0] s0 = true) → ∀ comp, s0.vm.findClass (FieldType.array t).toString = some comp → ∃ kc, s0.vm.classes[comp]? = some kc := by
  intro s0 b0 h comp hc
  obtain ⟨cC, kC, -, hfc, hk, -⟩ := Cond.arrayClass_spec (h _ (List.mem_append_left _ q))
  have hc' : s0.vm.findClass ("[" ++ t.toString) = some comp := hc
  cases hfc.symm.trans hc'
  exact ⟨kC, hk⟩
theorem zhk1 {I : zMI} {pc : Nat} {hs : zHs} (cx : Nat) {r : vw_C} (x : ExceptionTableEntry) (nm : String) (h1 : hs = zh1 cx x.handlerPc) (h2 : zcl[cx]? = some r) (h3 : tableOf I.2.2.2.2 = [x]) (h4 : covers x pc = true) (h5 : x.catchType ≠ 0) (h6 : zW (Cond.classLink I.1.cls x.catchType nm)) (h7 : zW (Cond.castable r.1 nm)) : zHok I pc hs := Or.inr ⟨cx, r, x, nm, h1, h2, h3, h4, h5, h6, h7⟩
theorem ll {k pc : Nat} {a : zAct} (h : zLin a) : zLin (if pc = k then a else za_no) := by
  by_cases e : pc = k
  · rw [if_pos e]; exact h
  · rw [if_neg e]; exact lin_no
theorem li {c : Prop} [Decidable c] {a d : zAct} (h1 : zLin a) (h2 : zLin d) : zLin (if c then a else d) := by
  by_cases e : c
  · rw [if_pos e]; exact h1
  · rw [if_neg e]; exact h2
theorem pl {B : zB} {mi : Nat → zMI} {k m pc : Nat} {p : Nat → zAct} (h : ∀ pc, zSnd B mi (mi k) pc (p pc)) : zSnd B mi (mi m) pc ((if m = k then p else fun _ => za_no) pc) := by
  by_cases e : m = k
  · subst e; rw [if_pos rfl]; exact h pc
  · rw [if_neg e]; exact snd_no B mi _ pc
theorem pi {B : zB} {mi : Nat → zMI} {m pc : Nat} {c : Prop} [Decidable c] {p q : Nat → zAct} (h1 : zSnd B mi (mi m) pc (p pc)) (h2 : zSnd B mi (mi m) pc (q pc)) : zSnd B mi (mi m) pc ((if c then p else q) pc) := by
  by_cases e : c
  · rw [if_pos e]; exact h1
  · rw [if_neg e]; exact h2
theorem ql {k m pc : Nat} {p : Nat → zAct} (h : ∀ pc, zLin (p pc)) : zLin ((if m = k then p else fun _ => za_no) pc) := by
  by_cases e : m = k
  · rw [if_pos e]; exact h pc
  · rw [if_neg e]; exact lin_no
theorem qi {pc : Nat} {c : Prop} [Decidable c] {p q : Nat → zAct} (h1 : zLin (p pc)) (h2 : zLin (q pc)) : zLin ((if c then p else q) pc) := by
  by_cases e : c
  · rw [if_pos e]; exact h1
  · rw [if_neg e]; exact h2
