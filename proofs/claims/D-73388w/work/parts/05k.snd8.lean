/-! ===== M is sound (8): calls of every kind ===== -/
def zRes (s0 : State) (D : zD) (o : zO) (h h1 : zH) (p : Program) (l : Launch) (e : Env) (R : Room) (s : State) (m : MethodId) (args : Array Value) (below : List Frame) (meth : Method) (c : Code) (locs : List Loc) (cells slots pc : Nat) (ls : Array Slot) (stk : List Value) (len : Nat) (Rr : List zV) (T : State) (aa : Array Value) : Prop :=
  (∃ (v : Option Value) (vm₁ : Vm) (Bp : Pt), s.WarmedH vm₁ ∧ Stand p l e R s m args below meth c Bp.U Bp.locs Bp.cells Bp.slots ∧ PostOf (zQc s0 D o h1) (zsz h1 - zsz h) (zN h1 - zN h) (zfree s0) ⟨T.setVm vm₁, locs, cells, slots⟩ aa v Bp ∧
        ∀ target, Steps p.tables e below (Bp.U.setTop { F0 m pc ls stk with pc := pc + len, stack := v.toList ++ Rr.map zv }) target → Steps p.tables e below (T.setTop (F0 m pc ls stk)) target) ∨
      (∃ (q : Addr) (vm₁ : Vm) (Bp : Pt), s.WarmedH vm₁ ∧ Stand p l e R s m args below meth c Bp.U Bp.locs Bp.cells Bp.slots ∧ zx_Post (zXc s0 D o h1) (zsz h1 - zsz h) (zN h1 - zN h) (zfree s0) ⟨T.setVm vm₁, locs, cells, slots⟩ aa q Bp ∧
        Steps p.tables e below (T.setTop (F0 m pc ls stk)) ((Bp.U.setTop { F0 m pc ls stk with stack := Rr.map zv }).pushFrame (.throwing q)))
/-- a call at pc of a receiver of class ci runs the method callee -/
def zVok (B : zB) (mi : Nat → zMI) (I : zMI) (pc len n ci callee : Nat) : Prop := ∀ (s0 : State) (b0 : Nat) (D : zD) (l : Launch) (d : Nat) (p : Program) (e : Env) (R : Room) (s : State) (m : MethodId) (args : Array Value) (below : List Frame) (meth : Method) (c : Code) (C : zC) (c0 n0 : Nat) (L S : List zV) (h h1 : zH) (o : zO) (H : Heap) (ls : Array Slot) (locs : List Loc) (cells slots : Nat) (T : State) (a : Nat),
  zCx B s0 b0 D l d I p R s m meth c → zCok s0 D l mi d C → zPt s0 D I.2.2.1 c0 n0 L h H ls locs cells slots → n + 1 ≤ S.length → S.length ≤ 24 → S[n]? = some (Sum.inr (Sum.inl (some a))) → zK h a = some (Sum.inl ci) → C callee (Sum.inr (Sum.inl (some a)) :: (S.take n).reverse) h o h1 → T.heap = H → Stand p l e R s m args below meth c T locs cells slots →
  (∀ vm₁, s.WarmedH vm₁ → PreOf R (zsz h1 - zsz h) (zN h1 - zN h) (zPc s0 D (Sum.inr (Sum.inl (some a)) :: (S.take n).reverse) h) ⟨T.setVm vm₁, locs, cells, slots⟩ (Value.ref a :: (S.take n).reverse.map zv).toArray) →
  zRes s0 D o h h1 p l e R s m args below meth c locs cells slots pc ls (S.map zv) len (S.drop (n + 1)) T (Value.ref a :: (S.take n).reverse.map zv).toArray
section
variable {B : zB} {mi : Nat → zMI} {I : zMI} {pc nx : Nat}
theorem snd_invG {tab : List (Nat × Nat)} {n len : Nat} {hs : zHs} (hok : ∀ ci callee, tab.lookup ci = some callee → zVok B mi I pc len n ci callee) (hH : zHok I pc hs) (hn : pc + len = nx) : zSnd B mi I pc (za_invV tab n nx hs) := by
  intro s0 b0 D l d p e R s m args below meth c C Q cF sF c0 n0 L S h K E H ls locs cells slots X hC hb1 hb2 hP ha hK hE
  have hwm := X.2.2.2.2.2.2.2.2.1
  subst hn
  obtain ⟨a1, a2, ha⟩ := ha
  split at ha
  · rename_i a hSn
    split at ha
    · rename_i ci hk
      split at ha
      · rename_i cal hlook
        obtain ⟨o, h1, hc, ha⟩ := ha
        intro T hT Xs
        have hm := hC _ _ _ _ _ hc
        have hpre := zpre (a := (S.take (n + 1)).reverse) (T := T) hwm hP hb1 hb2 hm.1 hm.2.1 (zaft_bd ha hK hE) hT
        rw [zargs1 hSn] at hpre hc
        exact zafter (len := len) (aa := (Value.ref a :: (S.take n).reverse.map zv).toArray) X hP hm.1 hm.2.1 hH ha hK hE (hok ci cal hlook s0 b0 D l d p e R s m args below meth c C c0 n0 L S h h1 o H ls locs cells slots T a X hC hP a1 a2 hSn hk hc hT Xs hpre)
      · exact ha.elim
    · exact ha.elim
  · exact ha.elim
/-- one class only -/
theorem vok_1 {n len ci callee : Nat} (h : zVok B mi I pc len n ci callee) : ∀ ci' callee', ([(ci, callee)] : List (Nat × Nat)).lookup ci' = some callee' → zVok B mi I pc len n ci' callee' := by
  intro ci' cal hl
  by_cases q : ci' = ci
  · subst q
    simp [List.lookup] at hl
    subst hl
    exact h
  · have q2 : (ci' == ci) = false := by simpa using q
    simp [List.lookup, q2] at hl
theorem vok_2 {n len ci callee ci2 callee2 : Nat} (h : zVok B mi I pc len n ci callee) (h2 : zVok B mi I pc len n ci2 callee2) : ∀ ci' callee', ([(ci, callee), (ci2, callee2)] : List (Nat × Nat)).lookup ci' = some callee' → zVok B mi I pc len n ci' callee' := by
  intro ci' cal hl
  by_cases q : ci' = ci
  · subst q
    simp [List.lookup] at hl
    subst hl
    exact h
  · have q2 : (ci' == ci) = false := by simpa using q
    refine vok_1 h2 ci' cal ?_
    simpa [List.lookup, q2] using hl
theorem vok_V {callee n idx ci N : Nat} {C9 : String} {T9 : u_T} (hci : zcl[ci]? = some (C9, T9, N)) (hh : (mi callee).2.2.2.2 = []) (hmax : (mi callee).2.2.1 ≤ 60) (hwc : zW (Cond.code (mi callee).1 (mi callee).2.1 (mi callee).2.2.1 (mi callee).2.2.2.1)) (hwi : zW (Cond.initialized (mi callee).1.cls)) (hwl : zW (Cond.methodLink I.1.cls idx (mi callee).1)) (hws : zW (Cond.instanceMethod (mi callee).1)) (hse : zW (Cond.selects C9 (mi callee).1 (mi callee).1)) (hy : (mi callee).1.cls ≠ "java/lang/invoke/MethodHandle" ∧ (mi callee).1.cls ≠ "java/lang/invoke/VarHandle") (hlen : ∀ sig, parseMethodDescriptor (mi callee).1.desc = some sig → n = sig.parameters.length) (hd : decode I.2.1 pc = .ok (.invokevirtual idx, 3)) : zVok B mi I pc 3 n ci callee := by
  intro s0 b0 D l d p e R s m args below meth c C c0 n0 L S h h1 o H ls locs cells slots T a X9 hC hP a1 a2 hSn hk hc hT Xs hpre
  obtain ⟨hx, hb, hr, hml, hown, hlk, hnm, hwd, hwm, hfx, hRf, hRl, hfl, hex, hB, hSt⟩ := X9
  have X9 : zCx B s0 b0 D l d I p R s m meth c := ⟨hx, hb, hr, hml, hown, hlk, hnm, hwd, hwm, hfx, hRf, hRl, hfl, hex, hB, hSt⟩
  obtain ⟨r, cell, g1, g2, g3, g4, g5, g6, g7⟩ := hP.1.2.2.2.1 a _ hk
  have hKn := u_Kn_moved hwm.alike (hfx.1 _ _ hci)
  refine vx_callV (C := C9) Xs hx hown (hwl s0 s b0 args hwd hwm) (hws s0 s b0 args hwd hwm) (hse s0 s b0 args hwd hwm) (hwc s0 s b0 args hwd hwm) hy (zback X9 hC hc hh hmax hwc hwi) (by rw [hT]; exact g2) g5 (by rw [g3]; exact hKn.2.1) (g := F0 m pc ls (S.map zv)) rfl (by rw [hml]; exact hP.2.1.1) (argsL := (S.take n).reverse.map zv) (rest := (S.drop (n + 1)).map zv) ?_ ?_ ?_ (by rw [hb]; exact hd) hpre
  · intro sig hsig
    rw [List.length_map, List.length_reverse, List.length_take, ← hlen sig hsig]
    omega
  · show S.map zv = _
    rw [← List.map_reverse, List.reverse_reverse]
    conv => lhs; rw [zargs2 hSn]
    rw [List.map_append]
    rfl
  · have := zcat_le (S.drop (n + 1))
    rw [List.length_drop] at this
    show 2 * 0 + _ ≤ 48
    omega
theorem vok_VN {callee n idx ci N : Nat} {C9 host : String} {T9 : u_T} (hci : zcl[ci]? = some (C9, T9, N)) (hh : (mi callee).2.2.2.2 = []) (hmax : (mi callee).2.2.1 ≤ 60) (hwc : zW (Cond.code (mi callee).1 (mi callee).2.1 (mi callee).2.2.1 (mi callee).2.2.2.1)) (hwi : zW (Cond.initialized (mi callee).1.cls)) (hwl : zW (Cond.methodLinkNest I.1.cls idx (mi callee).1 host)) (hws : zW (Cond.instanceMethod (mi callee).1)) (hse : zW (Cond.selects C9 (mi callee).1 (mi callee).1)) (hy : (mi callee).1.cls ≠ "java/lang/invoke/MethodHandle" ∧ (mi callee).1.cls ≠ "java/lang/invoke/VarHandle") (hlen : ∀ sig, parseMethodDescriptor (mi callee).1.desc = some sig → n = sig.parameters.length) (hd : decode I.2.1 pc = .ok (.invokevirtual idx, 3)) : zVok B mi I pc 3 n ci callee := by
  intro s0 b0 D l d p e R s m args below meth c C c0 n0 L S h h1 o H ls locs cells slots T a X9 hC hP a1 a2 hSn hk hc hT Xs hpre
  obtain ⟨hx, hb, hr, hml, hown, hlk, hnm, hwd, hwm, hfx, hRf, hRl, hfl, hex, hB, hSt⟩ := X9
  have X9 : zCx B s0 b0 D l d I p R s m meth c := ⟨hx, hb, hr, hml, hown, hlk, hnm, hwd, hwm, hfx, hRf, hRl, hfl, hex, hB, hSt⟩
  obtain ⟨r, cell, g1, g2, g3, g4, g5, g6, g7⟩ := hP.1.2.2.2.1 a _ hk
  have hKn := u_Kn_moved hwm.alike (hfx.1 _ _ hci)
  refine vx_callVN (C := C9) Xs hx hown (hwl s0 s b0 args hwd hwm) (hws s0 s b0 args hwd hwm) (hse s0 s b0 args hwd hwm) (hwc s0 s b0 args hwd hwm) hy (zback X9 hC hc hh hmax hwc hwi) (by rw [hT]; exact g2) g5 (by rw [g3]; exact hKn.2.1) (g := F0 m pc ls (S.map zv)) rfl (by rw [hml]; exact hP.2.1.1) (argsL := (S.take n).reverse.map zv) (rest := (S.drop (n + 1)).map zv) ?_ ?_ ?_ (by rw [hb]; exact hd) hpre
  · intro sig hsig
    rw [List.length_map, List.length_reverse, List.length_take, ← hlen sig hsig]
    omega
  · show S.map zv = _
    rw [← List.map_reverse, List.reverse_reverse]
    conv => lhs; rw [zargs2 hSn]
    rw [List.map_append]
    rfl
  · have := zcat_le (S.drop (n + 1))
    rw [List.length_drop] at this
    show 2 * 0 + _ ≤ 48
    omega
theorem vok_W {callee n idx ci N : Nat} {C9 : String} {T9 : u_T} (hci : zcl[ci]? = some (C9, T9, N)) (hh : (mi callee).2.2.2.2 ≠ []) (hmax : (mi callee).2.2.1 ≤ 60) (hwc : zW (Cond.codeWith (mi callee).1 (mi callee).2.1 (mi callee).2.2.1 (mi callee).2.2.2.1 (mi callee).2.2.2.2)) (hwi : zW (Cond.initialized (mi callee).1.cls)) (hwl : zW (Cond.methodLink I.1.cls idx (mi callee).1)) (hws : zW (Cond.instanceMethod (mi callee).1)) (hse : zW (Cond.selects C9 (mi callee).1 (mi callee).1)) (hy : (mi callee).1.cls ≠ "java/lang/invoke/MethodHandle" ∧ (mi callee).1.cls ≠ "java/lang/invoke/VarHandle") (hlen : ∀ sig, parseMethodDescriptor (mi callee).1.desc = some sig → n = sig.parameters.length) (hd : decode I.2.1 pc = .ok (.invokevirtual idx, 3)) : zVok B mi I pc 3 n ci callee := by
  intro s0 b0 D l d p e R s m args below meth c C c0 n0 L S h h1 o H ls locs cells slots T a X9 hC hP a1 a2 hSn hk hc hT Xs hpre
  obtain ⟨hx, hb, hr, hml, hown, hlk, hnm, hwd, hwm, hfx, hRf, hRl, hfl, hex, hB, hSt⟩ := X9
  have X9 : zCx B s0 b0 D l d I p R s m meth c := ⟨hx, hb, hr, hml, hown, hlk, hnm, hwd, hwm, hfx, hRf, hRl, hfl, hex, hB, hSt⟩
  obtain ⟨r, cell, g1, g2, g3, g4, g5, g6, g7⟩ := hP.1.2.2.2.1 a _ hk
  have hKn := u_Kn_moved hwm.alike (hfx.1 _ _ hci)
  refine vx_callVX (C := C9) Xs hx hown (hwl s0 s b0 args hwd hwm) (hws s0 s b0 args hwd hwm) (hse s0 s b0 args hwd hwm) (hwc s0 s b0 args hwd hwm) hy (zbackW X9 hC hc hh hmax hwc hwi) (by rw [hT]; exact g2) g5 (by rw [g3]; exact hKn.2.1) (g := F0 m pc ls (S.map zv)) rfl (by rw [hml]; exact hP.2.1.1) (argsL := (S.take n).reverse.map zv) (rest := (S.drop (n + 1)).map zv) ?_ ?_ ?_ (by rw [hb]; exact hd) hpre
  · intro sig hsig
    rw [List.length_map, List.length_reverse, List.length_take, ← hlen sig hsig]
    omega
  · show S.map zv = _
    rw [← List.map_reverse, List.reverse_reverse]
    conv => lhs; rw [zargs2 hSn]
    rw [List.map_append]
    rfl
  · have := zcat_le (S.drop (n + 1))
    rw [List.length_drop] at this
    show 2 * 0 + _ ≤ 48
    omega
theorem vok_F {callee n idx count ci N : Nat} {C9 : String} {T9 : u_T} {x9 : MethodName} (hci : zcl[ci]? = some (C9, T9, N)) (hh : (mi callee).2.2.2.2 = []) (hmax : (mi callee).2.2.1 ≤ 60) (hwc : zW (Cond.code (mi callee).1 (mi callee).2.1 (mi callee).2.2.1 (mi callee).2.2.2.1)) (hwi : zW (Cond.initialized (mi callee).1.cls)) (hwl : zW (Cond.methodLink I.1.cls idx x9)) (hwd1 : zW (Cond.declares x9)) (hwf : zW (Cond.interfaceMethod x9.cls x9.cls x9.name x9.desc)) (hse : zW (Cond.selects C9 x9 (mi callee).1)) (hws : zW (Cond.instanceMethod (mi callee).1)) (hwp : zW (Cond.publicMethod (mi callee).1)) (hwu : zW (Cond.unhidden C9 x9.name x9.desc)) (hwk : zW (Cond.castable C9 x9.cls)) (hy : x9.cls ≠ "java/lang/invoke/MethodHandle" ∧ x9.cls ≠ "java/lang/invoke/VarHandle") (hlen : ∀ sig, parseMethodDescriptor x9.desc = some sig → n = sig.parameters.length) (hd : decode I.2.1 pc = .ok (.invokeinterface idx count, 5)) : zVok B mi I pc 5 n ci callee := by
  intro s0 b0 D l d p e R s m args below meth c C c0 n0 L S h h1 o H ls locs cells slots T a X9 hC hP a1 a2 hSn hk hc hT Xs hpre
  obtain ⟨hx, hb, hr, hml, hown, hlk, hnm, hwd, hwm, hfx, hRf, hRl, hfl, hex, hB, hSt⟩ := X9
  have X9 : zCx B s0 b0 D l d I p R s m meth c := ⟨hx, hb, hr, hml, hown, hlk, hnm, hwd, hwm, hfx, hRf, hRl, hfl, hex, hB, hSt⟩
  obtain ⟨r, cell, g1, g2, g3, g4, g5, g6, g7⟩ := hP.1.2.2.2.1 a _ hk
  have hKn := u_Kn_moved hwm.alike (hfx.1 _ _ hci)
  obtain ⟨kB, hkB, -⟩ := hKn.2.2
  refine vx_callIF (C := C9) Xs hx hown (hwl s0 s b0 args hwd hwm) (hwd1 s0 s b0 args hwd hwm) (hwf s0 s b0 args hwd hwm) (hse s0 s b0 args hwd hwm) (hws s0 s b0 args hwd hwm) (hwp s0 s b0 args hwd hwm) (hwu s0 s b0 args hwd hwm) (hwk s0 s b0 args hwd hwm) (hwc s0 s b0 args hwd hwm) hy (zback X9 hC hc hh hmax hwc hwi) (by rw [hT]; exact g2) g5 (by rw [g3]; exact hKn.2.1) (by rw [g3]; exact hkB) (g := F0 m pc ls (S.map zv)) rfl (by rw [hml]; exact hP.2.1.1) (argsL := (S.take n).reverse.map zv) (rest := (S.drop (n + 1)).map zv) ?_ ?_ ?_ (by rw [hb]; exact hd) hpre
  · intro sig hsig
    rw [List.length_map, List.length_reverse, List.length_take, ← hlen sig hsig]
    omega
  · show S.map zv = _
    rw [← List.map_reverse, List.reverse_reverse]
    conv => lhs; rw [zargs2 hSn]
    rw [List.map_append]
    rfl
  · have := zcat_le (S.drop (n + 1))
    rw [List.length_drop] at this
    show 2 * 0 + _ ≤ 48
    omega
theorem snd_invSN {callee n idx : Nat} {host : String} {hs : zHs} (hh : (mi callee).2.2.2.2 = []) (hmax : (mi callee).2.2.1 ≤ 60) (hwc : zW (Cond.code (mi callee).1 (mi callee).2.1 (mi callee).2.2.1 (mi callee).2.2.2.1)) (hwi : zW (Cond.initialized (mi callee).1.cls)) (hwl : zW (Cond.methodLinkNest I.1.cls idx (mi callee).1 host)) (hws : zW (Cond.static (mi callee).1)) (hy : (mi callee).1.cls ≠ "java/lang/invoke/MethodHandle" ∧ (mi callee).1.cls ≠ "java/lang/invoke/VarHandle") (hlen : ∀ sig, parseMethodDescriptor (mi callee).1.desc = some sig → n = sig.parameters.length) (hH : zHok I pc hs) (hd : decode I.2.1 pc = .ok (.invokestatic idx, 3)) (hn : pc + 3 = nx) : zSnd B mi I pc (za_inv callee n nx hs) := by
  intro s0 b0 D l d p e R s m args below meth c C Q cF sF c0 n0 L S h K E H ls locs cells slots X hC hb1 hb2 hP ha hK hE
  have X9 := X
  obtain ⟨hx, hb, hr, hml, hown, hlk, hnm, hwd, hwm, hfx, hRf, hRl, hfl, hex, hB, hSt⟩ := X
  subst hn
  obtain ⟨a1, a2, o, h1, hc, ha⟩ := ha
  intro T hT Xs
  have hm := hC _ _ _ _ _ hc
  refine zafter (len := 3) (aa := ((S.take n).reverse.map zv).toArray) X9 hP hm.1 hm.2.1 hH ha hK hE ?_
  refine vx_callSN Xs hx hown (hwl s0 s b0 args hwd hwm) (hws s0 s b0 args hwd hwm) (hwi s0 s b0 args hwd hwm) (hwc s0 s b0 args hwd hwm) hy (zback X9 hC hc hh hmax hwc hwi) (g := F0 m pc ls (S.map zv)) rfl (by rw [hml]; exact hP.2.1.1) (argsL := (S.take n).reverse.map zv) (rest := (S.drop n).map zv) ?_ ?_ ?_ (by rw [hb]; exact hd) (zpre hwm hP hb1 hb2 hm.1 hm.2.1 (zaft_bd ha hK hE) hT)
  · intro sig hsig
    rw [List.length_map, List.length_reverse, List.length_take, ← hlen sig hsig]
    omega
  · show S.map zv = _
    rw [← List.map_reverse, List.reverse_reverse, ← List.map_append, List.take_append_drop]
  · have := zcat_le (S.drop n)
    rw [List.length_drop] at this
    show 2 * 0 + _ ≤ 48
    omega
theorem snd_invIN {callee n idx : Nat} {host : String} {hs : zHs} (hrt : (mi callee).2.2.2.1 = none) (hnm1 : (mi callee).1.name = "<init>") (hh : (mi callee).2.2.2.2 = []) (hmax : (mi callee).2.2.1 ≤ 60) (hwc : zW (Cond.code (mi callee).1 (mi callee).2.1 (mi callee).2.2.1 (mi callee).2.2.2.1)) (hwi : zW (Cond.initialized (mi callee).1.cls)) (hwl : zW (Cond.methodLinkNest I.1.cls idx (mi callee).1 host)) (hws : zW (Cond.instanceMethod (mi callee).1)) (hy : (mi callee).1.cls ≠ "java/lang/invoke/MethodHandle" ∧ (mi callee).1.cls ≠ "java/lang/invoke/VarHandle") (hlen : ∀ sig, parseMethodDescriptor (mi callee).1.desc = some sig → n = sig.parameters.length) (hH : zHok I pc hs) (hd : decode I.2.1 pc = .ok (.invokespecial idx, 3)) (hn : pc + 3 = nx) : zSnd B mi I pc (za_invI callee n nx hs) := by
  intro s0 b0 D l d p e R s m args below meth c C Q cF sF c0 n0 L S h K E H ls locs cells slots X hC hb1 hb2 hP ha hK hE
  have X9 := X
  obtain ⟨hx, hb, hr, hml, hown, hlk, hnm, hwd, hwm, hfx, hRf, hRl, hfl, hex, hB, hSt⟩ := X
  subst hn
  obtain ⟨a1, a2, ha⟩ := ha
  split at ha
  · rename_i a hSn
    obtain ⟨o, h1, hc, ha⟩ := ha
    intro T hT Xs
    have hm := hC _ _ _ _ _ hc
    have hwc9 := hwc s0 s b0 args hwd hwm
    rw [hrt] at hwc9
    have hpre := zpre (a := (S.take (n + 1)).reverse) (T := T) hwm hP hb1 hb2 hm.1 hm.2.1 (zaft_bd ha hK hE) hT
    rw [zargs1 hSn] at hpre hc
    refine zafter (len := 3) (aa := (Value.ref a :: (S.take n).reverse.map zv).toArray) X9 hP hm.1 hm.2.1 hH ha hK hE ?_
    refine vx_callIN Xs hx hown hnm1 (hwl s0 s b0 args hwd hwm) (hws s0 s b0 args hwd hwm) hwc9 hy (zback X9 hC hc hh hmax hwc hwi) (g := F0 m pc ls (S.map zv)) rfl (by rw [hml]; exact hP.2.1.1) (argsL := (S.take n).reverse.map zv) (rest := (S.drop (n + 1)).map zv) ?_ ?_ ?_ (by rw [hb]; exact hd) hpre
    · intro sig hsig
      rw [List.length_map, List.length_reverse, List.length_take, ← hlen sig hsig]
      omega
    · show S.map zv = _
      rw [← List.map_reverse, List.reverse_reverse]
      conv => lhs; rw [zargs2 hSn]
      rw [List.map_append]
      rfl
    · have := zcat_le (S.drop (n + 1))
      rw [List.length_drop] at this
      show 2 * 0 + _ ≤ 48
      omega
  · exact ha.elim
theorem snd_obj {idx : Nat} (hw1 : zW (Cond.methodLink I.1.cls idx Lib.objectInit)) (hw2 : zW (Cond.instanceMethod Lib.objectInit)) (hw3 : zW (Cond.code Lib.objectInit ⟨#[0xb1]⟩ 1 none)) (hd : decode I.2.1 pc = .ok (.invokespecial idx, 3)) (hn : pc + 3 = nx) : zSnd B mi I pc (za_obj nx) := by
  intro s0 b0 D l d p e R s m args below meth c C Q cF sF c0 n0 L S h K E H ls locs cells slots X hC hb1 hb2 hP ha hK hE
  obtain ⟨hx, hb, hr, hml, hown, hlk, hnm, hwd, hwm, hfx, hRf, hRl, hfl, hex, hB, hSt⟩ := X
  subst hn
  match S, ha with
  | Sum.inr (Sum.inl (some a)) :: S, ha =>
    have ha : S.length ≤ 24 ∧ K (pc + 3) L S h := ha
    replace hRl := Nat.le_trans (Nat.le_add_right (128 * (d + 1)) 12000) hRl
    have hz := zcat_le S
    refine W.objInit hx hb hown (hw1 s0 s b0 args hwd hwm) (hw2 s0 s b0 args hwd hwm) (hw3 s0 s b0 args hwd hwm) rfl (by rw [hml]; exact hP.2.1.1) rfl hd (by omega) ?_ (hK.go ha.2 hP)
    show 2 * 0 + _ + 12 ≤ R.locals
    have := ha.1
    omega
end
