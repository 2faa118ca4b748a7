/-! ===== M is sound (15): calls within StringBuilder, casts to arrays, clone ===== -/
theorem zW_pr {x : MethodName} (q : Cond.privateMethod x ∈ lw_tbl) : zW (.privateMethod x) := fun s0 s b0 args k hW => va_tabs (A := #[Value.ref b0]) rfl (rfl : (s0.setVm s.vm).vm = s.vm) (by rw [Cond.privateMethod_setVm hW.alike]; exact k _ (List.mem_append_left _ q))
section
variable {B : zB} {mi : Nat → zMI} {I : zMI} {pc nx : Nat}
theorem vok_P {callee n idx ci N : Nat} {C9 : String} {T9 : u_T} (hci : zcl[ci]? = some (C9, T9, N)) (hh : (mi callee).2.2.2.2 = []) (hmax : (mi callee).2.2.1 ≤ 60) (hwc : zW (Cond.code (mi callee).1 (mi callee).2.1 (mi callee).2.2.1 (mi callee).2.2.2.1)) (hwi : zW (Cond.initialized (mi callee).1.cls)) (hwl : zW (Cond.methodLink I.1.cls idx (mi callee).1)) (hws : zW (Cond.instanceMethod (mi callee).1)) (hpr : zW (Cond.privateMethod (mi callee).1)) (hsm : zW (Cond.sameMethod (mi callee).1.cls (mi callee).1.cls (mi callee).1.name (mi callee).1.desc)) (hy : (mi callee).1.cls ≠ "java/lang/invoke/MethodHandle" ∧ (mi callee).1.cls ≠ "java/lang/invoke/VarHandle") (hlen : ∀ sig, parseMethodDescriptor (mi callee).1.desc = some sig → n = sig.parameters.length) (hd : decode I.2.1 pc = .ok (.invokevirtual idx, 3)) : zVok B mi I pc 3 n ci callee := by
  intro s0 b0 D l d p e R s m args below meth c C c0 n0 L S h h1 o H ls locs cells slots T a X9 hC hP a1 a2 hSn hk hc hT Xs hpre
  obtain ⟨hx, hb, hr, hml, hown, hlk, hnm, hwd, hwm, hfx, hRf, hRl, hfl, hex, hB, hSt⟩ := X9
  have X9 : zCx B s0 b0 D l d I p R s m meth c := ⟨hx, hb, hr, hml, hown, hlk, hnm, hwd, hwm, hfx, hRf, hRl, hfl, hex, hB, hSt⟩
  obtain ⟨r, cell, g1, g2, g3, g4, g5, g6, g7⟩ := hP.1.2.2.2.1 a _ hk
  have hKn := u_Kn_moved hwm.alike (hfx.1 _ _ hci)
  have hpriv := Cond.privateMethod_at (hpr s0 s b0 args hwd hwm)
  obtain ⟨cn, ck, r1, hcn, hck, hni, hf, hn1⟩ := Cond.sameMethod_found (hsm s0 s b0 args hwd hwm)
  obtain ⟨mk, methM, hnamed, hmethM, hstM, habM⟩ := Cond.instanceMethod_spec (hws s0 s b0 args hwd hwm)
  obtain ⟨methM', cM, hmethM', -, -, -, -, -, -, hsigM⟩ := Cond.code_spec hnamed (hwc s0 s b0 args hwd hwm)
  cases hmethM.symm.trans hmethM'
  have hkP : s.vm.classes[mk.cls]? = some ck := by
    cases hcn.symm.trans (findClass_of_methodNamed hnamed)
    exact hck
  have hselP : selectMethod e.platform s.vm cell.cls mk = .method mk := selectMethod_private hmethM (hpriv mk methM hnamed hmethM)
  have hstk : S.map zv = ((S.take n).reverse.map zv).reverse ++ .ref a :: (S.drop (n + 1)).map zv := by
    rw [← List.map_reverse, List.reverse_reverse]
    conv => lhs; rw [zargs2 hSn]
    rw [List.map_append]
    rfl
  have hln : ((S.take n).reverse.map zv).length = methM.sig.parameters.length := by
    rw [List.length_map, List.length_reverse, List.length_take, ← hlen _ hsigM]
    omega
  have hWW : 2 * (F0 m pc ls ((S.drop (n + 1)).map zv)).monitorRoom + ((F0 m pc ls ((S.drop (n + 1)).map zv)).stack.map fun v => v.category).sum ≤ 48 := by
    have := zcat_le (S.drop (n + 1))
    rw [List.length_drop] at this
    show 2 * 0 + (((S.drop (n + 1)).map zv).map fun v => v.category).sum ≤ 48
    omega
  obtain ⟨vm₁, X₁, hstep₁⟩ := Xs.invokevirtual hx hown (hwl s0 s b0 args hwd hwm) hnamed hmethM hstM hkP hni hy (a := a) (cell := cell) (by rw [hT]; exact g2)
    (fun z h => by rw [h] at g5; cases g5) hselP hmethM habM hkP hni (g := F0 m pc ls (S.map zv)) rfl (argsL := (S.take n).reverse.map zv) (rest := (S.drop (n + 1)).map zv) hln hstk (by rw [hb]; exact hd)
  rcases (zback (len := 3) (args := args) (below := below) (e := e) X9 hC hc hh hmax hwc hwi) m meth c ⟨T.setVm vm₁, locs, cells, slots⟩ (F0 m pc ls ((S.drop (n + 1)).map zv)) (.invokevirtual idx) mk (Value.ref a :: (S.take n).reverse.map zv).toArray X₁ rfl (by rw [hml]; exact hP.2.1.1) (by rw [hb]; exact hd) hWW (X₁.named hnamed) (hpre vm₁ X₁.warmed) with ⟨v, Bp, X', hpost, hsteps⟩ | ⟨q, Bp, X', hpost, hsteps⟩
  · exact Or.inl ⟨v, vm₁, Bp, X₁.warmed, X', hpost, fun target h => hstep₁ _ fun acts => by rw [doInvoke_state]; exact hsteps.trans h⟩
  · exact Or.inr ⟨q, vm₁, Bp, X₁.warmed, X', hpost, hstep₁ _ fun acts => by rw [doInvoke_state]; exact hsteps⟩
theorem vok_VU {callee n idx ci N mx : Nat} {C9 : String} {T9 : u_T} {x9 : MethodName} {cx : ByteArray} {rx : Option FieldType} (hci : zcl[ci]? = some (C9, T9, N)) (hh : (mi callee).2.2.2.2 = []) (hmax : (mi callee).2.2.1 ≤ 60) (hwc : zW (Cond.code (mi callee).1 (mi callee).2.1 (mi callee).2.2.1 (mi callee).2.2.2.1)) (hwi : zW (Cond.initialized (mi callee).1.cls)) (hwl : zW (Cond.methodLink I.1.cls idx x9)) (hsm : zW (Cond.sameMethod x9.cls x9.cls x9.name x9.desc)) (hxi : zW (Cond.instanceMethod x9)) (hxc : zW (Cond.code x9 cx mx rx)) (hyx : x9.cls ≠ "java/lang/invoke/MethodHandle" ∧ x9.cls ≠ "java/lang/invoke/VarHandle") (hse : zW (Cond.selects C9 x9 (mi callee).1)) (hws : zW (Cond.instanceMethod (mi callee).1)) (hlen : ∀ sig, parseMethodDescriptor x9.desc = some sig → n = sig.parameters.length) (hd : decode I.2.1 pc = .ok (.invokevirtual idx, 3)) : zVok B mi I pc 3 n ci callee := by
  intro s0 b0 D l d p e R s m args below meth c C c0 n0 L S h h1 o H ls locs cells slots T a X9 hC hP a1 a2 hSn hk hc hT Xs hpre
  obtain ⟨hx, hb, hr, hml, hown, hlk, hnm, hwd, hwm, hfx, hRf, hRl, hfl, hex, hB, hSt⟩ := X9
  have X9 : zCx B s0 b0 D l d I p R s m meth c := ⟨hx, hb, hr, hml, hown, hlk, hnm, hwd, hwm, hfx, hRf, hRl, hfl, hex, hB, hSt⟩
  obtain ⟨r, cell, g1, g2, g3, g4, g5, g6, g7⟩ := hP.1.2.2.2.1 a _ hk
  have hKn := u_Kn_moved hwm.alike (hfx.1 _ _ hci)
  refine vx_callVU (C := C9) (owner := x9.cls) (x := x9) Xs hx hown (hwl s0 s b0 args hwd hwm) (hsm s0 s b0 args hwd hwm) (va_Decl.of (hxi s0 s b0 args hwd hwm) (hxc s0 s b0 args hwd hwm)) hyx (hse s0 s b0 args hwd hwm) (hws s0 s b0 args hwd hwm) (hwc s0 s b0 args hwd hwm) (zback X9 hC hc hh hmax hwc hwi) (by rw [hT]; exact g2) g5 (by rw [g3]; exact hKn.2.1) (g := F0 m pc ls (S.map zv)) rfl (by rw [hml]; exact hP.2.1.1) (argsL := (S.take n).reverse.map zv) (rest := (S.drop (n + 1)).map zv) ?_ ?_ ?_ (by rw [hb]; exact hd) hpre
  · intro sig hsig
    rw [List.length_map, List.length_reverse, List.length_take, ← hlen sig hsig]
    omega
  · show S.map zv = _
    rw [← List.map_reverse, List.reverse_reverse]
    conv => lhs; rw [zargs2 hSn]
    rw [List.map_append]
    rfl
  · have := zcat_le (S.drop (n + 1))
    rw [List.length_drop] at this
    show 2 * 0 + _ ≤ 48
    omega
/-- super.m of an object of class ci -/
theorem snd_sup {callee n idx ci N : Nat} {C9 : String} {T9 : u_T} {hs : zHs} (hci : zcl[ci]? = some (C9, T9, N)) (hh : (mi callee).2.2.2.2 = []) (hmax : (mi callee).2.2.1 ≤ 60) (hwc : zW (Cond.code (mi callee).1 (mi callee).2.1 (mi callee).2.2.1 (mi callee).2.2.2.1)) (hwi : zW (Cond.initialized (mi callee).1.cls)) (hwl : zW (Cond.methodLink I.1.cls idx (mi callee).1)) (hsm : zW (Cond.sameMethod (mi callee).1.cls (mi callee).1.cls (mi callee).1.name (mi callee).1.desc)) (hsup : zW (Cond.superclass I.1.cls (mi callee).1.cls)) (hws : zW (Cond.instanceMethod (mi callee).1)) (hno : (mi callee).1.name ≠ "<init>") (hlen : ∀ sig, parseMethodDescriptor (mi callee).1.desc = some sig → n = sig.parameters.length) (hH : zHok I pc hs) (hd : decode I.2.1 pc = .ok (.invokespecial idx, 3)) (hn : pc + 3 = nx) : zSnd B mi I pc (za_invV [(ci, callee)] n nx hs) := by
  intro s0 b0 D l d p e R s m args below meth c C Q cF sF c0 n0 L S h K E H ls locs cells slots X hC hb1 hb2 hP ha hK hE
  have hwm := X.2.2.2.2.2.2.2.2.1
  subst hn
  obtain ⟨a1, a2, ha⟩ := ha
  split at ha
  · rename_i a hSn
    split at ha
    · rename_i ci' hk
      split at ha
      · rename_i cal hlook
        have hcc : ci' = ci ∧ cal = callee := by
          by_cases q : ci' = ci
          · subst q
            simp [List.lookup] at hlook
            exact ⟨rfl, hlook.symm⟩
          · have q2 : (ci' == ci) = false := by simpa using q
            simp [List.lookup, q2] at hlook
        obtain ⟨rfl, rfl⟩ := hcc
        obtain ⟨o, h1, hc, ha⟩ := ha
        intro T hT Xs
        have hm := hC _ _ _ _ _ hc
        have hpre := zpre (a := (S.take (n + 1)).reverse) (T := T) hwm hP hb1 hb2 hm.1 hm.2.1 (zaft_bd ha hK hE) hT
        rw [zargs1 hSn] at hpre hc
        have X9 := X
        obtain ⟨hx, hb, hr, hml, hown, hlk, hnm, hwd, hwm, hfx, hRf, hRl, hfl, hex, hB, hSt⟩ := X
        obtain ⟨r, cell, g1, g2, g3, g4, g5, g6, g7⟩ := hP.1.2.2.2.1 a _ hk
        have hKn := u_Kn_moved hwm.alike (hfx.1 _ _ hci)
        obtain ⟨kB, hkB, -⟩ := hKn.2.2
        refine zafter (len := 3) (aa := (Value.ref a :: (S.take n).reverse.map zv).toArray) X9 hP hm.1 hm.2.1 hH ha hK hE ?_
        refine vx_callSU Xs hx hown (hwl s0 s b0 args hwd hwm) (hsm s0 s b0 args hwd hwm) (hsup s0 s b0 args hwd hwm) (hws s0 s b0 args hwd hwm) (hwc s0 s b0 args hwd hwm) hno (zback X9 hC hc hh hmax hwc hwi) (by rw [hT]; exact g2) g5 (by rw [g3]; exact hkB) (g := F0 m pc ls (S.map zv)) rfl (by rw [hml]; exact hP.2.1.1) (argsL := (S.take n).reverse.map zv) (rest := (S.drop (n + 1)).map zv) ?_ ?_ ?_ (by rw [hb]; exact hd) hpre
        · intro sig hsig
          rw [List.length_map, List.length_reverse, List.length_take, ← hlen sig hsig]
          omega
        · show S.map zv = _
          rw [← List.map_reverse, List.reverse_reverse]
          conv => lhs; rw [zargs2 hSn]
          rw [List.map_append]
          rfl
        · have := zcat_le (S.drop (n + 1))
          rw [List.length_drop] at this
          show 2 * 0 + _ ≤ 48
          omega
      · exact ha.elim
    · exact ha.elim
  · exact ha.elim
/-- checkcast to an array's class, of an array that was made in the run -/
theorem snd_castA {b idx : Nat} {ty : FieldType} {nm : String} (hbb : B.1 = b) (hnm9 : nm = "[" ++ ty.toString) (hw : zW (Cond.classLink I.1.cls idx nm)) (hd : decode I.2.1 pc = .ok (.checkcast idx, 3)) (hn : pc + 3 = nx) : zSnd B mi I pc (za_castA b ty nx) := by
  intro s0 b0 D l d p e R s m args below meth c C Q cF sF c0 n0 L S h K E H ls locs cells slots X hC hb1 hb2 hP ha hK hE
  obtain ⟨hx, hb, hr, hml, hown, hlk, hnm, hwd, hwm, hfx, hRf, hRl, hfl, hex, hB, hSt⟩ := X
  subst hn
  subst hnm9
  match S, ha with
  | Sum.inr (Sum.inl none) :: S, ha => exact lv_castN hx hb hd (hK.go ha hP)
  | Sum.inr (Sum.inl (some a)) :: S, ha =>
    obtain ⟨n, a1, a2, a4⟩ := ha
    obtain ⟨cell, g2, g3, g4, g5, g6, g7, g8, g9⟩ := hP.1.2.2.2.2 a _ n a1
    have g4' := g4 (by omega)
    intro T hT X
    obtain ⟨vm', X', st⟩ := X.checkcastYes hx hown (hw s0 s b0 args hwd hwm) (cell := cell) (a := a) (by rw [hT]; exact g2) (by rw [g4'.1]; rfl) (show s.vm.findClass ("[" ++ ty.toString) = some cell.cls by rw [hwm.alike.findClass]; exact g4'.2) (va_asg _ _) (g := F0 m pc ls (.ref a :: S.map zv)) rfl rfl (by rw [hb]; exact hd)
    obtain ⟨t, t1, t2⟩ := hK.go a4 hP (T.setVm vm') hT X'
    exact ⟨t, st t t1, t2⟩
end
theorem zval_cln {ty : FieldType} {h : zH} {kd : zKd} {n a k b j : Nat} (hb : b ≠ zsz h) : zval ty (zcpI (znew h kd n) (zsz h) 0 a 0 k) b j = zval ty h b j := by
  have e : zI (zcpI (znew h kd n) (zsz h) 0 a 0 k) b j = zI (znew h kd n) b j := by
    rw [zI_cpI]
    show (if b = zsz h ∧ _ then _ else _) = _
    rw [if_neg (fun q => hb q.1)]
  rw [← zval_ne (ty := ty) (kd := kd) (n := n) (j := j) hb]
  unfold zval
  split <;> first | rfl | (rw [e])
theorem zRel_cln {s0 : State} {D : zD} {h : zH} {H : Heap} {a n : Nat} {ty : FieldType} {cell : Cell} (hR : zRel s0 D h H) (ha0 : s0.heap.size ≤ a) (hk : zK h a = some (Sum.inr (ty, n))) (hcell : H[a]? = some cell) (hvi : ∀ (h : zH) (a j : Nat), zval ty h a j = .int (Int32.ofInt (zI h a j))) : zRel s0 D (zcpI (znew h (Sum.inr (ty, n)) n) (zsz h) 0 a 0 n) (H.push { cls := cell.cls, slots := cell.slots }) := by
  obtain ⟨r1, r2, r3, r4, r5⟩ := hR
  have hal : a < zsz h := by rw [← r1]; exact (Array.getElem?_eq_some_iff.mp hcell).1
  have hold : ∀ (c : Cell) b, b ≠ zsz h → (H.push c)[b]? = H[b]? := fun c b hb => by
    rw [Array.getElem?_push, if_neg (by rw [r1]; exact hb)]
  refine ⟨by rw [Array.size_push, r1, zsz_cpI, zsz_new], by rw [zsz_cpI, zsz_new]; omega, fun q hq => by rw [hold _ q (by omega)]; exact r3 q hq, fun b ci hb => ?_, fun b t k hb => ?_⟩
  · rw [zK_cpI, zK_new] at hb
    by_cases hbz : b = zsz h
    · subst hbz
      simp at hb
    · simp only [if_neg hbz] at hb
      obtain ⟨r, cl, g1, g2, g3, g4, g5, g6, g7⟩ := r4 b ci hb
      exact ⟨r, cl, g1, by rw [hold _ b hbz]; exact g2, g3, g4, g5, g6, fun k hk => by rw [zval_cln hbz]; exact g7 k hk⟩
  · rw [zK_cpI, zK_new] at hb
    by_cases hbz : b = zsz h
    · subst hbz
      simp only [if_true, Option.some.injEq, Sum.inr.injEq, Prod.mk.injEq] at hb
      obtain ⟨rfl, rfl⟩ := hb
      obtain ⟨cl, g2, g3, g4, g5, g6, g7, g8, g9⟩ := r5 a _ _ hk
      cases hcell.symm.trans g2
      refine ⟨{ cls := cell.cls, slots := cell.slots }, (by rw [Array.getElem?_push, if_pos r1.symm]), (fun z => (by cases z)), fun _ => ⟨rfl, (g4 ha0).2⟩, ⟨fun k z => (by cases z), g5.2⟩, g6, g7, g8, fun j hj => ?_⟩
      have e : zval ty (zcpI (znew h (Sum.inr (ty, n)) n) (zsz h) 0 a 0 n) (zsz h) j = zval ty h a j := by
        rw [hvi, hvi, zI_cpI]
        show Value.int (Int32.ofInt (if zsz h = zsz h ∧ 0 ≤ j ∧ j < 0 + n then zI (znew h (Sum.inr (ty, n)) n) a (0 + (j - 0)) else _)) = _
        rw [if_pos ⟨rfl, Nat.zero_le _, by omega⟩, zI_new]
        dsimp only
        rw [if_neg (by omega), show 0 + (j - 0) = j by omega]
      rw [e]
      exact g9 j hj
    · simp only [if_neg hbz] at hb
      obtain ⟨cl, g2, g3, g4, g5, g6, g7, g8, g9⟩ := r5 b t k hb
      exact ⟨cl, by rw [hold _ b hbz]; exact g2, g3, g4, g5, g6, g7, g8, fun j hj => by rw [zval_cln hbz]; exact g9 j hj⟩
section
variable {B : zB} {mi : Nat → zMI} {I : zMI} {pc nx : Nat}
theorem snd_clone {b idx : Nat} {ty : FieldType} {ad : String} (hbb : B.1 = b) (had : ad = "[" ++ ty.toString) (hvi : ∀ (h : zH) (a j : Nat), zval ty h a j = .int (Int32.ofInt (zI h a j))) (hw1 : zW (Cond.methodLink I.1.cls idx ⟨ad, "clone", "()Ljava/lang/Object;"⟩)) (hw2 : zW (Cond.sameMethod ad "java/lang/Object" "clone" "()Ljava/lang/Object;")) (hw3 : zW (Cond.native ⟨"java/lang/Object", "clone", "()Ljava/lang/Object;"⟩)) (hw4 : zW (Cond.instanceMethod ⟨"java/lang/Object", "clone", "()Ljava/lang/Object;"⟩)) (hw5 : zW (Cond.selects ad ⟨ad, "clone", "()Ljava/lang/Object;"⟩ ⟨"java/lang/Object", "clone", "()Ljava/lang/Object;"⟩)) (hw6 : zW (Cond.castable ad "java/lang/Cloneable")) (hd : decode I.2.1 pc = .ok (.invokevirtual idx, 3)) (hn : pc + 3 = nx) : zSnd B mi I pc (za_clone b ty nx) := by
  intro s0 b0 D l d p e R s m args below meth c C Q cF sF c0 n0 L S h K E H ls locs cells slots X hC hb1 hb2 hP ha hK hE
  obtain ⟨hx, hb, hr, hml, hown, hlk, hnm, hwd, hwm, hfx, hRf, hRl, hfl, hex, hB, hSt⟩ := X
  subst hn
  subst had
  match S, ha with
  | Sum.inr (Sum.inl (some a)) :: S, ha =>
    obtain ⟨n, a1, a2, a3, a4⟩ := ha
    obtain ⟨cell, g2, g3, g4, g5, g6, g7, g8, g9⟩ := hP.1.2.2.2.2 a _ n a1
    have g4' := g4 (by omega)
    have hm := (hK _ _ _ _ a4).1
    rw [zsz_cpI, zN_cpI, zsz_new, zN_new] at hm
    have q1 := hP.2.2.1
    have q2 := hP.2.2.2.1
    obtain ⟨c0', t0, f1, f2, f3⟩ := Cond.castable_spec (hw6 s0 s b0 args hwd hwm)
    have hfc : s.vm.findClass ("[" ++ ty.toString) = some cell.cls := by rw [hwm.alike.findClass]; exact g4'.2
    cases hfc.symm.trans f1
    intro T hT X
    obtain ⟨-, kA, hkA, comp, hkind⟩ := g5
    obtain ⟨kS, hkS, hkindS⟩ := zmv hwm hkA
    obtain ⟨kT, hkT, hkindT⟩ := zmv X.warmed hkS
    replace hRl := Nat.le_trans (Nat.le_add_right (128 * (d + 1)) 12000) hRl
    have hz := zcat_le S
    obtain ⟨vm', X', st⟩ := X.cloneArray hx hown (hw1 s0 s b0 args hwd hwm) (hw2 s0 s b0 args hwd hwm) (hw3 s0 s b0 args hwd hwm) (hw4 s0 s b0 args hwd hwm) (hw5 s0 s b0 args hwd hwm) (a := a) (cell := cell) (by rw [hT]; exact g2) (fun k h => by rw [g4'.1] at h; cases h) g3 hfc f2 f3
      (fun i v hv => by
        have hin : i < n := by rw [← g8]; exact (Array.getElem?_eq_some_iff.mp hv).1
        have hk' : T.vm.classes[cell.cls]? = some kT := hkT
        have h9 := g9 i hin
        cases hv.symm.trans h9.1
        simpa [State.fitsSlot, State.slotType?, hk', hkindT, hkindS, hkind] using h9.2)
      (g := F0 m pc ls (.ref a :: S.map zv)) rfl (by rw [hml]; exact hP.2.1.1) (rest := S.map zv) rfl (by rw [hb]; exact hd) (by omega) (by show 2 * 0 + _ + 14 ≤ _; omega) (by omega) (by rw [g8]; omega) (hloader := Vm.clonesLoader_of_array hkS (hkindS.trans hkind))
    have hR9 := zRel_cln hP.1 (by omega) a1 g2 hvi
    have hP9 : zPt s0 D I.2.2.1 c0 n0 L (zcpI (znew h (Sum.inr (ty, n)) n) (zsz h) 0 a 0 n) (H.push { cls := cell.cls, slots := cell.slots }) ls locs (cells + 1) (slots + n) := by
      refine ⟨hR9, hP.2.1, ?_, ?_, hP.2.2.2.2⟩
      · rw [zsz_cpI, zsz_new, ← hP.2.2.1]; omega
      · rw [zN_cpI, zN_new, ← hP.2.2.2.1]; omega
    rw [g8] at X'
    obtain ⟨t, t1, t2⟩ := hK.go a4 hP9 ((T.setVm vm').pushCell { cls := cell.cls, slots := cell.slots }) (by rw [← hT]; rfl) X'
    refine ⟨t, st t ?_, t2⟩
    have e9 : zv (Sum.inr (Sum.inl (some (zsz h)))) = Value.ref T.heap.size := by rw [hT, hP.1.1]; rfl
    rw [List.map_cons, e9] at t1
    exact t1
end
