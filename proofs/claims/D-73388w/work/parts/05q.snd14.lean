/-! ===== M is sound (14): calls that land in a default method of an interface ===== -/
section
variable {B : zB} {mi : Nat → zMI} {I : zMI} {pc nx : Nat}
theorem vok_U {callee n idx ci N : Nat} {C9 owner : String} {T9 : u_T} {x9 : MethodName} (hci : zcl[ci]? = some (C9, T9, N)) (hh : (mi callee).2.2.2.2 = []) (hmax : (mi callee).2.2.1 ≤ 60) (hwc : zW (Cond.code (mi callee).1 (mi callee).2.1 (mi callee).2.2.1 (mi callee).2.2.2.1)) (hwi : zW (Cond.initialized (mi callee).1.cls))
    (hwl : zW (Cond.methodLink I.1.cls idx x9)) (hwsm : zW (Cond.sameMethod x9.cls owner x9.name x9.desc)) (hwde : zW (Cond.declares ⟨owner, x9.name, x9.desc⟩)) (howner : owner ≠ "java/lang/invoke/MethodHandle" ∧ owner ≠ "java/lang/invoke/VarHandle") (hwla : zW (Cond.landsInDefault C9 x9 (mi callee).1)) (hws : zW (Cond.instanceMethod (mi callee).1)) (hlen : ∀ sig, parseMethodDescriptor x9.desc = some sig → n = sig.parameters.length) (hd : decode I.2.1 pc = .ok (.invokevirtual idx, 3)) : zVok B mi I pc 3 n ci callee := by
  intro s0 b0 D l d p e R s m args below meth c C c0 n0 L S h h1 o H ls locs cells slots T a X9 hC hP a1 a2 hSn hk hc hT Xs hpre
  obtain ⟨hx, hb, hr, hml, hown, hlk, hnm, hwd, hwm, hfx, hRf, hRl, hfl, hex, hB, hSt⟩ := X9
  have X9 : zCx B s0 b0 D l d I p R s m meth c := ⟨hx, hb, hr, hml, hown, hlk, hnm, hwd, hwm, hfx, hRf, hRl, hfl, hex, hB, hSt⟩
  obtain ⟨r, cell, g1, g2, g3, g4, g5, g6, g7⟩ := hP.1.2.2.2.1 a _ hk
  have hKn := u_Kn_moved hwm.alike (hfx.1 _ _ hci)
  have hcB : s.vm.findClass C9 = some (D.1 ci) := hKn.2.1
  obtain ⟨r0, rr, hn, hrm, hstR, hsigR⟩ := Cond.declares_spec (hwde s0 s b0 args hwd hwm)
  have hsame := hwsm s0 s b0 args hwd hwm
  obtain ⟨cn, ck, r1, hcn, hck, hni, hf, hn1⟩ := Cond.sameMethod_found hsame
  cases hn.symm.trans hn1
  obtain ⟨mk, methM, hnamed, hmethM, -, habM⟩ := Cond.instanceMethod_spec (hws s0 s b0 args hwd hwm)
  obtain ⟨c2, r2, m2, rm, q1, q2, q3, q5, q4, ⟨kP, hkP, hkPi⟩, -, q7⟩ := Cond.landsInDefault_spec (hwla s0 s b0 args hwd hwm)
  cases hcB.symm.trans q1
  cases hf.symm.trans q2
  cases hnamed.symm.trans q3
  cases hrm.symm.trans q5
  have hselP : selectMethod e.platform s.vm cell.cls r0 = .method mk := by rw [Launch.admits_selectMethod Xs.admits, g3]; exact q4
  have hstk : S.map zv = ((S.take n).reverse.map zv).reverse ++ .ref a :: (S.drop (n + 1)).map zv := by
    rw [← List.map_reverse, List.reverse_reverse]
    conv => lhs; rw [zargs2 hSn]
    rw [List.map_append]
    rfl
  have hln : ((S.take n).reverse.map zv).length = rr.sig.parameters.length := by
    rw [List.length_map, List.length_reverse, List.length_take, ← hlen _ hsigR]
    omega
  have hWW : 2 * (F0 m pc ls ((S.drop (n + 1)).map zv)).monitorRoom + ((F0 m pc ls ((S.drop (n + 1)).map zv)).stack.map fun v => v.category).sum ≤ 48 := by
    have := zcat_le (S.drop (n + 1))
    rw [List.length_drop] at this
    show 2 * 0 + (((S.drop (n + 1)).map zv).map fun v => v.category).sum ≤ 48
    omega
  obtain ⟨vm₁, X₁, hstep₁⟩ := Xs.invokevirtualUpD hx hown (hwl s0 s b0 args hwd hwm) hsame howner hn hrm hstR (a := a) (cell := cell) (by rw [hT]; exact g2)
    (fun z h => by rw [h] at g5; cases g5) hselP hmethM habM hkP hkPi (by rw [g3]; exact q7) (g := F0 m pc ls (S.map zv)) rfl (argsL := (S.take n).reverse.map zv) (rest := (S.drop (n + 1)).map zv) hln hstk (by rw [hb]; exact hd)
  rcases (zback (len := 3) (args := args) (below := below) (e := e) X9 hC hc hh hmax hwc hwi) m meth c ⟨T.setVm vm₁, locs, cells, slots⟩ (F0 m pc ls ((S.drop (n + 1)).map zv)) (.invokevirtual idx) mk (Value.ref a :: (S.take n).reverse.map zv).toArray X₁ rfl (by rw [hml]; exact hP.2.1.1) (by rw [hb]; exact hd) hWW (X₁.named hnamed) (hpre vm₁ X₁.warmed) with ⟨v, Bp, X', hpost, hsteps⟩ | ⟨q, Bp, X', hpost, hsteps⟩
  · exact Or.inl ⟨v, vm₁, Bp, X₁.warmed, X', hpost, fun target h => hstep₁ _ fun acts => by rw [doInvoke_state]; exact hsteps.trans h⟩
  · exact Or.inr ⟨q, vm₁, Bp, X₁.warmed, X', hpost, hstep₁ _ fun acts => by rw [doInvoke_state]; exact hsteps⟩
theorem vok_D {callee n idx count ci N : Nat} {C9 : String} {T9 : u_T} {x9 : MethodName} (hci : zcl[ci]? = some (C9, T9, N)) (hh : (mi callee).2.2.2.2 = []) (hmax : (mi callee).2.2.1 ≤ 60) (hwc : zW (Cond.code (mi callee).1 (mi callee).2.1 (mi callee).2.2.1 (mi callee).2.2.2.1)) (hwi : zW (Cond.initialized (mi callee).1.cls))
    (hwl : zW (Cond.methodLink I.1.cls idx x9)) (hwde : zW (Cond.declares x9)) (hwf : zW (Cond.interfaceMethod x9.cls x9.cls x9.name x9.desc)) (hwla : zW (Cond.landsInDefault C9 x9 (mi callee).1)) (hws : zW (Cond.instanceMethod (mi callee).1)) (hwp : zW (Cond.publicMethod (mi callee).1)) (hwk : zW (Cond.castable C9 x9.cls)) (hy : x9.cls ≠ "java/lang/invoke/MethodHandle" ∧ x9.cls ≠ "java/lang/invoke/VarHandle") (hlen : ∀ sig, parseMethodDescriptor x9.desc = some sig → n = sig.parameters.length) (hd : decode I.2.1 pc = .ok (.invokeinterface idx count, 5)) : zVok B mi I pc 5 n ci callee := by
  intro s0 b0 D l d p e R s m args below meth c C c0 n0 L S h h1 o H ls locs cells slots T a X9 hC hP a1 a2 hSn hk hc hT Xs hpre
  obtain ⟨hx, hb, hr, hml, hown, hlk, hnm, hwd, hwm, hfx, hRf, hRl, hfl, hex, hB, hSt⟩ := X9
  have X9 : zCx B s0 b0 D l d I p R s m meth c := ⟨hx, hb, hr, hml, hown, hlk, hnm, hwd, hwm, hfx, hRf, hRl, hfl, hex, hB, hSt⟩
  obtain ⟨r, cell, g1, g2, g3, g4, g5, g6, g7⟩ := hP.1.2.2.2.1 a _ hk
  have hKn := u_Kn_moved hwm.alike (hfx.1 _ _ hci)
  have hcB : s.vm.findClass C9 = some (D.1 ci) := hKn.2.1
  obtain ⟨kB, hkB, -⟩ := hKn.2.2
  obtain ⟨r0, rr, hn, hrm, hstR, hsigR⟩ := Cond.declares_spec (hwde s0 s b0 args hwd hwm)
  obtain ⟨cL, kL, r1, hcL, hkL, hiL, hfoundL, hn1⟩ := Cond.interfaceMethod_spec (hwf s0 s b0 args hwd hwm)
  cases hn.symm.trans hn1
  have hr0cls : r0.cls = cL := Option.some.inj ((findClass_of_methodNamed hn).symm.trans hcL)
  obtain ⟨mk, methM, hnamed, hmethM, -, habM⟩ := Cond.instanceMethod_spec (hws s0 s b0 args hwd hwm)
  obtain ⟨c2, r2, m2, rm, q1, q2, q3, q5, q4, -, q6, -⟩ := Cond.landsInDefault_spec (hwla s0 s b0 args hwd hwm)
  cases hcB.symm.trans q1
  cases hfoundL.symm.trans q2
  cases hnamed.symm.trans q3
  cases hrm.symm.trans q5
  have hselP : selectMethod e.platform s.vm cell.cls r0 = .method mk := by rw [Launch.admits_selectMethod Xs.admits, g3]; exact q4
  have hpubM : hasFlag methM.accessFlags Acc.public_ = true := Cond.publicMethod_spec hnamed hmethM (hwp s0 s b0 args hwd hwm)
  have hway : ((cell.cls :: s.vm.superclasses cell.cls).any fun k => (declaredIn s.vm rr.name rr.desc k).any fun (_, z) => z.isPrivate || z.isStatic) = false := by
    rw [g3]; exact q6
  obtain ⟨c3, t3, w1, w2, w3⟩ := Cond.castable_spec (hwk s0 s b0 args hwd hwm)
  cases hcB.symm.trans w1
  cases hcL.symm.trans w2
  have hstk : S.map zv = ((S.take n).reverse.map zv).reverse ++ .ref a :: (S.drop (n + 1)).map zv := by
    rw [← List.map_reverse, List.reverse_reverse]
    conv => lhs; rw [zargs2 hSn]
    rw [List.map_append]
    rfl
  have hln : ((S.take n).reverse.map zv).length = rr.sig.parameters.length := by
    rw [List.length_map, List.length_reverse, List.length_take, ← hlen _ hsigR]
    omega
  have hWW : 2 * (F0 m pc ls ((S.drop (n + 1)).map zv)).monitorRoom + ((F0 m pc ls ((S.drop (n + 1)).map zv)).stack.map fun v => v.category).sum ≤ 48 := by
    have := zcat_le (S.drop (n + 1))
    rw [List.length_drop] at this
    show 2 * 0 + (((S.drop (n + 1)).map zv).map fun v => v.category).sum ≤ 48
    omega
  obtain ⟨vm₁, X₁, hstep₁⟩ := Xs.invokeinterface hx hown (hwl s0 s b0 args hwd hwm) hn hrm hstR (by rw [hr0cls]; exact hkL) hiL hy (a := a) (cell := cell) (kcell := kB) (by rw [hT]; exact g2)
    (fun z h => by rw [h] at g5; cases g5) (by rw [g3]; exact hkB) (by rw [g3, hr0cls]; exact w3) hselP hmethM hway hpubM habM (g := F0 m pc ls (S.map zv)) rfl (argsL := (S.take n).reverse.map zv) (rest := (S.drop (n + 1)).map zv) hln hstk (by rw [hb]; exact hd)
  rcases (zback (len := 5) (args := args) (below := below) (e := e) X9 hC hc hh hmax hwc hwi) m meth c ⟨T.setVm vm₁, locs, cells, slots⟩ (F0 m pc ls ((S.drop (n + 1)).map zv)) (.invokeinterface idx count) mk (Value.ref a :: (S.take n).reverse.map zv).toArray X₁ rfl (by rw [hml]; exact hP.2.1.1) (by rw [hb]; exact hd) hWW (X₁.named hnamed) (hpre vm₁ X₁.warmed) with ⟨v, Bp, X', hpost, hsteps⟩ | ⟨q, Bp, X', hpost, hsteps⟩
  · exact Or.inl ⟨v, vm₁, Bp, X₁.warmed, X', hpost, fun target h => hstep₁ _ fun acts => by rw [doInvoke_state]; exact hsteps.trans h⟩
  · exact Or.inr ⟨q, vm₁, Bp, X₁.warmed, X', hpost, hstep₁ _ fun acts => by rw [doInvoke_state]; exact hsteps⟩
end
theorem zW_AA {t : FieldType} (q : Cond.arrayOver (.array t) ∈ lw_tbl) : zW (.arrayOver (.array t)) := fun s0 s b0 args k hW => by
  have hvm := hW.alike
  obtain ⟨comp, c, k9, h1, h2, h3, h4, h5⟩ := arrayOverA_spec (k _ (List.mem_append_left _ q))
  obtain ⟨k', hk', he⟩ := hvm.2.2 _ _ h3
  have e1 := va_idx_bare s.vm comp
  have e2 := va_idx_bare s0.vm comp
  have e3 : s.vm.bare = s0.vm.bare := by first | exact hvm.bare_eq | exact hvm.bare_eq.symm
  rw [e3] at e1
  have hi : (s.vm.classes.findIdx? fun (x : Class) => match x.kind with | .array component _ => component == comp | _ => false) = some c := (e1.symm.trans e2).trans h2
  have hkind : k'.kind = .array comp (.array t) := by rw [he]; exact h4
  have f1 : s.vm.findClass (FieldType.array t).toString = some comp := by rw [hvm.findClass]; exact h1
  have f2 : s.vm.findClass ("[" ++ (FieldType.array t).toString) = some c := by rw [hvm.findClass]; exact h5
  unfold Cond.before Cond.holds
  simp only [Cond.value]
  rw [f1, Option.bind_some]
  refine (congrArg (fun o : Option Nat => (o.bind (fun c => (s.vm.classes[c]?).map fun (k : Class) => match k.kind with | .array _ ty => decide (ty = FieldType.array t) && decide (s.vm.findClass ("[" ++ (FieldType.array t).toString) = some c) | _ => false) == some true)) hi).trans ?_
  simp [hk', hkind, f2]
