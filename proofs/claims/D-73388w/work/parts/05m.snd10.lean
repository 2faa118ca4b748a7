/-! ===== M is sound (10): copies, arrays of arrays, text constants ===== -/
theorem zldcw {p : Program} {l : Launch} {e : Env} {R : Room} {s : State} {m : MethodId} {args : Array Value} {below : List Frame} {meth : Method} {c : Code} {T : State} {locs : List Loc} {cells slots : Nat}
    (X : Stand p l e R s m args below meth c T locs cells slots) (hexec : p.tables.exec = Jvm.exec) {own text : String} {index : Nat} {a : Addr} (hown : s.vm.findClass own = some m.cls)
    (hconst : (Cond.stringRef own index text).before #[] s = true) (hev : (Term.string own index).eval #[] s none [] s = some (.ref a)) {g : JFrame} (hg : g.method = m) (hdg : decode c.code g.pc = .ok (.ldc_w index, 3)) :
    ∀ target, Steps p.tables e below (T.setTop { g with pc := g.pc + 3, stack := .ref a :: g.stack }) target → Steps p.tables e below (T.setTop g) target := by
  obtain ⟨k, cf, i, a', hk, hcf, hcp, -, hr, hev'⟩ := Cond.stringRef_spec hown hconst
  cases hev.symm.trans hev'
  obtain ⟨k', hk', he⟩ := X.warmed.alike.2.2 _ _ hk
  have hr' : k'.resolved[index]? = some (some (.string a)) := by
    rcases X.warmed.entry hk hk' index with h | ⟨h, -⟩
    · rw [h]; exact hr
    · rw [hr] at h; cases h
  intro target hrest
  subst hg
  jvm_step X.here [hexec, hdg, ldc_w.wp_string (e := e) (s := T) (f := g) X.here.top hk' (by rw [he]; exact hcf) hcp hr']
  exact hrest
theorem zldcwS {p : Program} {l : Launch} {e : Env} {R : Room} {s : State} {m : MethodId} {args : Array Value} {below : List Frame} {meth : Method} {c : Code} {H : Heap} {locs : List Loc} {cells slots : Nat} {Q : State → Prop} {cc : ByteArray} {pc : Nat} {ls : Array Slot} {rest : List Value} (hexec : p.tables.exec = Jvm.exec) (hb : c.code = cc) {own tx : String} {index q : Nat} (hown : s.vm.findClass own = some m.cls) (hZ : vk_R own index tx q s) (hdg : decode cc pc = .ok (.ldc_w index, 3))
    (k : W p l e R s m args below meth c H locs cells slots Q (F0 m (pc + 3) ls (.ref q :: rest))) : W p l e R s m args below meth c H locs cells slots Q (F0 m pc ls rest) := by
  intro T hT X
  obtain ⟨t, a1, b1⟩ := k T hT X
  exact ⟨t, zldcw X hexec hown (text := tx) (a := q) hZ.1 hZ.2 (g := F0 m pc ls rest) rfl (by rw [hb]; exact hdg) t a1, b1⟩
section
variable {B : zB} {mi : Nat → zMI} {I : zMI} {pc nx : Nat}
theorem snd_anewA {t : FieldType} {idx : Nat} (hw1 : zW (Cond.classLink I.1.cls idx (FieldType.array t).toString)) (hw2 : zW (Cond.arrayOver (.array t))) (hd : decode I.2.1 pc = .ok (.anewarray idx, 3)) (hn : pc + 3 = nx) (hcls : ∀ (s0 : State) (b0 : Nat), (∀ w ∈ zt, w.before #[Value.ref b0] s0 = true) → ∀ comp, s0.vm.findClass (FieldType.array t).toString = some comp → ∃ kc, s0.vm.classes[comp]? = some kc) : zSnd B mi I pc (za_newa (.array t) nx) := by
  intro s0 b0 D l d p e R s m args below meth c C Q cF sF c0 n0 L S h K E H ls locs cells slots X hC hb1 hb2 hP ha hK hE
  obtain ⟨hx, hb, hr, hml, hown, hlk, hnm, hwd, hwm, hfx, hRf, hRl, hfl, hex, hB, hSt⟩ := X
  subst hn
  match S, ha with
  | Sum.inl x :: S, ha =>
    obtain ⟨a1, a2, a3⟩ := ha
    have hm := (hK _ _ _ _ a3).1
    rw [zsz_new, zN_new] at hm
    have q1 := hP.2.2.1
    have q2 := hP.2.2.2.1
    refine W.anewA hx hb hown (hw1 s0 s b0 args hwd hwm) (hw2 s0 s b0 args hwd hwm) rfl hd rfl (by rw [zc_lt0]; omega) (by rw [zt_c]; omega) (by omega) (by rw [zt_c]; omega) fun cA kA comp e1 e2 e3 e4 => ?_
    rw [zt_c]
    have e1' : s0.vm.findClass ("[" ++ (FieldType.array t).toString) = some cA := by rw [← hwm.alike.findClass]; exact e1
    have e4' : s0.vm.findClass (FieldType.array t).toString = some comp := by rw [← hwm.alike.findClass]; exact e4
    obtain ⟨k0, h0, hk0⟩ := zmb hwm e2
    obtain ⟨kc, hkc⟩ := hcls s0 b0 hwd comp e4'
    have hR9 : zRel s0 D (znew h (Sum.inr (FieldType.array t, (zn x).toNat)) (zn x).toNat) (H.push { cls := cA, slots := Array.replicate (zn x).toNat .null, vm := .none }) := by
      refine zRel_push hP.1 (fun ci hci => by cases hci) (fun ty k hk => ?_)
      cases hk
      refine ⟨_, (by rw [Array.getElem?_push, if_pos hP.1.1.symm]), (fun z => (by cases z)), fun _ => ⟨rfl, e1'⟩, ⟨fun k z => (by cases z), k0, h0, comp, (by rw [hk0]; exact e3)⟩, (fun _ => ⟨k0, kc, comp, h0, (by rw [hk0]; exact e3), hkc, e4'⟩), (by omega), (by simp), fun j hj => ?_⟩
      rw [zval_0 (by intro z; cases z) (by intro z; cases z)]
      exact ⟨by simp [hj, defaultValue], rfl⟩
    have k9 := hK.go a3 (hP.nw hR9)
    rw [List.map_cons, show zv (Sum.inr (Sum.inl (some (zsz h)))) = Value.ref H.size by rw [hP.1.1]; rfl] at k9
    exact k9
theorem zcopy_room {S : List zV} {d w Rl : Nat} (h1 : S.length ≤ 24) (hw : w + 11 ≤ 80) (hR : 128 * (d + 1) ≤ Rl) : 2 * 0 + ((S.map zv).map fun v => v.category).sum + (w + 11) ≤ Rl := by
  have := zcat_le S
  omega
theorem snd_copy {b idx : Nat} {ty : FieldType} (hbb : B.1 = b) (hpr : refKind ty = false) (hvi : ∀ (h : zH) (a j : Nat), zval ty h a j = .int (Int32.ofInt (zI h a j))) (hw1 : zW (Cond.methodLink I.1.cls idx arraycopyName)) (hw2 : zW (Cond.native arraycopyName)) (hw3 : zW (Cond.static arraycopyName)) (hw4 : zW (Cond.initialized "java/lang/System")) (hwords : nativeFrameWords "java/lang/System" "arraycopy" 5 + 11 ≤ 80) (hd : decode I.2.1 pc = .ok (.invokestatic idx, 3)) (hn : pc + 3 = nx) : zSnd B mi I pc (za_copy b ty nx) := by
  intro s0 b0 D l d p e R s m args below meth c C Q cF sF c0 n0 L S h K E H ls locs cells slots X hC hb1 hb2 hP ha hK hE
  obtain ⟨hx, hb, hr, hml, hown, hlk, hnm, hwd, hwm, hfx, hRf, hRl, hfl, hex, hB, hSt⟩ := X
  subst hn
  match S, ha with
  | Sum.inl n :: Sum.inl dp :: Sum.inr (Sum.inl (some dd)) :: Sum.inl sp :: Sum.inr (Sum.inl (some ss)) :: S, ha =>
    obtain ⟨ns, nd, a1, a2, a0, a3, a4, a5, a6, a7, a8⟩ := ha
    obtain ⟨hlen, a8⟩ := a8
    replace hRl := Nat.le_trans (Nat.le_add_right (128 * (d + 1)) 12000) hRl
    have ha0 : s0.heap.size ≤ dd := by rw [hB, hbb]; exact a0
    obtain ⟨cs, g2, g3, g4, g5, g6, g7, g8, g9⟩ := hP.1.2.2.2.2 ss _ ns a1
    obtain ⟨cd, f2, f3, f4, f5, f6, f7, f8, f9⟩ := hP.1.2.2.2.2 dd _ nd a2
    intro T hT Xs
    obtain ⟨ks0, hks0, sc, hsk0⟩ := g5.2
    obtain ⟨kd0, hkd0, dc, hdk0⟩ := f5.2
    obtain ⟨ks, hks, hsk⟩ := zmv hwm hks0
    obtain ⟨kd, hkd, hdk⟩ := zmv hwm hkd0
    have hz := zcat_le S
    obtain ⟨vm', X', step⟩ := Xs.arraycopy hx hown (hw1 s0 s b0 args hwd hwm) (hw2 s0 s b0 args hwd hwm) (hw3 s0 s b0 args hwd hwm) (hw4 s0 s b0 args hwd hwm) (src := ss) (dst := dd) (cs := cs) (cd := cd) (srcPos := Int32.ofInt sp) (destPos := Int32.ofInt dp) (n := Int32.ofInt n) (sType := ty) (dType := ty) (by rw [hT]; exact g2) (by rw [hT]; exact f2)
      g5.1 f5.1 g3 f3 hks hkd (by rw [hsk]; exact hsk0) (by rw [hdk]; exact hdk0) (by simp [hpr]) (by rw [zc_lt0]; omega) (by rw [zc_lt0]; omega) (by rw [zc_lt0]; omega) (by rw [zt_i, zt_i, g8]; omega) (by rw [zt_i, zt_i, f8]; omega)
      (fun vm₁ _ i hi => by
        rw [zt_c] at hi
        have hj : (zn sp).toNat + i < ns := by omega
        have ee : cs.slots.getD ((Int32.ofInt sp).toNatClampNeg + i) .null = zval ty h ss ((zn sp).toNat + i) := by
          rw [zt_c, Array.getD_eq_getD_getElem?, (g9 _ hj).1]; rfl
        rw [ee]
        refine ⟨(g9 _ hj).2, ?_⟩
        rw [hvi]
        exact trivial)
      (g := F0 m pc ls (.int (Int32.ofInt n) :: .int (Int32.ofInt dp) :: .ref dd :: .int (Int32.ofInt sp) :: .ref ss :: S.map zv)) rfl (by rw [hml]; exact hP.2.1.1) (rest := S.map zv) rfl (by rw [hb]; exact hd) (Nat.le_trans (Nat.le_add_left 1 (d + 10)) hRf) (zcopy_room hlen hwords hRl)
    have hl : dd < H.size := (Array.getElem?_eq_some_iff.mp f2).1
    have hheap : ((T.setVm vm').setCell dd (copied cs cd (Int32.ofInt sp) (Int32.ofInt dp) (Int32.ofInt n))).heap = H.setIfInBounds dd (copied cs cd (Int32.ofInt sp) (Int32.ofInt dp) (Int32.ofInt n)) := by rw [← hT]; rfl
    have oq : ∀ q : Nat, q ≠ dd → (H.setIfInBounds dd (copied cs cd (Int32.ofInt sp) (Int32.ofInt dp) (Int32.ofInt n)))[q]? = H[q]? := fun q hq => by simp [Array.getElem?_setIfInBounds, Ne.symm hq]
    have hfacts := Cell.storeRun_facts cd (Int32.ofInt dp).toNatClampNeg (cs.stretch (Int32.ofInt sp).toNatClampNeg (Int32.ofInt n).toNatClampNeg)
    have hother : ∀ q, q ≠ dd → ∀ ty' k, zval ty' (zcpI h dd (zn dp).toNat ss (zn sp).toNat (zn n).toNat) q k = zval ty' h q k := by
      intro q hq ty' k
      have : zcpy (zI h) dd (zn dp).toNat ss (zn sp).toNat (zn n).toNat q k = zI h q k := by unfold zcpy; rw [if_neg (fun z => hq z.1)]
      unfold zval
      split <;> simp only [zI_cpI, zL_cpI, zA_cpI, this]
    have hR9 : zRel s0 D (zcpI h dd (zn dp).toNat ss (zn sp).toNat (zn n).toNat) (H.setIfInBounds dd (copied cs cd (Int32.ofInt sp) (Int32.ofInt dp) (Int32.ofInt n))) := by
      refine zRel_put hP.1 ha0 rfl rfl hother (by simp) oq (fun ci hci => by rw [a2] at hci; cases hci) (fun ty' n' hn' => ?_)
      rw [a2] at hn'
      cases hn'
      refine ⟨copied cs cd (Int32.ofInt sp) (Int32.ofInt dp) (Int32.ofInt n), by simp [Array.getElem?_setIfInBounds, hl], by rw [hfacts.2.1]; exact f3, fun _ => by rw [hfacts.2.1, hfacts.1]; exact f4 ha0, ⟨fun k => by rw [hfacts.2.1]; exact f5.1 k, by rw [hfacts.1]; exact f5.2⟩, by rw [hfacts.1]; exact f6, f7, by rw [hfacts.2.2.1]; exact f8, fun j hj => ?_⟩
      have hslen : (cs.stretch (Int32.ofInt sp).toNatClampNeg (Int32.ofInt n).toNatClampNeg).length = (zn n).toNat := by simp [Cell.stretch, zt_c]
      rw [show (copied cs cd (Int32.ofInt sp) (Int32.ofInt dp) (Int32.ofInt n)).slots[j]? = _ from Cell.storeRun_get cd _ _ j (by rw [hslen, zt_c, f8]; omega), hslen, zt_c]
      rw [hvi, zI_cpI]
      unfold zcpy
      by_cases hin : (zn dp).toNat ≤ j ∧ j < (zn dp).toNat + (zn n).toNat
      · rw [if_pos hin, if_pos ⟨rfl, hin⟩]
        have hj2 : (zn sp).toNat + (j - (zn dp).toNat) < ns := by omega
        have q9 := g9 _ hj2
        rw [hvi] at q9
        refine ⟨?_, q9.2⟩
        simp only [Cell.stretch, List.getElem?_map]
        rw [List.getElem?_range (by rw [zt_c]; omega)]
        simp only [Option.map_some]
        rw [zt_c, Array.getD_eq_getD_getElem?, q9.1]
        rfl
      · rw [if_neg hin, if_neg (fun z => hin z.2)]
        have q9 := f9 j hj
        rw [hvi] at q9
        exact q9
    have hP9 : zPt s0 D I.2.2.1 c0 n0 L (zcpI h dd (zn dp).toNat ss (zn sp).toNat (zn n).toNat) (H.setIfInBounds dd (copied cs cd (Int32.ofInt sp) (Int32.ofInt dp) (Int32.ofInt n))) ls (locs ++ (cs.stretch (Int32.ofInt sp).toNatClampNeg (Int32.ofInt n).toNatClampNeg).zipIdx.map fun q => ⟨dd, (Int32.ofInt dp).toNatClampNeg + q.2⟩) cells slots := by
      refine ⟨hR9, hP.2.1, hP.2.2.1, hP.2.2.2.1, fun q hq => ?_⟩
      rcases List.mem_append.mp hq with z | z
      · exact hP.2.2.2.2 q z
      · obtain ⟨y, -, rfl⟩ := List.mem_map.mp z
        exact ha0
    obtain ⟨t', s1, s2⟩ := (hK.go a8 hP9) _ hheap X'
    exact ⟨t', step t' s1, s2⟩
/-- a text constant -/
theorem snd_ldcS {j idx : Nat} {tx : String} (hj : B.2.1[j]? = some (I.1.cls, idx, tx)) (hd : decode I.2.1 pc = .ok (.ldc idx, 2)) (hn : pc + 2 = nx) : zSnd B mi I pc (za_push (Sum.inr (Sum.inl (some (B.2.2.1 j)))) nx) := by
  intro s0 b0 D l d p e R s m args below meth c C Q cF sF c0 n0 L S h K E H ls locs cells slots X hC hb1 hb2 hP ha hK hE
  obtain ⟨hx, hb, hr, hml, hown, hlk, hnm, hwd, hwm, hfx, hRf, hRl, hfl, hex, hB, hSt⟩ := X
  subst hn
  have q9 : vk_R I.1.cls idx tx (B.2.2.1 j) s := vk_R.warm hwm (hSt.1 j _ hj)
  have k9 : W p l e R s m args below meth c H locs cells slots Q (F0 m (pc + 2) ls (.ref (B.2.2.1 j) :: S.map zv)) := hK.go ha hP
  exact va_ldcS hx hb hown q9 hd k9
theorem snd_ldcwS {j idx : Nat} {tx : String} (hj : B.2.1[j]? = some (I.1.cls, idx, tx)) (hd : decode I.2.1 pc = .ok (.ldc_w idx, 3)) (hn : pc + 3 = nx) : zSnd B mi I pc (za_push (Sum.inr (Sum.inl (some (B.2.2.1 j)))) nx) := by
  intro s0 b0 D l d p e R s m args below meth c C Q cF sF c0 n0 L S h K E H ls locs cells slots X hC hb1 hb2 hP ha hK hE
  obtain ⟨hx, hb, hr, hml, hown, hlk, hnm, hwd, hwm, hfx, hRf, hRl, hfl, hex, hB, hSt⟩ := X
  subst hn
  have q9 : vk_R I.1.cls idx tx (B.2.2.1 j) s := vk_R.warm hwm (hSt.1 j _ hj)
  have k9 : W p l e R s m args below meth c H locs cells slots Q (F0 m (pc + 3) ls (.ref (B.2.2.1 j) :: S.map zv)) := hK.go ha hP
  exact zldcwS hx hb hown q9 hd k9
/-- a static field -/
theorem snd_gets {j idx : Nat} {Cn n9 d9 : String} (hj : B.2.2.2.1[j]? = some (Cn, n9, d9)) (hw : zW (Cond.fieldLink I.1.cls idx Cn n9 d9)) (hd : decode I.2.1 pc = .ok (.getstatic idx, 3)) (hn : pc + 3 = nx) : zSnd B mi I pc (za_push (B.2.2.2.2 j) nx) := by
  intro s0 b0 D l d p e R s m args below meth c C Q cF sF c0 n0 L S h K E H ls locs cells slots X hC hb1 hb2 hP ha hK hE
  obtain ⟨hx, hb, hr, hml, hown, hlk, hnm, hwd, hwm, hfx, hRf, hRl, hfl, hex, hB, hSt⟩ := X
  subst hn
  obtain ⟨cf, kf, fi, f, a, cell, h1, h2, h3, h4, h5, h6, h7, h8⟩ := va_Z.moved hwm.alike (hSt.2.1.1 j _ hj)
  have hlt : a < s0.heap.size := by
    rcases Nat.lt_or_ge a s0.heap.size with z | z
    · exact z
    · exact absurd z h8
  exact W.gets hx hb hown (hw s0 s b0 args hwd hwm) h1 h2 h3 h4 (by rw [hP.1.2.2.1 a hlt]; exact h5) (fun z => by rw [z] at h6; cases h6) h7 rfl hd (hK.go ha hP)
end
