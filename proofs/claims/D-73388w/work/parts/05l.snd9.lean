/-! ===== M is sound (9): arrays of references, arrays of arrays, copies ===== -/
theorem zmv {s0 s : State} (hwm : s0.WarmedH s.vm) {c : ClassId} {k : Class} (h : s0.vm.classes[c]? = some k) : ∃ k', s.vm.classes[c]? = some k' ∧ k'.kind = k.kind := by
  obtain ⟨k', g1, g2⟩ := hwm.alike.2.2 _ _ h
  exact ⟨k', g1, by rw [g2]⟩
theorem zmb {s0 s : State} (hwm : s0.WarmedH s.vm) {c : ClassId} {k : Class} (h : s.vm.classes[c]? = some k) : ∃ k', s0.vm.classes[c]? = some k' ∧ k'.kind = k.kind := by
  have hlt9 : c < s0.vm.classes.size := by rw [← hwm.2.1]; exact (Array.getElem?_eq_some_iff.mp h).1
  obtain ⟨k', g1, g2⟩ := hwm.alike.2.2 _ _ (Array.getElem?_eq_getElem hlt9)
  have : k' = k := Option.some.inj (g1.symm.trans h)
  subst this
  exact ⟨_, Array.getElem?_eq_getElem hlt9, by rw [g2]⟩
section
variable {B : zB} {mi : Nat → zMI} {I : zMI} {pc nx : Nat}
theorem snd_aast {b : Nat} {ty : FieldType} {ok : zKd → Bool} (hbb : B.1 = b) (href : ty.isReference = true) (hv : ∀ (h : zH) (a j : Nat), zval ty h a j = va_rf (zA h a j)) (hft : ∀ x, fits ty (va_rf x) = true)
    (hok : (∃ ci Cn T N, zcl[ci]? = some (Cn, T, N) ∧ ty = .object Cn ∧ ∀ kd, ok kd = true → kd = Sum.inl ci) ∨ (∃ t, ty = .array t ∧ ∀ kd, ok kd = true → ∃ n, kd = Sum.inr (t, n))) (hd : decode I.2.1 pc = .ok (.aastore, 1)) (hn : pc + 1 = nx) : zSnd B mi I pc (za_aast b ty ok nx) := by
  intro s0 b0 D l d p e R s m args below meth c C Q cF sF c0 n0 L S h K E H ls locs cells slots X hC hb1 hb2 hP ha hK hE
  obtain ⟨hx, hb, hr, hml, hown, hlk, hnm, hwd, hwm, hfx, hRf, hRl, hfl, hex, hB, hSt⟩ := X
  subst hn
  match S, ha with
  | Sum.inr (Sum.inl x) :: Sum.inl i :: Sum.inr (Sum.inl (some a)) :: S, ha =>
    obtain ⟨⟨n, a1, a0, a2, a3⟩, a4, a5⟩ := ha
    have ha0 : s0.heap.size ≤ a := by rw [hB, hbb]; exact a0
    obtain ⟨cell, g2, g3, g4, g5, g6, g7, g8, g9⟩ := hP.1.2.2.2.2 a _ n a1
    have hlt : (zn i).toNat < n := by omega
    obtain ⟨kA, kc, comp, k1, k2, k3, k4⟩ := g6 href
    obtain ⟨kA', k1', k2'⟩ := zmv hwm k1
    obtain ⟨kc', k3', -⟩ := zmv hwm k3
    have hin9 : ¬ Int32.ofInt i < 0 ∧ (Int32.ofInt i).toNatClampNeg < cell.slots.size := by rw [zc_lt0, zt_c, g8]; omega
    have hobj : ∀ q, cell.vm ≠ .statics q := fun q z => by rw [(g4 ha0).1] at z; cases z
    cases x with
    | none =>
      have hftr : ∀ _ : Unit, fits ty .null = true := fun _ => hft none
      intro T hT Xs
      have hT' : T.heap[a]? = some cell := by rw [hT]; exact g2
      obtain ⟨X', st⟩ := Xs.aastoreNullIn hx hT' hobj g3 k1' (by rw [k2']; exact k2) href hin9 (g := F0 m pc ls (.null :: .int (Int32.ofInt i) :: .ref a :: S.map zv)) rfl rfl (by rw [hb]; exact hd)
      have halt : a < T.heap.size := (Array.getElem?_eq_some_iff.mp hT').1
      rw [zt_c] at X' st
      have e1 : (T.setCell a (cell.setSlot (zn i).toNat .null)).heap[a]? = some (cell.setSlot (zn i).toNat .null) := heapAt_setCell_self _ halt
      obtain ⟨t', s1, s2⟩ := (hK.go a5 (hP.wr (i := (zn i).toNat) (zRel_arr (H' := (T.setCell a (cell.setSlot (zn i).toNat .null)).heap) (v := .null) hP.1 ha0 a1 hlt rfl rfl (fun b j hbj ty => zval_sA hbj) (by rw [hv, zA_sA, zu_same]; rfl) (hftr ()) g2 e1 (by rw [size_setCell, hT]) (fun q hq => by rw [heapAt_setCell_ne _ (Ne.symm hq), hT])) rfl rfl ha0)) _ rfl X'
      exact ⟨t', st t' s1, s2⟩
    | some v =>
      have hftr : ∀ _ : Unit, fits ty (.ref v) = true := fun _ => hft (some v)
      obtain ⟨hv0, kd, hkd, hokd⟩ := a4 v rfl
      have hv0' : s0.heap.size ≤ v := by rw [hB, hbb]; exact hv0
      have hcv : ∃ (cv : Cell) (kv : Class), H[v]? = some cv ∧ (∀ q, cv.vm ≠ .statics q) ∧ s.vm.classes[cv.cls]? = some kv ∧ cv.cls = comp := by
        rcases hok with ⟨ci, Cn, T, N, hc, rfl, hall⟩ | ⟨t, rfl, hall⟩
        · have := hall kd hokd
          subst this
          obtain ⟨r, cv, q1, q2, q3, q4, q5, q6, q7⟩ := hP.1.2.2.2.1 v ci hkd
          have hKn := hfx.1 ci _ hc
          obtain ⟨hfc, kC, hkC, hkind⟩ := hKn.2
          obtain ⟨kC', w1, -⟩ := zmv hwm hkC
          refine ⟨cv, kC', q2, fun q z => (by rw [q6 hv0'] at z; cases z), by rw [q3]; exact w1, ?_⟩
          rw [q3]
          exact Option.some.inj (hfc.symm.trans k4)
        · obtain ⟨n', rfl⟩ := hall kd hokd
          obtain ⟨cv, q2, q3, q4, q5, q6, q7, q8, q9⟩ := hP.1.2.2.2.2 v t n' hkd
          obtain ⟨-, k9, w1, -⟩ := q5
          obtain ⟨k9', w2, -⟩ := zmv hwm w1
          refine ⟨cv, k9', q2, fun q z => (by rw [(q4 hv0').1] at z; cases z), w2, ?_⟩
          exact Option.some.inj ((q4 hv0').2.symm.trans k4)
      obtain ⟨cv, kv, v1, v2, v3, v4⟩ := hcv
      refine W.aast hx hb g2 hobj g3 k1' (by rw [k2']; exact k2) href k3' hin9 v1 v2 v3 (by rw [v4]; exact Vm.assignable_self _ _) rfl rfl hd fun H' e1 e2 e3 => ?_
      rw [zt_c] at e1 ⊢
      exact hK.go a5 (hP.wr (zRel_arr (v := .ref v) hP.1 ha0 a1 hlt rfl rfl (fun b j hbj ty => zval_sA hbj) (by rw [hv, zA_sA, zu_same]; rfl) (hftr ()) g2 e1 e2 e3) rfl rfl ha0)
theorem snd_anew {ty : FieldType} {idx : Nat} {Cn : String} (hty : ty = .object Cn) (hw1 : zW (Cond.classLink I.1.cls idx Cn)) (hw2 : zW (Cond.arrayOver (.object Cn))) (hd : decode I.2.1 pc = .ok (.anewarray idx, 3)) (hn : pc + 3 = nx) (hcls : ∀ (s0 : State) (b0 : Nat), (∀ w ∈ zt, w.before #[Value.ref b0] s0 = true) → ∀ comp, s0.vm.findClass Cn = some comp → ∃ kc, s0.vm.classes[comp]? = some kc) : zSnd B mi I pc (za_newa ty nx) := by
  intro s0 b0 D l d p e R s m args below meth c C Q cF sF c0 n0 L S h K E H ls locs cells slots X hC hb1 hb2 hP ha hK hE
  obtain ⟨hx, hb, hr, hml, hown, hlk, hnm, hwd, hwm, hfx, hRf, hRl, hfl, hex, hB, hSt⟩ := X
  subst hn
  subst hty
  match S, ha with
  | Sum.inl x :: S, ha =>
    obtain ⟨a1, a2, a3⟩ := ha
    have hm := (hK _ _ _ _ a3).1
    rw [zsz_new, zN_new] at hm
    have q1 := hP.2.2.1
    have q2 := hP.2.2.2.1
    refine W.anew hx hb hown (hw1 s0 s b0 args hwd hwm) (hw2 s0 s b0 args hwd hwm) rfl hd rfl (by rw [zc_lt0]; omega) (by rw [zt_c]; omega) (by omega) (by rw [zt_c]; omega) fun cA kA comp e1 e2 e3 e4 => ?_
    rw [zt_c]
    have e1' : s0.vm.findClass ("[" ++ (FieldType.object Cn).toString) = some cA := by rw [← hwm.alike.findClass]; exact e1
    have e4' : s0.vm.findClass Cn = some comp := by rw [← hwm.alike.findClass]; exact e4
    obtain ⟨k0, h0, hk0⟩ := zmb hwm e2
    obtain ⟨kc, hkc⟩ := hcls s0 b0 hwd comp e4'
    have hR9 : zRel s0 D (znew h (Sum.inr (FieldType.object Cn, (zn x).toNat)) (zn x).toNat) (H.push { cls := cA, slots := Array.replicate (zn x).toNat .null, vm := .none }) := by
      refine zRel_push hP.1 (fun ci hci => by cases hci) (fun ty k hk => ?_)
      cases hk
      refine ⟨_, (by rw [Array.getElem?_push, if_pos hP.1.1.symm]), (fun z => (by cases z)), fun _ => ⟨rfl, e1'⟩, ⟨fun k z => (by cases z), k0, h0, comp, (by rw [hk0]; exact e3)⟩, (fun _ => ⟨k0, kc, comp, h0, (by rw [hk0]; exact e3), hkc, e4'⟩), (by omega), (by simp), fun j hj => ?_⟩
      rw [zval_0 (by intro z; cases z) (by intro z; cases z)]
      exact ⟨by simp [hj, defaultValue], rfl⟩
    have k9 := hK.go a3 (hP.nw hR9)
    rw [List.map_cons, show zv (Sum.inr (Sum.inl (some (zsz h)))) = Value.ref H.size by rw [hP.1.1]; rfl] at k9
    exact k9
end
