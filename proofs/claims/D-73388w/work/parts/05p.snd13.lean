/-! ===== M is sound (13): arrays of arrays at once ===== -/
theorem zouter (c : ClassId) (N h0 : Nat) : ∀ i j, i ≤ N → j < N → (Jvm.Free.Multi.outerC c N h0 i).slots[j]? = some (if j < i then Value.ref (h0 + 1 + j) else .null) := by
  intro i
  induction i with
  | zero => intro j _ hj; simp [Jvm.Free.Multi.outerC, hj]
  | succ i ih =>
    intro j hi hj
    have hsz := (Jvm.Free.Multi.outerC_facts c N h0 i).2.2
    show ((Jvm.Free.Multi.outerC c N h0 i).setSlot i (.ref (h0 + 1 + i))).slots[j]? = _
    by_cases hji : j = i
    · subst hji
      rw [if_pos (by omega)]
      simp [Cell.setSlot, Array.getElem?_setIfInBounds, hsz, hj]
    · rw [slot_ne _ _ (Ne.symm hji), ih j (by omega) hj]
      by_cases h2 : j < i
      · rw [if_pos h2, if_pos (by omega)]
      · rw [if_neg h2, if_neg (by omega)]
theorem zisarr {s0 s : State} (hwm : s0.WarmedH s.vm) {cell : Cell} {ty : FieldType} (h : s.isArrayOf cell ty) : s0.isArrayOf cell ty := by
  obtain ⟨h1, k, h2, comp, h3⟩ := h
  obtain ⟨k', g1, g2⟩ := zmb hwm h2
  exact ⟨h1, k', g1, comp, by rw [g2]; exact h3⟩
section
variable {B : zB} {mi : Nat → zMI} {I : zMI} {pc nx : Nat}
theorem snd_multi {ty : FieldType} {idx : Nat} (hf : ty ≠ .float) (hf2 : ty ≠ .double) (hdf : fits ty (defaultValue ty) = true) (hdd : (defaultValue ty).isDefault = true) (hnr : ty.isReference = false) (hcb : componentBytes ty ≤ 8) (hw1 : zW (Cond.classLink I.1.cls idx ("[" ++ (FieldType.array ty).toString))) (hw2 : zW (Cond.arrayOver (.array ty))) (hw3 : zW (Cond.arrayClass ty)) (hd : decode I.2.1 pc = .ok (.multianewarray idx 2, 4)) (hn : pc + 4 = nx) : zSnd B mi I pc (za_multi ty nx) := by
  intro s0 b0 D l d p e R s m args below meth c C Q cF sF c0 n0 L S h K E H ls locs cells slots X hC hb1 hb2 hP ha hK hE
  obtain ⟨hx, hb, hr, hml, hown, hlk, hnm, hwd, hwm, hfx, hRf, hRl, hfl, hex, hB, hSt⟩ := X
  subst hn
  match S, ha with
  | Sum.inl k :: Sum.inl n :: S, ha =>
    obtain ⟨a1, a2, a3, a4, a5⟩ := ha
    have hm := (hK _ _ _ _ a5).1
    rw [zsz_multi, zN_multi] at hm
    have q1 := hP.2.2.1
    have q2 := hP.2.2.2.1
    generalize hNe : (zn n).toNat = N at hm a5
    generalize hMe : (zn k).toNat = M at hm a5
    have hN1 : N ≤ 10000 := by omega
    have hM1 : M ≤ 10000 := by omega
    intro T hT Xs
    have hover := hw2 s0 s b0 args hwd hwm
    obtain ⟨vm₁, cA, comp, hW, hfA, hfC, hO, hI, X1, step⟩ := Xs.multianewarray2F hx hown (hw1 s0 s b0 args hwd hwm) hover (hw3 s0 s b0 args hwd hwm) (g := F0 m pc ls (.int (Int32.ofInt k) :: .int (Int32.ofInt n) :: S.map zv)) rfl (by rw [hb]; exact hd) (n := Int32.ofInt n) (k := Int32.ofInt k) (rest := S.map zv) rfl
      (by rw [zc_lt0]; omega) (by rw [zc_lt0]; omega) (by rw [zt_c, hNe]; omega) (by rw [zt_c, hMe]; exact Nat.le_trans (Nat.mul_le_mul hM1 hcb) (Nat.le_of_ble_eq_true rfl)) (by rw [zt_c, hMe]; omega) hdf hdd (by rw [zt_c, hNe]; omega) (by rw [zt_c, zt_c, hNe, hMe]; generalize N * M = NM at hm ⊢; omega)
    rw [zt_c, zt_c, hNe, hMe] at X1 step
    have hTs : (T.setVm vm₁).heap.size = zsz h := by show T.heap.size = _; rw [hT]; exact hP.1.1
    obtain ⟨F1, F2, -, -⟩ := Jvm.Free.Multi.fill_facts (T.setVm vm₁) cA comp N M (defaultValue ty) N
    have F3 := fun (a : Nat) ha => Jvm.Free.Multi.fill_old (T.setVm vm₁) cA comp N M (defaultValue ty) (a := a) ha N
    have F4 := Jvm.Free.Multi.fill_inner (T.setVm vm₁) cA comp N M (defaultValue ty) N
    rw [hTs] at F1 F2 F4
    generalize hSe : Jvm.Free.Multi.fill (T.setVm vm₁) cA comp N M (defaultValue ty) N = St at X1 step F1 F2 F3 F4
    obtain ⟨cmp9, cA9, kA9, o1, o2, o3, o4, o5⟩ := arrayOverA_spec hover
    have hF3 : ∀ b, b < zsz h → St.heap[b]? = H[b]? := fun b hb => by
      rw [F3 b (by rw [hTs]; exact hb)]
      show T.heap[b]? = _
      rw [hT]
    have hold : ∀ b x, H[b]? = some x → St.heap[b]? = H[b]? := fun b x hb => hF3 b (by rw [← hP.1.1]; exact (Array.getElem?_eq_some_iff.mp hb).1)
    have hR9 : zRel s0 D (zmulti h ty N M) St.heap := by
      obtain ⟨r1, r2, r3, r4, r5⟩ := hP.1
      have vne : ∀ (ty' : FieldType) (b j : Nat), b < zsz h → zval ty' (zmulti h ty N M) b j = zval ty' h b j := by
        intro ty' b j hb
        have e1 : zI (zmulti h ty N M) b j = zI h b j := by show (if zsz h ≤ b ∧ b < zsz h + 1 + N then fun _ => (0 : Int) else zI h b) j = _; rw [if_neg (by omega)]
        have e2 : zL (zmulti h ty N M) b j = zL h b j := by show (if zsz h ≤ b ∧ b < zsz h + 1 + N then fun _ => (0 : Int) else zL h b) j = _; rw [if_neg (by omega)]
        have e3 : zA (zmulti h ty N M) b j = zA h b j := by
          show (if b = zsz h then fun j => if j < N then some (zsz h + 1 + j) else none else if zsz h < b ∧ b < zsz h + 1 + N then fun _ => none else zA h b) j = _
          rw [if_neg (by omega), if_neg (by omega)]
        unfold zval
        split <;> simp only [e1, e2, e3]
      have kdef : zK (zmulti h ty N M) = fun b => if b = zsz h then some (Sum.inr (FieldType.array ty, N)) else if zsz h < b ∧ b < zsz h + 1 + N then some (Sum.inr (ty, M)) else zK h b := rfl
      have hlt9 : ∀ b x, H[b]? = some x → b < zsz h := fun b x hb => by rw [← r1]; exact (Array.getElem?_eq_some_iff.mp hb).1
      refine ⟨by rw [F1, zsz_multi], by rw [zsz_multi]; omega, fun q hq => by rw [hF3 q (by omega)]; exact r3 q hq, fun b ci hb => ?_, fun b ty' k' hb => ?_⟩
      · rw [kdef] at hb
        by_cases b1 : b = zsz h
        · simp [b1] at hb
        · by_cases b2 : zsz h < b ∧ b < zsz h + 1 + N
          · simp [b1, b2] at hb
          · simp only [if_neg b1, if_neg b2] at hb
            obtain ⟨r, cl, g1, g2, g3, g4, g5, g6, g7⟩ := r4 b ci hb
            exact ⟨r, cl, g1, by rw [hold b _ g2]; exact g2, g3, g4, g5, g6, fun k hk => by rw [vne _ b _ (hlt9 b _ g2)]; exact g7 k hk⟩
      · rw [kdef] at hb
        by_cases b1 : b = zsz h
        · subst b1
          simp only [if_true, Option.some.injEq, Sum.inr.injEq, Prod.mk.injEq] at hb
          obtain ⟨rfl, rfl⟩ := hb
          have of := Jvm.Free.Multi.outerC_facts cA N (zsz h) N
          have hAo := (hO N (zsz h) N).1
          have hfA0 : s0.vm.findClass ("[" ++ (FieldType.array ty).toString) = some cA := by rw [← hwm.alike.findClass]; exact hfA
          have hfC0 : s0.vm.findClass (FieldType.array ty).toString = some comp := by rw [← hwm.alike.findClass]; exact hfC
          refine ⟨_, F2, (hO N (zsz h) N).2, fun _ => ⟨of.2.1, by rw [of.1]; exact hfA0⟩, zisarr hwm hAo, fun _ => ?_, by omega, of.2.2, fun j hj => ?_⟩
          · obtain ⟨-, kI, hkI, -⟩ := zisarr hwm (hI M (defaultValue ty)).1
            have hc1 : cA9 = cA := Option.some.inj (o5.symm.trans hfA)
            have hc2 : cmp9 = comp := Option.some.inj (o1.symm.trans hfC)
            subst hc1
            subst hc2
            obtain ⟨k0, w1, w2⟩ := zmb hwm o3
            exact ⟨k0, kI, cmp9, (by rw [of.1]; exact w1), (by rw [w2]; exact o4), hkI, hfC0⟩
          · rw [zouter cA N (zsz h) N j (Nat.le_refl _) hj, if_pos hj]
            have e3 : zA (zmulti h ty N M) (zsz h) j = some (zsz h + 1 + j) := by
              show (if zsz h = zsz h then fun j => if j < N then some (zsz h + 1 + j) else none else _) j = _
              rw [if_pos rfl]; simp [hj]
            exact ⟨by show _ = some (va_rf (zA (zmulti h ty N M) (zsz h) j)); rw [e3]; rfl, by show fits _ (va_rf (zA (zmulti h ty N M) (zsz h) j)) = true; rw [e3]; rfl⟩
        · by_cases b2 : zsz h < b ∧ b < zsz h + 1 + N
          · simp only [if_neg b1, if_pos b2, Option.some.injEq, Sum.inr.injEq, Prod.mk.injEq] at hb
            obtain ⟨rfl, rfl⟩ := hb
            have hfC0 : s0.vm.findClass (FieldType.array ty).toString = some comp := by rw [← hwm.alike.findClass]; exact hfC
            have hcell := F4 (b - (zsz h + 1)) (by omega)
            rw [show zsz h + 1 + (b - (zsz h + 1)) = b by omega] at hcell
            have hz9 : ∀ j, zval ty (zmulti h ty N M) b j = defaultValue ty := by
              intro j
              have e1 : zI (zmulti h ty N M) b j = 0 := by show (if zsz h ≤ b ∧ b < zsz h + 1 + N then fun _ => (0 : Int) else zI h b) j = _; rw [if_pos (by omega)]
              have e2 : zL (zmulti h ty N M) b j = 0 := by show (if zsz h ≤ b ∧ b < zsz h + 1 + N then fun _ => (0 : Int) else zL h b) j = _; rw [if_pos (by omega)]
              cases ty <;> first | exact absurd rfl hf | exact absurd rfl hf2 | (simp only [zval, e1, e2]; rfl) | (cases hnr)
            refine ⟨_, hcell, (hI M (defaultValue ty)).2, fun _ => ⟨rfl, hfC0⟩, zisarr hwm (hI M (defaultValue ty)).1, (fun z => (by rw [hnr] at z; cases z)), (by omega), (by simp [Jvm.Free.Multi.innerC]), fun j hj => ?_⟩
            rw [hz9]
            exact ⟨by simp [Jvm.Free.Multi.innerC, hj], hdf⟩
          · simp only [if_neg b1, if_neg b2] at hb
            obtain ⟨cl, g2, g3, g4, g5, g6, g7, g8, g9⟩ := r5 b ty' k' hb
            exact ⟨cl, by rw [hold b _ g2]; exact g2, g3, g4, g5, g6, g7, g8, fun j hj => by rw [vne _ b _ (hlt9 b _ g2)]; exact g9 j hj⟩
    have hP9 : zPt s0 D I.2.2.1 c0 n0 L (zmulti h ty N M) St.heap ls locs (cells + 1 + N) (slots + N + N * M) := by
      refine ⟨hR9, hP.2.1, ?_, ?_, hP.2.2.2.2⟩
      · rw [zsz_multi]; omega
      · rw [zN_multi]; generalize N * M = NM; omega
    obtain ⟨t', s1, s2⟩ := (hK.go a5 hP9) St rfl X1
    refine ⟨t', step t' ?_, s2⟩
    have e9 : zv (Sum.inr (Sum.inl (some (zsz h)))) = Value.ref T.heap.size := by rw [hT, hP.1.1]; rfl
    rw [List.map_cons, e9] at s1
    exact s1
end
