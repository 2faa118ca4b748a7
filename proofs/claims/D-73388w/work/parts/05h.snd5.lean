/-! ===== M is sound (5): arrays, new cells ===== -/
def zi2z (x : Int) : Int := (Int32.ofInt x &&& 1).toInt
theorem zf_b (x : Int32) : fits .byte (narrow .byte (.int x)) = true := pk_fb x
theorem zf_z (x : Int32) : fits .boolean (narrow .boolean (.int x)) = true := by
  show (x &&& 1 == 0 || x &&& 1 == 1) = true
  have h : (x &&& 1).toBitVec = (0 : Int32).toBitVec ∨ (x &&& 1).toBitVec = (1 : Int32).toBitVec := by
    rw [Int32.toBitVec_and, show ((1 : Int32).toBitVec) = 1#32 by decide, show ((0 : Int32).toBitVec) = 0#32 by decide, BitVec.and_one_eq_setWidth_ofBool_getLsbD]
    cases x.toBitVec.getLsbD 0 <;> decide
  rcases h with h | h
  · rw [Int32.toBitVec_inj.mp h]; rfl
  · rw [Int32.toBitVec_inj.mp h]; rfl
theorem zin {i : Int} {n : Nat} {cell : Cell} (h0 : 0 ≤ zn i) (h1 : zn i < (n : Int)) (hs : cell.slots.size = n) : ¬ (Int32.ofInt i < 0 ∨ cell.slots.size ≤ (Int32.ofInt i).toNatClampNeg) := by
  rw [zc_lt0, zt_c, hs]; omega
section
variable {B : zB} {mi : Nat → zMI} {I : zMI} {pc nx : Nat}
theorem snd_iald (hd : decode I.2.1 pc = .ok (.iaload, 1)) (hn : pc + 1 = nx) : zSnd B mi I pc (za_ald .int nx) := by
  intro s0 b0 D l d p e R s m args below meth c C Q cF sF c0 n0 L S h K E H ls locs cells slots X hC hb1 hb2 hP ha hK hE
  obtain ⟨hx, hb, hr, hml, hown, hlk, hnm, hwd, hwm, hfx, hRf, hRl, hfl, hex, hB, hSt⟩ := X
  subst hn
  match S, ha with
  | Sum.inl i :: Sum.inr (Sum.inl (some a)) :: S, ha =>
    obtain ⟨n, a1, a2, a3, a4⟩ := ha
    obtain ⟨cell, g2, g3, g4, g5, g6, g7, g8, g9⟩ := hP.1.2.2.2.2 a _ n a1
    have hlt : (zn i).toNat < n := by omega
    exact W.iald (v := .int (Int32.ofInt (zI h a (zn i).toNat))) hx hb g2 (State.isArrayOf_alike hwm.alike g5) g3 (zin a2 a3 g8) (by rw [zt_c, (g9 _ hlt).1]; rfl) rfl rfl hd (hK.go a4 hP)
theorem snd_bald (hd : decode I.2.1 pc = .ok (.baload, 1)) (hn : pc + 1 = nx) : zSnd B mi I pc (za_ald .byte nx) := by
  intro s0 b0 D l d p e R s m args below meth c C Q cF sF c0 n0 L S h K E H ls locs cells slots X hC hb1 hb2 hP ha hK hE
  obtain ⟨hx, hb, hr, hml, hown, hlk, hnm, hwd, hwm, hfx, hRf, hRl, hfl, hex, hB, hSt⟩ := X
  subst hn
  match S, ha with
  | Sum.inl i :: Sum.inr (Sum.inl (some a)) :: S, ha =>
    obtain ⟨n, a1, a2, a3, a4⟩ := ha
    obtain ⟨cell, g2, g3, g4, g5, g6, g7, g8, g9⟩ := hP.1.2.2.2.2 a _ n a1
    have hlt : (zn i).toNat < n := by omega
    exact W.bald (v := .int (Int32.ofInt (zI h a (zn i).toNat))) hx hb g2 (State.isArrayOf_alike hwm.alike g5) g3 (zin a2 a3 g8) (by rw [zt_c, (g9 _ hlt).1]; rfl) rfl rfl hd (hK.go a4 hP)
theorem snd_zald (hd : decode I.2.1 pc = .ok (.baload, 1)) (hn : pc + 1 = nx) : zSnd B mi I pc (za_ald .boolean nx) := by
  intro s0 b0 D l d p e R s m args below meth c C Q cF sF c0 n0 L S h K E H ls locs cells slots X hC hb1 hb2 hP ha hK hE
  obtain ⟨hx, hb, hr, hml, hown, hlk, hnm, hwd, hwm, hfx, hRf, hRl, hfl, hex, hB, hSt⟩ := X
  subst hn
  match S, ha with
  | Sum.inl i :: Sum.inr (Sum.inl (some a)) :: S, ha =>
    obtain ⟨n, a1, a2, a3, a4⟩ := ha
    obtain ⟨cell, g2, g3, g4, g5, g6, g7, g8, g9⟩ := hP.1.2.2.2.2 a _ n a1
    have hlt : (zn i).toNat < n := by omega
    exact W.zald (v := .int (Int32.ofInt (zI h a (zn i).toNat))) hx hb g2 (State.isArrayOf_alike hwm.alike g5) g3 (zin a2 a3 g8) (by rw [zt_c, (g9 _ hlt).1]; rfl) rfl rfl hd (hK.go a4 hP)
theorem snd_lald (hd : decode I.2.1 pc = .ok (.laload, 1)) (hn : pc + 1 = nx) : zSnd B mi I pc (za_lald nx) := by
  intro s0 b0 D l d p e R s m args below meth c C Q cF sF c0 n0 L S h K E H ls locs cells slots X hC hb1 hb2 hP ha hK hE
  obtain ⟨hx, hb, hr, hml, hown, hlk, hnm, hwd, hwm, hfx, hRf, hRl, hfl, hex, hB, hSt⟩ := X
  subst hn
  match S, ha with
  | Sum.inl i :: Sum.inr (Sum.inl (some a)) :: S, ha =>
    obtain ⟨n, a1, a2, a3, a4⟩ := ha
    obtain ⟨cell, g2, g3, g4, g5, g6, g7, g8, g9⟩ := hP.1.2.2.2.2 a _ n a1
    have hlt : (zn i).toNat < n := by omega
    exact W.lald (v := .long (Int64.ofInt (zL h a (zn i).toNat))) hx hb g2 (State.isArrayOf_alike hwm.alike g5) g3 (zin a2 a3 g8) (by rw [zt_c, (g9 _ hlt).1]; rfl) rfl rfl hd (hK.go a4 hP)
theorem snd_aald {ty : FieldType} (hty : ty.isReference = true) (hv : ∀ (h : zH) (a j : Nat), zval ty h a j = va_rf (zA h a j)) (hd : decode I.2.1 pc = .ok (.aaload, 1)) (hn : pc + 1 = nx) : zSnd B mi I pc (za_aald ty nx) := by
  intro s0 b0 D l d p e R s m args below meth c C Q cF sF c0 n0 L S h K E H ls locs cells slots X hC hb1 hb2 hP ha hK hE
  obtain ⟨hx, hb, hr, hml, hown, hlk, hnm, hwd, hwm, hfx, hRf, hRl, hfl, hex, hB, hSt⟩ := X
  subst hn
  match S, ha with
  | Sum.inl i :: Sum.inr (Sum.inl (some a)) :: S, ha =>
    obtain ⟨n, a1, a2, a3, a4⟩ := ha
    obtain ⟨cell, g2, g3, g4, g5, g6, g7, g8, g9⟩ := hP.1.2.2.2.2 a _ n a1
    have hlt : (zn i).toNat < n := by omega
    exact W.aald (v := va_rf (zA h a (zn i).toNat)) hx hb g2 (State.isArrayOf_alike hwm.alike g5) hty g3 (zin a2 a3 g8) (by rw [zt_c, (g9 _ hlt).1, hv]) rfl rfl hd (by have k9 := hK.go a4 hP; rw [List.map_cons, ← z_rf] at k9; exact k9)
theorem snd_iast {b : Nat} (hbb : B.1 = b) (hd : decode I.2.1 pc = .ok (.iastore, 1)) (hn : pc + 1 = nx) : zSnd B mi I pc (za_ast b .int (fun x => x) nx) := by
  intro s0 b0 D l d p e R s m args below meth c C Q cF sF c0 n0 L S h K E H ls locs cells slots X hC hb1 hb2 hP ha hK hE
  obtain ⟨hx, hb, hr, hml, hown, hlk, hnm, hwd, hwm, hfx, hRf, hRl, hfl, hex, hB, hSt⟩ := X
  subst hn
  match S, ha with
  | Sum.inl x :: Sum.inl i :: Sum.inr (Sum.inl (some a)) :: S, ha =>
    obtain ⟨n, a1, a0, a2, a3, a4⟩ := ha
    have ha0 : s0.heap.size ≤ a := by rw [hB, hbb]; exact a0
    obtain ⟨cell, g2, g3, g4, g5, g6, g7, g8, g9⟩ := hP.1.2.2.2.2 a _ n a1
    have hlt : (zn i).toNat < n := by omega
    refine W.iast hx hb g2 (State.isArrayOf_alike hwm.alike g5) g3 (zin a2 a3 g8) rfl rfl hd fun H' e1 e2 e3 => ?_
    rw [zt_c] at e1 ⊢
    refine hK.go a4 (hP.wr (zRel_arr (v := .int (Int32.ofInt x)) hP.1 ha0 a1 hlt rfl rfl (fun b j hbj ty => zval_sI hbj) ?_ rfl g2 e1 e2 e3) rfl rfl ha0)
    show Value.int (Int32.ofInt (zu (zI h) a (zn i).toNat _ a (zn i).toNat)) = _
    rw [zu_same]
theorem snd_bast {b : Nat} (hbb : B.1 = b) (hd : decode I.2.1 pc = .ok (.bastore, 1)) (hn : pc + 1 = nx) : zSnd B mi I pc (za_ast b .byte zi2b nx) := by
  intro s0 b0 D l d p e R s m args below meth c C Q cF sF c0 n0 L S h K E H ls locs cells slots X hC hb1 hb2 hP ha hK hE
  obtain ⟨hx, hb, hr, hml, hown, hlk, hnm, hwd, hwm, hfx, hRf, hRl, hfl, hex, hB, hSt⟩ := X
  subst hn
  match S, ha with
  | Sum.inl x :: Sum.inl i :: Sum.inr (Sum.inl (some a)) :: S, ha =>
    obtain ⟨n, a1, a0, a2, a3, a4⟩ := ha
    have ha0 : s0.heap.size ≤ a := by rw [hB, hbb]; exact a0
    obtain ⟨cell, g2, g3, g4, g5, g6, g7, g8, g9⟩ := hP.1.2.2.2.2 a _ n a1
    have hlt : (zn i).toNat < n := by omega
    refine W.bast hx hb g2 (State.isArrayOf_alike hwm.alike g5) g3 (zin a2 a3 g8) rfl rfl hd fun H' e1 e2 e3 => ?_
    rw [zt_c] at e1 ⊢
    refine hK.go a4 (hP.wr (zRel_arr (v := narrow .byte (.int (Int32.ofInt x))) hP.1 ha0 a1 hlt rfl rfl (fun b j hbj ty => zval_sI hbj) ?_ (zf_b _) g2 e1 e2 e3) rfl rfl ha0)
    show Value.int (Int32.ofInt (zu (zI h) a (zn i).toNat _ a (zn i).toNat)) = _
    rw [zu_same]
    exact (by show Value.int (Int32.ofInt (zi2b x)) = _; unfold zi2b; rw [Int32.ofInt_toInt]; rfl)
theorem snd_zast {b : Nat} (hbb : B.1 = b) (hd : decode I.2.1 pc = .ok (.bastore, 1)) (hn : pc + 1 = nx) : zSnd B mi I pc (za_ast b .boolean zi2z nx) := by
  intro s0 b0 D l d p e R s m args below meth c C Q cF sF c0 n0 L S h K E H ls locs cells slots X hC hb1 hb2 hP ha hK hE
  obtain ⟨hx, hb, hr, hml, hown, hlk, hnm, hwd, hwm, hfx, hRf, hRl, hfl, hex, hB, hSt⟩ := X
  subst hn
  match S, ha with
  | Sum.inl x :: Sum.inl i :: Sum.inr (Sum.inl (some a)) :: S, ha =>
    obtain ⟨n, a1, a0, a2, a3, a4⟩ := ha
    have ha0 : s0.heap.size ≤ a := by rw [hB, hbb]; exact a0
    obtain ⟨cell, g2, g3, g4, g5, g6, g7, g8, g9⟩ := hP.1.2.2.2.2 a _ n a1
    have hlt : (zn i).toNat < n := by omega
    refine W.zast hx hb g2 (State.isArrayOf_alike hwm.alike g5) g3 (zin a2 a3 g8) rfl rfl hd fun H' e1 e2 e3 => ?_
    rw [zt_c] at e1 ⊢
    refine hK.go a4 (hP.wr (zRel_arr (v := narrow .boolean (.int (Int32.ofInt x))) hP.1 ha0 a1 hlt rfl rfl (fun b j hbj ty => zval_sI hbj) ?_ (zf_z _) g2 e1 e2 e3) rfl rfl ha0)
    show Value.int (Int32.ofInt (zu (zI h) a (zn i).toNat _ a (zn i).toNat)) = _
    rw [zu_same]
    exact (by show Value.int (Int32.ofInt (zi2z x)) = _; unfold zi2z; rw [Int32.ofInt_toInt]; rfl)
theorem snd_last {b : Nat} (hbb : B.1 = b) (hd : decode I.2.1 pc = .ok (.lastore, 1)) (hn : pc + 1 = nx) : zSnd B mi I pc (za_last b nx) := by
  intro s0 b0 D l d p e R s m args below meth c C Q cF sF c0 n0 L S h K E H ls locs cells slots X hC hb1 hb2 hP ha hK hE
  obtain ⟨hx, hb, hr, hml, hown, hlk, hnm, hwd, hwm, hfx, hRf, hRl, hfl, hex, hB, hSt⟩ := X
  subst hn
  match S, ha with
  | Sum.inr (Sum.inr (Sum.inl x)) :: Sum.inl i :: Sum.inr (Sum.inl (some a)) :: S, ha =>
    obtain ⟨n, a1, a0, a2, a3, a4⟩ := ha
    have ha0 : s0.heap.size ≤ a := by rw [hB, hbb]; exact a0
    obtain ⟨cell, g2, g3, g4, g5, g6, g7, g8, g9⟩ := hP.1.2.2.2.2 a _ n a1
    have hlt : (zn i).toNat < n := by omega
    refine W.last hx hb g2 (State.isArrayOf_alike hwm.alike g5) g3 (zin a2 a3 g8) rfl rfl hd fun H' e1 e2 e3 => ?_
    rw [zt_c] at e1 ⊢
    refine hK.go a4 (hP.wr (zRel_arr (v := .long (Int64.ofInt x)) hP.1 ha0 a1 hlt rfl rfl (fun b j hbj ty => zval_sL hbj) ?_ rfl g2 e1 e2 e3) rfl rfl ha0)
    show Value.long (Int64.ofInt (zu (zL h) a (zn i).toNat _ a (zn i).toNat)) = _
    rw [zu_same]
theorem snd_alen (hd : decode I.2.1 pc = .ok (.arraylength, 1)) (hn : pc + 1 = nx) : zSnd B mi I pc (za_alen nx) := by
  intro s0 b0 D l d p e R s m args below meth c C Q cF sF c0 n0 L S h K E H ls locs cells slots X hC hb1 hb2 hP ha hK hE
  obtain ⟨hx, hb, hr, hml, hown, hlk, hnm, hwd, hwm, hfx, hRf, hRl, hfl, hex, hB, hSt⟩ := X
  subst hn
  match S, ha with
  | Sum.inr (Sum.inl (some a)) :: S, ha =>
    obtain ⟨ty, n, a1, a4⟩ := ha
    obtain ⟨cell, g2, g3, g4, g5, g6, g7, g8, g9⟩ := hP.1.2.2.2.2 a _ n a1
    exact W.alen (n := Int32.ofInt (n : Int)) hx hb g2 (State.isArrayOf_alike hwm.alike g5) (by rw [g8]; rfl) rfl rfl hd (hK.go a4 hP)
end
/-! new cells -/
theorem zval_ne {ty : FieldType} {h : zH} {kd : zKd} {n b j : Nat} (hb : b ≠ zsz h) : zval ty (znew h kd n) b j = zval ty h b j := by
  unfold zval
  split <;> simp only [zI_new, zL_new, zA_new, if_neg hb]
theorem zval_0 {ty : FieldType} {h : zH} {kd : zKd} {n j : Nat} (hf : ty ≠ .float) (hd : ty ≠ .double) : zval ty (znew h kd n) (zsz h) j = defaultValue ty := by
  cases ty <;> first | exact absurd rfl hf | exact absurd rfl hd | (simp only [zval, zI_new, zL_new, zA_new, if_true]; rfl)
theorem zRel_push {s0 : State} {D : zD} {h : zH} {H : Heap} {kd : zKd} {n : Nat} {cell : Cell} (hR : zRel s0 D h H) (h1 : ∀ ci, kd = Sum.inl ci → zob s0 D (znew h kd n) (zsz h) ci (H.push cell)) (h2 : ∀ ty k, kd = Sum.inr (ty, k) → zar s0 (znew h kd n) (zsz h) ty k (H.push cell)) : zRel s0 D (znew h kd n) (H.push cell) := by
  obtain ⟨r1, r2, r3, r4, r5⟩ := hR
  have hold : ∀ b, b ≠ zsz h → (H.push cell)[b]? = H[b]? := fun b hb => by
    rw [Array.getElem?_push, if_neg (by rw [r1]; exact hb)]
  refine ⟨by rw [Array.size_push, r1, zsz_new], by rw [zsz_new]; omega, fun q hq => by rw [hold q (by omega)]; exact r3 q hq, fun b ci hb => ?_, fun b ty k hb => ?_⟩
  · rw [zK_new] at hb
    by_cases hbz : b = zsz h
    · subst hbz
      simp only [if_true, Option.some.injEq] at hb
      exact h1 ci hb
    · simp only [if_neg hbz] at hb
      obtain ⟨r, cl, g1, g2, g3, g4, g5, g6, g7⟩ := r4 b ci hb
      exact ⟨r, cl, g1, by rw [hold b hbz]; exact g2, g3, g4, g5, g6, fun k hk => by rw [zval_ne hbz]; exact g7 k hk⟩
  · rw [zK_new] at hb
    by_cases hbz : b = zsz h
    · subst hbz
      simp only [if_true, Option.some.injEq] at hb
      exact h2 ty k hb
    · simp only [if_neg hbz] at hb
      obtain ⟨cl, g2, g3, g4, g5, g6, g7, g8, g9⟩ := r5 b ty k hb
      exact ⟨cl, by rw [hold b hbz]; exact g2, g3, g4, g5, g6, g7, g8, fun j hj => by rw [zval_ne hbz]; exact g9 j hj⟩
theorem zPt.nw {s0 : State} {D : zD} {nL c0 n0 : Nat} {L : List zV} {h : zH} {H H' : Heap} {ls : Array Slot} {locs : List Loc} {cells slots : Nat} {kd : zKd} {n : Nat} (hP : zPt s0 D nL c0 n0 L h H ls locs cells slots) (hR : zRel s0 D (znew h kd n) H') : zPt s0 D nL c0 n0 L (znew h kd n) H' ls locs (cells + 1) (slots + n) := by
  refine ⟨hR, hP.2.1, ?_, ?_, hP.2.2.2.2⟩
  · rw [zsz_new, ← hP.2.2.1]; omega
  · rw [zN_new, ← hP.2.2.2.1]; omega
section
variable {B : zB} {mi : Nat → zMI} {I : zMI} {pc nx : Nat}
theorem snd_new {ci n N idx : Nat} {Cn : String} {T : u_T} (hc : zcl[ci]? = some (Cn, T, N)) (hin : ∀ w ∈ u_ws Cn T N, w ∈ lw_all) (hty : ∀ j, j < N → parseFieldDescriptor (T j).2.2.1 = some (zty ci j)) (hfd : ∀ j, j < N → zty ci j ≠ .float ∧ zty ci j ≠ .double) (hw1 : zW (Cond.classLink I.1.cls idx Cn)) (hw2 : zW (Cond.instantiable Cn n)) (hw3 : zW (Cond.initialized Cn)) (hd : decode I.2.1 pc = .ok (.new idx, 3)) (hn : pc + 3 = nx) : zSnd B mi I pc (za_new ci n nx) := by
  intro s0 b0 D l d p e R s m args below meth c C Q cF sF c0 n0 L S h K E H ls locs cells slots X hC hb1 hb2 hP ha hK hE
  obtain ⟨hx, hb, hr, hml, hown, hlk, hnm, hwd, hwm, hfx, hRf, hRl, hfl, hex, hB, hSt⟩ := X
  subst hn
  have ha : K (pc + 3) L (Sum.inr (Sum.inl (some (zsz h))) :: S) (znew h (Sum.inl ci) n) := ha
  have hm := (hK _ _ _ _ ha).1
  rw [zsz_new, zN_new] at hm
  have q1 := hP.2.2.1
  have q2 := hP.2.2.2.1
  refine W.newc hx hb hown (hw1 s0 s b0 args hwd hwm) (hw2 s0 s b0 args hwd hwm) (hw3 s0 s b0 args hwd hwm) rfl hd (by omega) (by omega) fun cC kC e1 e2 e3 e4 => ?_
  have hts : ∀ w ∈ lw_all, w.before args s = true := fun w hw => zW_all hw s0 s b0 args hwd hwm
  have hKn := u_Kn_moved hwm.alike (hfx.1 ci _ hc)
  have hcc : cC = D.1 ci := Option.some.inj (e1.symm.trans hKn.2.1)
  subst hcc
  have hpush : (H.push { cls := D.1 ci, slots := kC.instanceTypes.map defaultValue, vm := .none })[zsz h]? = some { cls := D.1 ci, slots := kC.instanceTypes.map defaultValue, vm := .none } := by
    rw [Array.getElem?_push, if_pos hP.1.1.symm]
  obtain ⟨cellN, t1, t2, t3, t4⟩ := u_born (H := H.push { cls := D.1 ci, slots := kC.instanceTypes.map defaultValue, vm := .none }) (o := zsz h) (zty ci) hts hin hKn e2 hpush hty
  have hR9 : zRel s0 D (znew h (Sum.inl ci) n) (H.push { cls := D.1 ci, slots := kC.instanceTypes.map defaultValue, vm := .none }) := by
    refine zRel_push hP.1 (fun ci' hci => ?_) (fun ty k hk => by cases hk)
    cases hci
    exact ⟨_, cellN, hc, t1, t2, (by rw [t3]; exact fun z => (by cases z)), (by rw [t3]; rfl), fun _ => t3, fun k hk => (by rw [t4 k hk, zval_0 (hfd k hk).1 (hfd k hk).2])⟩
  have k9 := hK.go ha (hP.nw hR9)
  rw [List.map_cons, show zv (Sum.inr (Sum.inl (some (zsz h)))) = Value.ref H.size by rw [hP.1.1]; rfl] at k9
  exact k9
theorem snd_newa {ty : FieldType} {atype : ArrayType} (hat : newarray.typeOf atype = ty) (hf : ty ≠ .float) (hf2 : ty ≠ .double) (hdf : fits ty (defaultValue ty) = true) (hnr : ty.isReference = false) (hcb : componentBytes ty ≤ 8) (hw : zW (Cond.arrayClass ty)) (hd : decode I.2.1 pc = .ok (.newarray atype, 2)) (hn : pc + 2 = nx) : zSnd B mi I pc (za_newa ty nx) := by
  intro s0 b0 D l d p e R s m args below meth c C Q cF sF c0 n0 L S h K E H ls locs cells slots X hC hb1 hb2 hP ha hK hE
  obtain ⟨hx, hb, hr, hml, hown, hlk, hnm, hwd, hwm, hfx, hRf, hRl, hfl, hex, hB, hSt⟩ := X
  subst hn
  subst hat
  match S, ha with
  | Sum.inl x :: S, ha =>
    obtain ⟨a1, a2, a3⟩ := ha
    have hm := (hK _ _ _ _ a3).1
    rw [zsz_new, zN_new] at hm
    have q1 := hP.2.2.1
    have q2 := hP.2.2.2.1
    have hlt : (zn x).toNat ≤ 100000 := by omega
    refine W.newa hx hb (hw s0 s b0 args hwd hwm) rfl hd rfl (by rw [zc_lt0]; omega) (by rw [zt_c]; exact Nat.le_trans (Nat.mul_le_mul hlt hcb) (Nat.le_of_ble_eq_true rfl)) (by omega) (by rw [zt_c]; omega) fun cA kA comp e1 e2 e3 => ?_
    rw [zt_c]
    have e1' : s0.vm.findClass ("[" ++ (newarray.typeOf atype).toString) = some cA := by rw [← hwm.alike.findClass]; exact e1
    obtain ⟨k0, h0, hk0⟩ := (show ∃ k0, s0.vm.classes[cA]? = some k0 ∧ k0.kind = kA.kind from by
      have hsz9 := hwm.2.1
      have hlt9 : cA < s0.vm.classes.size := by rw [← hsz9]; exact (Array.getElem?_eq_some_iff.mp e2).1
      obtain ⟨k', g1, g2⟩ := hwm.alike.2.2 _ _ (Array.getElem?_eq_getElem hlt9)
      have : k' = kA := Option.some.inj (g1.symm.trans e2)
      subst this
      exact ⟨_, Array.getElem?_eq_getElem hlt9, by rw [g2]⟩)
    have hR9 : zRel s0 D (znew h (Sum.inr (newarray.typeOf atype, (zn x).toNat)) (zn x).toNat) (H.push { cls := cA, slots := Array.replicate (zn x).toNat (defaultValue (newarray.typeOf atype)), vm := .none }) := by
      refine zRel_push hP.1 (fun ci hci => by cases hci) (fun ty k hk => ?_)
      cases hk
      refine ⟨_, (by rw [Array.getElem?_push, if_pos hP.1.1.symm]), (fun z => (by cases z)), fun _ => ⟨rfl, e1'⟩, ⟨fun k z => (by cases z), k0, h0, comp, (by rw [hk0]; exact e3)⟩, (fun z => (by rw [hnr] at z; cases z)), (by omega), (by simp), fun j hj => ?_⟩
      rw [zval_0 hf hf2]
      exact ⟨by simp [hj], hdf⟩
    have k9 := hK.go a3 (hP.nw hR9)
    rw [List.map_cons, show zv (Sum.inr (Sum.inl (some (zsz h)))) = Value.ref H.size by rw [hP.1.1]; rfl] at k9
    exact k9
end
