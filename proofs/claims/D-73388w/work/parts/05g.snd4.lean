/-! ===== M is sound (4): writing, new cells ===== -/
theorem zRel_put {s0 : State} {D : zD} {h h' : zH} {H H' : Heap} {a : Nat} (hR : zRel s0 D h H) (ha0 : s0.heap.size ≤ a) (hK : zK h' = zK h) (hsz : zsz h' = zsz h) (hoth : ∀ b, b ≠ a → ∀ ty k, zval ty h' b k = zval ty h b k) (e1 : H'.size = H.size) (e2 : ∀ q, q ≠ a → H'[q]? = H[q]?)
    (h1 : ∀ ci, zK h a = some (Sum.inl ci) → zob s0 D h' a ci H') (h2 : ∀ ty n, zK h a = some (Sum.inr (ty, n)) → zar s0 h' a ty n H') : zRel s0 D h' H' := by
  obtain ⟨r1, r2, r3, r4, r5⟩ := hR
  refine ⟨by rw [e1, hsz]; exact r1, by rw [hsz]; exact r2, fun q hq => by rw [e2 q (by omega)]; exact r3 q hq, fun b ci hb => ?_, fun b ty n hb => ?_⟩
  · rw [hK] at hb
    by_cases hba : b = a
    · subst hba; exact h1 ci hb
    · obtain ⟨r, cell, g1, g2, g3, g4, g5, g6, g7⟩ := r4 b ci hb
      exact ⟨r, cell, g1, by rw [e2 b hba]; exact g2, g3, g4, g5, g6, fun k hk => by rw [hoth b hba]; exact g7 k hk⟩
  · rw [hK] at hb
    by_cases hba : b = a
    · subst hba; exact h2 ty n hb
    · obtain ⟨cell, g2, g3, g4, g5, g6, g7, g8, g9⟩ := r5 b ty n hb
      exact ⟨cell, by rw [e2 b hba]; exact g2, g3, g4, g5, g6, g7, g8, fun k hk => by rw [hoth b hba]; exact g9 k hk⟩
theorem zval_sI {ty : FieldType} {h : zH} {a k b j : Nat} {x : Int} (hne : b ≠ a ∨ j ≠ k) : zval ty (zsI h a k x) b j = zval ty h b j := by
  unfold zval
  have e : zu (zI h) a k x b j = zI h b j := by unfold zu; rw [if_neg]; rintro ⟨q1, q2⟩; rcases hne with z | z; exact z q1; exact z q2
  split <;> simp only [zI_sI, zL_sI, zA_sI, e]
theorem zval_sL {ty : FieldType} {h : zH} {a k b j : Nat} {x : Int} (hne : b ≠ a ∨ j ≠ k) : zval ty (zsL h a k x) b j = zval ty h b j := by
  unfold zval
  have e : zu (zL h) a k x b j = zL h b j := by unfold zu; rw [if_neg]; rintro ⟨q1, q2⟩; rcases hne with z | z; exact z q1; exact z q2
  split <;> simp only [zI_sL, zL_sL, zA_sL, e]
theorem zval_sA {ty : FieldType} {h : zH} {a k b j : Nat} {x : Option Nat} (hne : b ≠ a ∨ j ≠ k) : zval ty (zsA h a k x) b j = zval ty h b j := by
  unfold zval
  have e : zu (zA h) a k x b j = zA h b j := by unfold zu; rw [if_neg]; rintro ⟨q1, q2⟩; rcases hne with z | z; exact z q1; exact z q2
  split <;> simp only [zI_sA, zL_sA, zA_sA, e]
/-- a field is written -/
theorem zRel_fld {s0 : State} {D : zD} {h h' : zH} {H H' : Heap} {a ci k N : Nat} {Cn : String} {T : u_T} {cell : Cell} {v : Value} (hR : zRel s0 D h H) (hfx : zFx s0 D) (hc : zcl[ci]? = some (Cn, T, N)) (hk : k < N) (ha0 : s0.heap.size ≤ a) (hka : zK h a = some (Sum.inl ci)) (hK : zK h' = zK h) (hsz : zsz h' = zsz h)
    (hoth : ∀ b j, b ≠ a ∨ j ≠ k → ∀ ty, zval ty h' b j = zval ty h b j) (hval : zval (zty ci k) h' a k = v) (hcell : H[a]? = some cell) (e0 : H'[a]? = some (cell.setSlot (D.2 ci k) v)) (e1 : H'.size = H.size) (e2 : ∀ q, q ≠ a → H'[q]? = H[q]?) : zRel s0 D h' H' := by
  refine zRel_put hR ha0 hK hsz (fun b hb ty j => hoth b j (Or.inl hb) ty) e1 e2 (fun ci' hci => ?_) (fun ty n hn => ?_)
  · cases (Sum.inl.inj (Option.some.inj (hka.symm.trans hci)))
    obtain ⟨r, cell', g1, g2, g3, g4, g5, g6, g7⟩ := hR.2.2.2.1 a ci hka
    cases hcell.symm.trans g2
    have hr9 : r = (Cn, T, N) := Option.some.inj (g1.symm.trans hc)
    subst hr9
    refine ⟨_, cell.setSlot (D.2 ci k) v, g1, e0, g3, g4, g5, g6, fun j hj => ?_⟩
    rw [t_set g7 (hfx.2 ci _ hc) hk v j hj]
    unfold updV
    by_cases hjk : j = k
    · subst hjk; rw [if_pos rfl, hval]
    · rw [if_neg hjk, hoth a j (Or.inr hjk)]
  · rw [hka] at hn; cases hn
/-- an array's place is written -/
theorem zRel_arr {s0 : State} {D : zD} {h h' : zH} {H H' : Heap} {a i n : Nat} {ty : FieldType} {cell : Cell} {v : Value} (hR : zRel s0 D h H) (ha0 : s0.heap.size ≤ a) (hka : zK h a = some (Sum.inr (ty, n))) (hi : i < n) (hK : zK h' = zK h) (hsz : zsz h' = zsz h)
    (hoth : ∀ b j, b ≠ a ∨ j ≠ i → ∀ ty, zval ty h' b j = zval ty h b j) (hval : zval ty h' a i = v) (hft : fits ty v = true) (hcell : H[a]? = some cell) (e0 : H'[a]? = some (cell.setSlot i v)) (e1 : H'.size = H.size) (e2 : ∀ q, q ≠ a → H'[q]? = H[q]?) : zRel s0 D h' H' := by
  refine zRel_put hR ha0 hK hsz (fun b hb ty j => hoth b j (Or.inl hb) ty) e1 e2 (fun ci' hci => ?_) (fun ty' n' hn => ?_)
  · rw [hka] at hci; cases hci
  · rw [hka] at hn
    cases hn
    obtain ⟨cell', g2, g3, g4, g5, g6, g7, g8, g9⟩ := hR.2.2.2.2 a ty n hka
    cases hcell.symm.trans g2
    refine ⟨cell.setSlot i v, e0, g3, g4, g5, g6, g7, by rw [k2_slotsz]; exact g8, fun j hj => ?_⟩
    by_cases hji : j = i
    · subst hji
      rw [hval]
      exact ⟨by simp [Cell.setSlot, Array.getElem?_setIfInBounds, g8, hj], hft⟩
    · rw [slot_ne cell v (Ne.symm hji), hoth a j (Or.inr hji)]
      exact g9 j hj
theorem zPt.wr {s0 : State} {D : zD} {nL c0 n0 : Nat} {L : List zV} {h h' : zH} {H H' : Heap} {ls : Array Slot} {locs : List Loc} {cells slots : Nat} {a i : Nat} (hP : zPt s0 D nL c0 n0 L h H ls locs cells slots) (hR : zRel s0 D h' H') (hsz : zsz h' = zsz h) (hN : zN h' = zN h) (ha : s0.heap.size ≤ a) : zPt s0 D nL c0 n0 L h' H' ls (locs ++ [⟨a, i⟩]) cells slots := by
  refine ⟨hR, hP.2.1, by rw [hsz]; exact hP.2.2.1, by rw [hN]; exact hP.2.2.2.1, fun q hq => ?_⟩
  rcases List.mem_append.mp hq with z | z
  · exact hP.2.2.2.2 q z
  · cases List.mem_singleton.mp z; exact ha
section
variable {B : zB} {mi : Nat → zMI} {I : zMI} {pc nx : Nat}
theorem snd_putI {b ci k N idx : Nat} {lo hi : Int} {Cn : String} {T : u_T} (hbb : B.1 = b) (hc : zcl[ci]? = some (Cn, T, N)) (hk : k < N) (hin : ∀ w ∈ u_ws Cn T N, w ∈ lw_all) (hty : ∀ j, j < N → parseFieldDescriptor (T j).2.2.1 = some (zty ci j)) (hv : ∀ (h : zH) (a : Nat), zval (zty ci k) h a k = .int (Int32.ofInt (zI h a k))) (hnf : ∀ x : Int, lo ≤ zn x → zn x ≤ hi → narrow (zty ci k) (.int (Int32.ofInt x)) = .int (Int32.ofInt x) ∧ fits (zty ci k) (.int (Int32.ofInt x)) = true) (hfin : (T k).2.2.2 = false) (hw : zW (Cond.fieldLink I.1.cls idx (T k).1 (T k).2.1 (T k).2.2.1)) (hd : decode I.2.1 pc = .ok (.putfield idx, 3)) (hn : pc + 3 = nx) : zSnd B mi I pc (za_putI b ci k lo hi nx) := by
  intro s0 b0 D l d p e R s m args below meth c C Q cF sF c0 n0 L S h K E H ls locs cells slots X hC hb1 hb2 hP ha hK hE
  obtain ⟨hx, hb, hr, hml, hown, hlk, hnm, hwd, hwm, hfx, hRf, hRl, hfl, hex, hB, hSt⟩ := X
  subst hn
  match S, ha with
  | Sum.inl x :: Sum.inr (Sum.inl (some a)) :: S, ha =>
    obtain ⟨a1, a2, a3, a4, a5⟩ := ha
    have hn9 := hnf x a3 a4
    have ha0 : s0.heap.size ≤ a := by rw [hB, hbb]; exact a2
    obtain ⟨cf, kf, fi, f, kC, hi, hsl, hst, hfc, hkC, hkind⟩ := zfind (s := s) (args := args) hfx hwd hwm hc hk hin
    obtain ⟨r, cell, g1, g2, g3, g4, g5, g6, g7⟩ := hP.1.2.2.2.1 a ci a1
    have hvm0 := g6 ha0
    have hr9 : r = (Cn, T, N) := Option.some.inj (g1.symm.trans hc)
    subst hr9
    have hts : ∀ w ∈ lw_all, w.before args s = true := fun w hw => zW_all hw s0 s b0 args hwd hwm
    have hlay := hts _ (hin _ (u_in_lay hk))
    unfold u_lay at hlay
    rw [if_neg (by rw [hfin]; decide)] at hlay
    have h6 := u_store hfc hkC hkind hlay hi (hty k hk) hn9.1 hn9.2
    refine W.putK hx hb (f := f) ⟨hown, hw s0 s b0 args hwd hwm, ⟨_, _, _, hi⟩, hst⟩ (by rw [g3]; exact h6) g2 hvm0 (by rw [hsl]; exact k2_hasslot (g7 k hk)) rfl rfl hd fun H' e1 e2 e3 => ?_
    rw [hsl] at e1 ⊢
    refine hK.go a5 (hP.wr (zRel_fld (ci := ci) (k := k) (v := .int (Int32.ofInt x)) hP.1 hfx hc hk ha0 a1 rfl rfl (fun b j hbj ty => zval_sI hbj) ?_ g2 e1 e2 e3) rfl rfl ha0)
    rw [hv, zI_sI, zu_same]
theorem snd_putIF {b ci k N idx : Nat} {lo hi : Int} {Cn : String} {T : u_T} (hbb : B.1 = b) (hc : zcl[ci]? = some (Cn, T, N)) (hk : k < N) (hin : ∀ w ∈ u_ws Cn T N, w ∈ lw_all) (hty : ∀ j, j < N → parseFieldDescriptor (T j).2.2.1 = some (zty ci j)) (hv : ∀ (h : zH) (a : Nat), zval (zty ci k) h a k = .int (Int32.ofInt (zI h a k))) (hnf : ∀ x : Int, lo ≤ zn x → zn x ≤ hi → narrow (zty ci k) (.int (Int32.ofInt x)) = .int (Int32.ofInt x) ∧ fits (zty ci k) (.int (Int32.ofInt x)) = true) (hfin : (T k).2.2.2 = true) (hini : I.1.name = "<init>") (hdecl : (T k).1 = I.1.cls) (hw : zW (Cond.fieldLink I.1.cls idx (T k).1 (T k).2.1 (T k).2.2.1)) (hd : decode I.2.1 pc = .ok (.putfield idx, 3)) (hn : pc + 3 = nx) : zSnd B mi I pc (za_putI b ci k lo hi nx) := by
  intro s0 b0 D l d p e R s m args below meth c C Q cF sF c0 n0 L S h K E H ls locs cells slots X hC hb1 hb2 hP ha hK hE
  obtain ⟨hx, hb, hr, hml, hown, hlk, hnm, hwd, hwm, hfx, hRf, hRl, hfl, hex, hB, hSt⟩ := X
  subst hn
  match S, ha with
  | Sum.inl x :: Sum.inr (Sum.inl (some a)) :: S, ha =>
    obtain ⟨a1, a2, a3, a4, a5⟩ := ha
    have hn9 := hnf x a3 a4
    have ha0 : s0.heap.size ≤ a := by rw [hB, hbb]; exact a2
    obtain ⟨cf, kf, fi, f, kC, hi, hsl, hst, hfc, hkC, hkind⟩ := zfind (s := s) (args := args) hfx hwd hwm hc hk hin
    obtain ⟨r, cell, g1, g2, g3, g4, g5, g6, g7⟩ := hP.1.2.2.2.1 a ci a1
    have hvm0 := g6 ha0
    have hr9 : r = (Cn, T, N) := Option.some.inj (g1.symm.trans hc)
    subst hr9
    have hts : ∀ w ∈ lw_all, w.before args s = true := fun w hw => zW_all hw s0 s b0 args hwd hwm
    have hlay := hts _ (hin _ (u_in_lay hk))
    unfold u_lay at hlay
    rw [if_pos hfin] at hlay
    have hcf : m.cls = cf := by
      obtain ⟨_, _, c', _, _, _, -, -, hf', -, -, -, hown2, -⟩ := Cond.laysFinal_spec hlay
      have e1 : c' = cf := by have := hi.symm.trans hf'; simp at this; exact this.1.symm
      rw [hdecl] at hown2
      rw [← e1]; exact Option.some.inj (hown.symm.trans hown2)
    have h6 := u_fits hfc hkC hkind (Or.inr hlay) hi (hty k hk) hn9.1 hn9.2
    refine W.putFinK hx hb hown (hw s0 s b0 args hwd hwm) hi hst hcf (by rw [hnm]; exact hini) (by rw [g3]; exact h6) g2 hvm0 (by rw [hsl]; exact k2_hasslot (g7 k hk)) rfl rfl hd fun H' e1 e2 e3 => ?_
    rw [hsl] at e1 ⊢
    refine hK.go a5 (hP.wr (zRel_fld (ci := ci) (k := k) (v := .int (Int32.ofInt x)) hP.1 hfx hc hk ha0 a1 rfl rfl (fun b j hbj ty => zval_sI hbj) ?_ g2 e1 e2 e3) rfl rfl ha0)
    rw [hv, zI_sI, zu_same]
theorem snd_putIN {b ci k N idx : Nat} {lo hi : Int} {Cn : String} {T : u_T} {host : String} (hbb : B.1 = b) (hc : zcl[ci]? = some (Cn, T, N)) (hk : k < N) (hin : ∀ w ∈ u_ws Cn T N, w ∈ lw_all) (hty : ∀ j, j < N → parseFieldDescriptor (T j).2.2.1 = some (zty ci j)) (hv : ∀ (h : zH) (a : Nat), zval (zty ci k) h a k = .int (Int32.ofInt (zI h a k))) (hnf : ∀ x : Int, lo ≤ zn x → zn x ≤ hi → narrow (zty ci k) (.int (Int32.ofInt x)) = .int (Int32.ofInt x) ∧ fits (zty ci k) (.int (Int32.ofInt x)) = true) (hfin : (T k).2.2.2 = false) (hw : zW (Cond.fieldLinkNest I.1.cls idx (T k).1 (T k).2.1 (T k).2.2.1 host)) (hd : decode I.2.1 pc = .ok (.putfield idx, 3)) (hn : pc + 3 = nx) : zSnd B mi I pc (za_putI b ci k lo hi nx) := by
  intro s0 b0 D l d p e R s m args below meth c C Q cF sF c0 n0 L S h K E H ls locs cells slots X hC hb1 hb2 hP ha hK hE
  obtain ⟨hx, hb, hr, hml, hown, hlk, hnm, hwd, hwm, hfx, hRf, hRl, hfl, hex, hB, hSt⟩ := X
  subst hn
  match S, ha with
  | Sum.inl x :: Sum.inr (Sum.inl (some a)) :: S, ha =>
    obtain ⟨a1, a2, a3, a4, a5⟩ := ha
    have hn9 := hnf x a3 a4
    have ha0 : s0.heap.size ≤ a := by rw [hB, hbb]; exact a2
    obtain ⟨cf, kf, fi, f, kC, hi, hsl, hst, hfc, hkC, hkind⟩ := zfind (s := s) (args := args) hfx hwd hwm hc hk hin
    obtain ⟨r, cell, g1, g2, g3, g4, g5, g6, g7⟩ := hP.1.2.2.2.1 a ci a1
    have hvm0 := g6 ha0
    have hr9 : r = (Cn, T, N) := Option.some.inj (g1.symm.trans hc)
    subst hr9
    have hts : ∀ w ∈ lw_all, w.before args s = true := fun w hw => zW_all hw s0 s b0 args hwd hwm
    have hlay := hts _ (hin _ (u_in_lay hk))
    unfold u_lay at hlay
    rw [if_neg (by rw [hfin]; decide)] at hlay
    have h6 := u_store hfc hkC hkind hlay hi (hty k hk) hn9.1 hn9.2
    refine va_WputK hx hb hown (hw s0 s b0 args hwd hwm) hi hst (by rw [g3]; exact h6) g2 hvm0 (by rw [hsl]; exact k2_hasslot (g7 k hk)) rfl rfl hd fun H' e1 e2 e3 => ?_
    rw [hsl] at e1 ⊢
    refine hK.go a5 (hP.wr (zRel_fld (ci := ci) (k := k) (v := .int (Int32.ofInt x)) hP.1 hfx hc hk ha0 a1 rfl rfl (fun b j hbj ty => zval_sI hbj) ?_ g2 e1 e2 e3) rfl rfl ha0)
    rw [hv, zI_sI, zu_same]
theorem snd_putL {b ci k N idx : Nat} {Cn : String} {T : u_T} (hbb : B.1 = b) (hc : zcl[ci]? = some (Cn, T, N)) (hk : k < N) (hin : ∀ w ∈ u_ws Cn T N, w ∈ lw_all) (hty : ∀ j, j < N → parseFieldDescriptor (T j).2.2.1 = some (zty ci j)) (hv : ∀ (h : zH) (a : Nat), zval (zty ci k) h a k = .long (Int64.ofInt (zL h a k))) (hnf : ∀ x : Int, narrow (zty ci k) (.long (Int64.ofInt x)) = .long (Int64.ofInt x) ∧ fits (zty ci k) (.long (Int64.ofInt x)) = true) (hfin : (T k).2.2.2 = false) (hw : zW (Cond.fieldLink I.1.cls idx (T k).1 (T k).2.1 (T k).2.2.1)) (hd : decode I.2.1 pc = .ok (.putfield idx, 3)) (hn : pc + 3 = nx) : zSnd B mi I pc (za_putL b ci k nx) := by
  intro s0 b0 D l d p e R s m args below meth c C Q cF sF c0 n0 L S h K E H ls locs cells slots X hC hb1 hb2 hP ha hK hE
  obtain ⟨hx, hb, hr, hml, hown, hlk, hnm, hwd, hwm, hfx, hRf, hRl, hfl, hex, hB, hSt⟩ := X
  subst hn
  match S, ha with
  | Sum.inr (Sum.inr (Sum.inl x)) :: Sum.inr (Sum.inl (some a)) :: S, ha =>
    obtain ⟨a1, a2, a5⟩ := ha
    have hn9 := hnf x
    have ha0 : s0.heap.size ≤ a := by rw [hB, hbb]; exact a2
    obtain ⟨cf, kf, fi, f, kC, hi, hsl, hst, hfc, hkC, hkind⟩ := zfind (s := s) (args := args) hfx hwd hwm hc hk hin
    obtain ⟨r, cell, g1, g2, g3, g4, g5, g6, g7⟩ := hP.1.2.2.2.1 a ci a1
    have hvm0 := g6 ha0
    have hr9 : r = (Cn, T, N) := Option.some.inj (g1.symm.trans hc)
    subst hr9
    have hts : ∀ w ∈ lw_all, w.before args s = true := fun w hw => zW_all hw s0 s b0 args hwd hwm
    have hlay := hts _ (hin _ (u_in_lay hk))
    unfold u_lay at hlay
    rw [if_neg (by rw [hfin]; decide)] at hlay
    have h6 := u_store hfc hkC hkind hlay hi (hty k hk) hn9.1 hn9.2
    refine W.putK hx hb (f := f) ⟨hown, hw s0 s b0 args hwd hwm, ⟨_, _, _, hi⟩, hst⟩ (by rw [g3]; exact h6) g2 hvm0 (by rw [hsl]; exact k2_hasslot (g7 k hk)) rfl rfl hd fun H' e1 e2 e3 => ?_
    rw [hsl] at e1 ⊢
    refine hK.go a5 (hP.wr (zRel_fld (ci := ci) (k := k) (v := .long (Int64.ofInt x)) hP.1 hfx hc hk ha0 a1 rfl rfl (fun b j hbj ty => zval_sL hbj) ?_ g2 e1 e2 e3) rfl rfl ha0)
    rw [hv, zL_sL, zu_same]
theorem snd_putLF {b ci k N idx : Nat} {Cn : String} {T : u_T} (hbb : B.1 = b) (hc : zcl[ci]? = some (Cn, T, N)) (hk : k < N) (hin : ∀ w ∈ u_ws Cn T N, w ∈ lw_all) (hty : ∀ j, j < N → parseFieldDescriptor (T j).2.2.1 = some (zty ci j)) (hv : ∀ (h : zH) (a : Nat), zval (zty ci k) h a k = .long (Int64.ofInt (zL h a k))) (hnf : ∀ x : Int, narrow (zty ci k) (.long (Int64.ofInt x)) = .long (Int64.ofInt x) ∧ fits (zty ci k) (.long (Int64.ofInt x)) = true) (hfin : (T k).2.2.2 = true) (hini : I.1.name = "<init>") (hdecl : (T k).1 = I.1.cls) (hw : zW (Cond.fieldLink I.1.cls idx (T k).1 (T k).2.1 (T k).2.2.1)) (hd : decode I.2.1 pc = .ok (.putfield idx, 3)) (hn : pc + 3 = nx) : zSnd B mi I pc (za_putL b ci k nx) := by
  intro s0 b0 D l d p e R s m args below meth c C Q cF sF c0 n0 L S h K E H ls locs cells slots X hC hb1 hb2 hP ha hK hE
  obtain ⟨hx, hb, hr, hml, hown, hlk, hnm, hwd, hwm, hfx, hRf, hRl, hfl, hex, hB, hSt⟩ := X
  subst hn
  match S, ha with
  | Sum.inr (Sum.inr (Sum.inl x)) :: Sum.inr (Sum.inl (some a)) :: S, ha =>
    obtain ⟨a1, a2, a5⟩ := ha
    have hn9 := hnf x
    have ha0 : s0.heap.size ≤ a := by rw [hB, hbb]; exact a2
    obtain ⟨cf, kf, fi, f, kC, hi, hsl, hst, hfc, hkC, hkind⟩ := zfind (s := s) (args := args) hfx hwd hwm hc hk hin
    obtain ⟨r, cell, g1, g2, g3, g4, g5, g6, g7⟩ := hP.1.2.2.2.1 a ci a1
    have hvm0 := g6 ha0
    have hr9 : r = (Cn, T, N) := Option.some.inj (g1.symm.trans hc)
    subst hr9
    have hts : ∀ w ∈ lw_all, w.before args s = true := fun w hw => zW_all hw s0 s b0 args hwd hwm
    have hlay := hts _ (hin _ (u_in_lay hk))
    unfold u_lay at hlay
    rw [if_pos hfin] at hlay
    have hcf : m.cls = cf := by
      obtain ⟨_, _, c', _, _, _, -, -, hf', -, -, -, hown2, -⟩ := Cond.laysFinal_spec hlay
      have e1 : c' = cf := by have := hi.symm.trans hf'; simp at this; exact this.1.symm
      rw [hdecl] at hown2
      rw [← e1]; exact Option.some.inj (hown.symm.trans hown2)
    have h6 := u_fits hfc hkC hkind (Or.inr hlay) hi (hty k hk) hn9.1 hn9.2
    refine W.putFinK hx hb hown (hw s0 s b0 args hwd hwm) hi hst hcf (by rw [hnm]; exact hini) (by rw [g3]; exact h6) g2 hvm0 (by rw [hsl]; exact k2_hasslot (g7 k hk)) rfl rfl hd fun H' e1 e2 e3 => ?_
    rw [hsl] at e1 ⊢
    refine hK.go a5 (hP.wr (zRel_fld (ci := ci) (k := k) (v := .long (Int64.ofInt x)) hP.1 hfx hc hk ha0 a1 rfl rfl (fun b j hbj ty => zval_sL hbj) ?_ g2 e1 e2 e3) rfl rfl ha0)
    rw [hv, zL_sL, zu_same]
theorem snd_putLN {b ci k N idx : Nat} {Cn : String} {T : u_T} {host : String} (hbb : B.1 = b) (hc : zcl[ci]? = some (Cn, T, N)) (hk : k < N) (hin : ∀ w ∈ u_ws Cn T N, w ∈ lw_all) (hty : ∀ j, j < N → parseFieldDescriptor (T j).2.2.1 = some (zty ci j)) (hv : ∀ (h : zH) (a : Nat), zval (zty ci k) h a k = .long (Int64.ofInt (zL h a k))) (hnf : ∀ x : Int, narrow (zty ci k) (.long (Int64.ofInt x)) = .long (Int64.ofInt x) ∧ fits (zty ci k) (.long (Int64.ofInt x)) = true) (hfin : (T k).2.2.2 = false) (hw : zW (Cond.fieldLinkNest I.1.cls idx (T k).1 (T k).2.1 (T k).2.2.1 host)) (hd : decode I.2.1 pc = .ok (.putfield idx, 3)) (hn : pc + 3 = nx) : zSnd B mi I pc (za_putL b ci k nx) := by
  intro s0 b0 D l d p e R s m args below meth c C Q cF sF c0 n0 L S h K E H ls locs cells slots X hC hb1 hb2 hP ha hK hE
  obtain ⟨hx, hb, hr, hml, hown, hlk, hnm, hwd, hwm, hfx, hRf, hRl, hfl, hex, hB, hSt⟩ := X
  subst hn
  match S, ha with
  | Sum.inr (Sum.inr (Sum.inl x)) :: Sum.inr (Sum.inl (some a)) :: S, ha =>
    obtain ⟨a1, a2, a5⟩ := ha
    have hn9 := hnf x
    have ha0 : s0.heap.size ≤ a := by rw [hB, hbb]; exact a2
    obtain ⟨cf, kf, fi, f, kC, hi, hsl, hst, hfc, hkC, hkind⟩ := zfind (s := s) (args := args) hfx hwd hwm hc hk hin
    obtain ⟨r, cell, g1, g2, g3, g4, g5, g6, g7⟩ := hP.1.2.2.2.1 a ci a1
    have hvm0 := g6 ha0
    have hr9 : r = (Cn, T, N) := Option.some.inj (g1.symm.trans hc)
    subst hr9
    have hts : ∀ w ∈ lw_all, w.before args s = true := fun w hw => zW_all hw s0 s b0 args hwd hwm
    have hlay := hts _ (hin _ (u_in_lay hk))
    unfold u_lay at hlay
    rw [if_neg (by rw [hfin]; decide)] at hlay
    have h6 := u_store hfc hkC hkind hlay hi (hty k hk) hn9.1 hn9.2
    refine va_WputK hx hb hown (hw s0 s b0 args hwd hwm) hi hst (by rw [g3]; exact h6) g2 hvm0 (by rw [hsl]; exact k2_hasslot (g7 k hk)) rfl rfl hd fun H' e1 e2 e3 => ?_
    rw [hsl] at e1 ⊢
    refine hK.go a5 (hP.wr (zRel_fld (ci := ci) (k := k) (v := .long (Int64.ofInt x)) hP.1 hfx hc hk ha0 a1 rfl rfl (fun b j hbj ty => zval_sL hbj) ?_ g2 e1 e2 e3) rfl rfl ha0)
    rw [hv, zL_sL, zu_same]
theorem snd_putA {b ci k N idx : Nat} {Cn : String} {T : u_T} (hbb : B.1 = b) (hc : zcl[ci]? = some (Cn, T, N)) (hk : k < N) (hin : ∀ w ∈ u_ws Cn T N, w ∈ lw_all) (hty : ∀ j, j < N → parseFieldDescriptor (T j).2.2.1 = some (zty ci j)) (hv : ∀ (h : zH) (a : Nat), zval (zty ci k) h a k = va_rf (zA h a k)) (hnf : ∀ x : Option Nat, narrow (zty ci k) (va_rf x) = va_rf x ∧ fits (zty ci k) (va_rf x) = true) (hfin : (T k).2.2.2 = false) (hw : zW (Cond.fieldLink I.1.cls idx (T k).1 (T k).2.1 (T k).2.2.1)) (hd : decode I.2.1 pc = .ok (.putfield idx, 3)) (hn : pc + 3 = nx) : zSnd B mi I pc (za_putA b ci k nx) := by
  intro s0 b0 D l d p e R s m args below meth c C Q cF sF c0 n0 L S h K E H ls locs cells slots X hC hb1 hb2 hP ha hK hE
  obtain ⟨hx, hb, hr, hml, hown, hlk, hnm, hwd, hwm, hfx, hRf, hRl, hfl, hex, hB, hSt⟩ := X
  subst hn
  match S, ha with
  | Sum.inr (Sum.inl x) :: Sum.inr (Sum.inl (some a)) :: S, ha =>
    obtain ⟨a1, a2, a5⟩ := ha
    have hn9 := hnf x
    have ha0 : s0.heap.size ≤ a := by rw [hB, hbb]; exact a2
    obtain ⟨cf, kf, fi, f, kC, hi, hsl, hst, hfc, hkC, hkind⟩ := zfind (s := s) (args := args) hfx hwd hwm hc hk hin
    obtain ⟨r, cell, g1, g2, g3, g4, g5, g6, g7⟩ := hP.1.2.2.2.1 a ci a1
    have hvm0 := g6 ha0
    have hr9 : r = (Cn, T, N) := Option.some.inj (g1.symm.trans hc)
    subst hr9
    have hts : ∀ w ∈ lw_all, w.before args s = true := fun w hw => zW_all hw s0 s b0 args hwd hwm
    have hlay := hts _ (hin _ (u_in_lay hk))
    unfold u_lay at hlay
    rw [if_neg (by rw [hfin]; decide)] at hlay
    have h6 := u_store hfc hkC hkind hlay hi (hty k hk) hn9.1 hn9.2
    rw [List.map_cons, ← z_rf]
    refine W.putK hx hb (f := f) ⟨hown, hw s0 s b0 args hwd hwm, ⟨_, _, _, hi⟩, hst⟩ (by rw [g3]; exact h6) g2 hvm0 (by rw [hsl]; exact k2_hasslot (g7 k hk)) rfl rfl hd fun H' e1 e2 e3 => ?_
    rw [hsl] at e1 ⊢
    refine hK.go a5 (hP.wr (zRel_fld (ci := ci) (k := k) (v := va_rf x) hP.1 hfx hc hk ha0 a1 rfl rfl (fun b j hbj ty => zval_sA hbj) ?_ g2 e1 e2 e3) rfl rfl ha0)
    rw [hv, zA_sA, zu_same]
theorem snd_putAF {b ci k N idx : Nat} {Cn : String} {T : u_T} (hbb : B.1 = b) (hc : zcl[ci]? = some (Cn, T, N)) (hk : k < N) (hin : ∀ w ∈ u_ws Cn T N, w ∈ lw_all) (hty : ∀ j, j < N → parseFieldDescriptor (T j).2.2.1 = some (zty ci j)) (hv : ∀ (h : zH) (a : Nat), zval (zty ci k) h a k = va_rf (zA h a k)) (hnf : ∀ x : Option Nat, narrow (zty ci k) (va_rf x) = va_rf x ∧ fits (zty ci k) (va_rf x) = true) (hfin : (T k).2.2.2 = true) (hini : I.1.name = "<init>") (hdecl : (T k).1 = I.1.cls) (hw : zW (Cond.fieldLink I.1.cls idx (T k).1 (T k).2.1 (T k).2.2.1)) (hd : decode I.2.1 pc = .ok (.putfield idx, 3)) (hn : pc + 3 = nx) : zSnd B mi I pc (za_putA b ci k nx) := by
  intro s0 b0 D l d p e R s m args below meth c C Q cF sF c0 n0 L S h K E H ls locs cells slots X hC hb1 hb2 hP ha hK hE
  obtain ⟨hx, hb, hr, hml, hown, hlk, hnm, hwd, hwm, hfx, hRf, hRl, hfl, hex, hB, hSt⟩ := X
  subst hn
  match S, ha with
  | Sum.inr (Sum.inl x) :: Sum.inr (Sum.inl (some a)) :: S, ha =>
    obtain ⟨a1, a2, a5⟩ := ha
    have hn9 := hnf x
    have ha0 : s0.heap.size ≤ a := by rw [hB, hbb]; exact a2
    obtain ⟨cf, kf, fi, f, kC, hi, hsl, hst, hfc, hkC, hkind⟩ := zfind (s := s) (args := args) hfx hwd hwm hc hk hin
    obtain ⟨r, cell, g1, g2, g3, g4, g5, g6, g7⟩ := hP.1.2.2.2.1 a ci a1
    have hvm0 := g6 ha0
    have hr9 : r = (Cn, T, N) := Option.some.inj (g1.symm.trans hc)
    subst hr9
    have hts : ∀ w ∈ lw_all, w.before args s = true := fun w hw => zW_all hw s0 s b0 args hwd hwm
    have hlay := hts _ (hin _ (u_in_lay hk))
    unfold u_lay at hlay
    rw [if_pos hfin] at hlay
    have hcf : m.cls = cf := by
      obtain ⟨_, _, c', _, _, _, -, -, hf', -, -, -, hown2, -⟩ := Cond.laysFinal_spec hlay
      have e1 : c' = cf := by have := hi.symm.trans hf'; simp at this; exact this.1.symm
      rw [hdecl] at hown2
      rw [← e1]; exact Option.some.inj (hown.symm.trans hown2)
    have h6 := u_fits hfc hkC hkind (Or.inr hlay) hi (hty k hk) hn9.1 hn9.2
    rw [List.map_cons, ← z_rf]
    refine W.putFinK hx hb hown (hw s0 s b0 args hwd hwm) hi hst hcf (by rw [hnm]; exact hini) (by rw [g3]; exact h6) g2 hvm0 (by rw [hsl]; exact k2_hasslot (g7 k hk)) rfl rfl hd fun H' e1 e2 e3 => ?_
    rw [hsl] at e1 ⊢
    refine hK.go a5 (hP.wr (zRel_fld (ci := ci) (k := k) (v := va_rf x) hP.1 hfx hc hk ha0 a1 rfl rfl (fun b j hbj ty => zval_sA hbj) ?_ g2 e1 e2 e3) rfl rfl ha0)
    rw [hv, zA_sA, zu_same]
theorem snd_putAN {b ci k N idx : Nat} {Cn : String} {T : u_T} {host : String} (hbb : B.1 = b) (hc : zcl[ci]? = some (Cn, T, N)) (hk : k < N) (hin : ∀ w ∈ u_ws Cn T N, w ∈ lw_all) (hty : ∀ j, j < N → parseFieldDescriptor (T j).2.2.1 = some (zty ci j)) (hv : ∀ (h : zH) (a : Nat), zval (zty ci k) h a k = va_rf (zA h a k)) (hnf : ∀ x : Option Nat, narrow (zty ci k) (va_rf x) = va_rf x ∧ fits (zty ci k) (va_rf x) = true) (hfin : (T k).2.2.2 = false) (hw : zW (Cond.fieldLinkNest I.1.cls idx (T k).1 (T k).2.1 (T k).2.2.1 host)) (hd : decode I.2.1 pc = .ok (.putfield idx, 3)) (hn : pc + 3 = nx) : zSnd B mi I pc (za_putA b ci k nx) := by
  intro s0 b0 D l d p e R s m args below meth c C Q cF sF c0 n0 L S h K E H ls locs cells slots X hC hb1 hb2 hP ha hK hE
  obtain ⟨hx, hb, hr, hml, hown, hlk, hnm, hwd, hwm, hfx, hRf, hRl, hfl, hex, hB, hSt⟩ := X
  subst hn
  match S, ha with
  | Sum.inr (Sum.inl x) :: Sum.inr (Sum.inl (some a)) :: S, ha =>
    obtain ⟨a1, a2, a5⟩ := ha
    have hn9 := hnf x
    have ha0 : s0.heap.size ≤ a := by rw [hB, hbb]; exact a2
    obtain ⟨cf, kf, fi, f, kC, hi, hsl, hst, hfc, hkC, hkind⟩ := zfind (s := s) (args := args) hfx hwd hwm hc hk hin
    obtain ⟨r, cell, g1, g2, g3, g4, g5, g6, g7⟩ := hP.1.2.2.2.1 a ci a1
    have hvm0 := g6 ha0
    have hr9 : r = (Cn, T, N) := Option.some.inj (g1.symm.trans hc)
    subst hr9
    have hts : ∀ w ∈ lw_all, w.before args s = true := fun w hw => zW_all hw s0 s b0 args hwd hwm
    have hlay := hts _ (hin _ (u_in_lay hk))
    unfold u_lay at hlay
    rw [if_neg (by rw [hfin]; decide)] at hlay
    have h6 := u_store hfc hkC hkind hlay hi (hty k hk) hn9.1 hn9.2
    rw [List.map_cons, ← z_rf]
    refine va_WputK hx hb hown (hw s0 s b0 args hwd hwm) hi hst (by rw [g3]; exact h6) g2 hvm0 (by rw [hsl]; exact k2_hasslot (g7 k hk)) rfl rfl hd fun H' e1 e2 e3 => ?_
    rw [hsl] at e1 ⊢
    refine hK.go a5 (hP.wr (zRel_fld (ci := ci) (k := k) (v := va_rf x) hP.1 hfx hc hk ha0 a1 rfl rfl (fun b j hbj ty => zval_sA hbj) ?_ g2 e1 e2 e3) rfl rfl ha0)
    rw [hv, zA_sA, zu_same]
end
