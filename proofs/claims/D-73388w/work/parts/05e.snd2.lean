/-! ===== M is sound (2): the simple instructions ===== -/
theorem zKok.go {s0 : State} {D : zD} {I : zMI} {p : Program} {l : Launch} {e : Env} {R : Room} {s : State} {m : MethodId} {args : Array Value} {below : List Frame} {meth : Method} {c : Code} {Q : State → Prop} {cF sF c0 n0 : Nat} {K : zKt} (hK : zKok s0 D I p l e R s m args below meth c Q cF sF c0 n0 K)
    {pc : Nat} {L S : List zV} {h : zH} (k : K pc L S h) {H : Heap} {ls : Array Slot} {locs : List Loc} {cells slots : Nat} (hP : zPt s0 D I.2.2.1 c0 n0 L h H ls locs cells slots) : W p l e R s m args below meth c H locs cells slots Q (F0 m pc ls (S.map zv)) := (hK _ _ _ _ k).2 _ _ _ _ _ hP
theorem zPt.lv {s0 : State} {D : zD} {nL c0 n0 : Nat} {L : List zV} {h : zH} {H : Heap} {ls : Array Slot} {locs : List Loc} {cells slots : Nat} (hP : zPt s0 D nL c0 n0 L h H ls locs cells slots) {i : Nat} {v : zV} (e : L[i]? = some v) (hv : v ≠ zj) : ls[i]? = some (.val (zv v)) := hP.2.1.2.2.2 i v e hv
theorem zPt.ls {s0 : State} {D : zD} {nL c0 n0 : Nat} {L L' : List zV} {h : zH} {H : Heap} {ls ls' : Array Slot} {locs : List Loc} {cells slots : Nat} (hP : zPt s0 D nL c0 n0 L h H ls locs cells slots) (hl : zLR ls' L' nL) : zPt s0 D nL c0 n0 L' h H ls' locs cells slots := ⟨hP.1, hl, hP.2.2⟩
def zand (x y : Int) : Int := (Int32.ofInt x &&& Int32.ofInt y).toInt
def zor (x y : Int) : Int := (Int32.ofInt x ||| Int32.ofInt y).toInt
def zxor (x y : Int) : Int := (Int32.ofInt x ^^^ Int32.ofInt y).toInt
def zshl (x y : Int) : Int := (Int32.ofInt x <<< (Int32.ofInt y &&& 31)).toInt
def zshr (x y : Int) : Int := (Int32.ofInt x >>> (Int32.ofInt y &&& 31)).toInt
def zushr (x y : Int) : Int := ((Int32.ofInt x).toUInt32 >>> ((Int32.ofInt y).toUInt32 &&& Int32.toUInt32 31)).toInt32.toInt
def zland (x y : Int) : Int := (Int64.ofInt x &&& Int64.ofInt y).toInt
def zlor (x y : Int) : Int := (Int64.ofInt x ||| Int64.ofInt y).toInt
def zlxor (x y : Int) : Int := (Int64.ofInt x ^^^ Int64.ofInt y).toInt
def zlshl (x y : Int) : Int := (Int64.ofInt x <<< ((Int32.ofInt y).toInt64 &&& 63)).toInt
def zlshr (x y : Int) : Int := (Int64.ofInt x >>> ((Int32.ofInt y).toInt64 &&& 63)).toInt
def zlushr (x y : Int) : Int := ((Int64.ofInt x).toUInt64 >>> ((Int32.ofInt y).toInt64.toUInt64 &&& Int64.toUInt64 63)).toInt64.toInt
def zi2b (x : Int) : Int := (Int32.ofInt x).toInt8.toInt32.toInt
def zi2c (x : Int) : Int := ((Int32.ofInt x).toUInt32 % 65536).toInt32.toInt
section
variable {B : zB} {mi : Nat → zMI} {I : zMI} {pc nx : Nat}
theorem snd_iconst {n : Int} (hd : decode I.2.1 pc = .ok (.iconst n, 1)) (hn : pc + 1 = nx) : zSnd B mi I pc (za_push (Sum.inl n) nx) := by
  intro s0 b0 D l d p e R s m args below meth c C Q cF sF c0 n0 L S h K E H ls locs cells slots X hC hb1 hb2 hP ha hK hE
  obtain ⟨hx, hb, hr, hml, hown, hlk, hnm, hwd, hwm, hfx, hRf, hRl, hfl, hex, hB, hSt⟩ := X
  subst hn
  exact lv_iconst hx hb hd rfl (hK.go ha hP)
theorem snd_bipush {n : Int} (hd : decode I.2.1 pc = .ok (.bipush n, 2)) (hv : (Int8.ofInt n).toInt32 = Int32.ofInt n) (hn : pc + 2 = nx) : zSnd B mi I pc (za_push (Sum.inl n) nx) := by
  intro s0 b0 D l d p e R s m args below meth c C Q cF sF c0 n0 L S h K E H ls locs cells slots X hC hb1 hb2 hP ha hK hE
  obtain ⟨hx, hb, hr, hml, hown, hlk, hnm, hwd, hwm, hfx, hRf, hRl, hfl, hex, hB, hSt⟩ := X
  subst hn
  exact lv_bipush hx hb hd hv (hK.go ha hP)
theorem snd_sipush {n : Int} (hd : decode I.2.1 pc = .ok (.sipush n, 3)) (hv : (Int16.ofInt n).toInt32 = Int32.ofInt n) (hn : pc + 3 = nx) : zSnd B mi I pc (za_push (Sum.inl n) nx) := by
  intro s0 b0 D l d p e R s m args below meth c C Q cF sF c0 n0 L S h K E H ls locs cells slots X hC hb1 hb2 hP ha hK hE
  obtain ⟨hx, hb, hr, hml, hown, hlk, hnm, hwd, hwm, hfx, hRf, hRl, hfl, hex, hB, hSt⟩ := X
  subst hn
  exact lv_sipush hx hb hd hv (hK.go ha hP)
theorem snd_lconst {n : Fin 2} {x : Int} (hd : decode I.2.1 pc = .ok (.lconst n, 1)) (hv : Int64.ofNat (n : Nat) = Int64.ofInt x) (hn : pc + 1 = nx) : zSnd B mi I pc (za_push (Sum.inr (Sum.inr (Sum.inl x))) nx) := by
  intro s0 b0 D l d p e R s m args below meth c C Q cF sF c0 n0 L S h K E H ls locs cells slots X hC hb1 hb2 hP ha hK hE
  obtain ⟨hx, hb, hr, hml, hown, hlk, hnm, hwd, hwm, hfx, hRf, hRl, hfl, hex, hB, hSt⟩ := X
  subst hn
  exact lv_lconst hx hb hd hv (hK.go ha hP)
theorem snd_null (hd : decode I.2.1 pc = .ok (.aconst_null, 1)) (hn : pc + 1 = nx) : zSnd B mi I pc (za_push (Sum.inr (Sum.inl none)) nx) := by
  intro s0 b0 D l d p e R s m args below meth c C Q cF sF c0 n0 L S h K E H ls locs cells slots X hC hb1 hb2 hP ha hK hE
  obtain ⟨hx, hb, hr, hml, hown, hlk, hnm, hwd, hwm, hfx, hRf, hRl, hfl, hex, hB, hSt⟩ := X
  subst hn
  exact lv_null hx hb hd (hK.go ha hP)
theorem snd_ldc {index : Nat} {v : Int32} {x : Int} (hd : decode I.2.1 pc = .ok (.ldc index, 2)) (hw : zW (Jvm.Cond.constant I.1.cls index v)) (hv : v = Int32.ofInt x) (hn : pc + 2 = nx) : zSnd B mi I pc (za_push (Sum.inl x) nx) := by
  intro s0 b0 D l d p e R s m args below meth c C Q cF sF c0 n0 L S h K E H ls locs cells slots X hC hb1 hb2 hP ha hK hE
  obtain ⟨hx, hb, hr, hml, hown, hlk, hnm, hwd, hwm, hfx, hRf, hRl, hfl, hex, hB, hSt⟩ := X
  subst hn
  exact lv_ldc hx hb hown (by rw [← hv]; exact hw s0 s b0 args hwd hwm) hd (hK.go ha hP)
theorem snd_ldcw {index : Nat} {v : Int32} {x : Int} (hd : decode I.2.1 pc = .ok (.ldc_w index, 3)) (hw : zW (Jvm.Cond.constant I.1.cls index v)) (hv : v = Int32.ofInt x) (hn : pc + 3 = nx) : zSnd B mi I pc (za_push (Sum.inl x) nx) := by
  intro s0 b0 D l d p e R s m args below meth c C Q cF sF c0 n0 L S h K E H ls locs cells slots X hC hb1 hb2 hP ha hK hE
  obtain ⟨hx, hb, hr, hml, hown, hlk, hnm, hwd, hwm, hfx, hRf, hRl, hfl, hex, hB, hSt⟩ := X
  subst hn
  exact lv_ldcw hx hb hown (by rw [← hv]; exact hw s0 s b0 args hwd hwm) hd (hK.go ha hP)
theorem snd_ldc2 {index : Nat} {v : Int64} {x : Int} (hd : decode I.2.1 pc = .ok (.ldc2_w index, 3)) (hw : zW (Jvm.Cond.constantLong I.1.cls index v)) (hv : v = Int64.ofInt x) (hn : pc + 3 = nx) : zSnd B mi I pc (za_push (Sum.inr (Sum.inr (Sum.inl x))) nx) := by
  intro s0 b0 D l d p e R s m args below meth c C Q cF sF c0 n0 L S h K E H ls locs cells slots X hC hb1 hb2 hP ha hK hE
  obtain ⟨hx, hb, hr, hml, hown, hlk, hnm, hwd, hwm, hfx, hRf, hRl, hfl, hex, hB, hSt⟩ := X
  subst hn
  exact lv_ldc2 hx hb hown (by rw [← hv]; exact hw s0 s b0 args hwd hwm) hd (hK.go ha hP)
theorem snd_iload {i : Nat} (hd : decode I.2.1 pc = .ok (.iload i, 2)) (hn : pc + 2 = nx) : zSnd B mi I pc (za_ldi i nx) := by
  intro s0 b0 D l d p e R s m args below meth c C Q cF sF c0 n0 L S h K E H ls locs cells slots X hC hb1 hb2 hP ha hK hE
  obtain ⟨hx, hb, hr, hml, hown, hlk, hnm, hwd, hwm, hfx, hRf, hRl, hfl, hex, hB, hSt⟩ := X
  subst hn
  unfold za_ldi at ha
  split at ha
  · rename_i x hi
    exact lv_iload hx hb hd (hP.lv hi (by simp)) (hK.go ha hP)
  · exact ha.elim
theorem snd_iload_n {k : Fin 4} {i : Nat} (hd : decode I.2.1 pc = .ok (.iload_n k, 1)) (hi : (k : Nat) = i) (hn : pc + 1 = nx) : zSnd B mi I pc (za_ldi i nx) := by
  intro s0 b0 D l d p e R s m args below meth c C Q cF sF c0 n0 L S h K E H ls locs cells slots X hC hb1 hb2 hP ha hK hE
  obtain ⟨hx, hb, hr, hml, hown, hlk, hnm, hwd, hwm, hfx, hRf, hRl, hfl, hex, hB, hSt⟩ := X
  subst hn
  unfold za_ldi at ha
  split at ha
  · rename_i x hi2
    exact lv_iload_n hx hb hd hi (hP.lv hi2 (by simp)) (hK.go ha hP)
  · exact ha.elim
theorem snd_lload {i : Nat} (hd : decode I.2.1 pc = .ok (.lload i, 2)) (hn : pc + 2 = nx) : zSnd B mi I pc (za_ldl i nx) := by
  intro s0 b0 D l d p e R s m args below meth c C Q cF sF c0 n0 L S h K E H ls locs cells slots X hC hb1 hb2 hP ha hK hE
  obtain ⟨hx, hb, hr, hml, hown, hlk, hnm, hwd, hwm, hfx, hRf, hRl, hfl, hex, hB, hSt⟩ := X
  subst hn
  unfold za_ldl at ha
  split at ha
  · rename_i x hi
    exact lv_lload hx hb hd (hP.lv hi (by simp)) (hK.go ha hP)
  · exact ha.elim
theorem snd_lload_n {k : Fin 4} {i : Nat} (hd : decode I.2.1 pc = .ok (.lload_n k, 1)) (hi : (k : Nat) = i) (hn : pc + 1 = nx) : zSnd B mi I pc (za_ldl i nx) := by
  intro s0 b0 D l d p e R s m args below meth c C Q cF sF c0 n0 L S h K E H ls locs cells slots X hC hb1 hb2 hP ha hK hE
  obtain ⟨hx, hb, hr, hml, hown, hlk, hnm, hwd, hwm, hfx, hRf, hRl, hfl, hex, hB, hSt⟩ := X
  subst hn
  unfold za_ldl at ha
  split at ha
  · rename_i x hi2
    exact lv_lload_n hx hb hd hi (hP.lv hi2 (by simp)) (hK.go ha hP)
  · exact ha.elim
theorem snd_aload {i : Nat} (hd : decode I.2.1 pc = .ok (.aload i, 2)) (hn : pc + 2 = nx) : zSnd B mi I pc (za_ldr i nx) := by
  intro s0 b0 D l d p e R s m args below meth c C Q cF sF c0 n0 L S h K E H ls locs cells slots X hC hb1 hb2 hP ha hK hE
  obtain ⟨hx, hb, hr, hml, hown, hlk, hnm, hwd, hwm, hfx, hRf, hRl, hfl, hex, hB, hSt⟩ := X
  subst hn
  unfold za_ldr at ha
  split at ha
  · rename_i x hi2
    have hl := hP.lv hi2 (by simp)
    cases x with
    | none => exact lv_aloadN hx hb hd hl (hK.go ha hP)
    | some y => exact lv_aload hx hb hd hl (hK.go ha hP)
  · exact ha.elim
theorem snd_aload_n {i : Nat} {k : Fin 4} (hd : decode I.2.1 pc = .ok (.aload_n k, 1)) (hi : (k : Nat) = i) (hn : pc + 1 = nx) : zSnd B mi I pc (za_ldr i nx) := by
  intro s0 b0 D l d p e R s m args below meth c C Q cF sF c0 n0 L S h K E H ls locs cells slots X hC hb1 hb2 hP ha hK hE
  obtain ⟨hx, hb, hr, hml, hown, hlk, hnm, hwd, hwm, hfx, hRf, hRl, hfl, hex, hB, hSt⟩ := X
  subst hn
  unfold za_ldr at ha
  split at ha
  · rename_i x hi2
    have hl := hP.lv hi2 (by simp)
    cases x with
    | none => exact lv_aload_nN hx hb hd hi hl (hK.go ha hP)
    | some y => exact lv_aload_n hx hb hd hi hl (hK.go ha hP)
  · exact ha.elim
theorem snd_istore {i : Nat} (hd : decode I.2.1 pc = .ok (.istore i, 2)) (hn : pc + 2 = nx) : zSnd B mi I pc (za_sti i nx) := by
  intro s0 b0 D l d p e R s m args below meth c C Q cF sF c0 n0 L S h K E H ls locs cells slots X hC hb1 hb2 hP ha hK hE
  obtain ⟨hx, hb, hr, hml, hown, hlk, hnm, hwd, hwm, hfx, hRf, hRl, hfl, hex, hB, hSt⟩ := X
  subst hn
  match S, ha with
  | Sum.inl x :: S, ha =>
    have hn := ha.1
    rw [hP.2.1.2.1] at hn
    exact lv_istore hx hb hd hP.2.1.has hn rfl (fun ls' hl' => hK.go ha.2 (hP.ls (zput_LR hP.2.1 hn hl')))
theorem snd_istore_n {i : Nat} {k : Fin 4} (hd : decode I.2.1 pc = .ok (.istore_n k, 1)) (hi : (k : Nat) = i) (hn : pc + 1 = nx) : zSnd B mi I pc (za_sti i nx) := by
  intro s0 b0 D l d p e R s m args below meth c C Q cF sF c0 n0 L S h K E H ls locs cells slots X hC hb1 hb2 hP ha hK hE
  obtain ⟨hx, hb, hr, hml, hown, hlk, hnm, hwd, hwm, hfx, hRf, hRl, hfl, hex, hB, hSt⟩ := X
  subst hn
  match S, ha with
  | Sum.inl x :: S, ha =>
    have hn := ha.1
    rw [hP.2.1.2.1] at hn
    exact lv_istore_n hx hb hd hi hP.2.1.has hn rfl (fun ls' hl' => hK.go ha.2 (hP.ls (zput_LR hP.2.1 hn hl')))
theorem snd_lstore {i : Nat} (hd : decode I.2.1 pc = .ok (.lstore i, 2)) (hn : pc + 2 = nx) : zSnd B mi I pc (za_stl i nx) := by
  intro s0 b0 D l d p e R s m args below meth c C Q cF sF c0 n0 L S h K E H ls locs cells slots X hC hb1 hb2 hP ha hK hE
  obtain ⟨hx, hb, hr, hml, hown, hlk, hnm, hwd, hwm, hfx, hRf, hRl, hfl, hex, hB, hSt⟩ := X
  subst hn
  match S, ha with
  | Sum.inr (Sum.inr (Sum.inl x)) :: S, ha =>
    have hn := ha.1
    rw [hP.2.1.2.1] at hn
    exact lv_lstore hx hb hd hP.2.1.has hn rfl (fun ls' hl' => hK.go ha.2 (hP.ls (zput2_LR hP.2.1 hn hl')))
theorem snd_lstore_n {i : Nat} {k : Fin 4} (hd : decode I.2.1 pc = .ok (.lstore_n k, 1)) (hi : (k : Nat) = i) (hn : pc + 1 = nx) : zSnd B mi I pc (za_stl i nx) := by
  intro s0 b0 D l d p e R s m args below meth c C Q cF sF c0 n0 L S h K E H ls locs cells slots X hC hb1 hb2 hP ha hK hE
  obtain ⟨hx, hb, hr, hml, hown, hlk, hnm, hwd, hwm, hfx, hRf, hRl, hfl, hex, hB, hSt⟩ := X
  subst hn
  match S, ha with
  | Sum.inr (Sum.inr (Sum.inl x)) :: S, ha =>
    have hn := ha.1
    rw [hP.2.1.2.1] at hn
    exact lv_lstore_n hx hb hd hi hP.2.1.has hn rfl (fun ls' hl' => hK.go ha.2 (hP.ls (zput2_LR hP.2.1 hn hl')))
theorem snd_astore {i : Nat} (hd : decode I.2.1 pc = .ok (.astore i, 2)) (hn : pc + 2 = nx) : zSnd B mi I pc (za_str i nx) := by
  intro s0 b0 D l d p e R s m args below meth c C Q cF sF c0 n0 L S h K E H ls locs cells slots X hC hb1 hb2 hP ha hK hE
  obtain ⟨hx, hb, hr, hml, hown, hlk, hnm, hwd, hwm, hfx, hRf, hRl, hfl, hex, hB, hSt⟩ := X
  subst hn
  match S, ha with
  | Sum.inr (Sum.inl none) :: S, ha =>
    have hn := ha.1
    rw [hP.2.1.2.1] at hn
    exact lv_astoreN hx hb hd hP.2.1.has hn rfl (fun ls' hl' => hK.go ha.2 (hP.ls (zput_LR hP.2.1 hn hl')))
  | Sum.inr (Sum.inl (some x)) :: S, ha =>
    have hn := ha.1
    rw [hP.2.1.2.1] at hn
    exact lv_astore hx hb hd hP.2.1.has hn rfl (fun ls' hl' => hK.go ha.2 (hP.ls (zput_LR hP.2.1 hn hl')))
theorem snd_astore_n {i : Nat} {k : Fin 4} (hd : decode I.2.1 pc = .ok (.astore_n k, 1)) (hi : (k : Nat) = i) (hn : pc + 1 = nx) : zSnd B mi I pc (za_str i nx) := by
  intro s0 b0 D l d p e R s m args below meth c C Q cF sF c0 n0 L S h K E H ls locs cells slots X hC hb1 hb2 hP ha hK hE
  obtain ⟨hx, hb, hr, hml, hown, hlk, hnm, hwd, hwm, hfx, hRf, hRl, hfl, hex, hB, hSt⟩ := X
  subst hn
  match S, ha with
  | Sum.inr (Sum.inl none) :: S, ha =>
    have hn := ha.1
    rw [hP.2.1.2.1] at hn
    exact lv_astore_nN hx hb hd hi hP.2.1.has hn rfl (fun ls' hl' => hK.go ha.2 (hP.ls (zput_LR hP.2.1 hn hl')))
  | Sum.inr (Sum.inl (some x)) :: S, ha =>
    have hn := ha.1
    rw [hP.2.1.2.1] at hn
    exact lv_astore_n hx hb hd hi hP.2.1.has hn rfl (fun ls' hl' => hK.go ha.2 (hP.ls (zput_LR hP.2.1 hn hl')))
theorem snd_iinc {i : Nat} {n : Int} (hd : decode I.2.1 pc = .ok (.iinc i n, 3)) (hn : pc + 3 = nx) : zSnd B mi I pc (za_inc i n nx) := by
  intro s0 b0 D l d p e R s m args below meth c C Q cF sF c0 n0 L S h K E H ls locs cells slots X hC hb1 hb2 hP ha hK hE
  obtain ⟨hx, hb, hr, hml, hown, hlk, hnm, hwd, hwm, hfx, hRf, hRl, hfl, hex, hB, hSt⟩ := X
  subst hn
  unfold za_inc at ha
  split at ha
  · rename_i x hi2
    have hm : (i, Value.int (Int32.ofInt x)) ∈ zlv L := zlv_mem.mpr ⟨_, hi2, by simp, rfl⟩
    obtain ⟨k, hk⟩ := List.mem_iff_getElem?.mp hm
    have hn : i < I.2.2.1 := by
      have := (List.getElem?_eq_some_iff.mp hi2).1
      rw [hP.2.1.2.1] at this
      exact this
    refine lv_iinc (v := Int32.ofInt (x + n)) hx hb hd hP.2.1.has hk (by rw [Int32.ofInt_add]) hn rfl (fun ls' hl' => hK.go ha (hP.ls (zput_LR (v := Sum.inl (x + n)) hP.2.1 hn hl')))
  · exact ha.elim
theorem snd_iadd (hd : decode I.2.1 pc = .ok (.iadd, 1)) (hn : pc + 1 = nx) : zSnd B mi I pc (za_i2 (fun x y => x + y) nx) := by
  intro s0 b0 D l d p e R s m args below meth c C Q cF sF c0 n0 L S h K E H ls locs cells slots X hC hb1 hb2 hP ha hK hE
  obtain ⟨hx, hb, hr, hml, hown, hlk, hnm, hwd, hwm, hfx, hRf, hRl, hfl, hex, hB, hSt⟩ := X
  subst hn
  match S, ha with
  | Sum.inl y :: Sum.inl x :: S, ha =>
    refine lv_iadd hx hb hd ?_
    rw [← Int32.ofInt_add]
    exact hK.go ha hP
theorem snd_isub (hd : decode I.2.1 pc = .ok (.isub, 1)) (hn : pc + 1 = nx) : zSnd B mi I pc (za_i2 (fun x y => x - y) nx) := by
  intro s0 b0 D l d p e R s m args below meth c C Q cF sF c0 n0 L S h K E H ls locs cells slots X hC hb1 hb2 hP ha hK hE
  obtain ⟨hx, hb, hr, hml, hown, hlk, hnm, hwd, hwm, hfx, hRf, hRl, hfl, hex, hB, hSt⟩ := X
  subst hn
  match S, ha with
  | Sum.inl y :: Sum.inl x :: S, ha =>
    refine lv_isub hx hb hd ?_
    rw [← Int32.ofInt_sub]
    exact hK.go ha hP
theorem snd_imul (hd : decode I.2.1 pc = .ok (.imul, 1)) (hn : pc + 1 = nx) : zSnd B mi I pc (za_i2 (fun x y => x * y) nx) := by
  intro s0 b0 D l d p e R s m args below meth c C Q cF sF c0 n0 L S h K E H ls locs cells slots X hC hb1 hb2 hP ha hK hE
  obtain ⟨hx, hb, hr, hml, hown, hlk, hnm, hwd, hwm, hfx, hRf, hRl, hfl, hex, hB, hSt⟩ := X
  subst hn
  match S, ha with
  | Sum.inl y :: Sum.inl x :: S, ha =>
    refine lv_imul hx hb hd ?_
    rw [← Int32.ofInt_mul]
    exact hK.go ha hP
theorem snd_iand (hd : decode I.2.1 pc = .ok (.iand, 1)) (hn : pc + 1 = nx) : zSnd B mi I pc (za_i2 zand nx) := by
  intro s0 b0 D l d p e R s m args below meth c C Q cF sF c0 n0 L S h K E H ls locs cells slots X hC hb1 hb2 hP ha hK hE
  obtain ⟨hx, hb, hr, hml, hown, hlk, hnm, hwd, hwm, hfx, hRf, hRl, hfl, hex, hB, hSt⟩ := X
  subst hn
  match S, ha with
  | Sum.inl y :: Sum.inl x :: S, ha =>
    have k := hK.go ha hP
    simp only [List.map_cons, zv, zand, Int32.ofInt_toInt] at k
    exact lv_iand hx hb hd k
theorem snd_ior (hd : decode I.2.1 pc = .ok (.ior, 1)) (hn : pc + 1 = nx) : zSnd B mi I pc (za_i2 zor nx) := by
  intro s0 b0 D l d p e R s m args below meth c C Q cF sF c0 n0 L S h K E H ls locs cells slots X hC hb1 hb2 hP ha hK hE
  obtain ⟨hx, hb, hr, hml, hown, hlk, hnm, hwd, hwm, hfx, hRf, hRl, hfl, hex, hB, hSt⟩ := X
  subst hn
  match S, ha with
  | Sum.inl y :: Sum.inl x :: S, ha =>
    have k := hK.go ha hP
    simp only [List.map_cons, zv, zor, Int32.ofInt_toInt] at k
    exact lv_ior hx hb hd k
theorem snd_ixor (hd : decode I.2.1 pc = .ok (.ixor, 1)) (hn : pc + 1 = nx) : zSnd B mi I pc (za_i2 zxor nx) := by
  intro s0 b0 D l d p e R s m args below meth c C Q cF sF c0 n0 L S h K E H ls locs cells slots X hC hb1 hb2 hP ha hK hE
  obtain ⟨hx, hb, hr, hml, hown, hlk, hnm, hwd, hwm, hfx, hRf, hRl, hfl, hex, hB, hSt⟩ := X
  subst hn
  match S, ha with
  | Sum.inl y :: Sum.inl x :: S, ha =>
    have k := hK.go ha hP
    simp only [List.map_cons, zv, zxor, Int32.ofInt_toInt] at k
    exact lv_ixor hx hb hd k
theorem snd_ishl (hd : decode I.2.1 pc = .ok (.ishl, 1)) (hn : pc + 1 = nx) : zSnd B mi I pc (za_i2 zshl nx) := by
  intro s0 b0 D l d p e R s m args below meth c C Q cF sF c0 n0 L S h K E H ls locs cells slots X hC hb1 hb2 hP ha hK hE
  obtain ⟨hx, hb, hr, hml, hown, hlk, hnm, hwd, hwm, hfx, hRf, hRl, hfl, hex, hB, hSt⟩ := X
  subst hn
  match S, ha with
  | Sum.inl y :: Sum.inl x :: S, ha =>
    have k := hK.go ha hP
    simp only [List.map_cons, zv, zshl, Int32.ofInt_toInt] at k
    exact lv_ishl hx hb hd k
theorem snd_ishr (hd : decode I.2.1 pc = .ok (.ishr, 1)) (hn : pc + 1 = nx) : zSnd B mi I pc (za_i2 zshr nx) := by
  intro s0 b0 D l d p e R s m args below meth c C Q cF sF c0 n0 L S h K E H ls locs cells slots X hC hb1 hb2 hP ha hK hE
  obtain ⟨hx, hb, hr, hml, hown, hlk, hnm, hwd, hwm, hfx, hRf, hRl, hfl, hex, hB, hSt⟩ := X
  subst hn
  match S, ha with
  | Sum.inl y :: Sum.inl x :: S, ha =>
    have k := hK.go ha hP
    simp only [List.map_cons, zv, zshr, Int32.ofInt_toInt] at k
    exact lv_ishr hx hb hd k
theorem snd_iushr (hd : decode I.2.1 pc = .ok (.iushr, 1)) (hn : pc + 1 = nx) : zSnd B mi I pc (za_i2 zushr nx) := by
  intro s0 b0 D l d p e R s m args below meth c C Q cF sF c0 n0 L S h K E H ls locs cells slots X hC hb1 hb2 hP ha hK hE
  obtain ⟨hx, hb, hr, hml, hown, hlk, hnm, hwd, hwm, hfx, hRf, hRl, hfl, hex, hB, hSt⟩ := X
  subst hn
  match S, ha with
  | Sum.inl y :: Sum.inl x :: S, ha =>
    have k := hK.go ha hP
    simp only [List.map_cons, zv, zushr, Int32.ofInt_toInt] at k
    exact lv_iushr hx hb hd rfl k
theorem snd_ladd (hd : decode I.2.1 pc = .ok (.ladd, 1)) (hn : pc + 1 = nx) : zSnd B mi I pc (za_l2 (fun x y => x + y) nx) := by
  intro s0 b0 D l d p e R s m args below meth c C Q cF sF c0 n0 L S h K E H ls locs cells slots X hC hb1 hb2 hP ha hK hE
  obtain ⟨hx, hb, hr, hml, hown, hlk, hnm, hwd, hwm, hfx, hRf, hRl, hfl, hex, hB, hSt⟩ := X
  subst hn
  match S, ha with
  | Sum.inr (Sum.inr (Sum.inl y)) :: Sum.inr (Sum.inr (Sum.inl x)) :: S, ha =>
    refine lv_ladd hx hb hd ?_
    rw [← Int64.ofInt_add]
    exact hK.go ha hP
theorem snd_lsub (hd : decode I.2.1 pc = .ok (.lsub, 1)) (hn : pc + 1 = nx) : zSnd B mi I pc (za_l2 (fun x y => x - y) nx) := by
  intro s0 b0 D l d p e R s m args below meth c C Q cF sF c0 n0 L S h K E H ls locs cells slots X hC hb1 hb2 hP ha hK hE
  obtain ⟨hx, hb, hr, hml, hown, hlk, hnm, hwd, hwm, hfx, hRf, hRl, hfl, hex, hB, hSt⟩ := X
  subst hn
  match S, ha with
  | Sum.inr (Sum.inr (Sum.inl y)) :: Sum.inr (Sum.inr (Sum.inl x)) :: S, ha =>
    refine lv_lsub hx hb hd ?_
    rw [← Int64.ofInt_sub]
    exact hK.go ha hP
theorem snd_lmul (hd : decode I.2.1 pc = .ok (.lmul, 1)) (hn : pc + 1 = nx) : zSnd B mi I pc (za_l2 (fun x y => x * y) nx) := by
  intro s0 b0 D l d p e R s m args below meth c C Q cF sF c0 n0 L S h K E H ls locs cells slots X hC hb1 hb2 hP ha hK hE
  obtain ⟨hx, hb, hr, hml, hown, hlk, hnm, hwd, hwm, hfx, hRf, hRl, hfl, hex, hB, hSt⟩ := X
  subst hn
  match S, ha with
  | Sum.inr (Sum.inr (Sum.inl y)) :: Sum.inr (Sum.inr (Sum.inl x)) :: S, ha =>
    refine lv_lmul hx hb hd ?_
    rw [← Int64.ofInt_mul]
    exact hK.go ha hP
theorem snd_land (hd : decode I.2.1 pc = .ok (.land, 1)) (hn : pc + 1 = nx) : zSnd B mi I pc (za_l2 zland nx) := by
  intro s0 b0 D l d p e R s m args below meth c C Q cF sF c0 n0 L S h K E H ls locs cells slots X hC hb1 hb2 hP ha hK hE
  obtain ⟨hx, hb, hr, hml, hown, hlk, hnm, hwd, hwm, hfx, hRf, hRl, hfl, hex, hB, hSt⟩ := X
  subst hn
  match S, ha with
  | Sum.inr (Sum.inr (Sum.inl y)) :: Sum.inr (Sum.inr (Sum.inl x)) :: S, ha =>
    have k := hK.go ha hP
    simp only [List.map_cons, zv, zland, Int64.ofInt_toInt] at k
    exact lv_land hx hb hd k
theorem snd_lor (hd : decode I.2.1 pc = .ok (.lor, 1)) (hn : pc + 1 = nx) : zSnd B mi I pc (za_l2 zlor nx) := by
  intro s0 b0 D l d p e R s m args below meth c C Q cF sF c0 n0 L S h K E H ls locs cells slots X hC hb1 hb2 hP ha hK hE
  obtain ⟨hx, hb, hr, hml, hown, hlk, hnm, hwd, hwm, hfx, hRf, hRl, hfl, hex, hB, hSt⟩ := X
  subst hn
  match S, ha with
  | Sum.inr (Sum.inr (Sum.inl y)) :: Sum.inr (Sum.inr (Sum.inl x)) :: S, ha =>
    have k := hK.go ha hP
    simp only [List.map_cons, zv, zlor, Int64.ofInt_toInt] at k
    exact lv_lor hx hb hd k
theorem snd_lxor (hd : decode I.2.1 pc = .ok (.lxor, 1)) (hn : pc + 1 = nx) : zSnd B mi I pc (za_l2 zlxor nx) := by
  intro s0 b0 D l d p e R s m args below meth c C Q cF sF c0 n0 L S h K E H ls locs cells slots X hC hb1 hb2 hP ha hK hE
  obtain ⟨hx, hb, hr, hml, hown, hlk, hnm, hwd, hwm, hfx, hRf, hRl, hfl, hex, hB, hSt⟩ := X
  subst hn
  match S, ha with
  | Sum.inr (Sum.inr (Sum.inl y)) :: Sum.inr (Sum.inr (Sum.inl x)) :: S, ha =>
    have k := hK.go ha hP
    simp only [List.map_cons, zv, zlxor, Int64.ofInt_toInt] at k
    exact lv_lxor hx hb hd k
theorem snd_lshl (hd : decode I.2.1 pc = .ok (.lshl, 1)) (hn : pc + 1 = nx) : zSnd B mi I pc (za_lsh zlshl nx) := by
  intro s0 b0 D l d p e R s m args below meth c C Q cF sF c0 n0 L S h K E H ls locs cells slots X hC hb1 hb2 hP ha hK hE
  obtain ⟨hx, hb, hr, hml, hown, hlk, hnm, hwd, hwm, hfx, hRf, hRl, hfl, hex, hB, hSt⟩ := X
  subst hn
  match S, ha with
  | Sum.inl y :: Sum.inr (Sum.inr (Sum.inl x)) :: S, ha =>
    have k := hK.go ha hP
    simp only [List.map_cons, zv, zlshl, Int64.ofInt_toInt] at k
    exact lv_lshl hx hb hd rfl k
theorem snd_lshr (hd : decode I.2.1 pc = .ok (.lshr, 1)) (hn : pc + 1 = nx) : zSnd B mi I pc (za_lsh zlshr nx) := by
  intro s0 b0 D l d p e R s m args below meth c C Q cF sF c0 n0 L S h K E H ls locs cells slots X hC hb1 hb2 hP ha hK hE
  obtain ⟨hx, hb, hr, hml, hown, hlk, hnm, hwd, hwm, hfx, hRf, hRl, hfl, hex, hB, hSt⟩ := X
  subst hn
  match S, ha with
  | Sum.inl y :: Sum.inr (Sum.inr (Sum.inl x)) :: S, ha =>
    have k := hK.go ha hP
    simp only [List.map_cons, zv, zlshr, Int64.ofInt_toInt] at k
    exact lv_lshr hx hb hd rfl k
theorem snd_lushr (hd : decode I.2.1 pc = .ok (.lushr, 1)) (hn : pc + 1 = nx) : zSnd B mi I pc (za_lsh zlushr nx) := by
  intro s0 b0 D l d p e R s m args below meth c C Q cF sF c0 n0 L S h K E H ls locs cells slots X hC hb1 hb2 hP ha hK hE
  obtain ⟨hx, hb, hr, hml, hown, hlk, hnm, hwd, hwm, hfx, hRf, hRl, hfl, hex, hB, hSt⟩ := X
  subst hn
  match S, ha with
  | Sum.inl y :: Sum.inr (Sum.inr (Sum.inl x)) :: S, ha =>
    have k := hK.go ha hP
    simp only [List.map_cons, zv, zlushr, Int64.ofInt_toInt] at k
    exact lv_lushr hx hb hd rfl k
theorem snd_ineg (hd : decode I.2.1 pc = .ok (.ineg, 1)) (hn : pc + 1 = nx) : zSnd B mi I pc (za_i1 (fun x => -x) nx) := by
  intro s0 b0 D l d p e R s m args below meth c C Q cF sF c0 n0 L S h K E H ls locs cells slots X hC hb1 hb2 hP ha hK hE
  obtain ⟨hx, hb, hr, hml, hown, hlk, hnm, hwd, hwm, hfx, hRf, hRl, hfl, hex, hB, hSt⟩ := X
  subst hn
  match S, ha with
  | Sum.inl x :: S, ha =>
    refine lv_ineg hx hb hd ?_
    rw [← Int32.ofInt_neg]
    exact hK.go ha hP
theorem snd_lneg (hd : decode I.2.1 pc = .ok (.lneg, 1)) (hn : pc + 1 = nx) : zSnd B mi I pc (za_l1 (fun x => -x) nx) := by
  intro s0 b0 D l d p e R s m args below meth c C Q cF sF c0 n0 L S h K E H ls locs cells slots X hC hb1 hb2 hP ha hK hE
  obtain ⟨hx, hb, hr, hml, hown, hlk, hnm, hwd, hwm, hfx, hRf, hRl, hfl, hex, hB, hSt⟩ := X
  subst hn
  match S, ha with
  | Sum.inr (Sum.inr (Sum.inl x)) :: S, ha =>
    refine lv_lneg hx hb hd ?_
    rw [← Int64.ofInt_neg]
    exact hK.go ha hP
theorem snd_i2b (hd : decode I.2.1 pc = .ok (.i2b, 1)) (hn : pc + 1 = nx) : zSnd B mi I pc (za_i1 zi2b nx) := by
  intro s0 b0 D l d p e R s m args below meth c C Q cF sF c0 n0 L S h K E H ls locs cells slots X hC hb1 hb2 hP ha hK hE
  obtain ⟨hx, hb, hr, hml, hown, hlk, hnm, hwd, hwm, hfx, hRf, hRl, hfl, hex, hB, hSt⟩ := X
  subst hn
  match S, ha with
  | Sum.inl x :: S, ha =>
    have k := hK.go ha hP
    simp only [List.map_cons, zv, zi2b, Int32.ofInt_toInt] at k
    exact lv_i2b hx hb hd rfl k
theorem snd_i2c (hd : decode I.2.1 pc = .ok (.i2c, 1)) (hn : pc + 1 = nx) : zSnd B mi I pc (za_i1 zi2c nx) := by
  intro s0 b0 D l d p e R s m args below meth c C Q cF sF c0 n0 L S h K E H ls locs cells slots X hC hb1 hb2 hP ha hK hE
  obtain ⟨hx, hb, hr, hml, hown, hlk, hnm, hwd, hwm, hfx, hRf, hRl, hfl, hex, hB, hSt⟩ := X
  subst hn
  match S, ha with
  | Sum.inl x :: S, ha =>
    have k := hK.go ha hP
    simp only [List.map_cons, zv, zi2c, Int32.ofInt_toInt] at k
    exact lv_i2c hx hb hd rfl k
theorem z_i2l (x : Int) : (Int32.ofInt x).toInt64 = Int64.ofInt (zn x) := by
  apply Int64.toInt_inj.mp
  rw [Int32.toInt_toInt64, zt_i, zt_l, zm_id]
  · have := zn_lo x; omega
  · have := zn_lo x; omega
theorem z_l2i (x : Int) : (Int64.ofInt x).toInt32 = Int32.ofInt x := by
  apply Int32.toInt_inj.mp
  rw [Int64.toInt_toInt32, zt_i, zt_l]
  unfold zm zn
  rw [Int.bmod_def, Int.bmod_def, Int.bmod_def]
  omega
theorem snd_i2l (hd : decode I.2.1 pc = .ok (.i2l, 1)) (hn : pc + 1 = nx) : zSnd B mi I pc (za_i2l nx) := by
  intro s0 b0 D l d p e R s m args below meth c C Q cF sF c0 n0 L S h K E H ls locs cells slots X hC hb1 hb2 hP ha hK hE
  obtain ⟨hx, hb, hr, hml, hown, hlk, hnm, hwd, hwm, hfx, hRf, hRl, hfl, hex, hB, hSt⟩ := X
  subst hn
  match S, ha with
  | Sum.inl x :: S, ha => exact lv_i2l hx hb hd (z_i2l x) (hK.go ha hP)
theorem snd_l2i (hd : decode I.2.1 pc = .ok (.l2i, 1)) (hn : pc + 1 = nx) : zSnd B mi I pc (za_l2i nx) := by
  intro s0 b0 D l d p e R s m args below meth c C Q cF sF c0 n0 L S h K E H ls locs cells slots X hC hb1 hb2 hP ha hK hE
  obtain ⟨hx, hb, hr, hml, hown, hlk, hnm, hwd, hwm, hfx, hRf, hRl, hfl, hex, hB, hSt⟩ := X
  subst hn
  match S, ha with
  | Sum.inr (Sum.inr (Sum.inl x)) :: S, ha => exact lv_l2i hx hb hd (z_l2i x) (hK.go ha hP)
theorem z_cmp (x y : Int) : lg_cmp (Int64.ofInt x) (Int64.ofInt y) = Int32.ofInt (if zm x < zm y then -1 else if zm x = zm y then 0 else 1) := by
  unfold lg_cmp
  have h1 : (Int64.ofInt x > Int64.ofInt y) ↔ zm y < zm x := by
    show Int64.ofInt y < Int64.ofInt x ↔ _
    rw [Int64.lt_iff_toInt_lt, zt_l, zt_l]
  have h2 : (Int64.ofInt x = Int64.ofInt y) ↔ zm x = zm y := zcl_eq x y
  simp only [h1, h2]
  by_cases a : zm y < zm x
  · rw [if_pos a, if_neg (by omega), if_neg (by omega)]; decide
  · by_cases b : zm x = zm y
    · rw [if_neg a, if_pos b, if_neg (by omega), if_pos b]; decide
    · rw [if_neg a, if_neg b, if_pos (by omega)]; decide
theorem snd_lcmp (hd : decode I.2.1 pc = .ok (.lcmp, 1)) (hn : pc + 1 = nx) : zSnd B mi I pc (za_lcmp nx) := by
  intro s0 b0 D l d p e R s m args below meth c C Q cF sF c0 n0 L S h K E H ls locs cells slots X hC hb1 hb2 hP ha hK hE
  obtain ⟨hx, hb, hr, hml, hown, hlk, hnm, hwd, hwm, hfx, hRf, hRl, hfl, hex, hB, hSt⟩ := X
  subst hn
  match S, ha with
  | Sum.inr (Sum.inr (Sum.inl y)) :: Sum.inr (Sum.inr (Sum.inl x)) :: S, ha =>
    refine W.lcmp hx hb hd ?_
    rw [z_cmp]
    exact hK.go ha hP
theorem z_div (x y : Int) : Int32.ofInt x / Int32.ofInt y = Int32.ofInt ((zn x).tdiv (zn y)) := by
  apply Int32.toInt_inj.mp
  rw [Int32.toInt_div, zt_i, zt_i, zt_i]
  rfl
theorem z_ldiv (x y : Int) : Int64.ofInt x / Int64.ofInt y = Int64.ofInt ((zm x).tdiv (zm y)) := by
  apply Int64.toInt_inj.mp
  rw [Int64.toInt_div, zt_l, zt_l, zt_l]
  rfl
theorem z_rem (x y : Int) : Int32.ofInt x - Int32.ofInt x / Int32.ofInt y * Int32.ofInt y = Int32.ofInt ((zn x).tmod (zn y)) := by
  rw [z_div, ← zo_i x, ← zo_i y, ← Int32.ofInt_mul, ← Int32.ofInt_sub]
  congr 1
  rw [Int.tmod_def, Int.mul_comm]
theorem z_lrem (x y : Int) : Int64.ofInt x - Int64.ofInt x / Int64.ofInt y * Int64.ofInt y = Int64.ofInt ((zm x).tmod (zm y)) := by
  rw [z_ldiv, ← zo_l x, ← zo_l y, ← Int64.ofInt_mul, ← Int64.ofInt_sub]
  congr 1
  rw [Int.tmod_def, Int.mul_comm]
theorem zm_0 : zm 0 = 0 := by decide
theorem zcl_0 (y : Int) : Int64.ofInt y = 0 ↔ zm y = 0 := by
  rw [show (0 : Int64) = Int64.ofInt 0 by decide, zcl_eq, zm_0]
theorem snd_idiv (hd : decode I.2.1 pc = .ok (.idiv, 1)) (hn : pc + 1 = nx) : zSnd B mi I pc (za_idiv nx) := by
  intro s0 b0 D l d p e R s m args below meth c C Q cF sF c0 n0 L S h K E H ls locs cells slots X hC hb1 hb2 hP ha hK hE
  obtain ⟨hx, hb, hr, hml, hown, hlk, hnm, hwd, hwm, hfx, hRf, hRl, hfl, hex, hB, hSt⟩ := X
  subst hn
  match S, ha with
  | Sum.inl y :: Sum.inl x :: S, ha =>
    refine lv_idiv hx hb hd (fun z => ha.1 ((zc_eq0 y).mp z)) ?_
    rw [z_div]
    exact hK.go ha.2 hP
theorem snd_irem (hd : decode I.2.1 pc = .ok (.irem, 1)) (hn : pc + 1 = nx) : zSnd B mi I pc (za_irem nx) := by
  intro s0 b0 D l d p e R s m args below meth c C Q cF sF c0 n0 L S h K E H ls locs cells slots X hC hb1 hb2 hP ha hK hE
  obtain ⟨hx, hb, hr, hml, hown, hlk, hnm, hwd, hwm, hfx, hRf, hRl, hfl, hex, hB, hSt⟩ := X
  subst hn
  match S, ha with
  | Sum.inl y :: Sum.inl x :: S, ha =>
    refine lv_irem hx hb hd (fun z => ha.1 ((zc_eq0 y).mp z)) ?_
    rw [z_rem]
    exact hK.go ha.2 hP
theorem snd_ldiv (hd : decode I.2.1 pc = .ok (.ldiv, 1)) (hn : pc + 1 = nx) : zSnd B mi I pc (za_ldiv nx) := by
  intro s0 b0 D l d p e R s m args below meth c C Q cF sF c0 n0 L S h K E H ls locs cells slots X hC hb1 hb2 hP ha hK hE
  obtain ⟨hx, hb, hr, hml, hown, hlk, hnm, hwd, hwm, hfx, hRf, hRl, hfl, hex, hB, hSt⟩ := X
  subst hn
  match S, ha with
  | Sum.inr (Sum.inr (Sum.inl y)) :: Sum.inr (Sum.inr (Sum.inl x)) :: S, ha =>
    refine lv_ldiv hx hb hd (fun z => ha.1 ((zcl_0 y).mp z)) ?_
    rw [z_ldiv]
    exact hK.go ha.2 hP
theorem snd_lrem (hd : decode I.2.1 pc = .ok (.lrem, 1)) (hn : pc + 1 = nx) : zSnd B mi I pc (za_lrem nx) := by
  intro s0 b0 D l d p e R s m args below meth c C Q cF sF c0 n0 L S h K E H ls locs cells slots X hC hb1 hb2 hP ha hK hE
  obtain ⟨hx, hb, hr, hml, hown, hlk, hnm, hwd, hwm, hfx, hRf, hRl, hfl, hex, hB, hSt⟩ := X
  subst hn
  match S, ha with
  | Sum.inr (Sum.inr (Sum.inl y)) :: Sum.inr (Sum.inr (Sum.inl x)) :: S, ha =>
    refine lv_lrem hx hb hd (fun z => ha.1 ((zcl_0 y).mp z)) ?_
    rw [z_lrem]
    exact hK.go ha.2 hP
theorem snd_if_eq {off : Int} {tg : Nat} (hd : decode I.2.1 pc = .ok (.ifCond .eq off, 3)) (ht : (pc : Int) + off = (tg : Int)) (hn : pc + 3 = nx) : zSnd B mi I pc (za_if 0 tg nx) := by
  intro s0 b0 D l d p e R s m args below meth c C Q cF sF c0 n0 L S h K E H ls locs cells slots X hC hb1 hb2 hP ha hK hE
  obtain ⟨hx, hb, hr, hml, hown, hlk, hnm, hwd, hwm, hfx, hRf, hRl, hfl, hex, hB, hSt⟩ := X
  subst hn
  match S, ha with
  | Sum.inl x :: S, ha => exact lv_if_eq hx hb hd ht (fun z => hK.go (ha.1 ((zc_eq0 x).mp z)) hP) (fun z => hK.go (ha.2 (fun q => z ((zc_eq0 x).mpr q))) hP)
theorem snd_icmp_eq {off : Int} {tg : Nat} (hd : decode I.2.1 pc = .ok (.if_icmp .eq off, 3)) (ht : (pc : Int) + off = (tg : Int)) (hn : pc + 3 = nx) : zSnd B mi I pc (za_icmp 0 tg nx) := by
  intro s0 b0 D l d p e R s m args below meth c C Q cF sF c0 n0 L S h K E H ls locs cells slots X hC hb1 hb2 hP ha hK hE
  obtain ⟨hx, hb, hr, hml, hown, hlk, hnm, hwd, hwm, hfx, hRf, hRl, hfl, hex, hB, hSt⟩ := X
  subst hn
  match S, ha with
  | Sum.inl y :: Sum.inl x :: S, ha => exact lv_icmp_eq hx hb hd ht (fun z => hK.go (ha.1 ((zc_eq x y).mp z)) hP) (fun z => hK.go (ha.2 (fun q => z ((zc_eq x y).mpr q))) hP)
theorem snd_if_ne {off : Int} {tg : Nat} (hd : decode I.2.1 pc = .ok (.ifCond .ne off, 3)) (ht : (pc : Int) + off = (tg : Int)) (hn : pc + 3 = nx) : zSnd B mi I pc (za_if 1 tg nx) := by
  intro s0 b0 D l d p e R s m args below meth c C Q cF sF c0 n0 L S h K E H ls locs cells slots X hC hb1 hb2 hP ha hK hE
  obtain ⟨hx, hb, hr, hml, hown, hlk, hnm, hwd, hwm, hfx, hRf, hRl, hfl, hex, hB, hSt⟩ := X
  subst hn
  match S, ha with
  | Sum.inl x :: S, ha => exact lv_if_ne hx hb hd ht (fun z => hK.go (ha.1 ((not_congr (zc_eq0 x)).mp z)) hP) (fun z => hK.go (ha.2 (fun q => q ((zc_eq0 x).mp z))) hP)
theorem snd_icmp_ne {off : Int} {tg : Nat} (hd : decode I.2.1 pc = .ok (.if_icmp .ne off, 3)) (ht : (pc : Int) + off = (tg : Int)) (hn : pc + 3 = nx) : zSnd B mi I pc (za_icmp 1 tg nx) := by
  intro s0 b0 D l d p e R s m args below meth c C Q cF sF c0 n0 L S h K E H ls locs cells slots X hC hb1 hb2 hP ha hK hE
  obtain ⟨hx, hb, hr, hml, hown, hlk, hnm, hwd, hwm, hfx, hRf, hRl, hfl, hex, hB, hSt⟩ := X
  subst hn
  match S, ha with
  | Sum.inl y :: Sum.inl x :: S, ha => exact lv_icmp_ne hx hb hd ht (fun z => hK.go (ha.1 ((not_congr (zc_eq x y)).mp z)) hP) (fun z => hK.go (ha.2 (fun q => q ((zc_eq x y).mp z))) hP)
theorem snd_if_lt {off : Int} {tg : Nat} (hd : decode I.2.1 pc = .ok (.ifCond .lt off, 3)) (ht : (pc : Int) + off = (tg : Int)) (hn : pc + 3 = nx) : zSnd B mi I pc (za_if 2 tg nx) := by
  intro s0 b0 D l d p e R s m args below meth c C Q cF sF c0 n0 L S h K E H ls locs cells slots X hC hb1 hb2 hP ha hK hE
  obtain ⟨hx, hb, hr, hml, hown, hlk, hnm, hwd, hwm, hfx, hRf, hRl, hfl, hex, hB, hSt⟩ := X
  subst hn
  match S, ha with
  | Sum.inl x :: S, ha => exact lv_if_lt hx hb hd ht (fun z => hK.go (ha.1 ((zc_lt0 x).mp z)) hP) (fun z => hK.go (ha.2 (fun q => z ((zc_lt0 x).mpr q))) hP)
theorem snd_icmp_lt {off : Int} {tg : Nat} (hd : decode I.2.1 pc = .ok (.if_icmp .lt off, 3)) (ht : (pc : Int) + off = (tg : Int)) (hn : pc + 3 = nx) : zSnd B mi I pc (za_icmp 2 tg nx) := by
  intro s0 b0 D l d p e R s m args below meth c C Q cF sF c0 n0 L S h K E H ls locs cells slots X hC hb1 hb2 hP ha hK hE
  obtain ⟨hx, hb, hr, hml, hown, hlk, hnm, hwd, hwm, hfx, hRf, hRl, hfl, hex, hB, hSt⟩ := X
  subst hn
  match S, ha with
  | Sum.inl y :: Sum.inl x :: S, ha => exact lv_icmp_lt hx hb hd ht (fun z => hK.go (ha.1 ((zc_lt x y).mp z)) hP) (fun z => hK.go (ha.2 (fun q => z ((zc_lt x y).mpr q))) hP)
theorem snd_if_ge {off : Int} {tg : Nat} (hd : decode I.2.1 pc = .ok (.ifCond .ge off, 3)) (ht : (pc : Int) + off = (tg : Int)) (hn : pc + 3 = nx) : zSnd B mi I pc (za_if 3 tg nx) := by
  intro s0 b0 D l d p e R s m args below meth c C Q cF sF c0 n0 L S h K E H ls locs cells slots X hC hb1 hb2 hP ha hK hE
  obtain ⟨hx, hb, hr, hml, hown, hlk, hnm, hwd, hwm, hfx, hRf, hRl, hfl, hex, hB, hSt⟩ := X
  subst hn
  match S, ha with
  | Sum.inl x :: S, ha => exact lv_if_ge hx hb hd ht (fun z => hK.go (ha.1 ((zc_0le x).mp z)) hP) (fun z => hK.go (ha.2 (fun q => z ((zc_0le x).mpr q))) hP)
theorem snd_icmp_ge {off : Int} {tg : Nat} (hd : decode I.2.1 pc = .ok (.if_icmp .ge off, 3)) (ht : (pc : Int) + off = (tg : Int)) (hn : pc + 3 = nx) : zSnd B mi I pc (za_icmp 3 tg nx) := by
  intro s0 b0 D l d p e R s m args below meth c C Q cF sF c0 n0 L S h K E H ls locs cells slots X hC hb1 hb2 hP ha hK hE
  obtain ⟨hx, hb, hr, hml, hown, hlk, hnm, hwd, hwm, hfx, hRf, hRl, hfl, hex, hB, hSt⟩ := X
  subst hn
  match S, ha with
  | Sum.inl y :: Sum.inl x :: S, ha => exact lv_icmp_ge hx hb hd ht (fun z => hK.go (ha.1 ((zc_le y x).mp z)) hP) (fun z => hK.go (ha.2 (fun q => z ((zc_le y x).mpr q))) hP)
theorem snd_if_gt {off : Int} {tg : Nat} (hd : decode I.2.1 pc = .ok (.ifCond .gt off, 3)) (ht : (pc : Int) + off = (tg : Int)) (hn : pc + 3 = nx) : zSnd B mi I pc (za_if 4 tg nx) := by
  intro s0 b0 D l d p e R s m args below meth c C Q cF sF c0 n0 L S h K E H ls locs cells slots X hC hb1 hb2 hP ha hK hE
  obtain ⟨hx, hb, hr, hml, hown, hlk, hnm, hwd, hwm, hfx, hRf, hRl, hfl, hex, hB, hSt⟩ := X
  subst hn
  match S, ha with
  | Sum.inl x :: S, ha => exact lv_if_gt hx hb hd ht (fun z => hK.go (ha.1 ((zc_0lt x).mp z)) hP) (fun z => hK.go (ha.2 (fun q => z ((zc_0lt x).mpr q))) hP)
theorem snd_icmp_gt {off : Int} {tg : Nat} (hd : decode I.2.1 pc = .ok (.if_icmp .gt off, 3)) (ht : (pc : Int) + off = (tg : Int)) (hn : pc + 3 = nx) : zSnd B mi I pc (za_icmp 4 tg nx) := by
  intro s0 b0 D l d p e R s m args below meth c C Q cF sF c0 n0 L S h K E H ls locs cells slots X hC hb1 hb2 hP ha hK hE
  obtain ⟨hx, hb, hr, hml, hown, hlk, hnm, hwd, hwm, hfx, hRf, hRl, hfl, hex, hB, hSt⟩ := X
  subst hn
  match S, ha with
  | Sum.inl y :: Sum.inl x :: S, ha => exact lv_icmp_gt hx hb hd ht (fun z => hK.go (ha.1 ((zc_lt y x).mp z)) hP) (fun z => hK.go (ha.2 (fun q => z ((zc_lt y x).mpr q))) hP)
theorem snd_if_le {off : Int} {tg : Nat} (hd : decode I.2.1 pc = .ok (.ifCond .le off, 3)) (ht : (pc : Int) + off = (tg : Int)) (hn : pc + 3 = nx) : zSnd B mi I pc (za_if 5 tg nx) := by
  intro s0 b0 D l d p e R s m args below meth c C Q cF sF c0 n0 L S h K E H ls locs cells slots X hC hb1 hb2 hP ha hK hE
  obtain ⟨hx, hb, hr, hml, hown, hlk, hnm, hwd, hwm, hfx, hRf, hRl, hfl, hex, hB, hSt⟩ := X
  subst hn
  match S, ha with
  | Sum.inl x :: S, ha => exact lv_if_le hx hb hd ht (fun z => hK.go (ha.1 ((zc_le0 x).mp z)) hP) (fun z => hK.go (ha.2 (fun q => z ((zc_le0 x).mpr q))) hP)
theorem snd_icmp_le {off : Int} {tg : Nat} (hd : decode I.2.1 pc = .ok (.if_icmp .le off, 3)) (ht : (pc : Int) + off = (tg : Int)) (hn : pc + 3 = nx) : zSnd B mi I pc (za_icmp 5 tg nx) := by
  intro s0 b0 D l d p e R s m args below meth c C Q cF sF c0 n0 L S h K E H ls locs cells slots X hC hb1 hb2 hP ha hK hE
  obtain ⟨hx, hb, hr, hml, hown, hlk, hnm, hwd, hwm, hfx, hRf, hRl, hfl, hex, hB, hSt⟩ := X
  subst hn
  match S, ha with
  | Sum.inl y :: Sum.inl x :: S, ha => exact lv_icmp_le hx hb hd ht (fun z => hK.go (ha.1 ((zc_le x y).mp z)) hP) (fun z => hK.go (ha.2 (fun q => z ((zc_le x y).mpr q))) hP)
theorem snd_goto {off : Int} {tg : Nat} (hd : decode I.2.1 pc = .ok (.goto off, 3)) (ht : (pc : Int) + off = (tg : Int)) : zSnd B mi I pc (za_goto tg) := by
  intro s0 b0 D l d p e R s m args below meth c C Q cF sF c0 n0 L S h K E H ls locs cells slots X hC hb1 hb2 hP ha hK hE
  obtain ⟨hx, hb, hr, hml, hown, hlk, hnm, hwd, hwm, hfx, hRf, hRl, hfl, hex, hB, hSt⟩ := X
  exact lv_goto hx hb hd ht (hK.go ha hP)
theorem snd_ifnull {off : Int} {tg : Nat} (hd : decode I.2.1 pc = .ok (.ifnull off, 3)) (ht : (pc : Int) + off = (tg : Int)) (hn : pc + 3 = nx) : zSnd B mi I pc (za_ifnull tg nx) := by
  intro s0 b0 D l d p e R s m args below meth c C Q cF sF c0 n0 L S h K E H ls locs cells slots X hC hb1 hb2 hP ha hK hE
  obtain ⟨hx, hb, hr, hml, hown, hlk, hnm, hwd, hwm, hfx, hRf, hRl, hfl, hex, hB, hSt⟩ := X
  subst hn
  match S, ha with
  | Sum.inr (Sum.inl none) :: S, ha => exact lv_ifnullN hx hb hd ht (hK.go ha hP)
  | Sum.inr (Sum.inl (some x)) :: S, ha => exact lv_ifnull hx hb hd (hK.go ha hP)
theorem snd_ifnonnull {off : Int} {tg : Nat} (hd : decode I.2.1 pc = .ok (.ifnonnull off, 3)) (ht : (pc : Int) + off = (tg : Int)) (hn : pc + 3 = nx) : zSnd B mi I pc (za_ifnull nx tg) := by
  intro s0 b0 D l d p e R s m args below meth c C Q cF sF c0 n0 L S h K E H ls locs cells slots X hC hb1 hb2 hP ha hK hE
  obtain ⟨hx, hb, hr, hml, hown, hlk, hnm, hwd, hwm, hfx, hRf, hRl, hfl, hex, hB, hSt⟩ := X
  subst hn
  match S, ha with
  | Sum.inr (Sum.inl none) :: S, ha => exact lv_ifnonnullN hx hb hd (hK.go ha hP)
  | Sum.inr (Sum.inl (some x)) :: S, ha => exact lv_ifnonnull hx hb hd ht (hK.go ha hP)
theorem z_rf (x : Option Nat) : va_rf x = zv (Sum.inr (Sum.inl x)) := by cases x <;> rfl
theorem snd_acmp_eq {off : Int} {tg : Nat} (hd : decode I.2.1 pc = .ok (.if_acmp .eq off, 3)) (ht : (pc : Int) + off = (tg : Int)) (hn : pc + 3 = nx) : zSnd B mi I pc (za_acmp tg nx) := by
  intro s0 b0 D l d p e R s m args below meth c C Q cF sF c0 n0 L S h K E H ls locs cells slots X hC hb1 hb2 hP ha hK hE
  obtain ⟨hx, hb, hr, hml, hown, hlk, hnm, hwd, hwm, hfx, hRf, hRl, hfl, hex, hB, hSt⟩ := X
  subst hn
  match S, ha with
  | Sum.inr (Sum.inl y) :: Sum.inr (Sum.inl x) :: S, ha =>
    simp only [List.map_cons, ← z_rf]
    exact lv_acmp_eq hx hb hd ht (fun z => hK.go (ha.1 z) hP) (fun z => hK.go (ha.2 z) hP)
theorem snd_acmp_ne {off : Int} {tg : Nat} (hd : decode I.2.1 pc = .ok (.if_acmp .ne off, 3)) (ht : (pc : Int) + off = (tg : Int)) (hn : pc + 3 = nx) : zSnd B mi I pc (za_acmp nx tg) := by
  intro s0 b0 D l d p e R s m args below meth c C Q cF sF c0 n0 L S h K E H ls locs cells slots X hC hb1 hb2 hP ha hK hE
  obtain ⟨hx, hb, hr, hml, hown, hlk, hnm, hwd, hwm, hfx, hRf, hRl, hfl, hex, hB, hSt⟩ := X
  subst hn
  match S, ha with
  | Sum.inr (Sum.inl y) :: Sum.inr (Sum.inl x) :: S, ha =>
    simp only [List.map_cons, ← z_rf]
    exact lv_acmp_ne hx hb hd ht (fun z => hK.go (ha.2 z) hP) (fun z => hK.go (ha.1 z) hP)
theorem zcat1_c {v : zV} (h : zcat1 v = true) : (zv v).category = 1 := by
  rcases v with x | (_ | a) | x | u
  · rfl
  · rfl
  · rfl
  · cases h
  · cases h
theorem snd_dup (hd : decode I.2.1 pc = .ok (.dup, 1)) (hn : pc + 1 = nx) : zSnd B mi I pc (za_dup nx) := by
  intro s0 b0 D l d p e R s m args below meth c C Q cF sF c0 n0 L S h K E H ls locs cells slots X hC hb1 hb2 hP ha hK hE
  obtain ⟨hx, hb, hr, hml, hown, hlk, hnm, hwd, hwm, hfx, hRf, hRl, hfl, hex, hB, hSt⟩ := X
  subst hn
  match S, ha with
  | x :: S, ha => exact lv_dup hx hb hd (zcat1_c ha.1) (hK.go ha.2 hP)
theorem snd_pop (hd : decode I.2.1 pc = .ok (.pop, 1)) (hn : pc + 1 = nx) : zSnd B mi I pc (za_pop nx) := by
  intro s0 b0 D l d p e R s m args below meth c C Q cF sF c0 n0 L S h K E H ls locs cells slots X hC hb1 hb2 hP ha hK hE
  obtain ⟨hx, hb, hr, hml, hown, hlk, hnm, hwd, hwm, hfx, hRf, hRl, hfl, hex, hB, hSt⟩ := X
  subst hn
  match S, ha with
  | x :: S, ha => exact lv_pop hx hb hd (zcat1_c ha.1) (hK.go ha.2 hP)
theorem snd_dup_x1 (hd : decode I.2.1 pc = .ok (.dup_x1, 1)) (hn : pc + 1 = nx) : zSnd B mi I pc (za_dupx1 nx) := by
  intro s0 b0 D l d p e R s m args below meth c C Q cF sF c0 n0 L S h K E H ls locs cells slots X hC hb1 hb2 hP ha hK hE
  obtain ⟨hx, hb, hr, hml, hown, hlk, hnm, hwd, hwm, hfx, hRf, hRl, hfl, hex, hB, hSt⟩ := X
  subst hn
  match S, ha with
  | x :: y :: S, ha => exact lv_dup_x1 hx hb hd (zcat1_c ha.1) (zcat1_c ha.2.1) (hK.go ha.2.2 hP)
theorem snd_dup2 (hd : decode I.2.1 pc = .ok (.dup2, 1)) (hn : pc + 1 = nx) : zSnd B mi I pc (za_dup2 nx) := by
  intro s0 b0 D l d p e R s m args below meth c C Q cF sF c0 n0 L S h K E H ls locs cells slots X hC hb1 hb2 hP ha hK hE
  obtain ⟨hx, hb, hr, hml, hown, hlk, hnm, hwd, hwm, hfx, hRf, hRl, hfl, hex, hB, hSt⟩ := X
  subst hn
  match S, ha with
  | x :: y :: S, ha => exact lv_dup2_11 hx hb hd (zcat1_c ha.1) (zcat1_c ha.2.1) (hK.go ha.2.2 hP)
end
