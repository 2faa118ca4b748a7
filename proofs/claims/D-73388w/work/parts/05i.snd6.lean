/-! ===== M is sound (6): ends, calls ===== -/
/-- the handlers that M has at pc are the method's -/
def zHok (I : zMI) (pc : Nat) (hs : zHs) : Prop :=
  (hs = zh0 ∧ ∀ x ∈ tableOf I.2.2.2.2, covers x pc = false) ∨
  (∃ (cx : Nat) (r : vw_C) (x : ExceptionTableEntry) (nm : String), hs = zh1 cx x.handlerPc ∧ zcl[cx]? = some r ∧ tableOf I.2.2.2.2 = [x] ∧ covers x pc = true ∧ x.catchType ≠ 0 ∧ zW (Cond.classLink I.1.cls x.catchType nm) ∧ zW (Cond.castable r.1 nm))
section
variable {B : zB} {mi : Nat → zMI} {I : zMI} {pc nx : Nat}
theorem snd_ret (hd : decode I.2.1 pc = .ok (.return_, 1)) (hrt : I.2.2.2.1 = none) : zSnd B mi I pc za_ret := by
  intro s0 b0 D l d p e R s m args below meth c C Q cF sF c0 n0 L S h K E H ls locs cells slots X hC hb1 hb2 hP ha hK hE
  obtain ⟨hx, hb, hr, hml, hown, hlk, hnm, hwd, hwm, hfx, hRf, hRl, hfl, hex, hB, hSt⟩ := X
  match S, ha with
  | [], ha => exact hE.1 none h ha L H ls locs cells slots pc hP (Or.inl ⟨hd, hrt, rfl⟩)
theorem snd_reti {lo hi : Int} {ty : FieldType} (hd : decode I.2.1 pc = .ok (.ireturn, 1)) (hrt : I.2.2.2.1 = some ty) (hnar : ∀ x : Int, lo ≤ zn x → zn x ≤ hi → narrow ty (.int (Int32.ofInt x)) = .int (Int32.ofInt x)) : zSnd B mi I pc (za_reti lo hi) := by
  intro s0 b0 D l d p e R s m args below meth c C Q cF sF c0 n0 L S h K E H ls locs cells slots X hC hb1 hb2 hP ha hK hE
  obtain ⟨hx, hb, hr, hml, hown, hlk, hnm, hwd, hwm, hfx, hRf, hRl, hfl, hex, hB, hSt⟩ := X
  match S, ha with
  | [Sum.inl x], ha => exact hE.1 (some (Sum.inl x)) h ha.2.2 L H ls locs cells slots pc hP (Or.inr (Or.inl ⟨x, ty, hd, hrt, rfl, hnar x ha.1 ha.2.1⟩))
theorem snd_retl (hd : decode I.2.1 pc = .ok (.lreturn, 1)) (hrt : I.2.2.2.1 = some .long) : zSnd B mi I pc za_retl := by
  intro s0 b0 D l d p e R s m args below meth c C Q cF sF c0 n0 L S h K E H ls locs cells slots X hC hb1 hb2 hP ha hK hE
  obtain ⟨hx, hb, hr, hml, hown, hlk, hnm, hwd, hwm, hfx, hRf, hRl, hfl, hex, hB, hSt⟩ := X
  match S, ha with
  | [Sum.inr (Sum.inr (Sum.inl x))], ha => exact hE.1 (some (Sum.inr (Sum.inr (Sum.inl x)))) h ha L H ls locs cells slots pc hP (Or.inr (Or.inr (Or.inl ⟨x, hd, hrt, rfl⟩)))
theorem snd_retr {rt : FieldType} (hd : decode I.2.1 pc = .ok (.areturn, 1)) (hrt : I.2.2.2.1 = some rt) (hrr : (∃ n, rt = .object n) ∨ ∃ t, rt = .array t) : zSnd B mi I pc za_retr := by
  intro s0 b0 D l d p e R s m args below meth c C Q cF sF c0 n0 L S h K E H ls locs cells slots X hC hb1 hb2 hP ha hK hE
  obtain ⟨hx, hb, hr, hml, hown, hlk, hnm, hwd, hwm, hfx, hRf, hRl, hfl, hex, hB, hSt⟩ := X
  match S, ha with
  | [Sum.inr (Sum.inl x)], ha => exact hE.1 (some (Sum.inr (Sum.inl x))) h ha L H ls locs cells slots pc hP (Or.inr (Or.inr (Or.inr ⟨x, rt, hd, hrt, hrr, rfl⟩)))
theorem zcls_of {h : zH} {a ci : Nat} (hk : zK h a = some (Sum.inl ci)) : zcls h a = ci := by unfold zcls; rw [hk]
/-- something is thrown at pc: its handler, or the caller -/
theorem zthrown {s0 : State} {b0 : Nat} {D : zD} {l : Launch} {d : Nat} {p : Program} {e : Env} {R : Room} {s : State} {m : MethodId} {args : Array Value} {below : List Frame} {meth : Method} {c : Code} {Q : State → Prop} {cF sF c0 n0 : Nat} {L : List zV} {h : zH} {K : zKt} {E : zEt} {H : Heap} {ls : Array Slot} {locs : List Loc} {cells slots : Nat} {st : List Value} {hs : zHs} {a ci : Nat}
    (X : zCx B s0 b0 D l d I p R s m meth c) (hP : zPt s0 D I.2.2.1 c0 n0 L h H ls locs cells slots) (hk : zK h a = some (Sum.inl ci)) (ha0 : s0.heap.size ≤ a) (hh : zHok I pc hs)
    (ha : match hs (zcls h a) with
      | some (some q) => K q L [Sum.inr (Sum.inl (some a))] h
      | some none => E (Sum.inr a) h
      | none => False)
    (hK : zKok s0 D I p l e R s m args below meth c Q cF sF c0 n0 K) (hE : zEok s0 D I p l e R s m args below meth c Q cF sF c0 n0 E) : vx_W p l e R s m args below meth c H locs cells slots Q (F0 m pc ls st) a := by
  obtain ⟨hx, hb, hr, hml, hown, hlk, hnm, hwd, hwm, hfx, hRf, hRl, hfl, hex, hB, hSt⟩ := X
  rcases hh with ⟨rfl, hout⟩ | ⟨cx, r, x, nm, rfl, hr9, htab, hcov, hct, hw1, hw2⟩
  · exact (hE.2 a h ha).2 L H ls locs cells slots pc st hP (by rw [hex]; exact hout) ⟨ci, hk⟩ ha0
  · rw [zcls_of hk] at ha
    unfold zh1 at ha
    by_cases hcx : ci = cx
    · subst hcx
      rw [if_pos rfl] at ha
      obtain ⟨r', cell, g1, g2, g3, g4, g5, g6, g7⟩ := hP.1.2.2.2.1 a ci hk
      have hrr : r' = r := Option.some.inj (g1.symm.trans hr9)
      subst hrr
      have hKn := u_Kn_moved hwm.alike (hfx.1 ci _ g1)
      exact vx_catch hown [] x [] (by rw [hex, htab]; rfl) (fun z hz => absurd hz List.not_mem_nil) hcov hct (hw1 s0 s b0 args hwd hwm) (hw2 s0 s b0 args hwd hwm) g2 (g6 ha0) (by rw [g3]; exact hKn.2.1) (hK.go ha hP)
    · rw [if_neg hcx] at ha
      exact ha.elim
theorem snd_thr {b : Nat} {hs : zHs} (hbb : B.1 = b) (hh : zHok I pc hs) (hd : decode I.2.1 pc = .ok (.athrow, 1)) : zSnd B mi I pc (za_thr b hs) := by
  intro s0 b0 D l d p e R s m args below meth c C Q cF sF c0 n0 L S h K E H ls locs cells slots X hC hb1 hb2 hP ha hK hE
  have X9 := X
  obtain ⟨hx, hb, hr, hml, hown, hlk, hnm, hwd, hwm, hfx, hRf, hRl, hfl, hex, hB, hSt⟩ := X
  match S, ha with
  | Sum.inr (Sum.inl (some a)) :: S, ha =>
    obtain ⟨a1, ⟨ci, a2⟩, a3⟩ := ha
    exact vx_athrow hx hb hd (zthrown X9 hP a2 (by rw [hB, hbb]; exact a1) hh a3 hK hE)
/-- the callee's contract, as the call's row takes it -/
theorem zback {s0 : State} {b0 : Nat} {D : zD} {l : Launch} {d : Nat} {p : Program} {e : Env} {R : Room} {s : State} {m : MethodId} {args : Array Value} {below : List Frame} {meth : Method} {c : Code} {C : zC} {callee len : Nat} {a : List zV} {h h1 : zH} {o : zO}
    (X : zCx B s0 b0 D l d I p R s m meth c) (hC : zCok s0 D l mi d C) (hc : C callee a h o h1) (hh : (mi callee).2.2.2.2 = []) (hmax : (mi callee).2.2.1 ≤ 60) (hwc : zW (Cond.code (mi callee).1 (mi callee).2.1 (mi callee).2.2.1 (mi callee).2.2.2.1)) (hwi : zW (Cond.initialized (mi callee).1.cls)) :
    vx_Back l R p e below s args (mi callee).1 len 48 (PreOf R (zsz h1 - zsz h) (zN h1 - zN h) (zPc s0 D a h)) (PostOf (zQc s0 D o h1) (zsz h1 - zsz h) (zN h1 - zN h) (zfree s0)) (zx_Post (zXc s0 D o h1) (zsz h1 - zsz h) (zN h1 - zN h) (zfree s0)) := by
  obtain ⟨hx, hb, hr, hml, hown, hlk, hnm, hwd, hwm, hfx, hRf, hRl, hfl, hex, hB, hSt⟩ := X
  have hM := (hC callee a h o h1 hc).2.2
  unfold zws at hM
  rw [hh] at hM
  refine zx_back (bytes := (mi callee).2.1) (maxL := (mi callee).2.2.1) (ret := (mi callee).2.2.2.1) hM ?_ rfl rfl ?_ ?_ ?_ List.mem_cons_self ?_
  · intro a' U g mk hp
    exact hp
  · show d + 10 + 1 ≤ R.frames
    omega
  · show 48 + ((mi callee).2.2.1 + 11) + (128 * d + 12000) ≤ R.locals
    revert hRl
    generalize (12000 : Nat) = K9
    intro hRl
    omega
  · intro w hw a' U hW
    have hW0 : s0.WarmedH U.vm := State.WarmedH.trans hwm hW
    rcases List.mem_cons.mp hw with rfl | hw
    · exact hwc s0 U b0 a' hwd hW0
    · exact zW_all hw s0 U b0 a' hwd hW0
  · intro a' U hW
    exact hwi s0 U b0 a' hwd (State.WarmedH.trans hwm hW)
theorem zbackW {s0 : State} {b0 : Nat} {D : zD} {l : Launch} {d : Nat} {p : Program} {e : Env} {R : Room} {s : State} {m : MethodId} {args : Array Value} {below : List Frame} {meth : Method} {c : Code} {C : zC} {callee len : Nat} {a : List zV} {h h1 : zH} {o : zO}
    (X : zCx B s0 b0 D l d I p R s m meth c) (hC : zCok s0 D l mi d C) (hc : C callee a h o h1) (hh : (mi callee).2.2.2.2 ≠ []) (hmax : (mi callee).2.2.1 ≤ 60) (hwc : zW (Cond.codeWith (mi callee).1 (mi callee).2.1 (mi callee).2.2.1 (mi callee).2.2.2.1 (mi callee).2.2.2.2)) (hwi : zW (Cond.initialized (mi callee).1.cls)) :
    vx_Back l R p e below s args (mi callee).1 len 48 (PreOf R (zsz h1 - zsz h) (zN h1 - zN h) (zPc s0 D a h)) (PostOf (zQc s0 D o h1) (zsz h1 - zsz h) (zN h1 - zN h) (zfree s0)) (zx_Post (zXc s0 D o h1) (zsz h1 - zsz h) (zN h1 - zN h) (zfree s0)) := by
  obtain ⟨hx, hb, hr, hml, hown, hlk, hnm, hwd, hwm, hfx, hRf, hRl, hfl, hex, hB, hSt⟩ := X
  have hM := (hC callee a h o h1 hc).2.2
  have hz : zws (mi callee) = wsW_ (mi callee).1 (mi callee).2.1 (mi callee).2.2.1 (mi callee).2.2.2.1 (mi callee).2.2.2.2 := by
    unfold zws
    split
    · rename_i q; exact absurd q hh
    · rfl
  rw [hz] at hM
  refine zx_backW (bytes := (mi callee).2.1) (maxL := (mi callee).2.2.1) (ret := (mi callee).2.2.2.1) (hh := (mi callee).2.2.2.2) hM ?_ rfl rfl ?_ ?_ ?_ List.mem_cons_self ?_
  · intro a' U g mk hp
    exact hp
  · show d + 10 + 1 ≤ R.frames
    omega
  · show 48 + ((mi callee).2.2.1 + 11) + (128 * d + 12000) ≤ R.locals
    revert hRl
    generalize (12000 : Nat) = K9
    intro hRl
    omega
  · intro w hw a' U hW
    have hW0 : s0.WarmedH U.vm := State.WarmedH.trans hwm hW
    rcases List.mem_cons.mp hw with rfl | hw
    · exact hwc s0 U b0 a' hwd hW0
    · exact zW_all hw s0 U b0 a' hwd hW0
  · intro a' U hW
    exact hwi s0 U b0 a' hwd (State.WarmedH.trans hwm hW)
theorem zcat_le (S : List zV) : ((S.map zv).map fun v => v.category).sum ≤ 2 * S.length := by
  induction S with
  | nil => exact Nat.le_refl 0
  | cons v S ih =>
    simp only [List.map_cons, List.sum_cons, List.length_cons]
    rcases lv_cat (zv v) with q | q <;> omega
/-- behind the call -/
theorem zafter {s0 : State} {b0 : Nat} {D : zD} {l : Launch} {d : Nat} {p : Program} {e : Env} {R : Room} {s : State} {m : MethodId} {args : Array Value} {below : List Frame} {meth : Method} {c : Code} {Q : State → Prop} {cF sF c0 n0 : Nat} {L Rr : List zV} {h h1 : zH} {o : zO} {K : zKt} {E : zEt} {H : Heap} {ls : Array Slot} {locs : List Loc} {cells slots : Nat} {hs : zHs} {len : Nat} {stk : List Value} {T : State} {aa : Array Value}
    (X : zCx B s0 b0 D l d I p R s m meth c) (hP : zPt s0 D I.2.2.1 c0 n0 L h H ls locs cells slots) (hm1 : zsz h ≤ zsz h1) (hm2 : zN h ≤ zN h1) (hh : zHok I pc hs) (ha : zaft (pc + len) hs L Rr o h1 K E)
    (hK : zKok s0 D I p l e R s m args below meth c Q cF sF c0 n0 K) (hE : zEok s0 D I p l e R s m args below meth c Q cF sF c0 n0 E)
    (hres : (∃ (v : Option Value) (vm₁ : Vm) (Bp : Pt), s.WarmedH vm₁ ∧ Stand p l e R s m args below meth c Bp.U Bp.locs Bp.cells Bp.slots ∧ PostOf (zQc s0 D o h1) (zsz h1 - zsz h) (zN h1 - zN h) (zfree s0) ⟨T.setVm vm₁, locs, cells, slots⟩ aa v Bp ∧
        ∀ target, Steps p.tables e below (Bp.U.setTop { F0 m pc ls stk with pc := pc + len, stack := v.toList ++ Rr.map zv }) target → Steps p.tables e below (T.setTop (F0 m pc ls stk)) target) ∨
      (∃ (q : Addr) (vm₁ : Vm) (Bp : Pt), s.WarmedH vm₁ ∧ Stand p l e R s m args below meth c Bp.U Bp.locs Bp.cells Bp.slots ∧ zx_Post (zXc s0 D o h1) (zsz h1 - zsz h) (zN h1 - zN h) (zfree s0) ⟨T.setVm vm₁, locs, cells, slots⟩ aa q Bp ∧
        Steps p.tables e below (T.setTop (F0 m pc ls stk)) ((Bp.U.setTop { F0 m pc ls stk with stack := Rr.map zv }).pushFrame (.throwing q)))) :
    ∃ t, Steps p.tables e below (T.setTop (F0 m pc ls stk)) t ∧ Q t := by
  rcases hres with ⟨v, vm₁, ⟨U', lo', cc', sl'⟩, hW₁, X', ⟨g', mk, t, L9, e1, e2, hq, hl, hL, hc, hsl⟩, st⟩ | ⟨q, vm₁, ⟨U', lo', cc', sl'⟩, hW₁, X', ⟨g', mk, t, L9, E9, ce, e1, e2, hq, hce, hcv, hcc, hl, hL, hc, hsl⟩, st⟩
  · dsimp only [Pt.U, Pt.locs, Pt.cells, Pt.slots] at X' e1 e2 hl hc hsl st
    obtain ⟨r, ho, hr9, hR⟩ := hq
    subst ho
    have hvr : v = r.map zv := by injection hr9
    subst hvr
    rw [← e1] at hR
    have hP' : zPt s0 D I.2.2.1 c0 n0 L h1 U'.heap ls lo' cc' sl' := by
      refine ⟨hR, hP.2.1, ?_, ?_, ?_⟩
      · rw [hc]; have := hP.2.2.1; omega
      · rw [hsl]; have := hP.2.2.2.1; omega
      · rw [hl]
        intro z hz
        rcases List.mem_append.mp hz with y | y
        · exact hP.2.2.2.2 z y
        · exact hL z y
    cases r with
    | none =>
      obtain ⟨t', s1, s2⟩ := (hK.go (S := Rr) ha hP') U' rfl X'
      exact ⟨t', st t' s1, s2⟩
    | some w =>
      obtain ⟨t', s1, s2⟩ := (hK.go (S := w :: Rr) ha hP') U' rfl X'
      exact ⟨t', st t' s1, s2⟩
  · dsimp only [Pt.U, Pt.locs, Pt.cells, Pt.slots] at X' e1 e2 hl hc hsl st
    obtain ⟨ci, r, ho, hq0, hk, hr9, hE9, hR⟩ := hq
    subst ho
    rw [← e1] at hR
    have hP' : zPt s0 D I.2.2.1 c0 n0 L h1 U'.heap ls lo' cc' sl' := by
      refine ⟨hR, hP.2.1, ?_, ?_, ?_⟩
      · rw [hc]; have := hP.2.2.1; omega
      · rw [hsl]; have := hP.2.2.2.1; omega
      · rw [hl]
        intro z hz
        rcases List.mem_append.mp hz with y | y
        · exact hP.2.2.2.2 z y
        · exact hL z y
    obtain ⟨t', s1, s2⟩ := (zthrown (st := Rr.map zv) X hP' hk hq0 hh ha hK hE) U' rfl X'
    exact ⟨t', st.trans s1, s2⟩
theorem zaft_bd {s0 : State} {D : zD} {l : Launch} {p : Program} {e : Env} {R : Room} {s : State} {m : MethodId} {args : Array Value} {below : List Frame} {meth : Method} {c : Code} {Q : State → Prop} {cF sF c0 n0 : Nat} {L Rr : List zV} {h1 : zH} {o : zO} {K : zKt} {E : zEt} {hs : zHs}
    (ha : zaft nx hs L Rr o h1 K E) (hK : zKok s0 D I p l e R s m args below meth c Q cF sF c0 n0 K) (hE : zEok s0 D I p l e R s m args below meth c Q cF sF c0 n0 E) : zsz h1 ≤ cF ∧ zN h1 ≤ sF := by
  unfold zaft at ha
  split at ha
  · exact (hK _ _ _ _ ha).1
  · exact (hK _ _ _ _ ha).1
  · split at ha
    · exact (hK _ _ _ _ ha).1
    · exact (hE.2 _ _ ha).1
    · exact ha.elim
theorem zpre {s0 : State} {D : zD} {R : Room} {s T : State} {cF sF c0 n0 nL : Nat} {L a : List zV} {h h1 : zH} {H : Heap} {ls : Array Slot} {locs : List Loc} {cells slots : Nat} (hwm : s0.WarmedH s.vm) (hP : zPt s0 D nL c0 n0 L h H ls locs cells slots) (hb1 : cF ≤ c0 + R.cells) (hb2 : sF ≤ n0 + R.slots) (hm1 : zsz h ≤ zsz h1) (hm2 : zN h ≤ zN h1) (hbd : zsz h1 ≤ cF ∧ zN h1 ≤ sF) (hT : T.heap = H) :
    ∀ vm₁, s.WarmedH vm₁ → PreOf R (zsz h1 - zsz h) (zN h1 - zN h) (zPc s0 D a h) ⟨T.setVm vm₁, locs, cells, slots⟩ (a.map zv).toArray := by
  intro vm₁ hW
  have q1 := hP.2.2.1
  have q2 := hP.2.2.2.1
  refine ⟨?_, ?_, rfl, ?_, State.WarmedH.trans hwm hW⟩
  · show cells + (zsz h1 - zsz h) ≤ R.cells
    omega
  · show slots + (zN h1 - zN h) ≤ R.slots
    omega
  · show zRel s0 D h T.heap
    rw [hT]
    exact hP.1
theorem zargs1 {S : List zV} {n : Nat} {v : zV} (h : S[n]? = some v) : (S.take (n + 1)).reverse = v :: (S.take n).reverse := by
  rw [List.take_succ, h]
  simp
theorem zargs2 {S : List zV} {n : Nat} {v : zV} (h : S[n]? = some v) : S = S.take n ++ v :: S.drop (n + 1) := by
  have h2 := List.getElem?_eq_some_iff.mp h
  obtain ⟨h3, h4⟩ := h2
  rw [← h4, List.getElem_cons_drop, List.take_append_drop]
theorem snd_invS {callee n idx : Nat} {hs : zHs} (hh : (mi callee).2.2.2.2 = []) (hmax : (mi callee).2.2.1 ≤ 60) (hwc : zW (Cond.code (mi callee).1 (mi callee).2.1 (mi callee).2.2.1 (mi callee).2.2.2.1)) (hwi : zW (Cond.initialized (mi callee).1.cls)) (hwl : zW (Cond.methodLink I.1.cls idx (mi callee).1)) (hws : zW (Cond.static (mi callee).1)) (hy : (mi callee).1.cls ≠ "java/lang/invoke/MethodHandle" ∧ (mi callee).1.cls ≠ "java/lang/invoke/VarHandle") (hlen : ∀ sig, parseMethodDescriptor (mi callee).1.desc = some sig → n = sig.parameters.length) (hH : zHok I pc hs) (hd : decode I.2.1 pc = .ok (.invokestatic idx, 3)) (hn : pc + 3 = nx) : zSnd B mi I pc (za_inv callee n nx hs) := by
  intro s0 b0 D l d p e R s m args below meth c C Q cF sF c0 n0 L S h K E H ls locs cells slots X hC hb1 hb2 hP ha hK hE
  have X9 := X
  obtain ⟨hx, hb, hr, hml, hown, hlk, hnm, hwd, hwm, hfx, hRf, hRl, hfl, hex, hB, hSt⟩ := X
  subst hn
  obtain ⟨a1, a2, o, h1, hc, ha⟩ := ha
  intro T hT Xs
  have hm := hC _ _ _ _ _ hc
  refine zafter (len := 3) (aa := ((S.take n).reverse.map zv).toArray) X9 hP hm.1 hm.2.1 hH ha hK hE ?_
  refine vx_callS Xs hx hown (hwl s0 s b0 args hwd hwm) (hws s0 s b0 args hwd hwm) (hwi s0 s b0 args hwd hwm) (hwc s0 s b0 args hwd hwm) hy (zback X9 hC hc hh hmax hwc hwi) (g := F0 m pc ls (S.map zv)) rfl (by rw [hml]; exact hP.2.1.1) (argsL := (S.take n).reverse.map zv) (rest := (S.drop n).map zv) ?_ ?_ ?_ (by rw [hb]; exact hd) (zpre hwm hP hb1 hb2 hm.1 hm.2.1 (zaft_bd ha hK hE) hT)
  · intro sig hsig
    rw [List.length_map, List.length_reverse, List.length_take, ← hlen sig hsig]
    omega
  · show S.map zv = _
    rw [← List.map_reverse, List.reverse_reverse, ← List.map_append, List.take_append_drop]
  · have := zcat_le (S.drop n)
    rw [List.length_drop] at this
    show 2 * 0 + _ ≤ 48
    omega
theorem snd_invI {callee n idx : Nat} {hs : zHs} (hh : (mi callee).2.2.2.2 = []) (hmax : (mi callee).2.2.1 ≤ 60) (hrt : (mi callee).2.2.2.1 = none) (hnm1 : (mi callee).1.name = "<init>") (hwc : zW (Cond.code (mi callee).1 (mi callee).2.1 (mi callee).2.2.1 (mi callee).2.2.2.1)) (hwi : zW (Cond.initialized (mi callee).1.cls)) (hwl : zW (Cond.methodLink I.1.cls idx (mi callee).1)) (hws : zW (Cond.instanceMethod (mi callee).1)) (hy : (mi callee).1.cls ≠ "java/lang/invoke/MethodHandle" ∧ (mi callee).1.cls ≠ "java/lang/invoke/VarHandle") (hlen : ∀ sig, parseMethodDescriptor (mi callee).1.desc = some sig → n = sig.parameters.length) (hH : zHok I pc hs) (hd : decode I.2.1 pc = .ok (.invokespecial idx, 3)) (hn : pc + 3 = nx) : zSnd B mi I pc (za_invI callee n nx hs) := by
  intro s0 b0 D l d p e R s m args below meth c C Q cF sF c0 n0 L S h K E H ls locs cells slots X hC hb1 hb2 hP ha hK hE
  have X9 := X
  obtain ⟨hx, hb, hr, hml, hown, hlk, hnm, hwd, hwm, hfx, hRf, hRl, hfl, hex, hB, hSt⟩ := X
  subst hn
  obtain ⟨a1, a2, ha⟩ := ha
  split at ha
  · rename_i a hSn
    obtain ⟨o, h1, hc, ha⟩ := ha
    intro T hT Xs
    have hm := hC _ _ _ _ _ hc
    have hwc9 := hwc s0 s b0 args hwd hwm
    rw [hrt] at hwc9
    have hpre := zpre (a := (S.take (n + 1)).reverse) (T := T) hwm hP hb1 hb2 hm.1 hm.2.1 (zaft_bd ha hK hE) hT
    rw [zargs1 hSn] at hpre hc
    refine zafter (len := 3) (aa := (Value.ref a :: (S.take n).reverse.map zv).toArray) X9 hP hm.1 hm.2.1 hH ha hK hE ?_
    refine vx_callI Xs hx hown hnm1 (hwl s0 s b0 args hwd hwm) (hws s0 s b0 args hwd hwm) hwc9 hy (zback X9 hC hc hh hmax hwc hwi) (g := F0 m pc ls (S.map zv)) rfl (by rw [hml]; exact hP.2.1.1) (argsL := (S.take n).reverse.map zv) (rest := (S.drop (n + 1)).map zv) ?_ ?_ ?_ (by rw [hb]; exact hd) hpre
    · intro sig hsig
      rw [List.length_map, List.length_reverse, List.length_take, ← hlen sig hsig]
      omega
    · show S.map zv = _
      rw [← List.map_reverse, List.reverse_reverse]
      conv => lhs; rw [zargs2 hSn]
      rw [List.map_append]
      rfl
    · have := zcat_le (S.drop (n + 1))
      rw [List.length_drop] at this
      show 2 * 0 + _ ≤ 48
      omega
  · exact ha.elim
theorem snd_invV {callee n idx ci N : Nat} {C9 : String} {T9 : u_T} {hs : zHs} (hci : zcl[ci]? = some (C9, T9, N)) (hh : (mi callee).2.2.2.2 = []) (hmax : (mi callee).2.2.1 ≤ 60) (hwc : zW (Cond.code (mi callee).1 (mi callee).2.1 (mi callee).2.2.1 (mi callee).2.2.2.1)) (hwi : zW (Cond.initialized (mi callee).1.cls)) (hwl : zW (Cond.methodLink I.1.cls idx (mi callee).1)) (hws : zW (Cond.instanceMethod (mi callee).1)) (hse : zW (Cond.selects C9 (mi callee).1 (mi callee).1)) (hy : (mi callee).1.cls ≠ "java/lang/invoke/MethodHandle" ∧ (mi callee).1.cls ≠ "java/lang/invoke/VarHandle") (hlen : ∀ sig, parseMethodDescriptor (mi callee).1.desc = some sig → n = sig.parameters.length) (hH : zHok I pc hs) (hd : decode I.2.1 pc = .ok (.invokevirtual idx, 3)) (hn : pc + 3 = nx) : zSnd B mi I pc (za_invV [(ci, callee)] n nx hs) := by
  intro s0 b0 D l d p e R s m args below meth c C Q cF sF c0 n0 L S h K E H ls locs cells slots X hC hb1 hb2 hP ha hK hE
  have X9 := X
  obtain ⟨hx, hb, hr, hml, hown, hlk, hnm, hwd, hwm, hfx, hRf, hRl, hfl, hex, hB, hSt⟩ := X
  subst hn
  obtain ⟨a1, a2, ha⟩ := ha
  split at ha
  · rename_i a hSn
    split at ha
    · rename_i ci' hk
      split at ha
      · rename_i cal hlook
        have hcc : ci' = ci ∧ cal = callee := by
          by_cases q : ci' = ci
          · subst q; simp [List.lookup] at hlook; exact ⟨rfl, hlook.symm⟩
          · have q2 : (ci' == ci) = false := by simpa using q
            simp [List.lookup, q2] at hlook
        obtain ⟨rfl, rfl⟩ := hcc
        obtain ⟨o, h1, hc, ha⟩ := ha
        intro T hT Xs
        have hm := hC _ _ _ _ _ hc
        have hpre := zpre (a := (S.take (n + 1)).reverse) (T := T) hwm hP hb1 hb2 hm.1 hm.2.1 (zaft_bd ha hK hE) hT
        rw [zargs1 hSn] at hpre hc
        obtain ⟨r, cell, g1, g2, g3, g4, g5, g6, g7⟩ := hP.1.2.2.2.1 a _ hk
        have hKn := u_Kn_moved hwm.alike (hfx.1 _ _ hci)
        refine zafter (len := 3) (aa := (Value.ref a :: (S.take n).reverse.map zv).toArray) X9 hP hm.1 hm.2.1 hH ha hK hE ?_
        refine vx_callV (C := C9) Xs hx hown (hwl s0 s b0 args hwd hwm) (hws s0 s b0 args hwd hwm) (hse s0 s b0 args hwd hwm) (hwc s0 s b0 args hwd hwm) hy (zback X9 hC hc hh hmax hwc hwi) (by rw [hT]; exact g2) g5 (by rw [g3]; exact hKn.2.1) (g := F0 m pc ls (S.map zv)) rfl (by rw [hml]; exact hP.2.1.1) (argsL := (S.take n).reverse.map zv) (rest := (S.drop (n + 1)).map zv) ?_ ?_ ?_ (by rw [hb]; exact hd) hpre
        · intro sig hsig
          rw [List.length_map, List.length_reverse, List.length_take, ← hlen sig hsig]
          omega
        · show S.map zv = _
          rw [← List.map_reverse, List.reverse_reverse]
          conv => lhs; rw [zargs2 hSn]
          rw [List.map_append]
          rfl
        · have := zcat_le (S.drop (n + 1))
          rw [List.length_drop] at this
          show 2 * 0 + _ ≤ 48
          omega
      · exact ha.elim
    · exact ha.elim
  · exact ha.elim
end
