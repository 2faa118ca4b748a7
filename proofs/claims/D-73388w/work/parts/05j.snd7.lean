/-! ===== M is sound (7): a run, a call ===== -/
/-- a program: every action is what the machine does there -/
def zPok (B : zB) (mi : Nat → zMI) (pr : Nat → Nat → zAct) : Prop := ∀ mm pc, zSnd B mi (mi mm) pc (pr mm pc)
theorem zgo_snd {B : zB} {mi : Nat → zMI} {pr : Nat → Nat → zAct} (hpr : zPok B mi pr) {mm : Nat} {s0 : State} {b0 : Nat} {D : zD} {l : Launch} {d : Nat} {p : Program} {e : Env} {R : Room} {s : State} {m : MethodId} {args : Array Value} {below : List Frame} {meth : Method} {c : Code} {C : zC} {Q : State → Prop} {c0 n0 : Nat} {o : zO} {h' : zH}
    (X : zCx B s0 b0 D l d (mi mm) p R s m meth c) (hC : zCok s0 D l mi d C) (hb1 : zsz h' ≤ c0 + R.cells) (hb2 : zN h' ≤ n0 + R.slots) (hE : zEok s0 D (mi mm) p l e R s m args below meth c Q (zsz h') (zN h') c0 n0 (fun o1 h1 => o1 = o ∧ h1 = h')) :
    ∀ (n pc : Nat) (L S : List zV) (h : zH), zgo (pr mm) C n pc L S h o h' → ∀ H ls locs cells slots, zPt s0 D (mi mm).2.2.1 c0 n0 L h H ls locs cells slots → W p l e R s m args below meth c H locs cells slots Q (F0 m pc ls (S.map zv)) := by
  intro n
  induction n with
  | zero => intro pc L S h k; exact absurd k (fun z => z)
  | succ n ih =>
    intro pc L S h k H ls locs cells slots hP
    refine hpr mm pc s0 b0 D l d p e R s m args below meth c C Q (zsz h') (zN h') c0 n0 L S h _ _ H ls locs cells slots X hC hb1 hb2 hP k.2 ?_ hE
    intro pc' L' S' h1 k1
    exact ⟨zgo_mono k1, fun H1 ls1 locs1 cells1 slots1 hP1 => ih pc' L' S' h1 k1 H1 ls1 locs1 cells1 slots1 hP1⟩
theorem zsl_len (a : List zV) : (lg_sl (a.map zv)).length = (zsl a).length := by
  induction a with
  | nil => rfl
  | cons v r ih =>
    have e : lg_sl ((v :: r).map zv) = (if (zv v).category = 2 then [Slot.val (zv v), .second] else [Slot.val (zv v)]) ++ lg_sl (r.map zv) := by simp [lg_sl]
    rw [e, List.length_append, ih]
    rcases v with x | (_ | y) | x | u <;> simp [zsl, zv, Value.category] <;> omega
theorem zsl_mem (a : List zV) : ∀ (k j : Nat) (v : zV), (zsl a)[j]? = some v → v ≠ zj → (k + j, zv v) ∈ lv_args k (a.map zv) := by
  induction a with
  | nil => intro k j v h; simp [zsl] at h
  | cons w r ih =>
    intro k j v h hv
    have one : (zsl (w :: r) = w :: zsl r ∧ (zv w).category = 1) ∨ (zsl (w :: r) = w :: zj :: zsl r ∧ (zv w).category = 2) := by
      rcases w with x | (_ | y) | x | u <;> simp [zsl, zv, Value.category]
    rcases one with ⟨e1, e2⟩ | ⟨e1, e2⟩
    · rw [e1] at h
      cases j with
      | zero =>
        simp at h
        subst h
        exact List.mem_cons_self
      | succ j =>
        rw [List.getElem?_cons_succ] at h
        have q := ih (k + 1) j v h hv
        show _ ∈ (k, zv w) :: lv_args (if (zv w).category = 2 then k + 2 else k + 1) (r.map zv)
        rw [if_neg (by rw [e2]; decide), show k + (j + 1) = k + 1 + j by omega]
        exact List.mem_cons_of_mem _ q
    · rw [e1] at h
      cases j with
      | zero =>
        simp at h
        subst h
        exact List.mem_cons_self
      | succ j =>
        cases j with
        | zero =>
          simp at h
          exact absurd h.symm hv
        | succ j =>
          rw [List.getElem?_cons_succ, List.getElem?_cons_succ] at h
          have q := ih (k + 2) j v h hv
          show _ ∈ (k, zv w) :: lv_args (if (zv w).category = 2 then k + 2 else k + 1) (r.map zv)
          rw [if_pos e2, show k + (j + 1 + 1) = k + 2 + j by omega]
          exact List.mem_cons_of_mem _ q
theorem zent_LR (a : List zV) (n : Nat) (hn : (zsl a).length ≤ n) : zLR ((lg_sl (a.map zv) ++ List.replicate (n - (lg_sl (a.map zv)).length) Slot.unset).toArray) (zent n a) n := by
  have h := lv_entry (a.map zv) (n := n) (by rw [zsl_len]; exact hn)
  refine ⟨h.1, ?_, h.2.1, fun i v hi hv => ?_⟩
  · unfold zent
    rw [List.length_append, List.length_replicate]
    omega
  · unfold zent at hi
    by_cases hlt : i < (zsl a).length
    · rw [List.getElem?_append_left hlt] at hi
      have q := zsl_mem a 0 i v hi hv
      rw [Nat.zero_add] at q
      exact h.2.2 _ q
    · rw [List.getElem?_append_right (by omega)] at hi
      obtain ⟨h1, h2⟩ := List.getElem?_eq_some_iff.mp hi
      rw [List.getElem_replicate] at h2
      exact absurd h2.symm hv
/-- the ends of a method's run -/
theorem zends {s0 : State} {D : zD} {I : zMI} {p : Program} {l : Launch} {e : Env} {R : Room} {s : State} {m : MethodId} {args : Array Value} {below : List Frame} {meth : Method} {c : Code} {h0 h' : zH} {o : zO} (hx : p.tables.exec = Jvm.exec) (hb : c.code = I.2.1) (hr : meth.sig.returnType = I.2.2.2.1) (hlk : meth.locks = false) (hfx : zFx s0 D) (hwm : s0.WarmedH s.vm) :
    zEok s0 D I p l e R s m args below meth c (zx_MQ below (zQc s0 D o h') (zXc s0 D o h') args s (zsz h' - zsz h0) (zN h' - zN h0) (zfree s0)) (zsz h') (zN h') (zsz h0) (zN h0) (fun o1 h1 => o1 = o ∧ h1 = h') := by
  refine ⟨fun r h1 hE L H ls locs cells slots pc hP hrt => ?_, fun a h1 hE => ?_⟩
  · obtain ⟨rfl, rfl⟩ := hE
    have hc : zsz h1 - zsz h0 = cells := by have := hP.2.2.1; omega
    have hs : zN h1 - zN h0 = slots := by have := hP.2.2.2.1; omega
    rw [hc, hs]
    refine zx_ret ?_
    have hq : ∀ t : State, t.heap = H → s.WarmedH t.vm → zQc s0 D (Sum.inl r) h1 args s (.returned (r.map zv)) t := fun t ht _ => ⟨r, rfl, rfl, by rw [ht]; exact hP.1⟩
    have hf : ∀ q ∈ locs, zfree s0 q.base := hP.2.2.2.2
    rcases hrt with ⟨d1, d2, rfl⟩ | ⟨x, ty, d1, d2, rfl, d4⟩ | ⟨x, d1, d2, rfl⟩ | ⟨x, rt, d1, d2, d3, rfl⟩
    · exact W.vret hx hb (by rw [hr]; exact d2) hq hf d1 hlk
    · exact W.zret hx hb (by rw [hr]; exact d2) d4 hq hf d1 hlk
    · exact W.lret hx hb (by rw [hr]; exact d2) hq hf d1 hlk
    · have k := W.aret (v := va_rf x) (p := p) (l := l) (e := e) (R := R) (s := s) (m := m) (args := args) (below := below) (meth := meth) (c := c) (H := H) (locs := locs) (cells := cells) (slots := slots) (ls := ls) (Qc := zQc s0 D (Sum.inl (some (Sum.inr (Sum.inl x)))) h1) (free := zfree s0) hx hb (by rw [hr]; exact d2) d3 (by cases x; exact Or.inl rfl; exact Or.inr ⟨_, rfl⟩) (fun t ht hW => by rw [z_rf]; exact hq t ht hW) hf d1 hlk
      rw [z_rf] at k
      exact k
  · obtain ⟨ho, rfl⟩ := hE
    refine ⟨⟨Nat.le_refl _, Nat.le_refl _⟩, fun L H ls locs cells slots pc st hP hout hci ha0 => ?_⟩
    obtain ⟨ci, hk⟩ := hci
    obtain ⟨r, cell, g1, g2, g3, g4, g5, g6, g7⟩ := hP.1.2.2.2.1 a ci hk
    have hKn := u_Kn_moved hwm.alike (hfx.1 ci _ g1)
    refine zx_out (E := r.1) hout hlk g2 (g6 ha0) (by rw [g3]; exact hKn.2.1) (fun t ht _ => ⟨ci, r, ho.symm, ha0, hk, g1, rfl, by rw [ht]; exact hP.1⟩) hP.2.2.2.2 ?_ ?_
    · have := hP.2.2.1; omega
    · have := hP.2.2.2.1; omega
theorem zret_snd {B : zB} {mi : Nat → zMI} {pr : Nat → Nat → zAct} (hpr : zPok B mi pr) (hmi : ∀ mm, plainName (mi mm).1.cls = true) {s0 : State} {b0 : Nat} {D : zD} {l : Launch} (hwd : ∀ w ∈ zt, w.before #[Value.ref b0] s0 = true) (hfx : zFx s0 D) (hfl : l.flags = flags0) (hB : s0.heap.size = B.1) (hSt : zSt B.2.1 B.2.2.1 s0 ∧ zSs B s0) :
    ∀ d, zCok s0 D l mi d (zret pr (fun mm => (mi mm).2.2.1) d) := by
  intro d
  induction d with
  | zero => intro callee a h o h' k; exact absurd k (fun z => z)
  | succ d ih =>
    intro callee a h o h' k
    obtain ⟨hl, n, k⟩ := k
    have hm := zgo_mono k
    refine ⟨hm.1, hm.2, ?_⟩
    have body : ∀ (ws : List Cond) (p : Program) (e : Env) (s : State) (m : MethodId) (args : Array Value) (below : List Frame) (meth : Method) (c : Code) (s₁ : State), BodyLoose p l (mi callee).1 (headSpec ws (zrm (d + 1) h h')) (mi callee).2.1 (mi callee).2.2.1 (mi callee).2.2.2.1 e s m args below meth c s₁ → c.maxLocals = (mi callee).2.2.1 → c.exceptionTable.toList = tableOf (mi callee).2.2.2.2 → zPc s0 D a h args s →
        W p l e (headSpec ws (zrm (d + 1) h h')).room s m args below meth c s.heap [] 0 0 (zx_MQ below (zQc s0 D o h') (zXc s0 D o h') args s (zsz h' - zsz h) (zN h' - zN h) (zfree s0)) (entryFrame m args (mi callee).2.2.1) := by
      intro ws p e s m args below meth c s₁ Bd hml htab hPc
      obtain ⟨hargs, hR, hwm⟩ := hPc
      have X : zCx B s0 b0 D l d (mi callee) p (headSpec ws (zrm (d + 1) h h')).room s m meth c :=
        ⟨Bd.exec, Bd.bytes, Bd.returns, hml, findClass_of_methodNamed Bd.named, Bd.notSynchronized, (name_of_methodNamed Bd.named Bd.method).1, hwd, hwm, hfx, (by show d + 11 ≤ d + 1 + 10; omega), Nat.le_refl _, hfl, htab, hB, hSt.1, hSt.2, (by rw [hR.1]; exact hR.2.1), hR.2.2.1⟩
      subst hargs
      rw [lg_entry_eq]
      exact zgo_snd hpr X ih (by show zsz h' ≤ zsz h + (zsz h' - zsz h); omega) (by show zN h' ≤ zN h + (zN h' - zN h); omega) (zends Bd.exec Bd.bytes Bd.returns Bd.notSynchronized hfx hwm) n 0 _ [] h k _ _ _ _ _ ⟨hR, zent_LR a _ hl, by omega, by omega, fun q hq => absurd hq List.not_mem_nil⟩
    by_cases hh : (mi callee).2.2.2.2 = []
    · have hz : zws (mi callee) = ws_ (mi callee).1 (mi callee).2.1 (mi callee).2.2.1 (mi callee).2.2.2.1 := by unfold zws; rw [hh]
      rw [hz]
      refine zx_ofW (cc := (mi callee).2.1) (maxL := (mi callee).2.2.1) (ret := (mi callee).2.2.2.1) (hmi callee) rfl ?_
      intro p e s m args below meth c s₁ Bd hml htab hPc
      refine body _ p e s m args below meth c s₁ Bd hml ?_ hPc
      rw [hh]
      cases hq : c.exceptionTable.toList with
      | nil => rfl
      | cons x r => exact (htab x (by rw [hq]; exact List.mem_cons_self)).elim
    · have hz : zws (mi callee) = wsW_ (mi callee).1 (mi callee).2.1 (mi callee).2.2.1 (mi callee).2.2.2.1 (mi callee).2.2.2.2 := by
        unfold zws
        split
        · rename_i q; exact absurd q hh
        · rfl
      rw [hz]
      refine zx_ofWH (cc := (mi callee).2.1) (maxL := (mi callee).2.2.1) (ret := (mi callee).2.2.2.1) (hh := (mi callee).2.2.2.2) (hmi callee) rfl ?_
      intro p e s m args below meth c s₁ Bd hml hPc
      exact body _ p e s m args below meth c s₁ Bd hml (vx_table (x := (mi callee).1) Bd (atoms_spec (ws := wsW_ (mi callee).1 (mi callee).2.1 (mi callee).2.2.1 (mi callee).2.2.2.1 (mi callee).2.2.2.2) Bd.pre _ List.mem_cons_self)) hPc
