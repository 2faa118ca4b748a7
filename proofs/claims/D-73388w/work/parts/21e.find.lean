/-! ===== the component's search ===== -/
noncomputable def ytc (F : yF) (q : List Nat × Int) : Int := (yMo F (ylv q.1) q.2 0 + yMo F (ylv q.1) q.2 4 + yMo F (ylv q.1) q.2 8).tdiv (yWF F)
/-- maps found so far -/
structure gL (F : yF) (g : Nat) (φ : Nat → Nat → Int) (L : List (List Nat × Int)) : Prop where
  m : φ g 2 = (L.length : Int)
  q : ∀ i q, L[i]? = some q → φ (g + 89 + 2 * i) 1 = (F.1 : Int) ∧ φ (g + 89 + 2 * i) 2 = q.2 ∧ φ (g + 89 + 2 * i) 3 = ytc F q ∧ ∀ k, k < F.1 → φ (g + 90 + 2 * i) k = (ylv q.1 k : Int)
/-- while it searches -/
structure gW (F : yF) (x f g : Nat) (cl : Nat → Nat) (φ ψ : Nat → Nat → Int) (α : Nat → Nat → Option Nat) (p : List Nat) (L : List (List Nat × Int)) : Prop where
  pl : p.length ≤ F.1
  S : fS F f φ
  V : fV F x f φ α
  A : fA x f α
  GA : gA x g α
  fr : α g 0 = some (x + f)
  B : bL F x f g φ ψ α
  cl : ∀ k, k < F.1 → φ (f + 24) k = (cl k : Int)
  tm : φ (g + 29) 1 = (F.1 : Int)
  th : -1 ≤ φ (g + 29) 2 ∧ φ (g + 29) 2 ≤ 1
  at' : ∀ i, i < 12 → φ (g + 2 + i) 0 = (i : Int)
  tk : ∀ i, i < p.length → φ (g + 2 + i) 2 = (ylv p i : Int)
  us : ∀ k, k < 12 → φ (g + 28) k = yb (p.contains k)
  L : gL F g φ L
/-- what else stays -/
structure gR (x f g : Nat) (h : zH) (φ ψ : Nat → Nat → Int) (α : Nat → Nat → Option Nat) (h1 : zH) (φ' ψ' : Nat → Nat → Int) (α' : Nat → Nat → Option Nat) : Prop where
  c : ∃ c, zX c (8 * c) h h1 ∧ c + fnl f α' ≤ fnl f α
  i : ∀ i, (i < f + 8 ∨ f + 20 ≤ i) → (i < g ∨ g + 185 ≤ i) → φ' i = φ i
  l : ∀ i, (i < f + 20 ∨ f + 24 ≤ i) → (i < g ∨ g + 185 ≤ i) → ψ' i = ψ i
  a : ∀ i, i ≠ f + 6 → (i < g ∨ g + 185 ≤ i) → α' i = α i
section
variable {e : zEv} {d x f o r n g b : Nat} {h h1 h2 : zH} {φ φ' φ'' ψ ψ' ψ'' : Nat → Nat → Int} {α α' α'' : Nat → Nat → Option Nat} {F : yF} {π ρ : Nat → Nat} {sg sh : Int} {T : yT} {cl : Nat → Nat} {p : List Nat} {L : List (List Nat × Int)}
theorem gR.refl : gR x f g h φ ψ α h φ ψ α := ⟨⟨0, zX.refl h, by omega⟩, fun _ _ _ => rfl, fun _ _ _ => rfl, fun _ _ _ => rfl⟩
theorem gR.trans (p : gR x f g h φ ψ α h1 φ' ψ' α') (q : gR x f g h1 φ' ψ' α' h2 φ'' ψ'' α'') : gR x f g h φ ψ α h2 φ'' ψ'' α'' := by
  obtain ⟨c, X, k⟩ := p.c
  obtain ⟨c', X', k'⟩ := q.c
  exact ⟨⟨c + c', (X.trans X').mono (by omega) (by omega), by omega⟩, fun i h1 h2 => (q.i i h1 h2).trans (p.i i h1 h2), fun i h1 h2 => (q.l i h1 h2).trans (p.l i h1 h2), fun i h1 h2 => (q.a i h1 h2).trans (p.a i h1 h2)⟩
theorem gR.K (p : gR x f g h φ ψ α h1 φ' ψ' α') {f' : Nat} (K : fK e h x f') : fK e h1 x f' := K.X p.c.choose_spec.1
theorem gR.GK (p : gR x f g h φ ψ α h1 φ' ψ' α') {g' : Nat} (K : gK e h x g') : gK e h1 x g' := K.X p.c.choose_spec.1
/-- the tried map as an Op -/
theorem gW.tried (W : gW F x f g cl φ ψ α p L) (GK : gK e h x g) (hr : ∀ k, k < F.1 → φ (g + 30) k = (π k : Int)) (hl : ∀ k, k < F.1 → π k < F.1) : oS h x φ α (g + 29) (g + 30) F.1 π (φ (g + 29) 2) := by
  have gn := GK.n
  exact ⟨by omega, by omega, W.S.w.1, GK.K29, GK.K30, W.GA.T, W.tm, rfl, hr, hl, W.th⟩
theorem gW.of {L' : List (List Nat × Int)} (W : gW F x f g cl φ ψ α p L) (hd : f + 26 ≤ g ∨ g + 185 ≤ f) (q : ∀ i, i ≠ g → i ≠ g + 30 → (i < g + 89 ∨ g + 185 ≤ i) → φ' i = φ i) (ql : ∀ i, (i < g + 20 ∨ g + 23 ≤ i) → i ≠ g + 27 → ψ' i = ψ i) (hL : gL F g φ' L') : gW F x f g cl φ' ψ' α p L' := by
  have pl := W.pl
  have hm := W.S.w.1
  refine ⟨pl, W.S.of fun i h1 h2 => q i (by omega) (by omega) (by omega), fun k hk => ?_, W.A, W.GA, W.fr, ?_, fun k hk => ?_, ?_, ?_, fun i hi => ?_, fun i hi => ?_, fun k hk => ?_, hL⟩
  · rcases W.V k hk with v | ⟨v1, v2, v3⟩
    · exact Or.inl v
    · exact Or.inr ⟨v1, v2, fun j hj => by rw [q _ (by omega) (by omega) (by omega)]; exact v3 j hj⟩
  · have B := W.B.of ql
    exact ⟨B.fr, by rw [q _ (by omega) (by omega) (by omega)]; exact B.t, by rw [q _ (by omega) (by omega) (by omega)]; exact B.q, B.a, B.w⟩
  · rw [q _ (by omega) (by omega) (by omega)]; exact W.cl k hk
  · rw [q _ (by omega) (by omega) (by omega)]; exact W.tm
  · rw [q _ (by omega) (by omega) (by omega)]; exact W.th
  · rw [q _ (by omega) (by omega) (by omega)]; exact W.at' i hi
  · rw [q _ (by omega) (by omega) (by omega)]; exact W.tk i hi
  · rw [q _ (by omega) (by omega) (by omega)]; exact W.us k hk
/-- a map more -/
theorem g_adds (GK : gK e h x g) (K : fK e h x f) (hd : f + 26 ≤ g ∨ g + 185 ≤ f) (h3 : y3 F ≠ -1) (W : gW F x f g cl φ ψ α p L) (hp : p.length = F.1) (G : yGo F (ylv p) sg) (tb : -3 ≤ ytc F (p, sg) ∧ ytc F (p, sg) ≤ 3) (hL : L.length < 48) (hr : ∀ k, k < F.1 → φ (g + 30) k = (ylv p k : Int)) : zc e (d + 4) 413 [zr (some (x + g)), zi sg] (cH h x φ ψ α)
    (fun ov h' => ov = Sum.inl none ∧ ∃ φ' ψ', h' = cH h x φ' ψ' α ∧ gW F x f g cl φ' ψ' α p (L ++ [(p, sg)]) ∧ gR x f g h φ ψ α h φ' ψ' α ∧ ∀ k, k < F.1 → φ' (g + 30) k = (ylv p k : Int)) := by
  have gn := GK.n
  have kn := K.n
  have kb := K.b
  have hm := W.S.w.1
  have s1 := G.s1
  have GA := W.GA
  have A := W.A
  have fz : zcpy φ (g + 90 + 2 * L.length) 0 (g + 30) 0 12 f 0 = (F.1 : Int) := by rw [zcpy_n (by omega)]; exact W.S.m
  simp (disch := omega) only [n413, r413_0, r413_1, r413_4, r413_6, r413_9, r413_10, r413_11, r413_14, r413_15, r413_18, r413_19, r413_20, r413_21, r413_24, r413_27, r413_28, r413_29, r413_32, r413_33, r413_35, r413_38, r413_39, r413_40, r413_43, r413_46, r413_49, r413_50, r413_51, r413_54, r413_55, r413_56, r413_59, r413_60, r413_63, r413_66, r413_67, r413_68, r413_71, r413_72, r413_73, r413_76, znl_i, znl_r, znl_j, znl_l, List.length_cons, List.length_nil, Option.some.injEq, Sum.inl.injEq, Sum.inr.injEq, Prod.mk.injEq, true_and, and_true, exists_eq_left', zK_sI, zA_sI, zL_sI, zK_sL, zA_sL, zI_sL, zK_fI, zA_fI, zL_fI, zK_fL, zA_fL, zI_fL, Nat.reduceAdd, Nat.reduceLeDiff, forall_eq', zl_lt, zl_gt, zl_eq, zl_le, zl_ge, zm_0, zaft_n, zaft_v, zb_eq, Decidable.not_not, zK_rH, zI_rH, zL_rH, zA_rH, zsI_rH, zsL_rH, zsA_rH, zcpI_rH, zn_b, zm_b, Int.toNat_natCast, Int.toNat_zero, Int.reduceToNat, GK.K0, GK.K1, GK.K29, GK.K30, GK.K89, GK.K90, GA.A1, GA.A4, GA.A6, GA.R1, GA.T, GA.O, W.L.m, W.fr, K.K0, fz]
  refine ⟨fun _ => ?_, fun z => absurd z (by omega)⟩
  refine ⟨by omega, by omega, 12, 12, rfl, rfl, by omega, by omega, by omega, by omega, by omega, by omega, by omega, by omega, GK.K14, ?_⟩
  -- the numbers while the trace is told
  have r1 : ∀ k, k < F.1 → zu (zu (zcpy φ (g + 90 + 2 * L.length) 0 (g + 30) 0 12) (g + 89 + 2 * L.length) 1 (F.1 : Int)) (g + 89 + 2 * L.length) 2 sg (g + 90 + 2 * L.length) k = (ylv p k : Int) := fun k hk => by
    rw [zu_cell _ _ _ (by omega), zu_cell _ _ _ (by omega), zcpy_0 (by omega)]; exact hr k hk
  have r2 : zu (zu (zcpy φ (g + 90 + 2 * L.length) 0 (g + 30) 0 12) (g + 89 + 2 * L.length) 1 (F.1 : Int)) (g + 89 + 2 * L.length) 2 sg (g + 89 + 2 * L.length) 1 = (F.1 : Int) := by rw [zu_slot _ _ _ (by omega), zu_same]
  have r3 : zu (zu (zcpy φ (g + 90 + 2 * L.length) 0 (g + 30) 0 12) (g + 89 + 2 * L.length) 1 (F.1 : Int)) (g + 89 + 2 * L.length) 2 sg (g + 89 + 2 * L.length) 2 = sg := zu_same _ _ _ _
  have r4 : ∀ i, i ≠ g + 89 + 2 * L.length → i ≠ g + 90 + 2 * L.length → zu (zu (zcpy φ (g + 90 + 2 * L.length) 0 (g + 30) 0 12) (g + 89 + 2 * L.length) 1 (F.1 : Int)) (g + 89 + 2 * L.length) 2 sg i = φ i := fun i h1 h2 => by
    rw [zu_cell _ _ _ h1, zu_cell _ _ _ h1, zcpy_n h2]
  generalize zu (zu (zcpy φ (g + 90 + 2 * L.length) 0 (g + 30) 0 12) (g + 89 + 2 * L.length) 1 (F.1 : Int)) (g + 89 + 2 * L.length) 2 sg = φ1 at *
  have O : oS h x φ1 α (g + 89 + 2 * L.length) (g + 90 + 2 * L.length) F.1 (ylv p) sg := ⟨by omega, by omega, hm, GK.K89 _ hL, GK.K90 _ hL, GA.O _ hL, r2, r3, r1, G.is.lt, by omega⟩
  have W1 : gW F x f g cl φ1 ψ α p L := W.of hd (fun i h1 h2 h3 => r4 i (by omega) (by omega)) (fun _ _ _ => rfl) ⟨by rw [r4 _ (by omega) (by omega)]; exact W.L.m, fun i q hq => by
    have hi : i < L.length := (List.getElem?_eq_some_iff.mp hq).1
    have := W.L.q i q hq
    rw [r4 _ (by omega) (by omega), r4 _ (by omega) (by omega)]; exact this⟩
  refine zc_mono (b_diagonal (d := d) GK GA K A W1.S h3 W1.B O G tb) ?_
  rintro _ _ ⟨rfl, ψ1, rfl, q1⟩
  have rm : φ1 g 2 = (L.length : Int) := W1.L.m
  have tt : -3 ≤ (yMo F (ylv p) sg 0 + yMo F (ylv p) sg 4 + yMo F (ylv p) sg 8).tdiv (yWF F) ∧ (yMo F (ylv p) sg 0 + yMo F (ylv p) sg 4 + yMo F (ylv p) sg 8).tdiv (yWF F) ≤ 3 := tb
  have rn : zu φ1 (g + 89 + 2 * L.length) 3 ((yMo F (ylv p) sg 0 + yMo F (ylv p) sg 4 + yMo F (ylv p) sg 8).tdiv (yWF F)) g 2 = (L.length : Int) := by rw [zu_cell _ _ _ (by omega)]; exact rm
  simp (disch := omega) only [r413_0, r413_1, r413_4, r413_6, r413_9, r413_10, r413_11, r413_14, r413_15, r413_18, r413_19, r413_20, r413_21, r413_24, r413_27, r413_28, r413_29, r413_32, r413_33, r413_35, r413_38, r413_39, r413_40, r413_43, r413_46, r413_49, r413_50, r413_51, r413_54, r413_55, r413_56, r413_59, r413_60, r413_63, r413_66, r413_67, r413_68, r413_71, r413_72, r413_73, r413_76, znl_i, znl_r, znl_j, znl_l, List.length_cons, List.length_nil, Option.some.injEq, Sum.inl.injEq, Sum.inr.injEq, Prod.mk.injEq, true_and, and_true, exists_eq_left', zK_sI, zA_sI, zL_sI, zK_sL, zA_sL, zI_sL, zK_fI, zA_fI, zL_fI, zK_fL, zA_fL, zI_fL, Nat.reduceAdd, Nat.reduceLeDiff, forall_eq', zl_lt, zl_gt, zl_eq, zl_le, zl_ge, zm_0, zaft_n, zaft_v, zb_eq, Decidable.not_not, zK_rH, zI_rH, zL_rH, zA_rH, zsI_rH, zsL_rH, zsA_rH, zcpI_rH, zn_b, zm_b, Int.toNat_natCast, Int.toNat_zero, Int.reduceToNat, GK.K0, GK.K89, rn]
  refine ⟨by omega, by omega, _, ψ1, rfl, W1.of hd (fun i h1 h2 h3 => ?_) q1 ⟨?_, fun i q hq => ?_⟩, ⟨⟨0, zX.refl h, by omega⟩, fun i h1 h2 => ?_, fun i h1 h2 => q1 i (by omega) (by omega), fun _ _ _ => rfl⟩, fun k hk => ?_⟩
  · rw [zu_cell _ _ _ h1, zu_cell _ _ _ (by omega)]
  · rw [zu_same, List.length_append]; rfl
  · have u1 : ∀ i, i ≠ g → zu (zu φ1 (g + 89 + 2 * L.length) 3 ((yMo F (ylv p) sg 0 + yMo F (ylv p) sg 4 + yMo F (ylv p) sg 8).tdiv (yWF F))) g 2 ((L.length : Int) + 1) i = zu φ1 (g + 89 + 2 * L.length) 3 ((yMo F (ylv p) sg 0 + yMo F (ylv p) sg 4 + yMo F (ylv p) sg 8).tdiv (yWF F)) i := fun i hi => zu_cell _ _ _ hi
    rw [u1 (g + 89 + 2 * i) (by omega), u1 (g + 90 + 2 * i) (by omega)]
    by_cases c : i < L.length
    · rw [List.getElem?_append_left c] at hq
      have := W1.L.q i q hq
      rw [zu_cell φ1 3 _ (show g + 89 + 2 * i ≠ g + 89 + 2 * L.length by omega), zu_cell φ1 3 _ (show g + 90 + 2 * i ≠ g + 89 + 2 * L.length by omega)]; exact this
    · rw [List.getElem?_append_right (by omega)] at hq
      have hi : i = L.length := by
        have := (List.getElem?_eq_some_iff.mp hq).1
        simp at this; omega
      subst hi
      rw [Nat.sub_self] at hq
      have hq : (p, sg) = q := Option.some.inj hq
      subst hq
      rw [zu_cell φ1 3 _ (show g + 90 + 2 * L.length ≠ g + 89 + 2 * L.length by omega), zu_slot _ _ _ (show 1 ≠ 3 by omega), zu_slot _ _ _ (show 2 ≠ 3 by omega), zu_same]
      exact ⟨r2, r3, rfl, r1⟩
  · rw [zu_cell _ _ _ (by omega), zu_cell _ _ _ (by omega), r4 _ (by omega) (by omega)]
  · rw [zu_cell _ _ _ (by omega), zu_cell _ _ _ (by omega), r4 _ (by omega) (by omega)]; exact hr k hk
end
