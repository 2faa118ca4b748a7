section
variable {e : zEv} {d x f o a b c : Nat} {h h1 h2 : zH} {φ φ' φ'' ψ : Nat → Nat → Int} {α α' α'' : Nat → Nat → Option Nat} {F : yF}
theorem f_firstLike (K : fK e h x f) (A : fA x f α) (S : fS F f φ) (V : fV F x f φ α) (cl : Nat → Nat) (hc : ∀ k, k < F.1 → φ (f + 24) k = (cl k : Int) ∧ cl k < 12) (k : Nat) (hk : k < F.1) (r : Nat) (hr : yfind (yref F (ycr9 cl) k) F.1 0 = (r : Int)) : zc e (d + 4) 407 [zr (some (x + f)), zi (k : Int)] (cH h x φ ψ α)
    (fun ov h' => ov = Sum.inl (some (zi (r : Int))) ∧ ∃ h1 φ' α', h' = cH h1 x φ' ψ α' ∧ fP F x f h φ α h1 φ' α') := by
  have kn := K.n
  have hm := S.w.1
  obtain ⟨_, r1, r2, r3⟩ := yfind_some.mp hr
  have loop := zdown (fun j => j ≤ r → ∀ (h1 : zH) (φ' : Nat → Nat → Int) (α' : Nat → Nat → Option Nat), fP F x f h φ α h1 φ' α' → zg e 407 (d + 3) 2 [zr (some (x + f)), zi (k : Int), zi (j : Int)] [] (cH h1 x φ' ψ α') (fun ov h' => ov = Sum.inl (some (zi (r : Int))) ∧ ∃ h1 φ' α', h' = cH h1 x φ' ψ α' ∧ fP F x f h φ α h1 φ' α')) (r + 1) (fun z => absurd z (by omega)) (fun j hj ih hjr h1 φ' α' P => by
    have K' := P.K K
    have A' := P.A A
    have S' := P.S S
    rw [r407_2]
    simp (disch := omega) only [r407_0, r407_1, r407_3, r407_4, r407_5, r407_8, r407_11, r407_14, r407_17, r407_18, znl_i, znl_r, znl_j, znl_l, List.length_cons, List.length_nil, Option.some.injEq, Sum.inl.injEq, Sum.inr.injEq, Prod.mk.injEq, true_and, and_true, exists_eq_left', zK_sI, zA_sI, zL_sI, zK_sL, zA_sL, zI_sL, zK_fI, zA_fI, zL_fI, zK_fL, zA_fL, zI_fL, Nat.reduceAdd, Nat.reduceLeDiff, forall_eq', zl_lt, zl_gt, zl_eq, zl_le, zl_ge, zm_0, zaft_n, zaft_v, zb_eq, Decidable.not_not, zK_rH, zI_rH, zL_rH, zA_rH, zsI_rH, zsL_rH, zsA_rH, zcpI_rH, zn_b, zm_b, Int.toNat_natCast, Int.toNat_zero, Int.reduceToNat, K'.K0, K'.K1, K'.K2, K'.K3, K'.K6, K'.K7, K'.K8, K'.K20, K'.K21, K'.K22, K'.K23, K'.K24, K'.K25, A'.A1, A'.A2, A'.A3, A'.A4, A'.A5, A'.A6, A'.A7, A'.A8, A'.A9, A'.A10, A'.R2, A'.R7]
    refine zc_mono (f_isAlike (d := d) K' A' S' P.v cl (fun y hy => by rw [P.i _ (by omega)]; exact hc y hy) k j hk (by omega)) ?_
    rintro _ _ ⟨rfl, h2, φ2, α2, rfl, P2⟩
    have P2 := P.trans P2
    by_cases w : j = r
    · subst w
      rw [r2]
      simp (disch := omega) only [r407_0, r407_1, r407_3, r407_4, r407_5, r407_8, r407_11, r407_14, r407_17, r407_18, znl_i, znl_r, znl_j, znl_l, List.length_cons, List.length_nil, Option.some.injEq, Sum.inl.injEq, Sum.inr.injEq, Prod.mk.injEq, true_and, and_true, exists_eq_left', zK_sI, zA_sI, zL_sI, zK_sL, zA_sL, zI_sL, zK_fI, zA_fI, zL_fI, zK_fL, zA_fL, zI_fL, Nat.reduceAdd, Nat.reduceLeDiff, forall_eq', zl_lt, zl_gt, zl_eq, zl_le, zl_ge, zm_0, zaft_n, zaft_v, zb_eq, Decidable.not_not, zK_rH, zI_rH, zL_rH, zA_rH, zsI_rH, zsL_rH, zsA_rH, zcpI_rH, zn_b, zm_b, Int.toNat_natCast, Int.toNat_zero, Int.reduceToNat, show yb true = 1 from rfl]
      exact ⟨fun _ => ⟨_, _, _, rfl, P2⟩, fun z => absurd z (by decide)⟩
    · rw [r3 j (by omega) (by omega)]
      simp (disch := omega) only [r407_0, r407_1, r407_3, r407_4, r407_5, r407_8, r407_11, r407_14, r407_17, r407_18, znl_i, znl_r, znl_j, znl_l, List.length_cons, List.length_nil, Option.some.injEq, Sum.inl.injEq, Sum.inr.injEq, Prod.mk.injEq, true_and, and_true, exists_eq_left', zK_sI, zA_sI, zL_sI, zK_sL, zA_sL, zI_sL, zK_fI, zA_fI, zL_fI, zK_fL, zA_fL, zI_fL, Nat.reduceAdd, Nat.reduceLeDiff, forall_eq', zl_lt, zl_gt, zl_eq, zl_le, zl_ge, zm_0, zaft_n, zaft_v, zb_eq, Decidable.not_not, zK_rH, zI_rH, zL_rH, zA_rH, zsI_rH, zsL_rH, zsA_rH, zcpI_rH, zn_b, zm_b, Int.toNat_natCast, Int.toNat_zero, Int.reduceToNat, show yb false = 0 from rfl]
      refine ⟨fun z => absurd trivial z, fun _ => ih (by omega) _ _ _ P2⟩) 0 (by omega)
  simp (disch := omega) only [n407, r407_0, r407_1, r407_3, r407_4, r407_5, r407_8, r407_11, r407_14, r407_17, r407_18, znl_i, znl_r, znl_j, znl_l, List.length_cons, List.length_nil, Option.some.injEq, Sum.inl.injEq, Sum.inr.injEq, Prod.mk.injEq, true_and, and_true, exists_eq_left', zK_sI, zA_sI, zL_sI, zK_sL, zA_sL, zI_sL, zK_fI, zA_fI, zL_fI, zK_fL, zA_fL, zI_fL, Nat.reduceAdd, Nat.reduceLeDiff, forall_eq', zl_lt, zl_gt, zl_eq, zl_le, zl_ge, zm_0, zaft_n, zaft_v, zb_eq, Decidable.not_not, zK_rH, zI_rH, zL_rH, zA_rH, zsI_rH, zsL_rH, zsA_rH, zcpI_rH, zn_b, zm_b, Int.toNat_natCast, Int.toNat_zero, Int.reduceToNat, K.K0, K.K1, K.K2, K.K3, K.K6, K.K7, K.K8, K.K20, K.K21, K.K22, K.K23, K.K24, K.K25, A.A1, A.A2, A.A3, A.A4, A.A5, A.A6, A.A7, A.A8, A.A9, A.A10, A.R2, A.R7]
  exact loop (by omega) h φ α (fP.refl V)
/-- rows may have been laid, and cells told -/
structure fC (F : yF) (x f : Nat) (h : zH) (φ : Nat → Nat → Int) (α : Nat → Nat → Option Nat) (h1 : zH) (φ' : Nat → Nat → Int) (α' : Nat → Nat → Option Nat) : Prop where
  c : ∃ c, zX c (8 * c) h h1 ∧ c + fnl f α' ≤ fnl f α
  i : ∀ i, (i < f + 8 ∨ f + 20 ≤ i) → i ≠ f + 24 → i ≠ f + 25 → φ' i = φ i
  a : ∀ i, i ≠ f + 6 → α' i = α i
  v : fV F x f φ' α'
theorem fP.C (p : fP F x f h φ α h1 φ' α') : fC F x f h φ α h1 φ' α' := ⟨p.c, fun i hi _ _ => p.i i hi, p.a, p.v⟩
theorem fC.refl (v : fV F x f φ α) : fC F x f h φ α h φ α := (fP.refl v).C
theorem fC.trans (p : fC F x f h φ α h1 φ' α') (q : fC F x f h1 φ' α' h2 φ'' α'') : fC F x f h φ α h2 φ'' α'' := by
  obtain ⟨c, X, k⟩ := p.c
  obtain ⟨c', X', k'⟩ := q.c
  exact ⟨⟨c + c', (X.trans X').mono (by omega) (by omega), by omega⟩, fun i hi j1 j2 => (q.i i hi j1 j2).trans (p.i i hi j1 j2), fun i hi => (q.a i hi).trans (p.a i hi), q.v⟩
theorem fC.K (p : fC F x f h φ α h1 φ' α') {f' : Nat} (K : fK e h x f') : fK e h1 x f' := K.X p.c.choose_spec.1
theorem fC.A (p : fC F x f h φ α h1 φ' α') (A : fA x f α) : fA x f α' := A.of fun i hi _ _ => p.a i hi
theorem fC.S (p : fC F x f h φ α h1 φ' α') (S : fS F f φ) : fS F f φ' := S.of fun i _ h2 => p.i i (by omega) (by omega) (by omega)
theorem fC.u (p : fC F x f h φ α h1 φ' α') (i k : Nat) (hi : i = f + 24 ∨ i = f + 25) (v : Int) : fC F x f h φ α h1 (zu φ' i k v) α' := by
  refine ⟨p.c, fun j hj j1 j2 => ?_, p.a, fun k' hk' => ?_⟩
  · rw [zu_cell _ _ _ (by omega)]; exact p.i j hj j1 j2
  · rcases p.v k' hk' with q | ⟨q1, q2, q3⟩
    · exact Or.inl q
    · exact Or.inr ⟨q1, q2, fun j hj => by rw [zu_cell _ _ _ (by omega)]; exact q3 j hj⟩
theorem f_laysCells (K : fK e h x f) (A : fA x f α) (S : fS F f φ) (V : fV F x f φ α) : zc e (d + 5) 406 [zr (some (x + f))] (cH h x φ ψ α)
    (fun ov h' => ov = Sum.inl (some (zi (ycnt (fun k => decide (ycl F k = (k : Int))) F.1))) ∧ ∃ h1 φ' α', h' = cH h1 x φ' ψ α' ∧ fC F x f h φ α h1 φ' α' ∧ ∀ k, k < F.1 → φ' (f + 24) k = ycl F k) := by
  have kn := K.n
  have kb := K.b
  have hm := S.w.1
  have hp : yplaced F := S.w.2.2.1
  generalize hQ : (fun ov h' => ov = Sum.inl (some (zi (ycnt (fun k => decide (ycl F k = (k : Int))) F.1))) ∧ ∃ h1 φ' α', h' = cH h1 x φ' ψ α' ∧ fC F x f h φ α h1 φ' α' ∧ ∀ k, k < F.1 → φ' (f + 24) k = ycl F k : zEt) = Q
  -- the count at the end
  have last : ∀ (h1 : zH) (φ' : Nat → Nat → Int) (α' : Nat → Nat → Option Nat), fC F x f h φ α h1 φ' α' → (∀ k, k < F.1 → φ' (f + 24) k = ycl F k) → ∀ w2 w3, zg e 406 (d + 4) 135 [zr (some (x + f)), zi 0, w2, w3] [] (cH h1 x φ' ψ α') Q := by
    intro h1 φ' α' P hc w2 w3
    have K' := P.K K
    have A' := P.A A
    have S' := P.S S
    have lp := zdown0 (fun k => zg e 406 (d + 4) 139 [zr (some (x + f)), zi 0, zi (ycnt (fun k => decide (ycl F k = (k : Int))) k), zi (k : Int)] [] (cH h1 x φ' ψ α') Q) F.1 ?_ (fun k hk ih => ?_)
    · simp (disch := omega) only [r406_0, r406_1, r406_3, r406_4, r406_7, r406_10, r406_11, r406_13, r406_16, r406_17, r406_18, r406_19, r406_22, r406_23, r406_24, r406_27, r406_30, r406_33, r406_34, r406_37, r406_38, r406_39, r406_40, r406_43, r406_46, r406_47, r406_49, r406_52, r406_53, r406_54, r406_55, r406_57, r406_58, r406_61, r406_64, r406_65, r406_68, r406_69, r406_70, r406_71, r406_74, r406_75, r406_78, r406_81, r406_82, r406_84, r406_85, r406_88, r406_91, r406_92, r406_93, r406_96, r406_97, r406_98, r406_99, r406_102, r406_103, r406_104, r406_107, r406_108, r406_111, r406_112, r406_113, r406_114, r406_115, r406_118, r406_119, r406_120, r406_123, r406_124, r406_125, r406_126, r406_129, r406_132, r406_135, r406_136, r406_137, r406_138, r406_140, r406_141, r406_144, r406_147, r406_148, r406_149, r406_152, r406_153, r406_154, r406_155, r406_158, r406_159, r406_162, r406_163, r406_164, r406_165, r406_168, r406_171, r406_172, znl_i, znl_r, znl_j, znl_l, List.length_cons, List.length_nil, Option.some.injEq, Sum.inl.injEq, Sum.inr.injEq, Prod.mk.injEq, true_and, and_true, exists_eq_left', zK_sI, zA_sI, zL_sI, zK_sL, zA_sL, zI_sL, zK_fI, zA_fI, zL_fI, zK_fL, zA_fL, zI_fL, Nat.reduceAdd, Nat.reduceLeDiff, forall_eq', zl_lt, zl_gt, zl_eq, zl_le, zl_ge, zm_0, zaft_n, zaft_v, zb_eq, Decidable.not_not, zK_rH, zI_rH, zL_rH, zA_rH, zsI_rH, zsL_rH, zsA_rH, zcpI_rH, zn_b, zm_b, Int.toNat_natCast, Int.toNat_zero, Int.reduceToNat, K'.K0, K'.K1, K'.K2, K'.K3, K'.K6, K'.K7, K'.K8, K'.K20, K'.K21, K'.K22, K'.K23, K'.K24, K'.K25, A'.A1, A'.A2, A'.A3, A'.A4, A'.A5, A'.A6, A'.A7, A'.A8, A'.A9, A'.A10, A'.R2, A'.R7]
      exact lp
    · have b := ycnt_bd (fun k => decide (ycl F k = (k : Int))) F.1
      rw [r406_139]
      simp (disch := omega) only [r406_0, r406_1, r406_3, r406_4, r406_7, r406_10, r406_11, r406_13, r406_16, r406_17, r406_18, r406_19, r406_22, r406_23, r406_24, r406_27, r406_30, r406_33, r406_34, r406_37, r406_38, r406_39, r406_40, r406_43, r406_46, r406_47, r406_49, r406_52, r406_53, r406_54, r406_55, r406_57, r406_58, r406_61, r406_64, r406_65, r406_68, r406_69, r406_70, r406_71, r406_74, r406_75, r406_78, r406_81, r406_82, r406_84, r406_85, r406_88, r406_91, r406_92, r406_93, r406_96, r406_97, r406_98, r406_99, r406_102, r406_103, r406_104, r406_107, r406_108, r406_111, r406_112, r406_113, r406_114, r406_115, r406_118, r406_119, r406_120, r406_123, r406_124, r406_125, r406_126, r406_129, r406_132, r406_135, r406_136, r406_137, r406_138, r406_140, r406_141, r406_144, r406_147, r406_148, r406_149, r406_152, r406_153, r406_154, r406_155, r406_158, r406_159, r406_162, r406_163, r406_164, r406_165, r406_168, r406_171, r406_172, znl_i, znl_r, znl_j, znl_l, List.length_cons, List.length_nil, Option.some.injEq, Sum.inl.injEq, Sum.inr.injEq, Prod.mk.injEq, true_and, and_true, exists_eq_left', zK_sI, zA_sI, zL_sI, zK_sL, zA_sL, zI_sL, zK_fI, zA_fI, zL_fI, zK_fL, zA_fL, zI_fL, Nat.reduceAdd, Nat.reduceLeDiff, forall_eq', zl_lt, zl_gt, zl_eq, zl_le, zl_ge, zm_0, zaft_n, zaft_v, zb_eq, Decidable.not_not, zK_rH, zI_rH, zL_rH, zA_rH, zsI_rH, zsL_rH, zsA_rH, zcpI_rH, zn_b, zm_b, Int.toNat_natCast, Int.toNat_zero, Int.reduceToNat, K'.K0, K'.K1, K'.K2, K'.K3, K'.K6, K'.K7, K'.K8, K'.K20, K'.K21, K'.K22, K'.K23, K'.K24, K'.K25, A'.A1, A'.A2, A'.A3, A'.A4, A'.A5, A'.A6, A'.A7, A'.A8, A'.A9, A'.A10, A'.R2, A'.R7, S'.m]
      refine ⟨fun _ => ?_, fun z => absurd z (by omega)⟩
      rw [← hQ]
      exact ⟨rfl, h1, φ', α', rfl, P, hc⟩
    · have b := ycnt_bd (fun k => decide (ycl F k = (k : Int))) k
      have cb := ycln_bd hp hk
      rw [r406_139]
      simp (disch := omega) only [r406_0, r406_1, r406_3, r406_4, r406_7, r406_10, r406_11, r406_13, r406_16, r406_17, r406_18, r406_19, r406_22, r406_23, r406_24, r406_27, r406_30, r406_33, r406_34, r406_37, r406_38, r406_39, r406_40, r406_43, r406_46, r406_47, r406_49, r406_52, r406_53, r406_54, r406_55, r406_57, r406_58, r406_61, r406_64, r406_65, r406_68, r406_69, r406_70, r406_71, r406_74, r406_75, r406_78, r406_81, r406_82, r406_84, r406_85, r406_88, r406_91, r406_92, r406_93, r406_96, r406_97, r406_98, r406_99, r406_102, r406_103, r406_104, r406_107, r406_108, r406_111, r406_112, r406_113, r406_114, r406_115, r406_118, r406_119, r406_120, r406_123, r406_124, r406_125, r406_126, r406_129, r406_132, r406_135, r406_136, r406_137, r406_138, r406_140, r406_141, r406_144, r406_147, r406_148, r406_149, r406_152, r406_153, r406_154, r406_155, r406_158, r406_159, r406_162, r406_163, r406_164, r406_165, r406_168, r406_171, r406_172, znl_i, znl_r, znl_j, znl_l, List.length_cons, List.length_nil, Option.some.injEq, Sum.inl.injEq, Sum.inr.injEq, Prod.mk.injEq, true_and, and_true, exists_eq_left', zK_sI, zA_sI, zL_sI, zK_sL, zA_sL, zI_sL, zK_fI, zA_fI, zL_fI, zK_fL, zA_fL, zI_fL, Nat.reduceAdd, Nat.reduceLeDiff, forall_eq', zl_lt, zl_gt, zl_eq, zl_le, zl_ge, zm_0, zaft_n, zaft_v, zb_eq, Decidable.not_not, zK_rH, zI_rH, zL_rH, zA_rH, zsI_rH, zsL_rH, zsA_rH, zcpI_rH, zn_b, zm_b, Int.toNat_natCast, Int.toNat_zero, Int.reduceToNat, K'.K0, K'.K1, K'.K2, K'.K3, K'.K6, K'.K7, K'.K8, K'.K20, K'.K21, K'.K22, K'.K23, K'.K24, K'.K25, A'.A1, A'.A2, A'.A3, A'.A4, A'.A5, A'.A6, A'.A7, A'.A8, A'.A9, A'.A10, A'.R2, A'.R7, S'.m, hc]
      refine ⟨fun z => absurd z (by omega), fun _ => ⟨by omega, by omega, fun z => ?_, fun z => ?_⟩⟩
      · rw [ycnt_sb, show decide (ycl F k = (k : Int)) = false from decide_eq_false z] at ih
        exact ih
      · rw [ycnt_sb, show decide (ycl F k = (k : Int)) = true from decide_eq_true z] at ih
        exact ih
  -- one round
  have rd : ∀ (t : Nat) (h1 : zH) (φ' : Nat → Nat → Int) (α' : Nat → Nat → Option Nat), fC F x f h φ α h1 φ' α' → (∀ k, k < F.1 → φ' (f + 24) k = (yct9 F t k : Int)) →
      (∀ (h2 : zH) (φ2 : Nat → Nat → Int) (α2 : Nat → Nat → Option Nat) (p : Int), fC F x f h φ α h2 φ2 α2 → (∀ k, k < F.1 → φ2 (f + 24) k = (yct9 F (t + 1) k : Int)) → (p = 0 ∧ ∀ j, j < F.1 → yct9 F (t + 1) j = yct9 F t j) ∨ (p = 1 ∧ ∃ j, j < F.1 ∧ yct9 F (t + 1) j ≠ yct9 F t j) → ∀ w2 w3, zg e 406 (d + 4) 48 [zr (some (x + f)), zi p, w2, w3] [] (cH h2 x φ2 ψ α2) Q) →
      ∀ w2 w3, zg e 406 (d + 4) 48 [zr (some (x + f)), zi 1, w2, w3] [] (cH h1 x φ' ψ α') Q := by
    intro t h1 φ1 α1 P1 c1 g w2 w3
    have bd : ∀ t' k, k < F.1 → yct9 F t' k < F.1 := fun t' k hk => (yct9_sp t' hk).1
    -- finer cells become the cells
    have copy : ∀ (h2 : zH) (α2 : Nat → Nat → Option Nat), _ := fun h2 α2 => zdown0 (fun k => ∀ (φ2 : Nat → Nat → Int) (p : Int), fC F x f h φ α h2 φ2 α2 → (∀ j, j < F.1 → φ2 (f + 25) j = (yct9 F (t + 1) j : Int)) → (∀ j, j < F.1 → φ2 (f + 24) j = ((if j < k then yct9 F (t + 1) j else yct9 F t j : Nat) : Int)) → (p = 0 ∧ ∀ j, j < k → yct9 F (t + 1) j = yct9 F t j) ∨ (p = 1 ∧ ∃ j, j < F.1 ∧ yct9 F (t + 1) j ≠ yct9 F t j) → ∀ w3, zg e 406 (d + 4) 83 [zr (some (x + f)), zi p, zi (k : Int), w3] [] (cH h2 x φ2 ψ α2) Q) F.1 (fun φ2 p P2 q1 q2 q3 w3 => by
        have K' := P2.K K
        have A' := P2.A A
        have S' := P2.S S
        rw [r406_83]
        simp (disch := omega) only [r406_0, r406_1, r406_3, r406_4, r406_7, r406_10, r406_11, r406_13, r406_16, r406_17, r406_18, r406_19, r406_22, r406_23, r406_24, r406_27, r406_30, r406_33, r406_34, r406_37, r406_38, r406_39, r406_40, r406_43, r406_46, r406_47, r406_49, r406_52, r406_53, r406_54, r406_55, r406_57, r406_58, r406_61, r406_64, r406_65, r406_68, r406_69, r406_70, r406_71, r406_74, r406_75, r406_78, r406_81, r406_82, r406_84, r406_85, r406_88, r406_91, r406_92, r406_93, r406_96, r406_97, r406_98, r406_99, r406_102, r406_103, r406_104, r406_107, r406_108, r406_111, r406_112, r406_113, r406_114, r406_115, r406_118, r406_119, r406_120, r406_123, r406_124, r406_125, r406_126, r406_129, r406_132, r406_135, r406_136, r406_137, r406_138, r406_140, r406_141, r406_144, r406_147, r406_148, r406_149, r406_152, r406_153, r406_154, r406_155, r406_158, r406_159, r406_162, r406_163, r406_164, r406_165, r406_168, r406_171, r406_172, znl_i, znl_r, znl_j, znl_l, List.length_cons, List.length_nil, Option.some.injEq, Sum.inl.injEq, Sum.inr.injEq, Prod.mk.injEq, true_and, and_true, exists_eq_left', zK_sI, zA_sI, zL_sI, zK_sL, zA_sL, zI_sL, zK_fI, zA_fI, zL_fI, zK_fL, zA_fL, zI_fL, Nat.reduceAdd, Nat.reduceLeDiff, forall_eq', zl_lt, zl_gt, zl_eq, zl_le, zl_ge, zm_0, zaft_n, zaft_v, zb_eq, Decidable.not_not, zK_rH, zI_rH, zL_rH, zA_rH, zsI_rH, zsL_rH, zsA_rH, zcpI_rH, zn_b, zm_b, Int.toNat_natCast, Int.toNat_zero, Int.reduceToNat, K'.K0, K'.K1, K'.K2, K'.K3, K'.K6, K'.K7, K'.K8, K'.K20, K'.K21, K'.K22, K'.K23, K'.K24, K'.K25, A'.A1, A'.A2, A'.A3, A'.A4, A'.A5, A'.A6, A'.A7, A'.A8, A'.A9, A'.A10, A'.R2, A'.R7, S'.m]
        refine ⟨fun _ => ?_, fun z => absurd z (by omega)⟩
        exact g h2 φ2 α2 p P2 (fun k hk => by rw [q2 k hk, if_pos hk]) q3 _ _) (fun k hk ih φ2 p P2 q1 q2 q3 w3 => by
        have K' := P2.K K
        have A' := P2.A A
        have S' := P2.S S
        have b1 := bd (t + 1) k hk
        have b2 := bd t k hk
        have v1 := q1 k hk
        have v2 := q2 k hk
        rw [if_neg (by omega)] at v2
        have nx : ∀ p', (p' = 0 ∧ ∀ j, j < k + 1 → yct9 F (t + 1) j = yct9 F t j) ∨ (p' = 1 ∧ ∃ j, j < F.1 ∧ yct9 F (t + 1) j ≠ yct9 F t j) → zg e 406 (d + 4) 83 [zr (some (x + f)), zi p', zi ((k : Int) + 1), w3] [] (cH h2 x (zu φ2 (f + 24) k (yct9 F (t + 1) k : Int)) ψ α2) Q := fun p' hp' => by
          refine ih _ p' (P2.u _ k (Or.inl rfl) _) (fun j hj => ?_) (fun j hj => ?_) hp' w3
          · rw [zu_cell _ _ _ (by omega)]; exact q1 j hj
          · by_cases c2 : j = k
            · subst c2; rw [zu_same, if_pos (by omega)]
            · rw [zu_slot _ _ _ c2, q2 j hj]
              by_cases c3 : j < k
              · rw [if_pos c3, if_pos (by omega)]
              · rw [if_neg c3, if_neg (by omega)]
        rw [r406_83]
        rcases q3 with ⟨rfl, q3⟩ | ⟨rfl, q3⟩
        · simp (disch := omega) only [r406_0, r406_1, r406_3, r406_4, r406_7, r406_10, r406_11, r406_13, r406_16, r406_17, r406_18, r406_19, r406_22, r406_23, r406_24, r406_27, r406_30, r406_33, r406_34, r406_37, r406_38, r406_39, r406_40, r406_43, r406_46, r406_47, r406_49, r406_52, r406_53, r406_54, r406_55, r406_57, r406_58, r406_61, r406_64, r406_65, r406_68, r406_69, r406_70, r406_71, r406_74, r406_75, r406_78, r406_81, r406_82, r406_84, r406_85, r406_88, r406_91, r406_92, r406_93, r406_96, r406_97, r406_98, r406_99, r406_102, r406_103, r406_104, r406_107, r406_108, r406_111, r406_112, r406_113, r406_114, r406_115, r406_118, r406_119, r406_120, r406_123, r406_124, r406_125, r406_126, r406_129, r406_132, r406_135, r406_136, r406_137, r406_138, r406_140, r406_141, r406_144, r406_147, r406_148, r406_149, r406_152, r406_153, r406_154, r406_155, r406_158, r406_159, r406_162, r406_163, r406_164, r406_165, r406_168, r406_171, r406_172, znl_i, znl_r, znl_j, znl_l, List.length_cons, List.length_nil, Option.some.injEq, Sum.inl.injEq, Sum.inr.injEq, Prod.mk.injEq, true_and, and_true, exists_eq_left', zK_sI, zA_sI, zL_sI, zK_sL, zA_sL, zI_sL, zK_fI, zA_fI, zL_fI, zK_fL, zA_fL, zI_fL, Nat.reduceAdd, Nat.reduceLeDiff, forall_eq', zl_lt, zl_gt, zl_eq, zl_le, zl_ge, zm_0, zaft_n, zaft_v, zb_eq, Decidable.not_not, zK_rH, zI_rH, zL_rH, zA_rH, zsI_rH, zsL_rH, zsA_rH, zcpI_rH, zn_b, zm_b, Int.toNat_natCast, Int.toNat_zero, Int.reduceToNat, K'.K0, K'.K1, K'.K2, K'.K3, K'.K6, K'.K7, K'.K8, K'.K20, K'.K21, K'.K22, K'.K23, K'.K24, K'.K25, A'.A1, A'.A2, A'.A3, A'.A4, A'.A5, A'.A6, A'.A7, A'.A8, A'.A9, A'.A10, A'.R2, A'.R7, S'.m, v1, v2, show zor 0 0 = 0 from by decide, show zor 0 1 = 1 from by decide]
          refine ⟨fun z => absurd z (by omega), fun _ => ⟨by omega, by omega, by omega, by omega, fun z => ?_, fun z => ?_⟩⟩
          · repeat (refine And.intro (by omega) ?_)
            refine nx 0 (Or.inl ⟨rfl, fun j hj => ?_⟩)
            by_cases c2 : j = k
            · subst c2; omega
            · exact q3 j (by omega)
          · repeat (refine And.intro (by omega) ?_)
            exact nx 1 (Or.inr ⟨rfl, k, hk, by omega⟩)
        · simp (disch := omega) only [r406_0, r406_1, r406_3, r406_4, r406_7, r406_10, r406_11, r406_13, r406_16, r406_17, r406_18, r406_19, r406_22, r406_23, r406_24, r406_27, r406_30, r406_33, r406_34, r406_37, r406_38, r406_39, r406_40, r406_43, r406_46, r406_47, r406_49, r406_52, r406_53, r406_54, r406_55, r406_57, r406_58, r406_61, r406_64, r406_65, r406_68, r406_69, r406_70, r406_71, r406_74, r406_75, r406_78, r406_81, r406_82, r406_84, r406_85, r406_88, r406_91, r406_92, r406_93, r406_96, r406_97, r406_98, r406_99, r406_102, r406_103, r406_104, r406_107, r406_108, r406_111, r406_112, r406_113, r406_114, r406_115, r406_118, r406_119, r406_120, r406_123, r406_124, r406_125, r406_126, r406_129, r406_132, r406_135, r406_136, r406_137, r406_138, r406_140, r406_141, r406_144, r406_147, r406_148, r406_149, r406_152, r406_153, r406_154, r406_155, r406_158, r406_159, r406_162, r406_163, r406_164, r406_165, r406_168, r406_171, r406_172, znl_i, znl_r, znl_j, znl_l, List.length_cons, List.length_nil, Option.some.injEq, Sum.inl.injEq, Sum.inr.injEq, Prod.mk.injEq, true_and, and_true, exists_eq_left', zK_sI, zA_sI, zL_sI, zK_sL, zA_sL, zI_sL, zK_fI, zA_fI, zL_fI, zK_fL, zA_fL, zI_fL, Nat.reduceAdd, Nat.reduceLeDiff, forall_eq', zl_lt, zl_gt, zl_eq, zl_le, zl_ge, zm_0, zaft_n, zaft_v, zb_eq, Decidable.not_not, zK_rH, zI_rH, zL_rH, zA_rH, zsI_rH, zsL_rH, zsA_rH, zcpI_rH, zn_b, zm_b, Int.toNat_natCast, Int.toNat_zero, Int.reduceToNat, K'.K0, K'.K1, K'.K2, K'.K3, K'.K6, K'.K7, K'.K8, K'.K20, K'.K21, K'.K22, K'.K23, K'.K24, K'.K25, A'.A1, A'.A2, A'.A3, A'.A4, A'.A5, A'.A6, A'.A7, A'.A8, A'.A9, A'.A10, A'.R2, A'.R7, S'.m, v1, v2, show zor 1 0 = 1 from by decide, show zor 1 1 = 1 from by decide]
          refine ⟨fun z => absurd z (by omega), fun _ => ⟨by omega, by omega, by omega, by omega, fun z => ?_, fun z => ?_⟩⟩
          · repeat (refine And.intro (by omega) ?_)
            exact nx 1 (Or.inr ⟨rfl, q3⟩)
          · repeat (refine And.intro (by omega) ?_)
            exact nx 1 (Or.inr ⟨rfl, q3⟩))
    -- finer cells
    have fin := zdown0 (fun k => ∀ (h2 : zH) (φ2 : Nat → Nat → Int) (α2 : Nat → Nat → Option Nat), fC F x f h φ α h2 φ2 α2 → (∀ j, j < F.1 → φ2 (f + 24) j = (yct9 F t j : Int)) → (∀ j, j < k → φ2 (f + 25) j = (yct9 F (t + 1) j : Int)) → ∀ w3, zg e 406 (d + 4) 56 [zr (some (x + f)), zi 0, zi (k : Int), w3] [] (cH h2 x φ2 ψ α2) Q) F.1 (fun h2 φ2 α2 P2 q1 q2 w3 => ?_) (fun k hk ih h2 φ2 α2 P2 q1 q2 w3 => ?_)
    · have K' := P1.K K
      have A' := P1.A A
      rw [r406_48]
      simp (disch := omega) only [r406_0, r406_1, r406_3, r406_4, r406_7, r406_10, r406_11, r406_13, r406_16, r406_17, r406_18, r406_19, r406_22, r406_23, r406_24, r406_27, r406_30, r406_33, r406_34, r406_37, r406_38, r406_39, r406_40, r406_43, r406_46, r406_47, r406_49, r406_52, r406_53, r406_54, r406_55, r406_57, r406_58, r406_61, r406_64, r406_65, r406_68, r406_69, r406_70, r406_71, r406_74, r406_75, r406_78, r406_81, r406_82, r406_84, r406_85, r406_88, r406_91, r406_92, r406_93, r406_96, r406_97, r406_98, r406_99, r406_102, r406_103, r406_104, r406_107, r406_108, r406_111, r406_112, r406_113, r406_114, r406_115, r406_118, r406_119, r406_120, r406_123, r406_124, r406_125, r406_126, r406_129, r406_132, r406_135, r406_136, r406_137, r406_138, r406_140, r406_141, r406_144, r406_147, r406_148, r406_149, r406_152, r406_153, r406_154, r406_155, r406_158, r406_159, r406_162, r406_163, r406_164, r406_165, r406_168, r406_171, r406_172, znl_i, znl_r, znl_j, znl_l, List.length_cons, List.length_nil, Option.some.injEq, Sum.inl.injEq, Sum.inr.injEq, Prod.mk.injEq, true_and, and_true, exists_eq_left', zK_sI, zA_sI, zL_sI, zK_sL, zA_sL, zI_sL, zK_fI, zA_fI, zL_fI, zK_fL, zA_fL, zI_fL, Nat.reduceAdd, Nat.reduceLeDiff, forall_eq', zl_lt, zl_gt, zl_eq, zl_le, zl_ge, zm_0, zaft_n, zaft_v, zb_eq, Decidable.not_not, zK_rH, zI_rH, zL_rH, zA_rH, zsI_rH, zsL_rH, zsA_rH, zcpI_rH, zn_b, zm_b, Int.toNat_natCast, Int.toNat_zero, Int.reduceToNat, K'.K0, K'.K1, K'.K2, K'.K3, K'.K6, K'.K7, K'.K8, K'.K20, K'.K21, K'.K22, K'.K23, K'.K24, K'.K25, A'.A1, A'.A2, A'.A3, A'.A4, A'.A5, A'.A6, A'.A7, A'.A8, A'.A9, A'.A10, A'.R2, A'.R7]
      refine ⟨fun z => absurd z (by decide), fun _ => ?_⟩
      exact fin h1 φ1 α1 P1 c1 (fun j hj => absurd hj (by omega)) _
    · have K' := P2.K K
      have A' := P2.A A
      have S' := P2.S S
      rw [r406_56]
      simp (disch := omega) only [r406_0, r406_1, r406_3, r406_4, r406_7, r406_10, r406_11, r406_13, r406_16, r406_17, r406_18, r406_19, r406_22, r406_23, r406_24, r406_27, r406_30, r406_33, r406_34, r406_37, r406_38, r406_39, r406_40, r406_43, r406_46, r406_47, r406_49, r406_52, r406_53, r406_54, r406_55, r406_57, r406_58, r406_61, r406_64, r406_65, r406_68, r406_69, r406_70, r406_71, r406_74, r406_75, r406_78, r406_81, r406_82, r406_84, r406_85, r406_88, r406_91, r406_92, r406_93, r406_96, r406_97, r406_98, r406_99, r406_102, r406_103, r406_104, r406_107, r406_108, r406_111, r406_112, r406_113, r406_114, r406_115, r406_118, r406_119, r406_120, r406_123, r406_124, r406_125, r406_126, r406_129, r406_132, r406_135, r406_136, r406_137, r406_138, r406_140, r406_141, r406_144, r406_147, r406_148, r406_149, r406_152, r406_153, r406_154, r406_155, r406_158, r406_159, r406_162, r406_163, r406_164, r406_165, r406_168, r406_171, r406_172, znl_i, znl_r, znl_j, znl_l, List.length_cons, List.length_nil, Option.some.injEq, Sum.inl.injEq, Sum.inr.injEq, Prod.mk.injEq, true_and, and_true, exists_eq_left', zK_sI, zA_sI, zL_sI, zK_sL, zA_sL, zI_sL, zK_fI, zA_fI, zL_fI, zK_fL, zA_fL, zI_fL, Nat.reduceAdd, Nat.reduceLeDiff, forall_eq', zl_lt, zl_gt, zl_eq, zl_le, zl_ge, zm_0, zaft_n, zaft_v, zb_eq, Decidable.not_not, zK_rH, zI_rH, zL_rH, zA_rH, zsI_rH, zsL_rH, zsA_rH, zcpI_rH, zn_b, zm_b, Int.toNat_natCast, Int.toNat_zero, Int.reduceToNat, K'.K0, K'.K1, K'.K2, K'.K3, K'.K6, K'.K7, K'.K8, K'.K20, K'.K21, K'.K22, K'.K23, K'.K24, K'.K25, A'.A1, A'.A2, A'.A3, A'.A4, A'.A5, A'.A6, A'.A7, A'.A8, A'.A9, A'.A10, A'.R2, A'.R7, S'.m]
      refine ⟨fun _ => ?_, fun z => absurd z (by omega)⟩
      exact copy h2 α2 φ2 0 P2 q2 (fun j hj => by rw [q1 j hj, if_neg (by omega)]) (Or.inl ⟨rfl, fun j hj => absurd hj (by omega)⟩) _
    · have K' := P2.K K
      have A' := P2.A A
      have S' := P2.S S
      have sp := yct9_sp (F := F) (t + 1) hk
      have rel : ∀ a b, a < F.1 → b < F.1 → ycr9 (yct9 F t) a b = yit F t a b := fun a b ha hb => by
        unfold ycr9
        rw [Bool.eq_iff_iff, decide_eq_true_iff]
        exact yct9_eq hp t ha hb
      have hr : yfind (yref F (ycr9 (yct9 F t)) k) F.1 0 = (yct9 F (t + 1) k : Int) := by
        rw [← sp.2.2.2]
        exact yfind_congr fun i _ hi => yref_congr rel k i hk (by omega)
      rw [r406_56]
      simp (disch := omega) only [r406_0, r406_1, r406_3, r406_4, r406_7, r406_10, r406_11, r406_13, r406_16, r406_17, r406_18, r406_19, r406_22, r406_23, r406_24, r406_27, r406_30, r406_33, r406_34, r406_37, r406_38, r406_39, r406_40, r406_43, r406_46, r406_47, r406_49, r406_52, r406_53, r406_54, r406_55, r406_57, r406_58, r406_61, r406_64, r406_65, r406_68, r406_69, r406_70, r406_71, r406_74, r406_75, r406_78, r406_81, r406_82, r406_84, r406_85, r406_88, r406_91, r406_92, r406_93, r406_96, r406_97, r406_98, r406_99, r406_102, r406_103, r406_104, r406_107, r406_108, r406_111, r406_112, r406_113, r406_114, r406_115, r406_118, r406_119, r406_120, r406_123, r406_124, r406_125, r406_126, r406_129, r406_132, r406_135, r406_136, r406_137, r406_138, r406_140, r406_141, r406_144, r406_147, r406_148, r406_149, r406_152, r406_153, r406_154, r406_155, r406_158, r406_159, r406_162, r406_163, r406_164, r406_165, r406_168, r406_171, r406_172, znl_i, znl_r, znl_j, znl_l, List.length_cons, List.length_nil, Option.some.injEq, Sum.inl.injEq, Sum.inr.injEq, Prod.mk.injEq, true_and, and_true, exists_eq_left', zK_sI, zA_sI, zL_sI, zK_sL, zA_sL, zI_sL, zK_fI, zA_fI, zL_fI, zK_fL, zA_fL, zI_fL, Nat.reduceAdd, Nat.reduceLeDiff, forall_eq', zl_lt, zl_gt, zl_eq, zl_le, zl_ge, zm_0, zaft_n, zaft_v, zb_eq, Decidable.not_not, zK_rH, zI_rH, zL_rH, zA_rH, zsI_rH, zsL_rH, zsA_rH, zcpI_rH, zn_b, zm_b, Int.toNat_natCast, Int.toNat_zero, Int.reduceToNat, K'.K0, K'.K1, K'.K2, K'.K3, K'.K6, K'.K7, K'.K8, K'.K20, K'.K21, K'.K22, K'.K23, K'.K24, K'.K25, A'.A1, A'.A2, A'.A3, A'.A4, A'.A5, A'.A6, A'.A7, A'.A8, A'.A9, A'.A10, A'.R2, A'.R7, S'.m]
      refine ⟨fun z => absurd z (by omega), fun _ => ?_⟩
      refine zc_mono (f_firstLike (d := d) K' A' S' P2.v (yct9 F t) (fun y hy => ⟨q1 y hy, by have := bd t y hy; omega⟩) k hk _ hr) ?_
      rintro _ _ ⟨rfl, h3, φ3, α3, rfl, P3⟩
      have P4 := P2.trans P3.C
      have K3 := P4.K K
      have A3 := P4.A A
      simp (disch := omega) only [r406_0, r406_1, r406_3, r406_4, r406_7, r406_10, r406_11, r406_13, r406_16, r406_17, r406_18, r406_19, r406_22, r406_23, r406_24, r406_27, r406_30, r406_33, r406_34, r406_37, r406_38, r406_39, r406_40, r406_43, r406_46, r406_47, r406_49, r406_52, r406_53, r406_54, r406_55, r406_57, r406_58, r406_61, r406_64, r406_65, r406_68, r406_69, r406_70, r406_71, r406_74, r406_75, r406_78, r406_81, r406_82, r406_84, r406_85, r406_88, r406_91, r406_92, r406_93, r406_96, r406_97, r406_98, r406_99, r406_102, r406_103, r406_104, r406_107, r406_108, r406_111, r406_112, r406_113, r406_114, r406_115, r406_118, r406_119, r406_120, r406_123, r406_124, r406_125, r406_126, r406_129, r406_132, r406_135, r406_136, r406_137, r406_138, r406_140, r406_141, r406_144, r406_147, r406_148, r406_149, r406_152, r406_153, r406_154, r406_155, r406_158, r406_159, r406_162, r406_163, r406_164, r406_165, r406_168, r406_171, r406_172, znl_i, znl_r, znl_j, znl_l, List.length_cons, List.length_nil, Option.some.injEq, Sum.inl.injEq, Sum.inr.injEq, Prod.mk.injEq, true_and, and_true, exists_eq_left', zK_sI, zA_sI, zL_sI, zK_sL, zA_sL, zI_sL, zK_fI, zA_fI, zL_fI, zK_fL, zA_fL, zI_fL, Nat.reduceAdd, Nat.reduceLeDiff, forall_eq', zl_lt, zl_gt, zl_eq, zl_le, zl_ge, zm_0, zaft_n, zaft_v, zb_eq, Decidable.not_not, zK_rH, zI_rH, zL_rH, zA_rH, zsI_rH, zsL_rH, zsA_rH, zcpI_rH, zn_b, zm_b, Int.toNat_natCast, Int.toNat_zero, Int.reduceToNat, K3.K0, K3.K1, K3.K2, K3.K3, K3.K6, K3.K7, K3.K8, K3.K20, K3.K21, K3.K22, K3.K23, K3.K24, K3.K25, A3.A1, A3.A2, A3.A3, A3.A4, A3.A5, A3.A6, A3.A7, A3.A8, A3.A9, A3.A10, A3.R2, A3.R7]
      repeat (refine And.intro (by omega) ?_)
      refine ih h3 _ α3 (P4.u _ k (Or.inr rfl) _) (fun j hj => ?_) (fun j hj => ?_) _
      · rw [zu_cell _ _ _ (by omega), P3.i _ (by omega)]; exact q1 j hj
      · by_cases c2 : j = k
        · subst c2; rw [zu_same]
        · rw [zu_slot _ _ _ c2, P3.i _ (by omega)]; exact q2 j (by omega)
  -- rounds
  have stop : ∀ t, (∀ j, j < F.1 → yct9 F (t + 1) j = yct9 F t j) → ∀ k, k < F.1 → (yct9 F (t + 1) k : Int) = ycl F k := by
    intro t q k hk
    have fx : yfix F (yit F t) := fun a b ha hb => by
      rw [Bool.eq_iff_iff, ← yct9_eq hp t ha hb, ← q a ha, ← q b hb]
      exact (yct9_eq hp (t + 1) ha hb).symm
    rw [ycl_eq fx hk, q k hk]
    exact (yct9_sp t hk).2.2.2.symm
  have more : ∀ t, (∃ j, j < F.1 ∧ yct9 F (t + 1) j ≠ yct9 F t j) → ymeas F.1 (yit F (t + 1)) < ymeas F.1 (yit F t) := by
    rintro t ⟨j, hj, ne⟩
    refine ymeas_lt fun fx => ne ?_
    have := yit_fix fx 1
    unfold yct9
    rw [yfind_congr fun i _ hi => this j i hj (by omega)]
  have round : ∀ (M t : Nat), ymeas F.1 (yit F t) ≤ (M : Int) → ∀ (h1 : zH) (φ' : Nat → Nat → Int) (α' : Nat → Nat → Option Nat), fC F x f h φ α h1 φ' α' → (∀ k, k < F.1 → φ' (f + 24) k = (yct9 F t k : Int)) → ∀ w2 w3, zg e 406 (d + 4) 48 [zr (some (x + f)), zi 1, w2, w3] [] (cH h1 x φ' ψ α') Q := by
    intro M
    induction M with
    | zero =>
      intro t hM h1 φ' α' P q w2 w3
      refine rd t h1 φ' α' P q (fun h2 φ2 α2 p P2 c2 hp2 w2 w3 => ?_) w2 w3
      rcases hp2 with ⟨rfl, r⟩ | ⟨rfl, r⟩
      · have K' := P2.K K
        rw [r406_48]
        simp (disch := omega) only [r406_0, r406_1, r406_3, r406_4, r406_7, r406_10, r406_11, r406_13, r406_16, r406_17, r406_18, r406_19, r406_22, r406_23, r406_24, r406_27, r406_30, r406_33, r406_34, r406_37, r406_38, r406_39, r406_40, r406_43, r406_46, r406_47, r406_49, r406_52, r406_53, r406_54, r406_55, r406_57, r406_58, r406_61, r406_64, r406_65, r406_68, r406_69, r406_70, r406_71, r406_74, r406_75, r406_78, r406_81, r406_82, r406_84, r406_85, r406_88, r406_91, r406_92, r406_93, r406_96, r406_97, r406_98, r406_99, r406_102, r406_103, r406_104, r406_107, r406_108, r406_111, r406_112, r406_113, r406_114, r406_115, r406_118, r406_119, r406_120, r406_123, r406_124, r406_125, r406_126, r406_129, r406_132, r406_136, r406_137, r406_138, r406_140, r406_141, r406_144, r406_147, r406_148, r406_149, r406_152, r406_153, r406_154, r406_155, r406_158, r406_159, r406_162, r406_163, r406_164, r406_165, r406_168, r406_171, r406_172, znl_i, znl_r, znl_j, znl_l, List.length_cons, List.length_nil, Option.some.injEq, Sum.inl.injEq, Sum.inr.injEq, Prod.mk.injEq, true_and, and_true, exists_eq_left', zK_sI, zA_sI, zL_sI, zK_sL, zA_sL, zI_sL, zK_fI, zA_fI, zL_fI, zK_fL, zA_fL, zI_fL, Nat.reduceAdd, Nat.reduceLeDiff, forall_eq', zl_lt, zl_gt, zl_eq, zl_le, zl_ge, zm_0, zaft_n, zaft_v, zb_eq, Decidable.not_not, zK_rH, zI_rH, zL_rH, zA_rH, zsI_rH, zsL_rH, zsA_rH, zcpI_rH, zn_b, zm_b, Int.toNat_natCast, Int.toNat_zero, Int.reduceToNat, K'.K0]
        exact ⟨fun _ => last h2 φ2 α2 P2 (fun k hk => by rw [c2 k hk]; exact stop t r k hk) _ _, fun z => absurd trivial z⟩
      · have := more t r
        have := ymeas_nn F.1 (yit F (t + 1))
        omega
    | succ M ihM =>
      intro t hM h1 φ' α' P q w2 w3
      refine rd t h1 φ' α' P q (fun h2 φ2 α2 p P2 c2 hp2 w2 w3 => ?_) w2 w3
      rcases hp2 with ⟨rfl, r⟩ | ⟨rfl, r⟩
      · have K' := P2.K K
        rw [r406_48]
        simp (disch := omega) only [r406_0, r406_1, r406_3, r406_4, r406_7, r406_10, r406_11, r406_13, r406_16, r406_17, r406_18, r406_19, r406_22, r406_23, r406_24, r406_27, r406_30, r406_33, r406_34, r406_37, r406_38, r406_39, r406_40, r406_43, r406_46, r406_47, r406_49, r406_52, r406_53, r406_54, r406_55, r406_57, r406_58, r406_61, r406_64, r406_65, r406_68, r406_69, r406_70, r406_71, r406_74, r406_75, r406_78, r406_81, r406_82, r406_84, r406_85, r406_88, r406_91, r406_92, r406_93, r406_96, r406_97, r406_98, r406_99, r406_102, r406_103, r406_104, r406_107, r406_108, r406_111, r406_112, r406_113, r406_114, r406_115, r406_118, r406_119, r406_120, r406_123, r406_124, r406_125, r406_126, r406_129, r406_132, r406_136, r406_137, r406_138, r406_140, r406_141, r406_144, r406_147, r406_148, r406_149, r406_152, r406_153, r406_154, r406_155, r406_158, r406_159, r406_162, r406_163, r406_164, r406_165, r406_168, r406_171, r406_172, znl_i, znl_r, znl_j, znl_l, List.length_cons, List.length_nil, Option.some.injEq, Sum.inl.injEq, Sum.inr.injEq, Prod.mk.injEq, true_and, and_true, exists_eq_left', zK_sI, zA_sI, zL_sI, zK_sL, zA_sL, zI_sL, zK_fI, zA_fI, zL_fI, zK_fL, zA_fL, zI_fL, Nat.reduceAdd, Nat.reduceLeDiff, forall_eq', zl_lt, zl_gt, zl_eq, zl_le, zl_ge, zm_0, zaft_n, zaft_v, zb_eq, Decidable.not_not, zK_rH, zI_rH, zL_rH, zA_rH, zsI_rH, zsL_rH, zsA_rH, zcpI_rH, zn_b, zm_b, Int.toNat_natCast, Int.toNat_zero, Int.reduceToNat, K'.K0]
        exact ⟨fun _ => last h2 φ2 α2 P2 (fun k hk => by rw [c2 k hk]; exact stop t r k hk) _ _, fun z => absurd trivial z⟩
      · have := more t r
        exact ihM (t + 1) (by omega) h2 φ2 α2 P2 c2 w2 w3
  -- kinds
  have first := zdown0 (fun k => ∀ (φ2 : Nat → Nat → Int), fC F x f h φ α h φ2 α → (∀ j, j < k → φ2 (f + 24) j = (yct9 F 0 j : Int)) → ∀ w2 w3, zg e 406 (d + 4) 2 [zr (some (x + f)), zi (k : Int), w2, w3] [] (cH h x φ2 ψ α) Q) F.1 (fun φ2 P q w2 w3 => ?_) (fun k hk ih φ2 P q w2 w3 => ?_)
  · simp (disch := omega) only [n406, r406_0, r406_1, r406_3, r406_4, r406_7, r406_10, r406_11, r406_13, r406_16, r406_17, r406_18, r406_19, r406_22, r406_23, r406_24, r406_27, r406_30, r406_33, r406_34, r406_37, r406_38, r406_39, r406_40, r406_43, r406_46, r406_47, r406_49, r406_52, r406_53, r406_54, r406_55, r406_57, r406_58, r406_61, r406_64, r406_65, r406_68, r406_69, r406_70, r406_71, r406_74, r406_75, r406_78, r406_81, r406_82, r406_84, r406_85, r406_88, r406_91, r406_92, r406_93, r406_96, r406_97, r406_98, r406_99, r406_102, r406_103, r406_104, r406_107, r406_108, r406_111, r406_112, r406_113, r406_114, r406_115, r406_118, r406_119, r406_120, r406_123, r406_124, r406_125, r406_126, r406_129, r406_132, r406_135, r406_136, r406_137, r406_138, r406_140, r406_141, r406_144, r406_147, r406_148, r406_149, r406_152, r406_153, r406_154, r406_155, r406_158, r406_159, r406_162, r406_163, r406_164, r406_165, r406_168, r406_171, r406_172, znl_i, znl_r, znl_j, znl_l, List.length_cons, List.length_nil, Option.some.injEq, Sum.inl.injEq, Sum.inr.injEq, Prod.mk.injEq, true_and, and_true, exists_eq_left', zK_sI, zA_sI, zL_sI, zK_sL, zA_sL, zI_sL, zK_fI, zA_fI, zL_fI, zK_fL, zA_fL, zI_fL, Nat.reduceAdd, Nat.reduceLeDiff, forall_eq', zl_lt, zl_gt, zl_eq, zl_le, zl_ge, zm_0, zaft_n, zaft_v, zb_eq, Decidable.not_not, zK_rH, zI_rH, zL_rH, zA_rH, zsI_rH, zsL_rH, zsA_rH, zcpI_rH, zn_b, zm_b, Int.toNat_natCast, Int.toNat_zero, Int.reduceToNat, K.K0, K.K1, K.K2, K.K3, K.K6, K.K7, K.K8, K.K20, K.K21, K.K22, K.K23, K.K24, K.K25, A.A1, A.A2, A.A3, A.A4, A.A5, A.A6, A.A7, A.A8, A.A9, A.A10, A.R2, A.R7]
    exact first φ (fC.refl V) (fun j hj => absurd hj (by omega)) _ _
  · have S' := P.S S
    rw [r406_2]
    simp (disch := omega) only [r406_0, r406_1, r406_3, r406_4, r406_7, r406_10, r406_11, r406_13, r406_16, r406_17, r406_18, r406_19, r406_22, r406_23, r406_24, r406_27, r406_30, r406_33, r406_34, r406_37, r406_38, r406_39, r406_40, r406_43, r406_46, r406_47, r406_49, r406_52, r406_53, r406_54, r406_55, r406_57, r406_58, r406_61, r406_64, r406_65, r406_68, r406_69, r406_70, r406_71, r406_74, r406_75, r406_78, r406_81, r406_82, r406_84, r406_85, r406_88, r406_91, r406_92, r406_93, r406_96, r406_97, r406_98, r406_99, r406_102, r406_103, r406_104, r406_107, r406_108, r406_111, r406_112, r406_113, r406_114, r406_115, r406_118, r406_119, r406_120, r406_123, r406_124, r406_125, r406_126, r406_129, r406_132, r406_135, r406_136, r406_137, r406_138, r406_140, r406_141, r406_144, r406_147, r406_148, r406_149, r406_152, r406_153, r406_154, r406_155, r406_158, r406_159, r406_162, r406_163, r406_164, r406_165, r406_168, r406_171, r406_172, znl_i, znl_r, znl_j, znl_l, List.length_cons, List.length_nil, Option.some.injEq, Sum.inl.injEq, Sum.inr.injEq, Prod.mk.injEq, true_and, and_true, exists_eq_left', zK_sI, zA_sI, zL_sI, zK_sL, zA_sL, zI_sL, zK_fI, zA_fI, zL_fI, zK_fL, zA_fL, zI_fL, Nat.reduceAdd, Nat.reduceLeDiff, forall_eq', zl_lt, zl_gt, zl_eq, zl_le, zl_ge, zm_0, zaft_n, zaft_v, zb_eq, Decidable.not_not, zK_rH, zI_rH, zL_rH, zA_rH, zsI_rH, zsL_rH, zsA_rH, zcpI_rH, zn_b, zm_b, Int.toNat_natCast, Int.toNat_zero, Int.reduceToNat, K.K0, K.K1, K.K2, K.K3, K.K6, K.K7, K.K8, K.K20, K.K21, K.K22, K.K23, K.K24, K.K25, A.A1, A.A2, A.A3, A.A4, A.A5, A.A6, A.A7, A.A8, A.A9, A.A10, A.R2, A.R7, S'.m]
    refine ⟨fun _ => ?_, fun z => absurd z (by omega)⟩
    have := ymeas_nn F.1 (yit F 0)
    exact round (ymeas F.1 (yit F 0)).toNat 0 (by omega) h φ2 α P q _ _
  · have S' := P.S S
    obtain ⟨s1, s2, s3, s4⟩ := yct9_sp (F := F) 0 hk
    have kk := S.w.2.1 k hk
    have lp := zdown (fun j => j ≤ yct9 F 0 k → ∀ w3, zg e 406 (d + 4) 12 [zr (some (x + f)), zi (k : Int), zi (j : Int), w3] [] (cH h x φ2 ψ α) Q) (yct9 F 0 k + 1) (fun z => absurd z (by omega)) (fun j hj ihj hjr w3 => by
      have kj := S.w.2.1 j (by omega)
      rw [r406_12]
      simp (disch := omega) only [r406_0, r406_1, r406_3, r406_4, r406_7, r406_10, r406_11, r406_13, r406_16, r406_17, r406_18, r406_19, r406_22, r406_23, r406_24, r406_27, r406_30, r406_33, r406_34, r406_37, r406_38, r406_39, r406_40, r406_43, r406_46, r406_47, r406_49, r406_52, r406_53, r406_54, r406_55, r406_57, r406_58, r406_61, r406_64, r406_65, r406_68, r406_69, r406_70, r406_71, r406_74, r406_75, r406_78, r406_81, r406_82, r406_84, r406_85, r406_88, r406_91, r406_92, r406_93, r406_96, r406_97, r406_98, r406_99, r406_102, r406_103, r406_104, r406_107, r406_108, r406_111, r406_112, r406_113, r406_114, r406_115, r406_118, r406_119, r406_120, r406_123, r406_124, r406_125, r406_126, r406_129, r406_132, r406_135, r406_136, r406_137, r406_138, r406_140, r406_141, r406_144, r406_147, r406_148, r406_149, r406_152, r406_153, r406_154, r406_155, r406_158, r406_159, r406_162, r406_163, r406_164, r406_165, r406_168, r406_171, r406_172, znl_i, znl_r, znl_j, znl_l, List.length_cons, List.length_nil, Option.some.injEq, Sum.inl.injEq, Sum.inr.injEq, Prod.mk.injEq, true_and, and_true, exists_eq_left', zK_sI, zA_sI, zL_sI, zK_sL, zA_sL, zI_sL, zK_fI, zA_fI, zL_fI, zK_fL, zA_fL, zI_fL, Nat.reduceAdd, Nat.reduceLeDiff, forall_eq', zl_lt, zl_gt, zl_eq, zl_le, zl_ge, zm_0, zaft_n, zaft_v, zb_eq, Decidable.not_not, zK_rH, zI_rH, zL_rH, zA_rH, zsI_rH, zsL_rH, zsA_rH, zcpI_rH, zn_b, zm_b, Int.toNat_natCast, Int.toNat_zero, Int.reduceToNat, K.K0, K.K1, K.K2, K.K3, K.K6, K.K7, K.K8, K.K20, K.K21, K.K22, K.K23, K.K24, K.K25, A.A1, A.A2, A.A3, A.A4, A.A5, A.A6, A.A7, A.A8, A.A9, A.A10, A.R2, A.R7, S'.k]
      refine ⟨by omega, by omega, by omega, by omega, fun z => ?_, fun z => ?_⟩
      · have je : j = yct9 F 0 k := by
          refine Classical.byContradiction fun n => ?_
          have := s3 j (by omega)
          simp only [yit, decide_eq_false_iff_not] at this
          exact this z.symm
        subst je
        repeat (refine And.intro (by omega) ?_)
        refine ih _ (P.u _ k (Or.inl rfl) _) (fun i hi => ?_) _ _
        by_cases c2 : i = k
        · subst c2; rw [zu_same]
        · rw [zu_slot _ _ _ c2]; exact q i (by omega)
      · refine ihj (Nat.lt_of_le_of_ne (by omega) fun n => z ?_) _
        rw [n]
        simp only [yit, decide_eq_true_iff] at s2
        exact s2.symm) 0 (by omega)
    rw [r406_2]
    simp (disch := omega) only [r406_0, r406_1, r406_3, r406_4, r406_7, r406_10, r406_11, r406_13, r406_16, r406_17, r406_18, r406_19, r406_22, r406_23, r406_24, r406_27, r406_30, r406_33, r406_34, r406_37, r406_38, r406_39, r406_40, r406_43, r406_46, r406_47, r406_49, r406_52, r406_53, r406_54, r406_55, r406_57, r406_58, r406_61, r406_64, r406_65, r406_68, r406_69, r406_70, r406_71, r406_74, r406_75, r406_78, r406_81, r406_82, r406_84, r406_85, r406_88, r406_91, r406_92, r406_93, r406_96, r406_97, r406_98, r406_99, r406_102, r406_103, r406_104, r406_107, r406_108, r406_111, r406_112, r406_113, r406_114, r406_115, r406_118, r406_119, r406_120, r406_123, r406_124, r406_125, r406_126, r406_129, r406_132, r406_135, r406_136, r406_137, r406_138, r406_140, r406_141, r406_144, r406_147, r406_148, r406_149, r406_152, r406_153, r406_154, r406_155, r406_158, r406_159, r406_162, r406_163, r406_164, r406_165, r406_168, r406_171, r406_172, znl_i, znl_r, znl_j, znl_l, List.length_cons, List.length_nil, Option.some.injEq, Sum.inl.injEq, Sum.inr.injEq, Prod.mk.injEq, true_and, and_true, exists_eq_left', zK_sI, zA_sI, zL_sI, zK_sL, zA_sL, zI_sL, zK_fI, zA_fI, zL_fI, zK_fL, zA_fL, zI_fL, Nat.reduceAdd, Nat.reduceLeDiff, forall_eq', zl_lt, zl_gt, zl_eq, zl_le, zl_ge, zm_0, zaft_n, zaft_v, zb_eq, Decidable.not_not, zK_rH, zI_rH, zL_rH, zA_rH, zsI_rH, zsL_rH, zsA_rH, zcpI_rH, zn_b, zm_b, Int.toNat_natCast, Int.toNat_zero, Int.reduceToNat, K.K0, K.K1, K.K2, K.K3, K.K6, K.K7, K.K8, K.K20, K.K21, K.K22, K.K23, K.K24, K.K25, A.A1, A.A2, A.A3, A.A4, A.A5, A.A6, A.A7, A.A8, A.A9, A.A10, A.R2, A.R7, S'.m]
    refine ⟨fun z => absurd z (by omega), fun _ => ?_⟩
    exact lp (by omega) _
end
