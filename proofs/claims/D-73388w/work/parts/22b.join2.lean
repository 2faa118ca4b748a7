/-- classes -/
structure gJ2 (T : yT) (g : Nat) (φ : Nat → Nat → Int) : Prop where
  s : ∀ a, a < Tm T → φ (g + 81) a = (ykl T a : Int)
  k : φ g 14 = (yK T : Int)
  l : ∀ c, c < yK T → φ (g + 82) c = (yls T c : Int)
  z : ∀ c, c < yK T → φ (g + 83) c = ysz T c
  v : ∀ c, c < yK T → φ (g + 84) c = (ybk T c : Int)
section
variable {e : zEv} {d x f o r n g b : Nat} {h h1 h2 : zH} {φ φ' φ'' ψ ψ' ψ'' : Nat → Nat → Int} {α α' α'' : Nat → Nat → Option Nat} {F : yF} {π ρ : Nat → Nat} {sg sh : Int} {T : yT}
theorem gJ2.of (J : gJ2 T g φ) (q0 : φ' g 14 = φ g 14) (q : ∀ i, g + 81 ≤ i → i < g + 85 → φ' i = φ i) : gJ2 T g φ' :=
  ⟨fun a ha => by rw [q _ (by omega) (by omega)]; exact J.s a ha, by rw [q0]; exact J.k, fun c hc => by rw [q _ (by omega) (by omega)]; exact J.l c hc, fun c hc => by rw [q _ (by omega) (by omega)]; exact J.z c hc, fun c hc => by rw [q _ (by omega) (by omega)]; exact J.v c hc⟩
theorem g_place (GK : gK e h x g) {K i j k : Nat} (hK : K ≤ 12) (k0 : φ g 14 = (K : Int)) (hi : i < K) (hj : j < K) (hk : k < K) : zc e (d + 1) 418 [zr (some (x + g)), zi (i : Int), zi (j : Int), zi (k : Int)] (cH h x φ ψ α) (fun ov h' => ov = Sum.inl (some (zi (((i * K + j) * K + k : Nat) : Int))) ∧ h' = cH h x φ ψ α) := by
  have gn := GK.n
  have b1 : i * K ≤ 12 * 12 := Nat.mul_le_mul (by omega) hK
  have b2 : (i * K + j) * K ≤ 156 * 12 := Nat.mul_le_mul (by omega) hK
  have c1 : ((i : Int) * (K : Int)) = ((i * K : Nat) : Int) := by push_cast; rfl
  have c2 : (((i * K : Nat) : Int) + (j : Int)) * (K : Int) = (((i * K + j) * K : Nat) : Int) := by push_cast; rfl
  simp (disch := omega) only [n418, r418_0, r418_1, r418_2, r418_5, r418_6, r418_7, r418_8, r418_9, r418_12, r418_13, r418_14, r418_15, znl_i, znl_r, znl_j, znl_l, List.length_cons, List.length_nil, Option.some.injEq, Sum.inl.injEq, Sum.inr.injEq, Prod.mk.injEq, true_and, and_true, exists_eq_left', zK_sI, zA_sI, zL_sI, zK_sL, zA_sL, zI_sL, zK_fI, zA_fI, zL_fI, zK_fL, zA_fL, zI_fL, Nat.reduceAdd, Nat.reduceLeDiff, forall_eq', zl_lt, zl_gt, zl_eq, zl_le, zl_ge, zm_0, zaft_n, zaft_v, zb_eq, Decidable.not_not, zK_rH, zI_rH, zL_rH, zA_rH, zsI_rH, zsL_rH, zsA_rH, zcpI_rH, zn_b, zm_b, Int.toNat_natCast, Int.toNat_zero, Int.reduceToNat, GK.K0, k0, c1, c2]
  omega
theorem g_laysSorts (GK : gK e h x g) (GA : gA x g α) (V : yV T) (J : gJ1 T g φ) (G : gT T g φ) : zc e (d + 2) 416 [zr (some (x + g))] (cH h x φ ψ α)
    (fun ov h' => ov = Sum.inl none ∧ ∃ φ', h' = cH h x φ' ψ α ∧ gJ2 T g φ' ∧ (∀ i, i ≠ g → (i < g + 81 ∨ g + 85 ≤ i) → φ' i = φ i) ∧ ∀ j, j ≠ 14 → φ' g j = φ g j) := by
  have gn := GK.n
  have m := V.m
  have kb := GK.b
  have hK := V.K
  have cK := ycnt_bd (yld T) (Tm T)
  have hKe : (yK T : Int) = ycnt (yld T) (Tm T) := by unfold yK; omega
  generalize hQ : (fun ov h' => ov = Sum.inl none ∧ ∃ φ', h' = cH h x φ' ψ α ∧ gJ2 T g φ' ∧ (∀ i, i ≠ g → (i < g + 81 ∨ g + 85 ≤ i) → φ' i = φ i) ∧ ∀ j, j ≠ 14 → φ' g j = φ g j : zEt) = Q
  -- inverses' classes
  have last := zdown0 (fun c => ∀ φ1 : Nat → Nat → Int, (∀ i, i ≠ g → (i < g + 81 ∨ g + 85 ≤ i) → φ1 i = φ i) → (∀ j, j ≠ 14 → φ1 g j = φ g j) → φ1 g 14 = (yK T : Int) → (∀ a, a < Tm T → φ1 (g + 81) a = (ykl T a : Int)) → (∀ c, c < yK T → φ1 (g + 82) c = (yls T c : Int) ∧ φ1 (g + 83) c = ysz T c) → (∀ j, j < c → φ1 (g + 84) j = (ybk T j : Int)) → ∀ w2 w3 w4, zg e 416 (d + 1) 143 [zr (some (x + g)), zi (c : Int), w2, w3, w4] [] (cH h x φ1 ψ α) Q) (yK T) (fun φ1 q1 q2 q3 q4 q5 q6 w2 w3 w4 => ?_) (fun c hc ih φ1 q1 q2 q3 q4 q5 q6 w2 w3 w4 => ?_)
  · -- the classes one behind the other
    have main := zdown0 (fun a => ∀ φ1 : Nat → Nat → Int, (∀ i, i ≠ g → (i < g + 81 ∨ g + 85 ≤ i) → φ1 i = φ i) → (∀ j, j ≠ 14 → φ1 g j = φ g j) → φ1 g 14 = ycnt (yld T) a → (∀ b, b < Tm T → φ1 (g + 81) b = if ymn T b < a then (ykl T b : Int) else -1) → (∀ c : Nat, (c : Int) < ycnt (yld T) a → φ1 (g + 82) c = (yls T c : Int) ∧ φ1 (g + 83) c = ysz T c) → ∀ w2 w3 w4, zg e 416 (d + 1) 30 [zr (some (x + g)), zi (a : Int), w2, w3, w4] [] (cH h x φ1 ψ α) Q) (Tm T) (fun φ1 q1 q2 q3 q4 q5 w2 w3 w4 => ?_) (fun a ha ih φ1 q1 q2 q3 q4 q5 w2 w3 w4 => ?_)
    · have clr := zdown0 (fun a => ∀ φ1 : Nat → Nat → Int, (∀ i, i ≠ g → (i < g + 81 ∨ g + 85 ≤ i) → φ1 i = φ i) → (∀ j, j ≠ 14 → φ1 g j = φ g j) → φ1 g 14 = 0 → (∀ b, b < a → φ1 (g + 81) b = -1) → ∀ w2 w3 w4, zg e 416 (d + 1) 7 [zr (some (x + g)), zi (a : Int), w2, w3, w4] [] (cH h x φ1 ψ α) Q) (Tm T) (fun φ1 q1 q2 q3 q4 w2 w3 w4 => ?_) (fun a ha ih φ1 q1 q2 q3 q4 w2 w3 w4 => ?_)
      · simp (disch := omega) only [n416, r416_0, r416_1, r416_2, r416_5, r416_6, r416_8, r416_9, r416_12, r416_15, r416_16, r416_19, r416_20, r416_21, r416_22, r416_25, r416_28, r416_29, r416_31, r416_32, r416_35, r416_38, r416_39, r416_42, r416_43, r416_44, r416_47, r416_50, r416_51, r416_52, r416_53, r416_55, r416_56, r416_59, r416_62, r416_63, r416_64, r416_65, r416_68, r416_70, r416_71, r416_72, r416_75, r416_77, r416_78, r416_81, r416_82, r416_85, r416_86, r416_87, r416_88, r416_89, r416_92, r416_94, r416_95, r416_98, r416_99, r416_102, r416_105, r416_106, r416_109, r416_110, r416_113, r416_114, r416_115, r416_116, r416_119, r416_120, r416_123, r416_124, r416_125, r416_126, r416_127, r416_130, r416_131, r416_132, r416_135, r416_138, r416_141, r416_142, r416_144, r416_145, r416_148, r416_151, r416_152, r416_155, r416_156, r416_157, r416_160, r416_161, r416_164, r416_165, r416_168, r416_169, r416_170, r416_171, r416_172, r416_173, r416_176, r416_179, znl_i, znl_r, znl_j, znl_l, List.length_cons, List.length_nil, Option.some.injEq, Sum.inl.injEq, Sum.inr.injEq, Prod.mk.injEq, true_and, and_true, exists_eq_left', zK_sI, zA_sI, zL_sI, zK_sL, zA_sL, zI_sL, zK_fI, zA_fI, zL_fI, zK_fL, zA_fL, zI_fL, Nat.reduceAdd, Nat.reduceLeDiff, forall_eq', zl_lt, zl_gt, zl_eq, zl_le, zl_ge, zm_0, zaft_n, zaft_v, zb_eq, Decidable.not_not, zK_rH, zI_rH, zL_rH, zA_rH, zsI_rH, zsL_rH, zsA_rH, zcpI_rH, zn_b, zm_b, Int.toNat_natCast, Int.toNat_zero, Int.reduceToNat, GK.K0]
        refine ⟨by omega, ?_⟩
        exact clr _ (fun i i1 i2 => zu_cell _ _ _ i1) (fun j hj => zu_slot _ _ _ hj) (zu_same _ _ _ _) (fun b hb => absurd hb (by omega)) _ _ _
      · have g2 : φ1 g 2 = (Tm T : Int) := by rw [q2 2 (by omega)]; exact G.m
        rw [r416_7]
        simp (disch := omega) only [r416_0, r416_1, r416_2, r416_5, r416_6, r416_8, r416_9, r416_12, r416_15, r416_16, r416_19, r416_20, r416_21, r416_22, r416_25, r416_28, r416_29, r416_31, r416_32, r416_35, r416_38, r416_39, r416_42, r416_43, r416_44, r416_47, r416_50, r416_51, r416_52, r416_53, r416_55, r416_56, r416_59, r416_62, r416_63, r416_64, r416_65, r416_68, r416_70, r416_71, r416_72, r416_75, r416_77, r416_78, r416_81, r416_82, r416_85, r416_86, r416_87, r416_88, r416_89, r416_92, r416_94, r416_95, r416_98, r416_99, r416_102, r416_105, r416_106, r416_109, r416_110, r416_113, r416_114, r416_115, r416_116, r416_119, r416_120, r416_123, r416_124, r416_125, r416_126, r416_127, r416_130, r416_131, r416_132, r416_135, r416_138, r416_141, r416_142, r416_144, r416_145, r416_148, r416_151, r416_152, r416_155, r416_156, r416_157, r416_160, r416_161, r416_164, r416_165, r416_168, r416_169, r416_170, r416_171, r416_172, r416_173, r416_176, r416_179, znl_i, znl_r, znl_j, znl_l, List.length_cons, List.length_nil, Option.some.injEq, Sum.inl.injEq, Sum.inr.injEq, Prod.mk.injEq, true_and, and_true, exists_eq_left', zK_sI, zA_sI, zL_sI, zK_sL, zA_sL, zI_sL, zK_fI, zA_fI, zL_fI, zK_fL, zA_fL, zI_fL, Nat.reduceAdd, Nat.reduceLeDiff, forall_eq', zl_lt, zl_gt, zl_eq, zl_le, zl_ge, zm_0, zaft_n, zaft_v, zb_eq, Decidable.not_not, zK_rH, zI_rH, zL_rH, zA_rH, zsI_rH, zsL_rH, zsA_rH, zcpI_rH, zn_b, zm_b, Int.toNat_natCast, Int.toNat_zero, Int.reduceToNat, GK.K0, g2]
        refine ⟨fun _ => ?_, fun z => absurd z (by omega)⟩
        exact main φ1 q1 q2 (by rw [q3]; rfl) (fun b hb => by rw [q4 b hb, if_neg (by omega)]) (fun c hc => by simp only [ycnt] at hc; omega) _ _ _
      · have g2 : φ1 g 2 = (Tm T : Int) := by rw [q2 2 (by omega)]; exact G.m
        rw [r416_7]
        simp (disch := omega) only [r416_0, r416_1, r416_2, r416_5, r416_6, r416_8, r416_9, r416_12, r416_15, r416_16, r416_19, r416_20, r416_21, r416_22, r416_25, r416_28, r416_29, r416_31, r416_32, r416_35, r416_38, r416_39, r416_42, r416_43, r416_44, r416_47, r416_50, r416_51, r416_52, r416_53, r416_55, r416_56, r416_59, r416_62, r416_63, r416_64, r416_65, r416_68, r416_70, r416_71, r416_72, r416_75, r416_77, r416_78, r416_81, r416_82, r416_85, r416_86, r416_87, r416_88, r416_89, r416_92, r416_94, r416_95, r416_98, r416_99, r416_102, r416_105, r416_106, r416_109, r416_110, r416_113, r416_114, r416_115, r416_116, r416_119, r416_120, r416_123, r416_124, r416_125, r416_126, r416_127, r416_130, r416_131, r416_132, r416_135, r416_138, r416_141, r416_142, r416_144, r416_145, r416_148, r416_151, r416_152, r416_155, r416_156, r416_157, r416_160, r416_161, r416_164, r416_165, r416_168, r416_169, r416_170, r416_171, r416_172, r416_173, r416_176, r416_179, znl_i, znl_r, znl_j, znl_l, List.length_cons, List.length_nil, Option.some.injEq, Sum.inl.injEq, Sum.inr.injEq, Prod.mk.injEq, true_and, and_true, exists_eq_left', zK_sI, zA_sI, zL_sI, zK_sL, zA_sL, zI_sL, zK_fI, zA_fI, zL_fI, zK_fL, zA_fL, zI_fL, Nat.reduceAdd, Nat.reduceLeDiff, forall_eq', zl_lt, zl_gt, zl_eq, zl_le, zl_ge, zm_0, zaft_n, zaft_v, zb_eq, Decidable.not_not, zK_rH, zI_rH, zL_rH, zA_rH, zsI_rH, zsL_rH, zsA_rH, zcpI_rH, zn_b, zm_b, Int.toNat_natCast, Int.toNat_zero, Int.reduceToNat, GK.K0, GK.K81, GA.A9, g2]
        refine ⟨fun z => absurd z (by omega), fun _ => ?_⟩
        repeat (refine And.intro (by omega) ?_)
        refine ih _ (fun i i1 i2 => by rw [zu_cell _ _ _ (by omega)]; exact q1 i i1 i2) (fun j hj => by rw [zu_cell _ _ _ (by omega)]; exact q2 j hj) (by rw [zu_cell _ _ _ (by omega)]; exact q3) (fun b hb => ?_) _ _ _
        by_cases c : b = a
        · subst c; rw [zu_same]
        · rw [zu_slot _ _ _ c]; exact q4 b (by omega)
    · have g2 : φ1 g 2 = (Tm T : Int) := by rw [q2 2 (by omega)]; exact G.m
      rw [r416_30]
      simp (disch := omega) only [r416_0, r416_1, r416_2, r416_5, r416_6, r416_8, r416_9, r416_12, r416_15, r416_16, r416_19, r416_20, r416_21, r416_22, r416_25, r416_28, r416_29, r416_31, r416_32, r416_35, r416_38, r416_39, r416_42, r416_43, r416_44, r416_47, r416_50, r416_51, r416_52, r416_53, r416_55, r416_56, r416_59, r416_62, r416_63, r416_64, r416_65, r416_68, r416_70, r416_71, r416_72, r416_75, r416_77, r416_78, r416_81, r416_82, r416_85, r416_86, r416_87, r416_88, r416_89, r416_92, r416_94, r416_95, r416_98, r416_99, r416_102, r416_105, r416_106, r416_109, r416_110, r416_113, r416_114, r416_115, r416_116, r416_119, r416_120, r416_123, r416_124, r416_125, r416_126, r416_127, r416_130, r416_131, r416_132, r416_135, r416_138, r416_141, r416_142, r416_144, r416_145, r416_148, r416_151, r416_152, r416_155, r416_156, r416_157, r416_160, r416_161, r416_164, r416_165, r416_168, r416_169, r416_170, r416_171, r416_172, r416_173, r416_176, r416_179, znl_i, znl_r, znl_j, znl_l, List.length_cons, List.length_nil, Option.some.injEq, Sum.inl.injEq, Sum.inr.injEq, Prod.mk.injEq, true_and, and_true, exists_eq_left', zK_sI, zA_sI, zL_sI, zK_sL, zA_sL, zI_sL, zK_fI, zA_fI, zL_fI, zK_fL, zA_fL, zI_fL, Nat.reduceAdd, Nat.reduceLeDiff, forall_eq', zl_lt, zl_gt, zl_eq, zl_le, zl_ge, zm_0, zaft_n, zaft_v, zb_eq, Decidable.not_not, zK_rH, zI_rH, zL_rH, zA_rH, zsI_rH, zsL_rH, zsA_rH, zcpI_rH, zn_b, zm_b, Int.toNat_natCast, Int.toNat_zero, Int.reduceToNat, GK.K0, g2]
      refine ⟨fun _ => ?_, fun z => absurd z (by omega)⟩
      exact last φ1 q1 q2 (by rw [q3, hKe]) (fun i hi => by rw [q4 i hi, if_pos (V.mn hi).1]) (fun c hc => q5 c (by omega)) (fun j hj => absurd hj (by omega)) _ _ _
    · have g2 : φ1 g 2 = (Tm T : Int) := by rw [q2 2 (by omega)]; exact G.m
      have hle := V.mn_le ha
      have hka := V.cl_lt ha
      have ca := ycnt_bd (yld T) a
      have q4a := q4 a ha
      have ck := ycnt_bd (yld T) (ymn T a)
      rw [r416_30]
      by_cases cl : ymn T a = a
      · rw [if_neg (by omega)] at q4a
        have hkl : ycnt (yld T) a = (ykl T a : Int) := by unfold ykl; rw [cl]; omega
        have hld : yld T a = true := by simp [yld, cl]
        have hls : yls T (ykl T a) = a := by rw [V.ls_cl ha, cl]
        have st : ycnt (yld T) (a + 1) = (ykl T a : Int) + 1 := by simp only [ycnt]; rw [hld, hkl]; simp
        rw [hkl] at q3
        have inner := zdown0 (fun c => ∀ φ2 : Nat → Nat → Int, (∀ i, i ≠ g + 81 → φ2 i = φ1 i) → (∀ b, b < Tm T → φ2 (g + 81) b = if ymn T b < a then (ykl T b : Int) else if ymk T a c b = true then (ykl T a : Int) else -1) → ∀ w4, zg e 416 (d + 1) 54 [zr (some (x + g)), zi (a : Int), zi (ycnt (ymk T a c) (Tm T)), zi (c : Int), w4] [] (cH h x φ2 ψ α) Q) (Tm T) (fun φ2 p1 p2 w4 => ?_) (fun c hc ihc φ2 p1 p2 w4 => ?_)
        · simp (disch := omega) only [r416_0, r416_1, r416_2, r416_5, r416_6, r416_8, r416_9, r416_12, r416_15, r416_16, r416_19, r416_20, r416_21, r416_22, r416_25, r416_28, r416_29, r416_31, r416_32, r416_35, r416_38, r416_39, r416_42, r416_43, r416_44, r416_47, r416_50, r416_51, r416_52, r416_53, r416_55, r416_56, r416_59, r416_62, r416_63, r416_64, r416_65, r416_68, r416_70, r416_71, r416_72, r416_75, r416_77, r416_78, r416_81, r416_82, r416_85, r416_86, r416_87, r416_88, r416_89, r416_92, r416_94, r416_95, r416_98, r416_99, r416_102, r416_105, r416_106, r416_109, r416_110, r416_113, r416_114, r416_115, r416_116, r416_119, r416_120, r416_123, r416_124, r416_125, r416_126, r416_127, r416_130, r416_131, r416_132, r416_135, r416_138, r416_141, r416_142, r416_144, r416_145, r416_148, r416_151, r416_152, r416_155, r416_156, r416_157, r416_160, r416_161, r416_164, r416_165, r416_168, r416_169, r416_170, r416_171, r416_172, r416_173, r416_176, r416_179, znl_i, znl_r, znl_j, znl_l, List.length_cons, List.length_nil, Option.some.injEq, Sum.inl.injEq, Sum.inr.injEq, Prod.mk.injEq, true_and, and_true, exists_eq_left', zK_sI, zA_sI, zL_sI, zK_sL, zA_sL, zI_sL, zK_fI, zA_fI, zL_fI, zK_fL, zA_fL, zI_fL, Nat.reduceAdd, Nat.reduceLeDiff, forall_eq', zl_lt, zl_gt, zl_eq, zl_le, zl_ge, zm_0, zaft_n, zaft_v, zb_eq, Decidable.not_not, zK_rH, zI_rH, zL_rH, zA_rH, zsI_rH, zsL_rH, zsA_rH, zcpI_rH, zn_b, zm_b, Int.toNat_natCast, Int.toNat_zero, Int.reduceToNat, GK.K0, GK.K81, GA.A9, g2, q4a]
          refine ⟨fun z => absurd z (by omega), fun _ => ⟨by omega, by omega, fun _ => ?_, fun z => absurd z (by decide)⟩⟩
          have z0 : ycnt (ymk T a 0) (Tm T) = 0 := ycnt_up (n := 0) _ (fun b _ => ymk_0 T a b)
          have g' := inner φ1 (fun _ _ => rfl) (fun b hb => by rw [q4 b hb, ymk_0]; simp) w4
          rw [z0] at g'
          exact g'
        · have g2' : φ2 g 2 = (Tm T : Int) := by rw [p1 _ (by omega)]; exact g2
          have g3' : φ2 g 14 = (ykl T a : Int) := by rw [p1 _ (by omega)]; exact q3
          have sz : ycnt (ymk T a (Tm T)) (Tm T) = ysz T (ykl T a) := ycnt_congr fun b hb => by
            rw [ymk_all V ha hb, decide_eq_decide, V.cl_eq hb ha]
            exact ⟨fun z => z.symm, fun z => z.symm⟩
          have szb := V.sz hka
          rw [r416_54]
          simp (disch := omega) only [r416_0, r416_1, r416_2, r416_5, r416_6, r416_8, r416_9, r416_12, r416_15, r416_16, r416_19, r416_20, r416_21, r416_22, r416_25, r416_28, r416_29, r416_31, r416_32, r416_35, r416_38, r416_39, r416_42, r416_43, r416_44, r416_47, r416_50, r416_51, r416_52, r416_53, r416_55, r416_56, r416_59, r416_62, r416_63, r416_64, r416_65, r416_68, r416_70, r416_71, r416_72, r416_75, r416_77, r416_78, r416_81, r416_82, r416_85, r416_86, r416_87, r416_88, r416_89, r416_92, r416_94, r416_95, r416_98, r416_99, r416_102, r416_105, r416_106, r416_109, r416_110, r416_113, r416_114, r416_115, r416_116, r416_119, r416_120, r416_123, r416_124, r416_125, r416_126, r416_127, r416_130, r416_131, r416_132, r416_135, r416_138, r416_141, r416_142, r416_144, r416_145, r416_148, r416_151, r416_152, r416_155, r416_156, r416_157, r416_160, r416_161, r416_164, r416_165, r416_168, r416_169, r416_170, r416_171, r416_172, r416_173, r416_176, r416_179, znl_i, znl_r, znl_j, znl_l, List.length_cons, List.length_nil, Option.some.injEq, Sum.inl.injEq, Sum.inr.injEq, Prod.mk.injEq, true_and, and_true, exists_eq_left', zK_sI, zA_sI, zL_sI, zK_sL, zA_sL, zI_sL, zK_fI, zA_fI, zL_fI, zK_fL, zA_fL, zI_fL, Nat.reduceAdd, Nat.reduceLeDiff, forall_eq', zl_lt, zl_gt, zl_eq, zl_le, zl_ge, zm_0, zaft_n, zaft_v, zb_eq, Decidable.not_not, zK_rH, zI_rH, zL_rH, zA_rH, zsI_rH, zsL_rH, zsA_rH, zcpI_rH, zn_b, zm_b, Int.toNat_natCast, Int.toNat_zero, Int.reduceToNat, GK.K0, GK.K82, GK.K83, GA.A10, GA.A11, g2', g3', zu_cell]
          refine ⟨fun _ => ?_, fun z => absurd z (by omega)⟩
          repeat (refine And.intro (by omega) ?_)
          refine ih _ (fun i i1 i2 => ?_) (fun j hj => ?_) (by rw [zu_same, st]) (fun b hb => ?_) (fun c hc => ?_) _ _ _
          · rw [zu_cell _ _ _ i1, zu_cell _ _ _ (by omega), zu_cell _ _ _ (by omega), p1 _ (by omega)]; exact q1 i i1 i2
          · rw [zu_slot _ _ _ hj, zu_cell _ _ _ (by omega), zu_cell _ _ _ (by omega), p1 _ (by omega)]; exact q2 j hj
          · rw [zu_cell _ _ _ (by omega), zu_cell _ _ _ (by omega), zu_cell _ _ _ (by omega), p2 b hb, ymk_all V ha hb, cl]
            by_cases c1 : ymn T b < a
            · rw [if_pos c1, if_pos (by omega)]
            · rw [if_neg c1]
              by_cases c2 : a = ymn T b
              · rw [if_pos (decide_eq_true c2), if_pos (by omega)]
                have : ykl T a = ykl T b := (V.cl_eq ha hb).mpr (by rw [cl]; exact c2)
                rw [this]
              · rw [if_neg (by simpa using c2), if_neg (by omega)]
          · rw [st] at hc
            rw [zu_cell _ _ _ (by omega), zu_cell _ _ _ (by omega), zu_cell _ _ _ (show g + 83 ≠ g by omega)]
            by_cases cc : c = ykl T a
            · rw [cc]
              refine ⟨?_, ?_⟩
              · rw [zu_same, hls]
              · rw [zu_same]; exact sz
            · have := q5 c (by omega)
              refine ⟨?_, ?_⟩
              · rw [zu_slot _ _ _ cc, p1 _ (by omega)]; exact this.1
              · rw [zu_slot _ _ _ cc, zu_cell _ _ _ (by omega), p1 _ (by omega)]; exact this.2
        · have g2' : φ2 g 2 = (Tm T : Int) := by rw [p1 _ (by omega)]; exact g2
          have g3' : φ2 g 14 = (ykl T a : Int) := by rw [p1 _ (by omega)]; exact q3
          have J2 : gJ1 T g φ2 := J.of m.2 fun i i1 i2 => by rw [p1 _ (by omega)]; exact q1 i (by omega) (by omega)
          have hb := V.cj hc ha
          have kb2 := V.cl_lt hb
          have same : ykl T (ycj T c a) = ykl T a := V.kl_cj hc ha
          have pb := p2 _ hb
          have nlt : ¬ ymn T (ycj T c a) < a := by rw [V.mn_cj hc ha, cl]; omega
          rw [if_neg nlt] at pb
          have cb := ycnt_bd (ymk T a c) (Tm T)
          rw [r416_54]
          simp (disch := omega) only [r416_0, r416_1, r416_2, r416_5, r416_6, r416_8, r416_9, r416_12, r416_15, r416_16, r416_19, r416_20, r416_21, r416_22, r416_25, r416_28, r416_29, r416_31, r416_32, r416_35, r416_38, r416_39, r416_42, r416_43, r416_44, r416_47, r416_50, r416_51, r416_52, r416_53, r416_55, r416_56, r416_59, r416_62, r416_63, r416_64, r416_65, r416_68, r416_70, r416_71, r416_72, r416_75, r416_77, r416_78, r416_81, r416_82, r416_85, r416_86, r416_87, r416_88, r416_89, r416_92, r416_94, r416_95, r416_98, r416_99, r416_102, r416_105, r416_106, r416_109, r416_110, r416_113, r416_114, r416_115, r416_116, r416_119, r416_120, r416_123, r416_124, r416_125, r416_126, r416_127, r416_130, r416_131, r416_132, r416_135, r416_138, r416_141, r416_142, r416_144, r416_145, r416_148, r416_151, r416_152, r416_155, r416_156, r416_157, r416_160, r416_161, r416_164, r416_165, r416_168, r416_169, r416_170, r416_171, r416_172, r416_173, r416_176, r416_179, znl_i, znl_r, znl_j, znl_l, List.length_cons, List.length_nil, Option.some.injEq, Sum.inl.injEq, Sum.inr.injEq, Prod.mk.injEq, true_and, and_true, exists_eq_left', zK_sI, zA_sI, zL_sI, zK_sL, zA_sL, zI_sL, zK_fI, zA_fI, zL_fI, zK_fL, zA_fL, zI_fL, Nat.reduceAdd, Nat.reduceLeDiff, forall_eq', zl_lt, zl_gt, zl_eq, zl_le, zl_ge, zm_0, zaft_n, zaft_v, zb_eq, Decidable.not_not, zK_rH, zI_rH, zL_rH, zA_rH, zsI_rH, zsL_rH, zsA_rH, zcpI_rH, zn_b, zm_b, Int.toNat_natCast, Int.toNat_zero, Int.reduceToNat, GK.K0, g2']
          refine ⟨fun z => absurd z (by omega), fun _ => ?_⟩
          refine zc_w (g_turned (d := d) GK GA V J2 ha hc) ?_
          have nx : zg e 416 (d + 1) 54 [zr (some (x + g)), zi (a : Int), zi (ycnt (ymk T a (c + 1)) (Tm T)), zi ((c : Int) + 1), zi (ycj T c a : Int)] [] (cH h x (zu φ2 (g + 81) (ycj T c a) (ykl T a : Int)) ψ α) Q := by
            refine ihc _ (fun i hi => by rw [zu_cell _ _ _ hi]; exact p1 i hi) (fun b hb' => ?_) _
            by_cases c2 : b = ycj T c a
            · subst c2; rw [zu_same, if_neg nlt, if_pos]
              rw [ymk_succ]; simp
            · rw [zu_slot _ _ _ c2, p2 b hb', ymk_succ, show decide (ycj T c a = b) = false from decide_eq_false (fun z => c2 z.symm), Bool.or_false]
          cases hmk : ymk T a c (ycj T c a) with
          | true =>
            rw [hmk, if_pos rfl] at pb
            have ce : ycnt (ymk T a (c + 1)) (Tm T) = ycnt (ymk T a c) (Tm T) := ycnt_congr fun b hb' => by
              rw [ymk_succ]
              by_cases c2 : ycj T c a = b
              · rw [← c2, hmk]; rfl
              · rw [decide_eq_false c2, Bool.or_false]
            rw [ce, ← Int.add_zero (ycnt (ymk T a c) (Tm T))] at nx
            simp (disch := omega) only [r416_0, r416_1, r416_2, r416_5, r416_6, r416_8, r416_9, r416_12, r416_15, r416_16, r416_19, r416_20, r416_21, r416_22, r416_25, r416_28, r416_29, r416_31, r416_32, r416_35, r416_38, r416_39, r416_42, r416_43, r416_44, r416_47, r416_50, r416_51, r416_52, r416_53, r416_55, r416_56, r416_59, r416_62, r416_63, r416_64, r416_65, r416_68, r416_70, r416_71, r416_72, r416_75, r416_77, r416_78, r416_81, r416_82, r416_85, r416_86, r416_87, r416_88, r416_89, r416_92, r416_94, r416_95, r416_98, r416_99, r416_102, r416_105, r416_106, r416_109, r416_110, r416_113, r416_114, r416_115, r416_116, r416_119, r416_120, r416_123, r416_124, r416_125, r416_126, r416_127, r416_130, r416_131, r416_132, r416_135, r416_138, r416_141, r416_142, r416_144, r416_145, r416_148, r416_151, r416_152, r416_155, r416_156, r416_157, r416_160, r416_161, r416_164, r416_165, r416_168, r416_169, r416_170, r416_171, r416_172, r416_173, r416_176, r416_179, znl_i, znl_r, znl_j, znl_l, List.length_cons, List.length_nil, Option.some.injEq, Sum.inl.injEq, Sum.inr.injEq, Prod.mk.injEq, true_and, and_true, exists_eq_left', zK_sI, zA_sI, zL_sI, zK_sL, zA_sL, zI_sL, zK_fI, zA_fI, zL_fI, zK_fL, zA_fL, zI_fL, Nat.reduceAdd, Nat.reduceLeDiff, forall_eq', zl_lt, zl_gt, zl_eq, zl_le, zl_ge, zm_0, zaft_n, zaft_v, zb_eq, Decidable.not_not, zK_rH, zI_rH, zL_rH, zA_rH, zsI_rH, zsL_rH, zsA_rH, zcpI_rH, zn_b, zm_b, Int.toNat_natCast, Int.toNat_zero, Int.reduceToNat, GK.K0, GK.K81, GA.A9, pb, g3']
            refine ⟨by omega, by omega, fun _ => ?_, fun z => absurd z (by omega)⟩
            repeat (refine And.intro (by omega) ?_)
            exact nx
          | false =>
            rw [hmk, if_neg (by decide)] at pb
            have ce : ycnt (ymk T a (c + 1)) (Tm T) = ycnt (ymk T a c) (Tm T) + 1 := by
              rw [ycnt_add (q := ymk T a c) (r := ymk T a (c + 1)) (b := ycj T c a) hmk (by rw [ymk_succ]; simp) (fun i hi => by rw [ymk_succ, decide_eq_false (fun z => hi z.symm), Bool.or_false]) (Tm T), if_pos hb]
            rw [ce] at nx
            simp (disch := omega) only [r416_0, r416_1, r416_2, r416_5, r416_6, r416_8, r416_9, r416_12, r416_15, r416_16, r416_19, r416_20, r416_21, r416_22, r416_25, r416_28, r416_29, r416_31, r416_32, r416_35, r416_38, r416_39, r416_42, r416_43, r416_44, r416_47, r416_50, r416_51, r416_52, r416_53, r416_55, r416_56, r416_59, r416_62, r416_63, r416_64, r416_65, r416_68, r416_70, r416_71, r416_72, r416_75, r416_77, r416_78, r416_81, r416_82, r416_85, r416_86, r416_87, r416_88, r416_89, r416_92, r416_94, r416_95, r416_98, r416_99, r416_102, r416_105, r416_106, r416_109, r416_110, r416_113, r416_114, r416_115, r416_116, r416_119, r416_120, r416_123, r416_124, r416_125, r416_126, r416_127, r416_130, r416_131, r416_132, r416_135, r416_138, r416_141, r416_142, r416_144, r416_145, r416_148, r416_151, r416_152, r416_155, r416_156, r416_157, r416_160, r416_161, r416_164, r416_165, r416_168, r416_169, r416_170, r416_171, r416_172, r416_173, r416_176, r416_179, znl_i, znl_r, znl_j, znl_l, List.length_cons, List.length_nil, Option.some.injEq, Sum.inl.injEq, Sum.inr.injEq, Prod.mk.injEq, true_and, and_true, exists_eq_left', zK_sI, zA_sI, zL_sI, zK_sL, zA_sL, zI_sL, zK_fI, zA_fI, zL_fI, zK_fL, zA_fL, zI_fL, Nat.reduceAdd, Nat.reduceLeDiff, forall_eq', zl_lt, zl_gt, zl_eq, zl_le, zl_ge, zm_0, zaft_n, zaft_v, zb_eq, Decidable.not_not, zK_rH, zI_rH, zL_rH, zA_rH, zsI_rH, zsL_rH, zsA_rH, zcpI_rH, zn_b, zm_b, Int.toNat_natCast, Int.toNat_zero, Int.reduceToNat, GK.K0, GK.K81, GA.A9, pb, g3']
            refine ⟨by omega, by omega, fun z => absurd z (by omega), fun _ => ?_⟩
            repeat (refine And.intro (by omega) ?_)
            exact nx
      · rw [if_pos (by omega)] at q4a
        have hld : yld T a = false := by simp [yld, cl]
        have st : ycnt (yld T) (a + 1) = ycnt (yld T) a := by simp only [ycnt]; rw [hld]; simp
        simp (disch := omega) only [r416_0, r416_1, r416_2, r416_5, r416_6, r416_8, r416_9, r416_12, r416_15, r416_16, r416_19, r416_20, r416_21, r416_22, r416_25, r416_28, r416_29, r416_31, r416_32, r416_35, r416_38, r416_39, r416_42, r416_43, r416_44, r416_47, r416_50, r416_51, r416_52, r416_53, r416_55, r416_56, r416_59, r416_62, r416_63, r416_64, r416_65, r416_68, r416_70, r416_71, r416_72, r416_75, r416_77, r416_78, r416_81, r416_82, r416_85, r416_86, r416_87, r416_88, r416_89, r416_92, r416_94, r416_95, r416_98, r416_99, r416_102, r416_105, r416_106, r416_109, r416_110, r416_113, r416_114, r416_115, r416_116, r416_119, r416_120, r416_123, r416_124, r416_125, r416_126, r416_127, r416_130, r416_131, r416_132, r416_135, r416_138, r416_141, r416_142, r416_144, r416_145, r416_148, r416_151, r416_152, r416_155, r416_156, r416_157, r416_160, r416_161, r416_164, r416_165, r416_168, r416_169, r416_170, r416_171, r416_172, r416_173, r416_176, r416_179, znl_i, znl_r, znl_j, znl_l, List.length_cons, List.length_nil, Option.some.injEq, Sum.inl.injEq, Sum.inr.injEq, Prod.mk.injEq, true_and, and_true, exists_eq_left', zK_sI, zA_sI, zL_sI, zK_sL, zA_sL, zI_sL, zK_fI, zA_fI, zL_fI, zK_fL, zA_fL, zI_fL, Nat.reduceAdd, Nat.reduceLeDiff, forall_eq', zl_lt, zl_gt, zl_eq, zl_le, zl_ge, zm_0, zaft_n, zaft_v, zb_eq, Decidable.not_not, zK_rH, zI_rH, zL_rH, zA_rH, zsI_rH, zsL_rH, zsA_rH, zcpI_rH, zn_b, zm_b, Int.toNat_natCast, Int.toNat_zero, Int.reduceToNat, GK.K0, GK.K81, GA.A9, g2, q4a]
        refine ⟨fun z => absurd z (by omega), fun _ => ⟨by omega, by omega, fun z => absurd z (by omega), fun _ => ?_⟩⟩
        refine ih φ1 q1 q2 (by rw [st]; exact q3) (fun b hb => ?_) (fun c hc => q5 c (by rw [← st]; exact hc)) _ _ _
        rw [q4 b hb]
        have hne : ymn T b ≠ a := fun z => by have := V.mn_mn hb; rw [z] at this; exact cl this
        by_cases c1 : ymn T b < a
        · rw [if_pos c1, if_pos (by omega)]
        · rw [if_neg c1, if_neg (by omega)]
  · rw [r416_143]
    simp (disch := omega) only [r416_0, r416_1, r416_2, r416_5, r416_6, r416_8, r416_9, r416_12, r416_15, r416_16, r416_19, r416_20, r416_21, r416_22, r416_25, r416_28, r416_29, r416_31, r416_32, r416_35, r416_38, r416_39, r416_42, r416_43, r416_44, r416_47, r416_50, r416_51, r416_52, r416_53, r416_55, r416_56, r416_59, r416_62, r416_63, r416_64, r416_65, r416_68, r416_70, r416_71, r416_72, r416_75, r416_77, r416_78, r416_81, r416_82, r416_85, r416_86, r416_87, r416_88, r416_89, r416_92, r416_94, r416_95, r416_98, r416_99, r416_102, r416_105, r416_106, r416_109, r416_110, r416_113, r416_114, r416_115, r416_116, r416_119, r416_120, r416_123, r416_124, r416_125, r416_126, r416_127, r416_130, r416_131, r416_132, r416_135, r416_138, r416_141, r416_142, r416_144, r416_145, r416_148, r416_151, r416_152, r416_155, r416_156, r416_157, r416_160, r416_161, r416_164, r416_165, r416_168, r416_169, r416_170, r416_171, r416_172, r416_173, r416_176, r416_179, znl_i, znl_r, znl_j, znl_l, List.length_cons, List.length_nil, Option.some.injEq, Sum.inl.injEq, Sum.inr.injEq, Prod.mk.injEq, true_and, and_true, exists_eq_left', zK_sI, zA_sI, zL_sI, zK_sL, zA_sL, zI_sL, zK_fI, zA_fI, zL_fI, zK_fL, zA_fL, zI_fL, Nat.reduceAdd, Nat.reduceLeDiff, forall_eq', zl_lt, zl_gt, zl_eq, zl_le, zl_ge, zm_0, zaft_n, zaft_v, zb_eq, Decidable.not_not, zK_rH, zI_rH, zL_rH, zA_rH, zsI_rH, zsL_rH, zsA_rH, zcpI_rH, zn_b, zm_b, Int.toNat_natCast, Int.toNat_zero, Int.reduceToNat, GK.K0, q3]
    refine ⟨fun _ => ?_, fun z => absurd z (by omega)⟩
    rw [← hQ]
    exact ⟨rfl, φ1, rfl, ⟨q4, q3, fun c hc => (q5 c hc).1, fun c hc => (q5 c hc).2, q6⟩, q1, q2⟩
  · have l1 := (V.ls hc).1
    have l2 := V.iv l1
    have l3 := V.bk hc
    have v1 := (q5 c hc).1
    have v2 : φ1 (g + 80) (yls T c) = (yiv T (yls T c) : Int) := by rw [q1 _ (by omega) (by omega)]; exact J.b _ l1
    have v3 : φ1 (g + 81) (yiv T (yls T c)) = (ybk T c : Int) := q4 _ l2
    rw [r416_143]
    simp (disch := omega) only [r416_0, r416_1, r416_2, r416_5, r416_6, r416_8, r416_9, r416_12, r416_15, r416_16, r416_19, r416_20, r416_21, r416_22, r416_25, r416_28, r416_29, r416_31, r416_32, r416_35, r416_38, r416_39, r416_42, r416_43, r416_44, r416_47, r416_50, r416_51, r416_52, r416_53, r416_55, r416_56, r416_59, r416_62, r416_63, r416_64, r416_65, r416_68, r416_70, r416_71, r416_72, r416_75, r416_77, r416_78, r416_81, r416_82, r416_85, r416_86, r416_87, r416_88, r416_89, r416_92, r416_94, r416_95, r416_98, r416_99, r416_102, r416_105, r416_106, r416_109, r416_110, r416_113, r416_114, r416_115, r416_116, r416_119, r416_120, r416_123, r416_124, r416_125, r416_126, r416_127, r416_130, r416_131, r416_132, r416_135, r416_138, r416_141, r416_142, r416_144, r416_145, r416_148, r416_151, r416_152, r416_155, r416_156, r416_157, r416_160, r416_161, r416_164, r416_165, r416_168, r416_169, r416_170, r416_171, r416_172, r416_173, r416_176, r416_179, znl_i, znl_r, znl_j, znl_l, List.length_cons, List.length_nil, Option.some.injEq, Sum.inl.injEq, Sum.inr.injEq, Prod.mk.injEq, true_and, and_true, exists_eq_left', zK_sI, zA_sI, zL_sI, zK_sL, zA_sL, zI_sL, zK_fI, zA_fI, zL_fI, zK_fL, zA_fL, zI_fL, Nat.reduceAdd, Nat.reduceLeDiff, forall_eq', zl_lt, zl_gt, zl_eq, zl_le, zl_ge, zm_0, zaft_n, zaft_v, zb_eq, Decidable.not_not, zK_rH, zI_rH, zL_rH, zA_rH, zsI_rH, zsL_rH, zsA_rH, zcpI_rH, zn_b, zm_b, Int.toNat_natCast, Int.toNat_zero, Int.reduceToNat, GK.K0, GK.K80, GK.K81, GK.K82, GK.K84, GA.A8, GA.A9, GA.A10, GA.A12, q3, v1, v2, v3]
    refine ⟨fun z => absurd z (by omega), fun _ => ?_⟩
    repeat (refine And.intro (by omega) ?_)
    refine ih _ (fun i i1 i2 => by rw [zu_cell _ _ _ (by omega)]; exact q1 i i1 i2) (fun j hj => by rw [zu_cell _ _ _ (by omega)]; exact q2 j hj) (by rw [zu_cell _ _ _ (by omega)]; exact q3) (fun a ha => by rw [zu_cell _ _ _ (by omega)]; exact q4 a ha) (fun c hc => by rw [zu_cell _ _ _ (by omega), zu_cell _ _ _ (by omega)]; exact q5 c hc) (fun j hj => ?_) _ _ _
    by_cases cc : j = c
    · subst cc; rw [zu_same]
    · rw [zu_slot _ _ _ cc]; exact q6 j (by omega)
end
