theorem yplc_inj {K i j k i' j' k' : Nat} (hj : j < K) (hk : k < K) (hj' : j' < K) (hk' : k' < K) (h : (i * K + j) * K + k = (i' * K + j') * K + k') : i = i' ∧ j = j' ∧ k = k' := by
  have key : ∀ a b c c', c < K → c' < K → a * K + c = b * K + c' → a = b ∧ c = c' := fun a b c c' hc hc' e => by
    have e1 : (a * K + c) / K = a := by rw [Nat.mul_comm, Nat.mul_add_div (by omega), Nat.div_eq_of_lt hc, Nat.add_zero]
    have e2 : (b * K + c') / K = b := by rw [Nat.mul_comm, Nat.mul_add_div (by omega), Nat.div_eq_of_lt hc', Nat.add_zero]
    have ab : a = b := by rw [← e1, ← e2, e]
    subst ab
    exact ⟨rfl, by omega⟩
  obtain ⟨e1, e2⟩ := key _ _ _ _ hk hk' h
  obtain ⟨e3, e4⟩ := key _ _ _ _ hj hj' e1
  exact ⟨e3, e4, e2⟩
theorem yplc_lt {K i j k : Nat} (hi : i < K) (hj : j < K) (hk : k < K) : (i * K + j) * K + k < K * K * K := by
  have a : (i + 1) * K ≤ K * K := Nat.mul_le_mul_right _ hi
  rw [Nat.add_mul, Nat.one_mul] at a
  have b : (i * K + j + 1) * K ≤ K * K * K := Nat.mul_le_mul_right _ (by omega)
  rw [Nat.add_mul, Nat.one_mul] at b
  omega
/-- all tables of joined maps -/
structure gJ (T : yT) (g : Nat) (φ : Nat → Nat → Int) : Prop where
  a : gJ1 T g φ
  b : gJ2 T g φ
  n : ∀ i j k, i < yK T → j < yK T → k < yK T → φ (g + 85) ((i * yK T + j) * yK T + k) = yjn T i j k
/-- joins so far -/
def yjp (T : yT) (a b i j k : Nat) : Int := ysum (fun a => ycnt (fun b => decide (ykl T a = i ∧ ykl T b = j ∧ yth T a b = yls T k)) (Tm T)) a + ycnt (fun b => decide (ykl T a = i ∧ ykl T b = j ∧ yth T a b = yls T k)) b
section
variable {e : zEv} {d x f o r n g b : Nat} {h h1 h2 : zH} {φ φ' φ'' ψ ψ' ψ'' : Nat → Nat → Int} {α α' α'' : Nat → Nat → Option Nat} {F : yF} {π ρ : Nat → Nat} {sg sh : Int} {T : yT}
theorem yjp_bd (T : yT) (hm : Tm T ≤ 48) {a b : Nat} (ha : a ≤ 48) (hb : b ≤ 48) (i j k : Nat) : 0 ≤ yjp T a b i j k ∧ yjp T a b i j k ≤ 2352 := by
  have c := ycnt_bd (fun b => decide (ykl T a = i ∧ ykl T b = j ∧ yth T a b = yls T k)) b
  have s : ∀ n : Nat, 0 ≤ ysum (fun a => ycnt (fun b => decide (ykl T a = i ∧ ykl T b = j ∧ yth T a b = yls T k)) (Tm T)) n ∧ ysum (fun a => ycnt (fun b => decide (ykl T a = i ∧ ykl T b = j ∧ yth T a b = yls T k)) (Tm T)) n ≤ 48 * n := fun n => by
    induction n with
    | zero => exact ⟨by simp [ysum], by simp [ysum]⟩
    | succ n ih =>
      have := ycnt_bd (fun b => decide (ykl T n = i ∧ ykl T b = j ∧ yth T n b = yls T k)) (Tm T)
      rw [ysum_s]; push_cast; omega
  have := s a
  unfold yjp; omega
theorem g_joinsAll (GK : gK e h x g) (GA : gA x g α) (V : yV T) (G : gT T g φ) : zc e (d + 5) 414 [zr (some (x + g))] (cH h x φ ψ α)
    (fun ov h' => ov = Sum.inl none ∧ ∃ φ' α', h' = cH h x φ' ψ α' ∧ gJ T g φ' ∧ (∀ i, i ≠ g → (i < g + 32 ∨ g + 86 ≤ i) → φ' i = φ i) ∧ (∀ j, j ≠ 14 → φ' g j = φ g j) ∧ ∀ i, i ≠ g + 86 → α' i = α i) := by
  have gn := GK.n
  have m := V.m
  have kb := GK.b
  have hK := V.K
  generalize hQ : (fun ov h' => ov = Sum.inl none ∧ ∃ φ' α', h' = cH h x φ' ψ α' ∧ gJ T g φ' ∧ (∀ i, i ≠ g → (i < g + 32 ∨ g + 86 ≤ i) → φ' i = φ i) ∧ (∀ j, j ≠ 14 → φ' g j = φ g j) ∧ ∀ i, i ≠ g + 86 → α' i = α i : zEt) = Q
  have GAof : ∀ α', (∀ i, i ≠ g + 86 → α' i = α i) → gA x g α' := fun α' q => GA.of fun i j _ _ n => by unfold gch at n; rw [q i (by omega)]
  have k3 : yK T * yK T * yK T ≤ 1728 := Nat.mul_le_mul (Nat.mul_le_mul hK hK) hK
  have c1 : (yK T : Int) * (yK T : Int) = ((yK T * yK T : Nat) : Int) := by push_cast; rfl
  have k2 : yK T * yK T ≤ 144 := Nat.mul_le_mul hK hK
  have c2 : ((yK T * yK T : Nat) : Int) * (yK T : Int) = ((yK T * yK T * yK T : Nat) : Int) := by push_cast; rfl
  -- the joins are counted
  have cnt : ∀ α' : Nat → Nat → Option Nat, (∀ i, i ≠ g + 86 → α' i = α i) → _ := fun α' qa => zdown0 (fun a => ∀ φ1 : Nat → Nat → Int, gJ1 T g φ1 → gJ2 T g φ1 → (∀ i, i ≠ g → (i < g + 32 ∨ g + 86 ≤ i) → φ1 i = φ i) → (∀ j, j ≠ 14 → φ1 g j = φ g j) → (∀ i j k, i < yK T → j < yK T → k < yK T → φ1 (g + 85) ((i * yK T + j) * yK T + k) = yjp T a 0 i j k) → ∀ w2 w3, zg e 414 (d + 4) 120 [zr (some (x + g)), zi (a : Int), w2, w3] [] (cH h x φ1 ψ α') Q) (Tm T) (fun φ1 J1 J2 q1 q2 q3 w2 w3 => by
      have g2 : φ1 g 2 = (Tm T : Int) := by rw [q2 2 (by omega)]; exact G.m
      rw [r414_120]
      simp (disch := omega) only [r414_0, r414_1, r414_3, r414_4, r414_7, r414_10, r414_11, r414_13, r414_14, r414_17, r414_20, r414_21, r414_24, r414_25, r414_26, r414_27, r414_28, r414_29, r414_32, r414_33, r414_36, r414_37, r414_38, r414_39, r414_42, r414_43, r414_44, r414_47, r414_50, r414_51, r414_52, r414_55, r414_56, r414_57, r414_58, r414_59, r414_62, r414_63, r414_66, r414_67, r414_68, r414_69, r414_72, r414_75, r414_78, r414_81, r414_82, r414_85, r414_86, r414_88, r414_89, r414_92, r414_93, r414_96, r414_97, r414_98, r414_101, r414_102, r414_105, r414_106, r414_109, r414_110, r414_111, r414_112, r414_115, r414_118, r414_119, r414_121, r414_122, r414_125, r414_128, r414_129, r414_131, r414_132, r414_135, r414_138, r414_139, r414_142, r414_143, r414_144, r414_145, r414_146, r414_147, r414_148, r414_151, r414_152, r414_155, r414_156, r414_157, r414_158, r414_159, r414_162, r414_163, r414_166, r414_167, r414_168, r414_171, r414_172, r414_173, r414_174, r414_177, r414_178, r414_179, r414_180, r414_183, r414_184, r414_185, r414_188, r414_189, r414_190, r414_191, r414_192, r414_193, r414_196, r414_199, r414_202, r414_205, znl_i, znl_r, znl_j, znl_l, List.length_cons, List.length_nil, Option.some.injEq, Sum.inl.injEq, Sum.inr.injEq, Prod.mk.injEq, true_and, and_true, exists_eq_left', zK_sI, zA_sI, zL_sI, zK_sL, zA_sL, zI_sL, zK_fI, zA_fI, zL_fI, zK_fL, zA_fL, zI_fL, Nat.reduceAdd, Nat.reduceLeDiff, forall_eq', zl_lt, zl_gt, zl_eq, zl_le, zl_ge, zm_0, zaft_n, zaft_v, zb_eq, Decidable.not_not, zK_rH, zI_rH, zL_rH, zA_rH, zsI_rH, zsL_rH, zsA_rH, zcpI_rH, zn_b, zm_b, Int.toNat_natCast, Int.toNat_zero, Int.reduceToNat, GK.K0, g2]
      refine ⟨fun _ => ?_, fun z => absurd z (by omega)⟩
      rw [← hQ]
      refine ⟨rfl, φ1, α', rfl, ⟨J1, J2, fun i j k hi hj hk => ?_⟩, q1, q2, qa⟩
      rw [q3 i j k hi hj hk]
      unfold yjp yjn
      simp only [ycnt, Int.add_zero]) (fun a ha ih φ1 J1 J2 q1 q2 q3 w2 w3 => by
      have GA' := GAof α' qa
      have g2 : φ1 g 2 = (Tm T : Int) := by rw [q2 2 (by omega)]; exact G.m
      have inner := zdown0 (fun b => ∀ φ1 : Nat → Nat → Int, gJ1 T g φ1 → gJ2 T g φ1 → (∀ i, i ≠ g → (i < g + 32 ∨ g + 86 ≤ i) → φ1 i = φ i) → (∀ j, j ≠ 14 → φ1 g j = φ g j) → (∀ i j k, i < yK T → j < yK T → k < yK T → φ1 (g + 85) ((i * yK T + j) * yK T + k) = yjp T a b i j k) → ∀ w3, zg e 414 (d + 4) 130 [zr (some (x + g)), zi (a : Int), zi (b : Int), w3] [] (cH h x φ1 ψ α') Q) (Tm T) (fun φ1 J1 J2 q1 q2 q3 w3 => by
          have g2 : φ1 g 2 = (Tm T : Int) := by rw [q2 2 (by omega)]; exact G.m
          rw [r414_130]
          simp (disch := omega) only [r414_0, r414_1, r414_3, r414_4, r414_7, r414_10, r414_11, r414_13, r414_14, r414_17, r414_20, r414_21, r414_24, r414_25, r414_26, r414_27, r414_28, r414_29, r414_32, r414_33, r414_36, r414_37, r414_38, r414_39, r414_42, r414_43, r414_44, r414_47, r414_50, r414_51, r414_52, r414_55, r414_56, r414_57, r414_58, r414_59, r414_62, r414_63, r414_66, r414_67, r414_68, r414_69, r414_72, r414_75, r414_78, r414_81, r414_82, r414_85, r414_86, r414_88, r414_89, r414_92, r414_93, r414_96, r414_97, r414_98, r414_101, r414_102, r414_105, r414_106, r414_109, r414_110, r414_111, r414_112, r414_115, r414_118, r414_119, r414_121, r414_122, r414_125, r414_128, r414_129, r414_131, r414_132, r414_135, r414_138, r414_139, r414_142, r414_143, r414_144, r414_145, r414_146, r414_147, r414_148, r414_151, r414_152, r414_155, r414_156, r414_157, r414_158, r414_159, r414_162, r414_163, r414_166, r414_167, r414_168, r414_171, r414_172, r414_173, r414_174, r414_177, r414_178, r414_179, r414_180, r414_183, r414_184, r414_185, r414_188, r414_189, r414_190, r414_191, r414_192, r414_193, r414_196, r414_199, r414_202, r414_205, znl_i, znl_r, znl_j, znl_l, List.length_cons, List.length_nil, Option.some.injEq, Sum.inl.injEq, Sum.inr.injEq, Prod.mk.injEq, true_and, and_true, exists_eq_left', zK_sI, zA_sI, zL_sI, zK_sL, zA_sL, zI_sL, zK_fI, zA_fI, zL_fI, zK_fL, zA_fL, zI_fL, Nat.reduceAdd, Nat.reduceLeDiff, forall_eq', zl_lt, zl_gt, zl_eq, zl_le, zl_ge, zm_0, zaft_n, zaft_v, zb_eq, Decidable.not_not, zK_rH, zI_rH, zL_rH, zA_rH, zsI_rH, zsL_rH, zsA_rH, zcpI_rH, zn_b, zm_b, Int.toNat_natCast, Int.toNat_zero, Int.reduceToNat, GK.K0, g2]
          refine ⟨fun _ => ih φ1 J1 J2 q1 q2 (fun i j k hi hj hk => ?_) _ _, fun z => absurd z (by omega)⟩
          rw [q3 i j k hi hj hk]
          unfold yjp
          rw [ysum_s]; simp only [ycnt, Int.add_zero]) (fun b hb ihb φ1 J1 J2 q1 q2 q3 w3 => by
          have g2 : φ1 g 2 = (Tm T : Int) := by rw [q2 2 (by omega)]; exact G.m
          have hc := V.th ha hb
          have ka := V.cl_lt ha
          have kb' := V.cl_lt hb
          have kc := V.cl_lt hc
          have v1 := J1.j a b ha hb
          have v2 := J2.s _ hc
          have v3 := J2.l _ kc
          have l1 := (V.ls kc).1
          have sa := J2.s a ha
          have sb := J2.s b hb
          have st : ∀ i j k, yjp T a (b + 1) i j k = yjp T a b i j k + yb (decide (ykl T a = i ∧ ykl T b = j ∧ yth T a b = yls T k)) := fun i j k => by
            unfold yjp; rw [ycnt_sb]; omega
          rw [r414_130]
          simp (disch := omega) only [r414_0, r414_1, r414_3, r414_4, r414_7, r414_10, r414_11, r414_13, r414_14, r414_17, r414_20, r414_21, r414_24, r414_25, r414_26, r414_27, r414_28, r414_29, r414_32, r414_33, r414_36, r414_37, r414_38, r414_39, r414_42, r414_43, r414_44, r414_47, r414_50, r414_51, r414_52, r414_55, r414_56, r414_57, r414_58, r414_59, r414_62, r414_63, r414_66, r414_67, r414_68, r414_69, r414_72, r414_75, r414_78, r414_81, r414_82, r414_85, r414_86, r414_88, r414_89, r414_92, r414_93, r414_96, r414_97, r414_98, r414_101, r414_102, r414_105, r414_106, r414_109, r414_110, r414_111, r414_112, r414_115, r414_118, r414_119, r414_121, r414_122, r414_125, r414_128, r414_129, r414_131, r414_132, r414_135, r414_138, r414_139, r414_142, r414_143, r414_144, r414_145, r414_146, r414_147, r414_148, r414_151, r414_152, r414_155, r414_156, r414_157, r414_158, r414_159, r414_162, r414_163, r414_166, r414_167, r414_168, r414_171, r414_172, r414_173, r414_174, r414_177, r414_178, r414_179, r414_180, r414_183, r414_184, r414_185, r414_188, r414_189, r414_190, r414_191, r414_192, r414_193, r414_196, r414_199, r414_202, r414_205, znl_i, znl_r, znl_j, znl_l, List.length_cons, List.length_nil, Option.some.injEq, Sum.inl.injEq, Sum.inr.injEq, Prod.mk.injEq, true_and, and_true, exists_eq_left', zK_sI, zA_sI, zL_sI, zK_sL, zA_sL, zI_sL, zK_fI, zA_fI, zL_fI, zK_fL, zA_fL, zI_fL, Nat.reduceAdd, Nat.reduceLeDiff, forall_eq', zl_lt, zl_gt, zl_eq, zl_le, zl_ge, zm_0, zaft_n, zaft_v, zb_eq, Decidable.not_not, zK_rH, zI_rH, zL_rH, zA_rH, zsI_rH, zsL_rH, zsA_rH, zcpI_rH, zn_b, zm_b, Int.toNat_natCast, Int.toNat_zero, Int.reduceToNat, GK.K0, GK.K31, GK.K32, GK.K81, GK.K82, GA'.A7, GA'.A9, GA'.A10, GA'.A13, GA'.R31, g2, v1, v2, v3, sa, sb]
          refine ⟨fun z => absurd z (by omega), fun _ => ?_⟩
          repeat (refine And.intro (by omega) ?_)
          refine ⟨fun z => ?_, fun z => ?_⟩
          · refine ihb φ1 J1 J2 q1 q2 (fun i j k hi hj hk => ?_) _
            rw [q3 i j k hi hj hk, st, decide_eq_false]
            · show _ = _ + 0; omega
            · rintro ⟨_, _, w⟩
              have lk := V.ls hk
              have : ykl T (yth T a b) = k := by rw [w]; exact lk.2.2
              rw [this] at z
              omega
          · have ze : yls T (ykl T (yth T a b)) = yth T a b := by omega
            have pv := q3 _ _ _ ka kb' kc
            have pl := yplc_lt ka kb' kc
            have jb := yjp_bd T m.2 (a := a) (b := b) (by omega) (by omega) (ykl T a) (ykl T b) (ykl T (yth T a b))
            repeat (refine And.intro (by omega) ?_)
            refine zc_w (g_place (d := d + 3) GK hK J2.k ka kb' kc) ?_
            simp (disch := omega) only [r414_0, r414_1, r414_3, r414_4, r414_7, r414_10, r414_11, r414_13, r414_14, r414_17, r414_20, r414_21, r414_24, r414_25, r414_26, r414_27, r414_28, r414_29, r414_32, r414_33, r414_36, r414_37, r414_38, r414_39, r414_42, r414_43, r414_44, r414_47, r414_50, r414_51, r414_52, r414_55, r414_56, r414_57, r414_58, r414_59, r414_62, r414_63, r414_66, r414_67, r414_68, r414_69, r414_72, r414_75, r414_78, r414_81, r414_82, r414_85, r414_86, r414_88, r414_89, r414_92, r414_93, r414_96, r414_97, r414_98, r414_101, r414_102, r414_105, r414_106, r414_109, r414_110, r414_111, r414_112, r414_115, r414_118, r414_119, r414_121, r414_122, r414_125, r414_128, r414_129, r414_131, r414_132, r414_135, r414_138, r414_139, r414_142, r414_143, r414_144, r414_145, r414_146, r414_147, r414_148, r414_151, r414_152, r414_155, r414_156, r414_157, r414_158, r414_159, r414_162, r414_163, r414_166, r414_167, r414_168, r414_171, r414_172, r414_173, r414_174, r414_177, r414_178, r414_179, r414_180, r414_183, r414_184, r414_185, r414_188, r414_189, r414_190, r414_191, r414_192, r414_193, r414_196, r414_199, r414_202, r414_205, znl_i, znl_r, znl_j, znl_l, List.length_cons, List.length_nil, Option.some.injEq, Sum.inl.injEq, Sum.inr.injEq, Prod.mk.injEq, true_and, and_true, exists_eq_left', zK_sI, zA_sI, zL_sI, zK_sL, zA_sL, zI_sL, zK_fI, zA_fI, zL_fI, zK_fL, zA_fL, zI_fL, Nat.reduceAdd, Nat.reduceLeDiff, forall_eq', zl_lt, zl_gt, zl_eq, zl_le, zl_ge, zm_0, zaft_n, zaft_v, zb_eq, Decidable.not_not, zK_rH, zI_rH, zL_rH, zA_rH, zsI_rH, zsL_rH, zsA_rH, zcpI_rH, zn_b, zm_b, Int.toNat_natCast, Int.toNat_zero, Int.reduceToNat, GK.K0, GK.K85, pv]
            repeat (refine And.intro (by omega) ?_)
            refine ihb _ (J1.of m.2 fun i i1 i2 => zu_cell _ _ _ (by omega)) (J2.of (by rw [zu_cell _ _ _ (by omega)]) fun i i1 i2 => zu_cell _ _ _ (by omega)) (fun i i1 i2 => by rw [zu_cell _ _ _ (by omega)]; exact q1 i i1 i2) (fun j hj => by rw [zu_cell _ _ _ (by omega)]; exact q2 j hj) (fun i j k hi hj hk => ?_) _
            by_cases c : (i * yK T + j) * yK T + k = (ykl T a * yK T + ykl T b) * yK T + ykl T (yth T a b)
            · obtain ⟨rfl, rfl, rfl⟩ := yplc_inj hj hk kb' kc c
              rw [zu_same, st, decide_eq_true ⟨rfl, rfl, ze.symm⟩]; rfl
            · rw [zu_slot _ _ _ c, q3 i j k hi hj hk, st, decide_eq_false]
              · show _ = _ + 0; omega
              · rintro ⟨w1, w2, w3⟩
                refine c ?_
                have : ykl T (yth T a b) = k := by rw [w3]; exact (V.ls hk).2.2
                rw [w1, w2, this])
      rw [r414_120]
      simp (disch := omega) only [r414_0, r414_1, r414_3, r414_4, r414_7, r414_10, r414_11, r414_13, r414_14, r414_17, r414_20, r414_21, r414_24, r414_25, r414_26, r414_27, r414_28, r414_29, r414_32, r414_33, r414_36, r414_37, r414_38, r414_39, r414_42, r414_43, r414_44, r414_47, r414_50, r414_51, r414_52, r414_55, r414_56, r414_57, r414_58, r414_59, r414_62, r414_63, r414_66, r414_67, r414_68, r414_69, r414_72, r414_75, r414_78, r414_81, r414_82, r414_85, r414_86, r414_88, r414_89, r414_92, r414_93, r414_96, r414_97, r414_98, r414_101, r414_102, r414_105, r414_106, r414_109, r414_110, r414_111, r414_112, r414_115, r414_118, r414_119, r414_121, r414_122, r414_125, r414_128, r414_129, r414_131, r414_132, r414_135, r414_138, r414_139, r414_142, r414_143, r414_144, r414_145, r414_146, r414_147, r414_148, r414_151, r414_152, r414_155, r414_156, r414_157, r414_158, r414_159, r414_162, r414_163, r414_166, r414_167, r414_168, r414_171, r414_172, r414_173, r414_174, r414_177, r414_178, r414_179, r414_180, r414_183, r414_184, r414_185, r414_188, r414_189, r414_190, r414_191, r414_192, r414_193, r414_196, r414_199, r414_202, r414_205, znl_i, znl_r, znl_j, znl_l, List.length_cons, List.length_nil, Option.some.injEq, Sum.inl.injEq, Sum.inr.injEq, Prod.mk.injEq, true_and, and_true, exists_eq_left', zK_sI, zA_sI, zL_sI, zK_sL, zA_sL, zI_sL, zK_fI, zA_fI, zL_fI, zK_fL, zA_fL, zI_fL, Nat.reduceAdd, Nat.reduceLeDiff, forall_eq', zl_lt, zl_gt, zl_eq, zl_le, zl_ge, zm_0, zaft_n, zaft_v, zb_eq, Decidable.not_not, zK_rH, zI_rH, zL_rH, zA_rH, zsI_rH, zsL_rH, zsA_rH, zcpI_rH, zn_b, zm_b, Int.toNat_natCast, Int.toNat_zero, Int.reduceToNat, GK.K0, g2]
      refine ⟨fun z => absurd z (by omega), fun _ => inner φ1 J1 J2 q1 q2 q3 _⟩)
  -- all joins nought
  have clr : ∀ α' : Nat → Nat → Option Nat, (∀ i, i ≠ g + 86 → α' i = α i) → _ := fun α' qa => zdown0 (fun k => ∀ φ1 : Nat → Nat → Int, gJ1 T g φ1 → gJ2 T g φ1 → (∀ i, i ≠ g → (i < g + 32 ∨ g + 86 ≤ i) → φ1 i = φ i) → (∀ j, j ≠ 14 → φ1 g j = φ g j) → (∀ j, j < k → φ1 (g + 85) j = 0) → ∀ w2 w3, zg e 414 (d + 4) 87 [zr (some (x + g)), zi (k : Int), w2, w3] [] (cH h x φ1 ψ α') Q) (yK T * yK T * yK T) (fun φ1 J1 J2 q1 q2 q3 w2 w3 => by
      rw [r414_87]
      simp (disch := omega) only [r414_0, r414_1, r414_3, r414_4, r414_7, r414_10, r414_11, r414_13, r414_14, r414_17, r414_20, r414_21, r414_24, r414_25, r414_26, r414_27, r414_28, r414_29, r414_32, r414_33, r414_36, r414_37, r414_38, r414_39, r414_42, r414_43, r414_44, r414_47, r414_50, r414_51, r414_52, r414_55, r414_56, r414_57, r414_58, r414_59, r414_62, r414_63, r414_66, r414_67, r414_68, r414_69, r414_72, r414_75, r414_78, r414_81, r414_82, r414_85, r414_86, r414_88, r414_89, r414_92, r414_93, r414_96, r414_97, r414_98, r414_101, r414_102, r414_105, r414_106, r414_109, r414_110, r414_111, r414_112, r414_115, r414_118, r414_119, r414_121, r414_122, r414_125, r414_128, r414_129, r414_131, r414_132, r414_135, r414_138, r414_139, r414_142, r414_143, r414_144, r414_145, r414_146, r414_147, r414_148, r414_151, r414_152, r414_155, r414_156, r414_157, r414_158, r414_159, r414_162, r414_163, r414_166, r414_167, r414_168, r414_171, r414_172, r414_173, r414_174, r414_177, r414_178, r414_179, r414_180, r414_183, r414_184, r414_185, r414_188, r414_189, r414_190, r414_191, r414_192, r414_193, r414_196, r414_199, r414_202, r414_205, znl_i, znl_r, znl_j, znl_l, List.length_cons, List.length_nil, Option.some.injEq, Sum.inl.injEq, Sum.inr.injEq, Prod.mk.injEq, true_and, and_true, exists_eq_left', zK_sI, zA_sI, zL_sI, zK_sL, zA_sL, zI_sL, zK_fI, zA_fI, zL_fI, zK_fL, zA_fL, zI_fL, Nat.reduceAdd, Nat.reduceLeDiff, forall_eq', zl_lt, zl_gt, zl_eq, zl_le, zl_ge, zm_0, zaft_n, zaft_v, zb_eq, Decidable.not_not, zK_rH, zI_rH, zL_rH, zA_rH, zsI_rH, zsL_rH, zsA_rH, zcpI_rH, zn_b, zm_b, Int.toNat_natCast, Int.toNat_zero, Int.reduceToNat, GK.K0, J2.k, c1, c2]
      refine ⟨fun _ => cnt α' qa φ1 J1 J2 q1 q2 (fun i j k hi hj hk => ?_) _ _, fun z => absurd z (by omega)⟩
      rw [q3 _ (yplc_lt hi hj hk)]
      unfold yjp; simp only [ysum, ycnt]; rfl) (fun k hk ih φ1 J1 J2 q1 q2 q3 w2 w3 => by
      have GA' := GAof α' qa
      rw [r414_87]
      simp (disch := omega) only [r414_0, r414_1, r414_3, r414_4, r414_7, r414_10, r414_11, r414_13, r414_14, r414_17, r414_20, r414_21, r414_24, r414_25, r414_26, r414_27, r414_28, r414_29, r414_32, r414_33, r414_36, r414_37, r414_38, r414_39, r414_42, r414_43, r414_44, r414_47, r414_50, r414_51, r414_52, r414_55, r414_56, r414_57, r414_58, r414_59, r414_62, r414_63, r414_66, r414_67, r414_68, r414_69, r414_72, r414_75, r414_78, r414_81, r414_82, r414_85, r414_86, r414_88, r414_89, r414_92, r414_93, r414_96, r414_97, r414_98, r414_101, r414_102, r414_105, r414_106, r414_109, r414_110, r414_111, r414_112, r414_115, r414_118, r414_119, r414_121, r414_122, r414_125, r414_128, r414_129, r414_131, r414_132, r414_135, r414_138, r414_139, r414_142, r414_143, r414_144, r414_145, r414_146, r414_147, r414_148, r414_151, r414_152, r414_155, r414_156, r414_157, r414_158, r414_159, r414_162, r414_163, r414_166, r414_167, r414_168, r414_171, r414_172, r414_173, r414_174, r414_177, r414_178, r414_179, r414_180, r414_183, r414_184, r414_185, r414_188, r414_189, r414_190, r414_191, r414_192, r414_193, r414_196, r414_199, r414_202, r414_205, znl_i, znl_r, znl_j, znl_l, List.length_cons, List.length_nil, Option.some.injEq, Sum.inl.injEq, Sum.inr.injEq, Prod.mk.injEq, true_and, and_true, exists_eq_left', zK_sI, zA_sI, zL_sI, zK_sL, zA_sL, zI_sL, zK_fI, zA_fI, zL_fI, zK_fL, zA_fL, zI_fL, Nat.reduceAdd, Nat.reduceLeDiff, forall_eq', zl_lt, zl_gt, zl_eq, zl_le, zl_ge, zm_0, zaft_n, zaft_v, zb_eq, Decidable.not_not, zK_rH, zI_rH, zL_rH, zA_rH, zsI_rH, zsL_rH, zsA_rH, zcpI_rH, zn_b, zm_b, Int.toNat_natCast, Int.toNat_zero, Int.reduceToNat, GK.K0, GK.K85, GA'.A13, J2.k, c1, c2]
      refine ⟨fun z => absurd z (by omega), fun _ => ?_⟩
      repeat (refine And.intro (by omega) ?_)
      refine ih _ (J1.of m.2 fun i i1 i2 => zu_cell _ _ _ (by omega)) (J2.of (by rw [zu_cell _ _ _ (by omega)]) fun i i1 i2 => zu_cell _ _ _ (by omega)) (fun i i1 i2 => by rw [zu_cell _ _ _ (by omega)]; exact q1 i i1 i2) (fun j hj => by rw [zu_cell _ _ _ (by omega)]; exact q2 j hj) (fun j hj => ?_) _ _
      by_cases c : j = k
      · subst c; rw [zu_same]
      · rw [zu_slot _ _ _ c]; exact q3 j (by omega))
  -- joined maps
  have main := zdown0 (fun a => ∀ (φ1 : Nat → Nat → Int) (α' : Nat → Nat → Option Nat), (∀ i, i ≠ g + 86 → α' i = α i) → (∀ i, (i < g + 32 ∨ g + 81 ≤ i) → φ1 i = φ i) → (∀ a' c, a' < a → c < Tm T → φ1 (g + 32 + a') c = (yth T a' c : Int)) → (∀ a', a' < a → φ1 (g + 80) a' = (yiv T a' : Int)) → ∀ w2 w3, zg e 414 (d + 4) 2 [zr (some (x + g)), zi (a : Int), w2, w3] [] (cH h x φ1 ψ α') Q) (Tm T) (fun φ1 α' qa q1 q2 q3 w2 w3 => ?_) (fun a ha ih φ1 α' qa q1 q2 q3 w2 w3 => ?_)
  · simp (disch := omega) only [n414, r414_0, r414_1, r414_3, r414_4, r414_7, r414_10, r414_11, r414_13, r414_14, r414_17, r414_20, r414_21, r414_24, r414_25, r414_26, r414_27, r414_28, r414_29, r414_32, r414_33, r414_36, r414_37, r414_38, r414_39, r414_42, r414_43, r414_44, r414_47, r414_50, r414_51, r414_52, r414_55, r414_56, r414_57, r414_58, r414_59, r414_62, r414_63, r414_66, r414_67, r414_68, r414_69, r414_72, r414_75, r414_78, r414_81, r414_82, r414_85, r414_86, r414_88, r414_89, r414_92, r414_93, r414_96, r414_97, r414_98, r414_101, r414_102, r414_105, r414_106, r414_109, r414_110, r414_111, r414_112, r414_115, r414_118, r414_119, r414_121, r414_122, r414_125, r414_128, r414_129, r414_131, r414_132, r414_135, r414_138, r414_139, r414_142, r414_143, r414_144, r414_145, r414_146, r414_147, r414_148, r414_151, r414_152, r414_155, r414_156, r414_157, r414_158, r414_159, r414_162, r414_163, r414_166, r414_167, r414_168, r414_171, r414_172, r414_173, r414_174, r414_177, r414_178, r414_179, r414_180, r414_183, r414_184, r414_185, r414_188, r414_189, r414_190, r414_191, r414_192, r414_193, r414_196, r414_199, r414_202, r414_205, znl_i, znl_r, znl_j, znl_l, List.length_cons, List.length_nil, Option.some.injEq, Sum.inl.injEq, Sum.inr.injEq, Prod.mk.injEq, true_and, and_true, exists_eq_left', zK_sI, zA_sI, zL_sI, zK_sL, zA_sL, zI_sL, zK_fI, zA_fI, zL_fI, zK_fL, zA_fL, zI_fL, Nat.reduceAdd, Nat.reduceLeDiff, forall_eq', zl_lt, zl_gt, zl_eq, zl_le, zl_ge, zm_0, zaft_n, zaft_v, zb_eq, Decidable.not_not, zK_rH, zI_rH, zL_rH, zA_rH, zsI_rH, zsL_rH, zsA_rH, zcpI_rH, zn_b, zm_b, Int.toNat_natCast, Int.toNat_zero, Int.reduceToNat, GK.K0]
    exact main φ α (fun _ _ => rfl) (fun _ _ => rfl) (fun a' c z => absurd z (by omega)) (fun a' z => absurd z (by omega)) _ _
  · have GA' := GAof α' qa
    have J1 : gJ1 T g φ1 := ⟨fun a c ha hc => q2 a c ha hc, q3⟩
    have G1 : gT T g φ1 := G.of m.2 (by rw [q1 _ (by omega)]) (fun i i1 i2 => q1 i (by omega))
    rw [r414_2]
    simp (disch := omega) only [r414_0, r414_1, r414_3, r414_4, r414_7, r414_10, r414_11, r414_13, r414_14, r414_17, r414_20, r414_21, r414_24, r414_25, r414_26, r414_27, r414_28, r414_29, r414_32, r414_33, r414_36, r414_37, r414_38, r414_39, r414_42, r414_43, r414_44, r414_47, r414_50, r414_51, r414_52, r414_55, r414_56, r414_57, r414_58, r414_59, r414_62, r414_63, r414_66, r414_67, r414_68, r414_69, r414_72, r414_75, r414_78, r414_81, r414_82, r414_85, r414_86, r414_88, r414_89, r414_92, r414_93, r414_96, r414_97, r414_98, r414_101, r414_102, r414_105, r414_106, r414_109, r414_110, r414_111, r414_112, r414_115, r414_118, r414_119, r414_121, r414_122, r414_125, r414_128, r414_129, r414_131, r414_132, r414_135, r414_138, r414_139, r414_142, r414_143, r414_144, r414_145, r414_146, r414_147, r414_148, r414_151, r414_152, r414_155, r414_156, r414_157, r414_158, r414_159, r414_162, r414_163, r414_166, r414_167, r414_168, r414_171, r414_172, r414_173, r414_174, r414_177, r414_178, r414_179, r414_180, r414_183, r414_184, r414_185, r414_188, r414_189, r414_190, r414_191, r414_192, r414_193, r414_196, r414_199, r414_202, r414_205, znl_i, znl_r, znl_j, znl_l, List.length_cons, List.length_nil, Option.some.injEq, Sum.inl.injEq, Sum.inr.injEq, Prod.mk.injEq, true_and, and_true, exists_eq_left', zK_sI, zA_sI, zL_sI, zK_sL, zA_sL, zI_sL, zK_fI, zA_fI, zL_fI, zK_fL, zA_fL, zI_fL, Nat.reduceAdd, Nat.reduceLeDiff, forall_eq', zl_lt, zl_gt, zl_eq, zl_le, zl_ge, zm_0, zaft_n, zaft_v, zb_eq, Decidable.not_not, zK_rH, zI_rH, zL_rH, zA_rH, zsI_rH, zsL_rH, zsA_rH, zcpI_rH, zn_b, zm_b, Int.toNat_natCast, Int.toNat_zero, Int.reduceToNat, GK.K0, G1.m]
    refine ⟨fun _ => ?_, fun z => absurd z (by omega)⟩
    refine zc_mono (g_laysSorts (d := d + 2) GK GA' V J1 G1) ?_
    rintro _ _ ⟨rfl, φ2, rfl, J2, p1, p2⟩
    simp (disch := omega) only [r414_0, r414_1, r414_3, r414_4, r414_7, r414_10, r414_11, r414_13, r414_14, r414_17, r414_20, r414_21, r414_24, r414_25, r414_26, r414_27, r414_28, r414_29, r414_32, r414_33, r414_36, r414_37, r414_38, r414_39, r414_42, r414_43, r414_44, r414_47, r414_50, r414_51, r414_52, r414_55, r414_56, r414_57, r414_58, r414_59, r414_62, r414_63, r414_66, r414_67, r414_68, r414_69, r414_72, r414_75, r414_78, r414_81, r414_82, r414_85, r414_86, r414_88, r414_89, r414_92, r414_93, r414_96, r414_97, r414_98, r414_101, r414_102, r414_105, r414_106, r414_109, r414_110, r414_111, r414_112, r414_115, r414_118, r414_119, r414_121, r414_122, r414_125, r414_128, r414_129, r414_131, r414_132, r414_135, r414_138, r414_139, r414_142, r414_143, r414_144, r414_145, r414_146, r414_147, r414_148, r414_151, r414_152, r414_155, r414_156, r414_157, r414_158, r414_159, r414_162, r414_163, r414_166, r414_167, r414_168, r414_171, r414_172, r414_173, r414_174, r414_177, r414_178, r414_179, r414_180, r414_183, r414_184, r414_185, r414_188, r414_189, r414_190, r414_191, r414_192, r414_193, r414_196, r414_199, r414_202, r414_205, znl_i, znl_r, znl_j, znl_l, List.length_cons, List.length_nil, Option.some.injEq, Sum.inl.injEq, Sum.inr.injEq, Prod.mk.injEq, true_and, and_true, exists_eq_left', zK_sI, zA_sI, zL_sI, zK_sL, zA_sL, zI_sL, zK_fI, zA_fI, zL_fI, zK_fL, zA_fL, zI_fL, Nat.reduceAdd, Nat.reduceLeDiff, forall_eq', zl_lt, zl_gt, zl_eq, zl_le, zl_ge, zm_0, zaft_n, zaft_v, zb_eq, Decidable.not_not, zK_rH, zI_rH, zL_rH, zA_rH, zsI_rH, zsL_rH, zsA_rH, zcpI_rH, zn_b, zm_b, Int.toNat_natCast, Int.toNat_zero, Int.reduceToNat, GK.K0]
    exact clr α' qa φ2 (J1.of m.2 fun i i1 i2 => p1 i (by omega) (by omega)) J2 (fun i i1 i2 => by rw [p1 i i1 (by omega)]; exact q1 i (by omega)) (fun j hj => by rw [p2 j hj, q1 _ (by omega)]) (fun j hj => absurd hj (by omega)) _ _
  · have inner := zdown0 (fun b => ∀ (φ1 : Nat → Nat → Int) (α' : Nat → Nat → Option Nat), (∀ i, i ≠ g + 86 → α' i = α i) → (∀ i, (i < g + 32 ∨ g + 81 ≤ i) → φ1 i = φ i) → (∀ a' c, a' < a ∧ c < Tm T ∨ a' = a ∧ c < b → φ1 (g + 32 + a') c = (yth T a' c : Int)) → (∀ a', a' < a ∨ a' = a ∧ yiv T a < b → φ1 (g + 80) a' = (yiv T a' : Int)) → ∀ w3, zg e 414 (d + 4) 12 [zr (some (x + g)), zi (a : Int), zi (b : Int), w3] [] (cH h x φ1 ψ α') Q) (Tm T) (fun φ1 α' qa q1 q2 q3 w3 => ?_) (fun b hb ihb φ1 α' qa q1 q2 q3 w3 => ?_)
    · have g2 : φ1 g 2 = (Tm T : Int) := by rw [q1 _ (by omega)]; exact G.m
      rw [r414_2]
      simp (disch := omega) only [r414_0, r414_1, r414_3, r414_4, r414_7, r414_10, r414_11, r414_13, r414_14, r414_17, r414_20, r414_21, r414_24, r414_25, r414_26, r414_27, r414_28, r414_29, r414_32, r414_33, r414_36, r414_37, r414_38, r414_39, r414_42, r414_43, r414_44, r414_47, r414_50, r414_51, r414_52, r414_55, r414_56, r414_57, r414_58, r414_59, r414_62, r414_63, r414_66, r414_67, r414_68, r414_69, r414_72, r414_75, r414_78, r414_81, r414_82, r414_85, r414_86, r414_88, r414_89, r414_92, r414_93, r414_96, r414_97, r414_98, r414_101, r414_102, r414_105, r414_106, r414_109, r414_110, r414_111, r414_112, r414_115, r414_118, r414_119, r414_121, r414_122, r414_125, r414_128, r414_129, r414_131, r414_132, r414_135, r414_138, r414_139, r414_142, r414_143, r414_144, r414_145, r414_146, r414_147, r414_148, r414_151, r414_152, r414_155, r414_156, r414_157, r414_158, r414_159, r414_162, r414_163, r414_166, r414_167, r414_168, r414_171, r414_172, r414_173, r414_174, r414_177, r414_178, r414_179, r414_180, r414_183, r414_184, r414_185, r414_188, r414_189, r414_190, r414_191, r414_192, r414_193, r414_196, r414_199, r414_202, r414_205, znl_i, znl_r, znl_j, znl_l, List.length_cons, List.length_nil, Option.some.injEq, Sum.inl.injEq, Sum.inr.injEq, Prod.mk.injEq, true_and, and_true, exists_eq_left', zK_sI, zA_sI, zL_sI, zK_sL, zA_sL, zI_sL, zK_fI, zA_fI, zL_fI, zK_fL, zA_fL, zI_fL, Nat.reduceAdd, Nat.reduceLeDiff, forall_eq', zl_lt, zl_gt, zl_eq, zl_le, zl_ge, zm_0, zaft_n, zaft_v, zb_eq, Decidable.not_not, zK_rH, zI_rH, zL_rH, zA_rH, zsI_rH, zsL_rH, zsA_rH, zcpI_rH, zn_b, zm_b, Int.toNat_natCast, Int.toNat_zero, Int.reduceToNat, GK.K0, g2]
      refine ⟨fun z => absurd z (by omega), fun _ => inner φ1 α' qa q1 (fun a' c z => q2 a' c (by omega) (by omega)) (fun a' z => q3 a' (by omega)) _⟩
    · have g2 : φ1 g 2 = (Tm T : Int) := by rw [q1 _ (by omega)]; exact G.m
      have iva := V.iv ha
      rw [r414_12]
      simp (disch := omega) only [r414_0, r414_1, r414_3, r414_4, r414_7, r414_10, r414_11, r414_13, r414_14, r414_17, r414_20, r414_21, r414_24, r414_25, r414_26, r414_27, r414_28, r414_29, r414_32, r414_33, r414_36, r414_37, r414_38, r414_39, r414_42, r414_43, r414_44, r414_47, r414_50, r414_51, r414_52, r414_55, r414_56, r414_57, r414_58, r414_59, r414_62, r414_63, r414_66, r414_67, r414_68, r414_69, r414_72, r414_75, r414_78, r414_81, r414_82, r414_85, r414_86, r414_88, r414_89, r414_92, r414_93, r414_96, r414_97, r414_98, r414_101, r414_102, r414_105, r414_106, r414_109, r414_110, r414_111, r414_112, r414_115, r414_118, r414_119, r414_121, r414_122, r414_125, r414_128, r414_129, r414_131, r414_132, r414_135, r414_138, r414_139, r414_142, r414_143, r414_144, r414_145, r414_146, r414_147, r414_148, r414_151, r414_152, r414_155, r414_156, r414_157, r414_158, r414_159, r414_162, r414_163, r414_166, r414_167, r414_168, r414_171, r414_172, r414_173, r414_174, r414_177, r414_178, r414_179, r414_180, r414_183, r414_184, r414_185, r414_188, r414_189, r414_190, r414_191, r414_192, r414_193, r414_196, r414_199, r414_202, r414_205, znl_i, znl_r, znl_j, znl_l, List.length_cons, List.length_nil, Option.some.injEq, Sum.inl.injEq, Sum.inr.injEq, Prod.mk.injEq, true_and, and_true, exists_eq_left', zK_sI, zA_sI, zL_sI, zK_sL, zA_sL, zI_sL, zK_fI, zA_fI, zL_fI, zK_fL, zA_fL, zI_fL, Nat.reduceAdd, Nat.reduceLeDiff, forall_eq', zl_lt, zl_gt, zl_eq, zl_le, zl_ge, zm_0, zaft_n, zaft_v, zb_eq, Decidable.not_not, zK_rH, zI_rH, zL_rH, zA_rH, zsI_rH, zsL_rH, zsA_rH, zcpI_rH, zn_b, zm_b, Int.toNat_natCast, Int.toNat_zero, Int.reduceToNat, GK.K0, g2]
      refine ⟨fun _ => ih φ1 α' qa q1 (fun a' c z1 z2 => q2 a' c (by omega)) (fun a' z => q3 a' (by omega)) _ _, fun z => absurd z (by omega)⟩
    · have GA' := GAof α' qa
      have g2 : φ1 g 2 = (Tm T : Int) := by rw [q1 _ (by omega)]; exact G.m
      have iva := V.iv ha
      have hc := V.th ha hb
      rw [r414_12]
      simp (disch := omega) only [r414_0, r414_1, r414_3, r414_4, r414_7, r414_10, r414_11, r414_13, r414_14, r414_17, r414_20, r414_21, r414_24, r414_25, r414_26, r414_27, r414_28, r414_29, r414_32, r414_33, r414_36, r414_37, r414_38, r414_39, r414_42, r414_43, r414_44, r414_47, r414_50, r414_51, r414_52, r414_55, r414_56, r414_57, r414_58, r414_59, r414_62, r414_63, r414_66, r414_67, r414_68, r414_69, r414_72, r414_75, r414_78, r414_81, r414_82, r414_85, r414_86, r414_88, r414_89, r414_92, r414_93, r414_96, r414_97, r414_98, r414_101, r414_102, r414_105, r414_106, r414_109, r414_110, r414_111, r414_112, r414_115, r414_118, r414_119, r414_121, r414_122, r414_125, r414_128, r414_129, r414_131, r414_132, r414_135, r414_138, r414_139, r414_142, r414_143, r414_144, r414_145, r414_146, r414_147, r414_148, r414_151, r414_152, r414_155, r414_156, r414_157, r414_158, r414_159, r414_162, r414_163, r414_166, r414_167, r414_168, r414_171, r414_172, r414_173, r414_174, r414_177, r414_178, r414_179, r414_180, r414_183, r414_184, r414_185, r414_188, r414_189, r414_190, r414_191, r414_192, r414_193, r414_196, r414_199, r414_202, r414_205, znl_i, znl_r, znl_j, znl_l, List.length_cons, List.length_nil, Option.some.injEq, Sum.inl.injEq, Sum.inr.injEq, Prod.mk.injEq, true_and, and_true, exists_eq_left', zK_sI, zA_sI, zL_sI, zK_sL, zA_sL, zI_sL, zK_fI, zA_fI, zL_fI, zK_fL, zA_fL, zI_fL, Nat.reduceAdd, Nat.reduceLeDiff, forall_eq', zl_lt, zl_gt, zl_eq, zl_le, zl_ge, zm_0, zaft_n, zaft_v, zb_eq, Decidable.not_not, zK_rH, zI_rH, zL_rH, zA_rH, zsI_rH, zsL_rH, zsA_rH, zcpI_rH, zn_b, zm_b, Int.toNat_natCast, Int.toNat_zero, Int.reduceToNat, GK.K0, GK.K1, GK.K31, GK.K86, GA'.A1, GA'.A7, GA'.A15, GA'.R1, GA'.R31, g2]
      refine ⟨fun z => absurd z (by omega), fun _ => ?_⟩
      repeat (refine And.intro (by omega) ?_)
      refine zc_w (b_be (d := d + 3) (b := g + 86) (o := g + 89 + 2 * a) (o' := g + 89 + 2 * b) (by omega) kb GK.K86) ?_
      have qa2 : ∀ i, i ≠ g + 86 → zu (zu α' (g + 86) 0 (some (x + (g + 89 + 2 * a)))) (g + 86) 1 (some (x + (g + 89 + 2 * b))) i = α i := fun i hi => by rw [zu_cell _ _ _ hi, zu_cell _ _ _ hi]; exact qa i hi
      have e0 : zu (zu α' (g + 86) 0 (some (x + (g + 89 + 2 * a)))) (g + 86) 1 (some (x + (g + 89 + 2 * b))) (g + 86) 0 = some (x + (g + 89 + 2 * a)) := by rw [zu_slot _ _ _ (by omega), zu_same]
      have e1 : zu (zu α' (g + 86) 0 (some (x + (g + 89 + 2 * a)))) (g + 86) 1 (some (x + (g + 89 + 2 * b))) (g + 86) 1 = some (x + (g + 89 + 2 * b)) := zu_same _ _ _ _
      generalize zu (zu α' (g + 86) 0 (some (x + (g + 89 + 2 * a)))) (g + 86) 1 (some (x + (g + 89 + 2 * b))) = α2 at *
      have GA2 := GAof α2 qa2
      have G1 : gT T g φ1 := G.of m.2 (by rw [q1 _ (by omega)]) (fun i i1 i2 => q1 i (by omega))
      simp (disch := omega) only [r414_0, r414_1, r414_3, r414_4, r414_7, r414_10, r414_11, r414_13, r414_14, r414_17, r414_20, r414_21, r414_24, r414_25, r414_26, r414_27, r414_28, r414_29, r414_32, r414_33, r414_36, r414_37, r414_38, r414_39, r414_42, r414_43, r414_44, r414_47, r414_50, r414_51, r414_52, r414_55, r414_56, r414_57, r414_58, r414_59, r414_62, r414_63, r414_66, r414_67, r414_68, r414_69, r414_72, r414_75, r414_78, r414_81, r414_82, r414_85, r414_86, r414_88, r414_89, r414_92, r414_93, r414_96, r414_97, r414_98, r414_101, r414_102, r414_105, r414_106, r414_109, r414_110, r414_111, r414_112, r414_115, r414_118, r414_119, r414_121, r414_122, r414_125, r414_128, r414_129, r414_131, r414_132, r414_135, r414_138, r414_139, r414_142, r414_143, r414_144, r414_145, r414_146, r414_147, r414_148, r414_151, r414_152, r414_155, r414_156, r414_157, r414_158, r414_159, r414_162, r414_163, r414_166, r414_167, r414_168, r414_171, r414_172, r414_173, r414_174, r414_177, r414_178, r414_179, r414_180, r414_183, r414_184, r414_185, r414_188, r414_189, r414_190, r414_191, r414_192, r414_193, r414_196, r414_199, r414_202, r414_205, znl_i, znl_r, znl_j, znl_l, List.length_cons, List.length_nil, Option.some.injEq, Sum.inl.injEq, Sum.inr.injEq, Prod.mk.injEq, true_and, and_true, exists_eq_left', zK_sI, zA_sI, zL_sI, zK_sL, zA_sL, zI_sL, zK_fI, zA_fI, zL_fI, zK_fL, zA_fL, zI_fL, Nat.reduceAdd, Nat.reduceLeDiff, forall_eq', zl_lt, zl_gt, zl_eq, zl_le, zl_ge, zm_0, zaft_n, zaft_v, zb_eq, Decidable.not_not, zK_rH, zI_rH, zL_rH, zA_rH, zsI_rH, zsL_rH, zsA_rH, zcpI_rH, zn_b, zm_b, Int.toNat_natCast, Int.toNat_zero, Int.reduceToNat, GK.K0]
      refine zc_w (g_numberOf (d := d) GK GA2 V G1 ha hb e0 e1) ?_
      have ru : ∀ a' c, a' < a ∧ c < Tm T ∨ a' = a ∧ c < b + 1 → zu φ1 (g + 32 + a) b (yth T a b : Int) (g + 32 + a') c = (yth T a' c : Int) := fun a' c z => by
        by_cases w : a' = a
        · subst w
          by_cases w2 : c = b
          · subst w2; rw [zu_same]
          · rw [zu_slot _ _ _ w2]; exact q2 a' c (by omega)
        · rw [zu_cell _ _ _ (by omega)]; exact q2 a' c (by omega)
      have r1 : zu φ1 (g + 32 + a) b (yth T a b : Int) (g + 32 + a) b = (yth T a b : Int) := zu_same _ _ _ _
      simp (disch := omega) only [r414_0, r414_1, r414_3, r414_4, r414_7, r414_10, r414_11, r414_13, r414_14, r414_17, r414_20, r414_21, r414_24, r414_25, r414_26, r414_27, r414_28, r414_29, r414_32, r414_33, r414_36, r414_37, r414_38, r414_39, r414_42, r414_43, r414_44, r414_47, r414_50, r414_51, r414_52, r414_55, r414_56, r414_57, r414_58, r414_59, r414_62, r414_63, r414_66, r414_67, r414_68, r414_69, r414_72, r414_75, r414_78, r414_81, r414_82, r414_85, r414_86, r414_88, r414_89, r414_92, r414_93, r414_96, r414_97, r414_98, r414_101, r414_102, r414_105, r414_106, r414_109, r414_110, r414_111, r414_112, r414_115, r414_118, r414_119, r414_121, r414_122, r414_125, r414_128, r414_129, r414_131, r414_132, r414_135, r414_138, r414_139, r414_142, r414_143, r414_144, r414_145, r414_146, r414_147, r414_148, r414_151, r414_152, r414_155, r414_156, r414_157, r414_158, r414_159, r414_162, r414_163, r414_166, r414_167, r414_168, r414_171, r414_172, r414_173, r414_174, r414_177, r414_178, r414_179, r414_180, r414_183, r414_184, r414_185, r414_188, r414_189, r414_190, r414_191, r414_192, r414_193, r414_196, r414_199, r414_202, r414_205, znl_i, znl_r, znl_j, znl_l, List.length_cons, List.length_nil, Option.some.injEq, Sum.inl.injEq, Sum.inr.injEq, Prod.mk.injEq, true_and, and_true, exists_eq_left', zK_sI, zA_sI, zL_sI, zK_sL, zA_sL, zI_sL, zK_fI, zA_fI, zL_fI, zK_fL, zA_fL, zI_fL, Nat.reduceAdd, Nat.reduceLeDiff, forall_eq', zl_lt, zl_gt, zl_eq, zl_le, zl_ge, zm_0, zaft_n, zaft_v, zb_eq, Decidable.not_not, zK_rH, zI_rH, zL_rH, zA_rH, zsI_rH, zsL_rH, zsA_rH, zcpI_rH, zn_b, zm_b, Int.toNat_natCast, Int.toNat_zero, Int.reduceToNat, GK.K0, GK.K31, GK.K32, GK.K80, GA2.A7, GA2.A8, GA2.R31, r1]
      repeat (refine And.intro (by omega) ?_)
      refine ⟨fun z => ?_, fun z => ?_⟩
      · refine ihb _ α2 qa2 (fun i hi => by rw [zu_cell _ _ _ (by omega)]; exact q1 i hi) ru (fun a' w => ?_) _
        rw [zu_cell _ _ _ (by omega)]
        refine q3 a' ?_
        rcases w with w | ⟨w1, w2⟩
        · exact Or.inl w
        · refine Or.inr ⟨w1, Nat.lt_of_le_of_ne (by omega) fun w3 => z ?_⟩
          rw [← w3, V.ivr ha]; rfl
      · have ib : b = yiv T a := V.iv_uniq ha hb (by omega)
        repeat (refine And.intro (by omega) ?_)
        refine ihb _ α2 qa2 (fun i hi => by rw [zu_cell _ _ _ (by omega), zu_cell _ _ _ (by omega)]; exact q1 i hi) (fun a' c w => by rw [zu_cell _ _ _ (by omega)]; exact ru a' c w) (fun a' w => ?_) _
        by_cases w4 : a' = a
        · subst w4; rw [zu_same, ib]
        · rw [zu_slot _ _ _ w4, zu_cell _ _ _ (by omega)]; exact q3 a' (by omega)
end
