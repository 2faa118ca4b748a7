/-! ===== the component's group: layout (it lies at x + g) ===== -/
structure gK (e : zEv) (h : zH) (x g : Nat) : Prop where
  b : e.1 ≤ x
  n : g + 185 ≤ 1134
  s : x + 1134 ≤ zsz h
  K0 : zK h (x + g) = some (Sum.inl 3)
  K1 : zK h (x + (g + 1)) = some (Sum.inr (.object "VibrationDesk$Op", 48))
  K2 : ∀ i, i < 12 → zK h (x + (g + 2 + i)) = some (Sum.inl 4)
  K14 : zK h (x + (g + 14)) = some (Sum.inl 5)
  K15 : zK h (x + (g + 15)) = some (Sum.inr (.array .long, 3))
  K16 : ∀ i, i < 3 → zK h (x + (g + 16 + i)) = some (Sum.inr (.long, 3))
  K19 : zK h (x + (g + 19)) = some (Sum.inr (.array .long, 3))
  K20 : ∀ i, i < 3 → zK h (x + (g + 20 + i)) = some (Sum.inr (.long, 3))
  K23 : zK h (x + (g + 23)) = some (Sum.inr (.array .long, 3))
  K24 : ∀ i, i < 3 → zK h (x + (g + 24 + i)) = some (Sum.inr (.long, 3))
  K27 : zK h (x + (g + 27)) = some (Sum.inr (.long, 3))
  K28 : zK h (x + (g + 28)) = some (Sum.inr (.boolean, 12))
  K29 : zK h (x + (g + 29)) = some (Sum.inl 6)
  K30 : zK h (x + (g + 30)) = some (Sum.inr (.int, 12))
  K31 : zK h (x + (g + 31)) = some (Sum.inr (.array .int, 48))
  K32 : ∀ i, i < 48 → zK h (x + (g + 32 + i)) = some (Sum.inr (.int, 48))
  K80 : zK h (x + (g + 80)) = some (Sum.inr (.int, 48))
  K81 : zK h (x + (g + 81)) = some (Sum.inr (.int, 48))
  K82 : zK h (x + (g + 82)) = some (Sum.inr (.int, 12))
  K83 : zK h (x + (g + 83)) = some (Sum.inr (.int, 12))
  K84 : zK h (x + (g + 84)) = some (Sum.inr (.int, 12))
  K85 : zK h (x + (g + 85)) = some (Sum.inr (.int, 1728))
  K86 : zK h (x + (g + 86)) = some (Sum.inl 7)
  K87 : zK h (x + (g + 87)) = some (Sum.inr (.long, 48))
  K88 : zK h (x + (g + 88)) = some (Sum.inr (.long, 128))
  K89 : ∀ k, k < 48 → zK h (x + (g + 89 + 2 * k)) = some (Sum.inl 6)
  K90 : ∀ k, k < 48 → zK h (x + (g + 90 + 2 * k)) = some (Sum.inr (.int, 12))
theorem gK.X {c s : Nat} {e : zEv} {h h1 : zH} {x g : Nat} (K : gK e h x g) (X : zX c s h h1) : gK e h1 x g := by
  have k1 := K.s
  have k2 := K.n
  have k3 := X.a
  refine ⟨K.b, K.n, by omega, ?_, ?_, fun i hi => ?_, ?_, ?_, fun i hi => ?_, ?_, fun i hi => ?_, ?_, fun i hi => ?_, ?_, ?_, ?_, ?_, ?_, fun i hi => ?_, ?_, ?_, ?_, ?_, ?_, ?_, ?_, ?_, ?_, fun i hi => ?_, fun i hi => ?_⟩
  all_goals rw [X.K _ (by omega)]
  · exact K.K0
  · exact K.K1
  · exact K.K2 i hi
  · exact K.K14
  · exact K.K15
  · exact K.K16 i hi
  · exact K.K19
  · exact K.K20 i hi
  · exact K.K23
  · exact K.K24 i hi
  · exact K.K27
  · exact K.K28
  · exact K.K29
  · exact K.K30
  · exact K.K31
  · exact K.K32 i hi
  · exact K.K80
  · exact K.K81
  · exact K.K82
  · exact K.K83
  · exact K.K84
  · exact K.K85
  · exact K.K86
  · exact K.K87
  · exact K.K88
  · exact K.K89 i hi
  · exact K.K90 i hi
/-- a group's references that stay -/
structure gA (x g : Nat) (α : Nat → Nat → Option Nat) : Prop where
  A1 : α g 1 = some (x + (g + 1))
  A3 : α g 3 = some (x + (g + 2 + 0))
  A4 : α g 4 = some (x + (g + 14))
  A5 : α g 5 = some (x + (g + 28))
  A6 : α g 6 = some (x + (g + 29))
  A7 : α g 7 = some (x + (g + 31))
  A8 : α g 8 = some (x + (g + 80))
  A9 : α g 9 = some (x + (g + 81))
  A10 : α g 10 = some (x + (g + 82))
  A11 : α g 11 = some (x + (g + 83))
  A12 : α g 12 = some (x + (g + 84))
  A13 : α g 13 = some (x + (g + 85))
  A15 : α g 15 = some (x + (g + 86))
  A16 : α g 16 = some (x + (g + 87))
  A17 : α g 17 = some (x + (g + 88))
  B3 : α (g + 14) 3 = some (x + (g + 15))
  B4 : α (g + 14) 4 = some (x + (g + 19))
  B5 : α (g + 14) 5 = some (x + (g + 23))
  B6 : α (g + 14) 6 = some (x + (g + 27))
  R1 : ∀ k, k < 48 → α (g + 1) k = some (x + (g + 89 + 2 * k))
  S : ∀ i, i < 12 → α (g + 2 + i) 1 = if i < 11 then some (x + (g + 2 + (i + 1))) else none
  R15 : ∀ i, i < 3 → α (g + 15) i = some (x + (g + 16 + i))
  R19 : ∀ i, i < 3 → α (g + 19) i = some (x + (g + 20 + i))
  R23 : ∀ i, i < 3 → α (g + 23) i = some (x + (g + 24 + i))
  T : α (g + 29) 0 = some (x + (g + 30))
  R31 : ∀ i, i < 48 → α (g + 31) i = some (x + (g + 32 + i))
  O : ∀ k, k < 48 → α (g + 89 + 2 * k) 0 = some (x + (g + 90 + 2 * k))
/-- what of a group's references may change -/
def gch (g i j : Nat) : Prop := i = g ∧ j = 0 ∨ i = g + 14 ∧ j = 0 ∨ i = g + 86
theorem gA.of {x g : Nat} {α α' : Nat → Nat → Option Nat} (A : gA x g α) (q : ∀ i j, g ≤ i → i < g + 185 → ¬ gch g i j → α' i j = α i j) : gA x g α' := by
  unfold gch at q
  refine ⟨?_, ?_, ?_, ?_, ?_, ?_, ?_, ?_, ?_, ?_, ?_, ?_, ?_, ?_, ?_, ?_, ?_, ?_, ?_, fun k hk => ?_, fun k hk => ?_, fun k hk => ?_, fun k hk => ?_, fun k hk => ?_, ?_, fun k hk => ?_, fun k hk => ?_⟩
  all_goals rw [q _ _ (by omega) (by omega) (by omega)]
  · exact A.A1
  · exact A.A3
  · exact A.A4
  · exact A.A5
  · exact A.A6
  · exact A.A7
  · exact A.A8
  · exact A.A9
  · exact A.A10
  · exact A.A11
  · exact A.A12
  · exact A.A13
  · exact A.A15
  · exact A.A16
  · exact A.A17
  · exact A.B3
  · exact A.B4
  · exact A.B5
  · exact A.B6
  · exact A.R1 k hk
  · exact A.S k hk
  · exact A.R15 k hk
  · exact A.R19 k hk
  · exact A.R23 k hk
  · exact A.T
  · exact A.R31 k hk
  · exact A.O k hk
theorem fA.of2 {x f : Nat} {α α' : Nat → Nat → Option Nat} (A : fA x f α) (q : ∀ i, f ≤ i → i < f + 26 → α' i = α i) : fA x f α' := A.of fun i _ h1 h2 => q i h1 h2
/-- the basis of a frame is laid -/
structure bL (F : yF) (x f g : Nat) (φ ψ : Nat → Nat → Int) (α : Nat → Nat → Option Nat) : Prop where
  fr : α (g + 14) 0 = some (x + f)
  t : φ (g + 14) 1 = (yQ3 F : Int)
  q : φ (g + 14) 2 = yQ4 F
  a : ∀ s, s < 3 → ∀ j, j < 3 → ψ (g + 24 + s) j = yXX F (yQ3 F) (yQ4 F) (3 * s + j)
  w : ψ (g + 14) 7 = yWF F
theorem f3_sc {ψ : Nat → Nat → Int} {c i j : Nat} {u : Nat → Int} (hi : i = c) (hj : j < 3) : f3 ψ c u i j = u j := by subst hi; exact f3_s hj
section
variable {e : zEv} {d x f o r n g b : Nat} {h h1 h2 : zH} {φ φ' φ'' ψ : Nat → Nat → Int} {α α' α'' : Nat → Nat → Option Nat} {F : yF} {π ρ : Nat → Nat} {sg sh : Int} {T : yT}
theorem b_lays (GK : gK e h x g) (GA : gA x g α) (K : fK e h x f) (A : fA x f α) (S : fS F f φ) (h3 : y3 F ≠ -1) (hd : f + 26 ≤ g ∨ g + 185 ≤ f) : zc e (d + 3) 441 [zr (some (x + (g + 14))), zr (some (x + f))] (cH h x φ ψ α)
    (fun ov h' => ov = Sum.inl none ∧ ∃ ψ', h' = cH h x (zu (zu φ (g + 14) 1 (yQ3 F : Int)) (g + 14) 2 (yQ4 F)) ψ' (zu α (g + 14) 0 (some (x + f))) ∧ bL F x f g (zu (zu φ (g + 14) 1 (yQ3 F : Int)) (g + 14) 2 (yQ4 F)) ψ' (zu α (g + 14) 0 (some (x + f))) ∧ (∀ i, (i < f + 20 ∨ f + 24 ≤ i) → (i < g + 14 ∨ g + 28 ≤ i) → ψ' i = ψ i)) := by
  have kn := K.n
  have gn := GK.n
  have kb := K.b
  have ks := K.s
  have hm := S.w.1
  obtain ⟨b1, b2, b3⟩ := yQ3_bd h3
  have b4 : yQ4 F = -1 ∨ (0 ≤ yQ4 F ∧ yQ4 F < F.1) := y4_bd F (yQ3 F)
  have A' : fA x f (zu α (g + 14) 0 (some (x + f))) := A.of fun i _ h1 h2 => zu_cell _ _ _ (by omega)
  have S1 : fS F f (zu φ (g + 14) 1 (yQ3 F : Int)) := S.of fun i h1 h2 => zu_cell _ _ _ (by omega)
  have S2 : fS F f (zu (zu φ (g + 14) 1 (yQ3 F : Int)) (g + 14) 2 (yQ4 F)) := S1.of fun i h1 h2 => zu_cell _ _ _ (by omega)
  simp (disch := omega) only [n441, r441_0, r441_1, r441_2, r441_5, r441_6, r441_7, r441_10, r441_13, r441_14, r441_15, r441_16, r441_19, r441_22, r441_25, r441_26, r441_27, r441_28, r441_29, r441_32, r441_33, r441_34, r441_37, r441_38, r441_39, r441_40, r441_43, r441_44, r441_47, r441_48, r441_49, r441_52, r441_53, r441_56, r441_59, r441_60, r441_63, r441_64, r441_65, r441_66, r441_69, r441_70, r441_71, r441_72, r441_75, r441_76, r441_77, r441_80, r441_83, r441_84, r441_85, r441_86, r441_89, r441_90, r441_93, r441_94, r441_95, r441_98, r441_99, r441_102, r441_103, r441_104, r441_105, r441_108, r441_109, r441_110, r441_111, r441_114, r441_115, r441_116, r441_119, r441_120, r441_123, r441_124, r441_125, r441_126, r441_129, r441_130, r441_131, r441_132, r441_135, r441_136, r441_137, r441_140, r441_141, r441_144, r441_145, r441_146, r441_147, r441_150, r441_151, r441_152, r441_153, r441_156, r441_157, r441_158, r441_161, r441_162, r441_163, r441_166, r441_167, r441_168, r441_169, r441_172, r441_173, r441_174, r441_177, r441_180, znl_i, znl_r, znl_j, znl_l, List.length_cons, List.length_nil, Option.some.injEq, Sum.inl.injEq, Sum.inr.injEq, Prod.mk.injEq, true_and, and_true, exists_eq_left', zK_sI, zA_sI, zL_sI, zK_sL, zA_sL, zI_sL, zK_fI, zA_fI, zL_fI, zK_fL, zA_fL, zI_fL, Nat.reduceAdd, Nat.reduceLeDiff, forall_eq', zl_lt, zl_gt, zl_eq, zl_le, zl_ge, zm_0, zaft_n, zaft_v, zb_eq, Decidable.not_not, zK_rH, zI_rH, zL_rH, zA_rH, zsI_rH, zsL_rH, zsA_rH, zcpI_rH, zn_b, zm_b, Int.toNat_natCast, Int.toNat_zero, Int.reduceToNat, GK.K14]
  refine ⟨by omega, K.K0, ?_⟩
  refine zc_mono (f_third (d := d) K A' S) ?_
  rintro _ _ ⟨rfl, ψ1, rfl, p1⟩
  rw [← b3]
  simp (disch := omega) only [r441_0, r441_1, r441_2, r441_5, r441_6, r441_7, r441_10, r441_13, r441_14, r441_15, r441_16, r441_19, r441_22, r441_25, r441_26, r441_27, r441_28, r441_29, r441_32, r441_33, r441_34, r441_37, r441_38, r441_39, r441_40, r441_43, r441_44, r441_47, r441_48, r441_49, r441_52, r441_53, r441_56, r441_59, r441_60, r441_63, r441_64, r441_65, r441_66, r441_69, r441_70, r441_71, r441_72, r441_75, r441_76, r441_77, r441_80, r441_83, r441_84, r441_85, r441_86, r441_89, r441_90, r441_93, r441_94, r441_95, r441_98, r441_99, r441_102, r441_103, r441_104, r441_105, r441_108, r441_109, r441_110, r441_111, r441_114, r441_115, r441_116, r441_119, r441_120, r441_123, r441_124, r441_125, r441_126, r441_129, r441_130, r441_131, r441_132, r441_135, r441_136, r441_137, r441_140, r441_141, r441_144, r441_145, r441_146, r441_147, r441_150, r441_151, r441_152, r441_153, r441_156, r441_157, r441_158, r441_161, r441_162, r441_163, r441_166, r441_167, r441_168, r441_169, r441_172, r441_173, r441_174, r441_177, r441_180, znl_i, znl_r, znl_j, znl_l, List.length_cons, List.length_nil, Option.some.injEq, Sum.inl.injEq, Sum.inr.injEq, Prod.mk.injEq, true_and, and_true, exists_eq_left', zK_sI, zA_sI, zL_sI, zK_sL, zA_sL, zI_sL, zK_fI, zA_fI, zL_fI, zK_fL, zA_fL, zI_fL, Nat.reduceAdd, Nat.reduceLeDiff, forall_eq', zl_lt, zl_gt, zl_eq, zl_le, zl_ge, zm_0, zaft_n, zaft_v, zb_eq, Decidable.not_not, zK_rH, zI_rH, zL_rH, zA_rH, zsI_rH, zsL_rH, zsA_rH, zcpI_rH, zn_b, zm_b, Int.toNat_natCast, Int.toNat_zero, Int.reduceToNat, GK.K14, K.K0, zu_same]
  refine ⟨by omega, ?_⟩
  refine zc_mono (f_fourth (d := d) K A' S1 (yQ3 F) b2 (by omega)) ?_
  rintro _ _ ⟨rfl, ψ2, rfl, p2⟩
  simp (disch := omega) only [r441_0, r441_1, r441_2, r441_5, r441_6, r441_7, r441_10, r441_13, r441_14, r441_15, r441_16, r441_19, r441_22, r441_26, r441_27, r441_28, r441_29, r441_32, r441_33, r441_34, r441_37, r441_38, r441_39, r441_40, r441_43, r441_44, r441_47, r441_48, r441_49, r441_52, r441_53, r441_56, r441_59, r441_60, r441_63, r441_64, r441_65, r441_66, r441_69, r441_70, r441_71, r441_72, r441_75, r441_76, r441_77, r441_80, r441_83, r441_84, r441_85, r441_86, r441_89, r441_90, r441_93, r441_94, r441_95, r441_98, r441_99, r441_102, r441_103, r441_104, r441_105, r441_108, r441_109, r441_110, r441_111, r441_114, r441_115, r441_116, r441_119, r441_120, r441_123, r441_124, r441_125, r441_126, r441_129, r441_130, r441_131, r441_132, r441_135, r441_136, r441_137, r441_140, r441_141, r441_144, r441_145, r441_146, r441_147, r441_150, r441_151, r441_152, r441_153, r441_156, r441_157, r441_158, r441_161, r441_162, r441_163, r441_166, r441_167, r441_168, r441_169, r441_172, r441_173, r441_174, r441_177, r441_180, znl_i, znl_r, znl_j, znl_l, List.length_cons, List.length_nil, Option.some.injEq, Sum.inl.injEq, Sum.inr.injEq, Prod.mk.injEq, true_and, and_true, exists_eq_left', zK_sI, zA_sI, zL_sI, zK_sL, zA_sL, zI_sL, zK_fI, zA_fI, zL_fI, zK_fL, zA_fL, zI_fL, Nat.reduceAdd, Nat.reduceLeDiff, forall_eq', zl_lt, zl_gt, zl_eq, zl_le, zl_ge, zm_0, zaft_n, zaft_v, zb_eq, Decidable.not_not, zK_rH, zI_rH, zL_rH, zA_rH, zsI_rH, zsL_rH, zsA_rH, zcpI_rH, zn_b, zm_b, Int.toNat_natCast, Int.toNat_zero, Int.reduceToNat, GK.K14, K.K0]
  refine ⟨by omega, ?_⟩
  have GA1 : gA x g (zu α (g + 14) 0 (some (x + f))) := GA.of fun i j h1 h2 n => by
    unfold gch at n
    by_cases c : i = g + 14
    · subst c; exact zu_slot _ _ _ (by omega)
    · rw [zu_cell _ _ _ c]
  have fr : zu α (g + 14) 0 (some (x + f)) (g + 14) 0 = some (x + f) := zu_same _ _ _ _
  have t1 : zu (zu φ (g + 14) 1 (yQ3 F : Int)) (g + 14) 2 (yQ4 F) (g + 14) 1 = (yQ3 F : Int) := by rw [zu_slot _ _ _ (by omega), zu_same]
  have t2 : zu (zu φ (g + 14) 1 (yQ3 F : Int)) (g + 14) 2 (yQ4 F) (g + 14) 2 = yQ4 F := zu_same _ _ _ _
  show zg e 441 (d + 2) 25 _ _ (rH 1134 h x (zu (zu φ (g + 14) 1 (yQ3 F : Int)) (g + 14) 2 (yQ4 F)) ψ2 _) _
  generalize zu (zu φ (g + 14) 1 (yQ3 F : Int)) (g + 14) 2 (yQ4 F) = φ2 at *
  generalize zu α (g + 14) 0 (some (x + f)) = α1 at *
  have p := p1.trans p2
  have join : ∀ ψ' : Nat → Nat → Int, (∀ j, j < 3 → ψ' (g + 16 + 0) j = ysub F 1 0 j) → (∀ j, j < 3 → ψ' (g + 16 + 1) j = ysub F (yQ3 F) 0 j) → (∀ j, j < 3 → ψ' (g + 16 + 2) j = yw2 F (yQ3 F) (yQ4 F) j) → (∀ i, (i < f + 20 ∨ f + 24 ≤ i) → (i < g + 14 ∨ g + 28 ≤ i) → ψ' i = ψ i) → zg e 441 (d + 2) 98 [zr (some (x + (g + 14))), zr (some (x + f))] [] (cH h x φ2 ψ' α1) (fun ov h' => ov = Sum.inl none ∧ ∃ ψ', h' = cH h x φ2 ψ' α1 ∧ bL F x f g φ2 ψ' α1 ∧ (∀ i, (i < f + 20 ∨ f + 24 ≤ i) → (i < g + 14 ∨ g + 28 ≤ i) → ψ' i = ψ i)) := by
    intro ψ' w0 w1 w2 q
    simp (disch := omega) only [r441_0, r441_1, r441_2, r441_5, r441_6, r441_7, r441_10, r441_13, r441_14, r441_15, r441_16, r441_19, r441_22, r441_25, r441_26, r441_27, r441_28, r441_29, r441_32, r441_33, r441_34, r441_37, r441_38, r441_39, r441_40, r441_43, r441_44, r441_47, r441_48, r441_49, r441_52, r441_53, r441_56, r441_59, r441_60, r441_63, r441_64, r441_65, r441_66, r441_69, r441_70, r441_71, r441_72, r441_75, r441_76, r441_77, r441_80, r441_83, r441_84, r441_85, r441_86, r441_89, r441_90, r441_93, r441_94, r441_95, r441_98, r441_99, r441_102, r441_103, r441_104, r441_105, r441_108, r441_109, r441_110, r441_111, r441_114, r441_115, r441_116, r441_119, r441_120, r441_123, r441_124, r441_125, r441_126, r441_129, r441_130, r441_131, r441_132, r441_135, r441_136, r441_137, r441_140, r441_141, r441_144, r441_145, r441_146, r441_147, r441_150, r441_151, r441_152, r441_153, r441_156, r441_157, r441_158, r441_161, r441_162, r441_163, r441_166, r441_167, r441_168, r441_169, r441_172, r441_173, r441_174, r441_177, r441_180, znl_i, znl_r, znl_j, znl_l, List.length_cons, List.length_nil, Option.some.injEq, Sum.inl.injEq, Sum.inr.injEq, Prod.mk.injEq, true_and, and_true, exists_eq_left', zK_sI, zA_sI, zL_sI, zK_sL, zA_sL, zI_sL, zK_fI, zA_fI, zL_fI, zK_fL, zA_fL, zI_fL, Nat.reduceAdd, Nat.reduceLeDiff, forall_eq', zl_lt, zl_gt, zl_eq, zl_le, zl_ge, zm_0, zaft_n, zaft_v, zb_eq, Decidable.not_not, zK_rH, zI_rH, zL_rH, zA_rH, zsI_rH, zsL_rH, zsA_rH, zcpI_rH, zn_b, zm_b, Int.toNat_natCast, Int.toNat_zero, Int.reduceToNat, GK.K14, GK.K15, GK.K23, GA1.B3, GA1.B5, GA1.R15, GA1.R23]
    repeat (refine And.intro (by omega) ?_)
    refine zc_w (f_crosses (a := g + 16 + 1) (b := g + 16 + 2) (c := g + 24 + 0) (u := ysub F (yQ3 F) 0) (v := yw2 F (yQ3 F) (yQ4 F)) kb (by omega) (by omega) (by omega) (by omega) (by omega) (GK.K16 1 (by omega)) (GK.K16 2 (by omega)) (GK.K24 0 (by omega)) w1 w2) ?_
    simp (disch := omega) only [r441_0, r441_1, r441_2, r441_5, r441_6, r441_7, r441_10, r441_13, r441_14, r441_15, r441_16, r441_19, r441_22, r441_25, r441_26, r441_27, r441_28, r441_29, r441_32, r441_33, r441_34, r441_37, r441_38, r441_39, r441_40, r441_43, r441_44, r441_47, r441_48, r441_49, r441_52, r441_53, r441_56, r441_59, r441_60, r441_63, r441_64, r441_65, r441_66, r441_69, r441_70, r441_71, r441_72, r441_75, r441_76, r441_77, r441_80, r441_83, r441_84, r441_85, r441_86, r441_89, r441_90, r441_93, r441_94, r441_95, r441_98, r441_99, r441_102, r441_103, r441_104, r441_105, r441_108, r441_109, r441_110, r441_111, r441_114, r441_115, r441_116, r441_119, r441_120, r441_123, r441_124, r441_125, r441_126, r441_129, r441_130, r441_131, r441_132, r441_135, r441_136, r441_137, r441_140, r441_141, r441_144, r441_145, r441_146, r441_147, r441_150, r441_151, r441_152, r441_153, r441_156, r441_157, r441_158, r441_161, r441_162, r441_163, r441_166, r441_167, r441_168, r441_169, r441_172, r441_173, r441_174, r441_177, r441_180, znl_i, znl_r, znl_j, znl_l, List.length_cons, List.length_nil, Option.some.injEq, Sum.inl.injEq, Sum.inr.injEq, Prod.mk.injEq, true_and, and_true, exists_eq_left', zK_sI, zA_sI, zL_sI, zK_sL, zA_sL, zI_sL, zK_fI, zA_fI, zL_fI, zK_fL, zA_fL, zI_fL, Nat.reduceAdd, Nat.reduceLeDiff, forall_eq', zl_lt, zl_gt, zl_eq, zl_le, zl_ge, zm_0, zaft_n, zaft_v, zb_eq, Decidable.not_not, zK_rH, zI_rH, zL_rH, zA_rH, zsI_rH, zsL_rH, zsA_rH, zcpI_rH, zn_b, zm_b, Int.toNat_natCast, Int.toNat_zero, Int.reduceToNat, GK.K14, GK.K15, GK.K23, GA1.B3, GA1.B5, GA1.R15, GA1.R23]
    repeat (refine And.intro (by omega) ?_)
    refine zc_w (f_crosses (a := g + 16 + 2) (b := g + 16 + 0) (c := g + 24 + 1) (u := yw2 F (yQ3 F) (yQ4 F)) (v := ysub F 1 0) kb (by omega) (by omega) (by omega) (by omega) (by omega) (GK.K16 2 (by omega)) (GK.K16 0 (by omega)) (GK.K24 1 (by omega)) (fun i hi => by rw [f3_n (by omega)]; exact w2 i hi) (fun i hi => by rw [f3_n (by omega)]; exact w0 i hi)) ?_
    simp (disch := omega) only [r441_0, r441_1, r441_2, r441_5, r441_6, r441_7, r441_10, r441_13, r441_14, r441_15, r441_16, r441_19, r441_22, r441_25, r441_26, r441_27, r441_28, r441_29, r441_32, r441_33, r441_34, r441_37, r441_38, r441_39, r441_40, r441_43, r441_44, r441_47, r441_48, r441_49, r441_52, r441_53, r441_56, r441_59, r441_60, r441_63, r441_64, r441_65, r441_66, r441_69, r441_70, r441_71, r441_72, r441_75, r441_76, r441_77, r441_80, r441_83, r441_84, r441_85, r441_86, r441_89, r441_90, r441_93, r441_94, r441_95, r441_98, r441_99, r441_102, r441_103, r441_104, r441_105, r441_108, r441_109, r441_110, r441_111, r441_114, r441_115, r441_116, r441_119, r441_120, r441_123, r441_124, r441_125, r441_126, r441_129, r441_130, r441_131, r441_132, r441_135, r441_136, r441_137, r441_140, r441_141, r441_144, r441_145, r441_146, r441_147, r441_150, r441_151, r441_152, r441_153, r441_156, r441_157, r441_158, r441_161, r441_162, r441_163, r441_166, r441_167, r441_168, r441_169, r441_172, r441_173, r441_174, r441_177, r441_180, znl_i, znl_r, znl_j, znl_l, List.length_cons, List.length_nil, Option.some.injEq, Sum.inl.injEq, Sum.inr.injEq, Prod.mk.injEq, true_and, and_true, exists_eq_left', zK_sI, zA_sI, zL_sI, zK_sL, zA_sL, zI_sL, zK_fI, zA_fI, zL_fI, zK_fL, zA_fL, zI_fL, Nat.reduceAdd, Nat.reduceLeDiff, forall_eq', zl_lt, zl_gt, zl_eq, zl_le, zl_ge, zm_0, zaft_n, zaft_v, zb_eq, Decidable.not_not, zK_rH, zI_rH, zL_rH, zA_rH, zsI_rH, zsL_rH, zsA_rH, zcpI_rH, zn_b, zm_b, Int.toNat_natCast, Int.toNat_zero, Int.reduceToNat, GK.K14, GK.K15, GK.K23, GA1.B3, GA1.B5, GA1.R15, GA1.R23]
    repeat (refine And.intro (by omega) ?_)
    refine zc_w (f_crosses (a := g + 16 + 0) (b := g + 16 + 1) (c := g + 24 + 2) (u := ysub F 1 0) (v := ysub F (yQ3 F) 0) kb (by omega) (by omega) (by omega) (by omega) (by omega) (GK.K16 0 (by omega)) (GK.K16 1 (by omega)) (GK.K24 2 (by omega)) (fun i hi => by rw [f3_n (by omega), f3_n (by omega)]; exact w0 i hi) (fun i hi => by rw [f3_n (by omega), f3_n (by omega)]; exact w1 i hi)) ?_
    simp (disch := omega) only [r441_0, r441_1, r441_2, r441_5, r441_6, r441_7, r441_10, r441_13, r441_14, r441_15, r441_16, r441_19, r441_22, r441_25, r441_26, r441_27, r441_28, r441_29, r441_32, r441_33, r441_34, r441_37, r441_38, r441_39, r441_40, r441_43, r441_44, r441_47, r441_48, r441_49, r441_52, r441_53, r441_56, r441_59, r441_60, r441_63, r441_64, r441_65, r441_66, r441_69, r441_70, r441_71, r441_72, r441_75, r441_76, r441_77, r441_80, r441_83, r441_84, r441_85, r441_86, r441_89, r441_90, r441_93, r441_94, r441_95, r441_98, r441_99, r441_102, r441_103, r441_104, r441_105, r441_108, r441_109, r441_110, r441_111, r441_114, r441_115, r441_116, r441_119, r441_120, r441_123, r441_124, r441_125, r441_126, r441_129, r441_130, r441_131, r441_132, r441_135, r441_136, r441_137, r441_140, r441_141, r441_144, r441_145, r441_146, r441_147, r441_150, r441_151, r441_152, r441_153, r441_156, r441_157, r441_158, r441_161, r441_162, r441_163, r441_166, r441_167, r441_168, r441_169, r441_172, r441_173, r441_174, r441_177, r441_180, znl_i, znl_r, znl_j, znl_l, List.length_cons, List.length_nil, Option.some.injEq, Sum.inl.injEq, Sum.inr.injEq, Prod.mk.injEq, true_and, and_true, exists_eq_left', zK_sI, zA_sI, zL_sI, zK_sL, zA_sL, zI_sL, zK_fI, zA_fI, zL_fI, zK_fL, zA_fL, zI_fL, Nat.reduceAdd, Nat.reduceLeDiff, forall_eq', zl_lt, zl_gt, zl_eq, zl_le, zl_ge, zm_0, zaft_n, zaft_v, zb_eq, Decidable.not_not, zK_rH, zI_rH, zL_rH, zA_rH, zsI_rH, zsL_rH, zsA_rH, zcpI_rH, zn_b, zm_b, Int.toNat_natCast, Int.toNat_zero, Int.reduceToNat, GK.K14, GK.K15, GK.K23, GA1.B3, GA1.B5, GA1.R15, GA1.R23]
    repeat (refine And.intro (by omega) ?_)
    refine zc_w (f_dot (a := g + 16 + 0) (b := g + 24 + 0) (u := ysub F 1 0) (v := ycrs (ysub F (yQ3 F) 0) (yw2 F (yQ3 F) (yQ4 F))) ks (by omega) (by omega) (GK.K16 0 (by omega)) (GK.K24 0 (by omega)) (fun i hi => by rw [f3_n (by omega), f3_n (by omega), f3_n (by omega)]; exact w0 i hi) (fun i hi => by rw [f3_n (by omega), f3_n (by omega)]; exact f3_s hi)) ?_
    simp (disch := omega) only [r441_0, r441_1, r441_2, r441_5, r441_6, r441_7, r441_10, r441_13, r441_14, r441_15, r441_16, r441_19, r441_22, r441_25, r441_26, r441_27, r441_28, r441_29, r441_32, r441_33, r441_34, r441_37, r441_38, r441_39, r441_40, r441_43, r441_44, r441_47, r441_48, r441_49, r441_52, r441_53, r441_56, r441_59, r441_60, r441_63, r441_64, r441_65, r441_66, r441_69, r441_70, r441_71, r441_72, r441_75, r441_76, r441_77, r441_80, r441_83, r441_84, r441_85, r441_86, r441_89, r441_90, r441_93, r441_94, r441_95, r441_98, r441_99, r441_102, r441_103, r441_104, r441_105, r441_108, r441_109, r441_110, r441_111, r441_114, r441_115, r441_116, r441_119, r441_120, r441_123, r441_124, r441_125, r441_126, r441_129, r441_130, r441_131, r441_132, r441_135, r441_136, r441_137, r441_140, r441_141, r441_144, r441_145, r441_146, r441_147, r441_150, r441_151, r441_152, r441_153, r441_156, r441_157, r441_158, r441_161, r441_162, r441_163, r441_166, r441_167, r441_168, r441_169, r441_172, r441_173, r441_174, r441_177, r441_180, znl_i, znl_r, znl_j, znl_l, List.length_cons, List.length_nil, Option.some.injEq, Sum.inl.injEq, Sum.inr.injEq, Prod.mk.injEq, true_and, and_true, exists_eq_left', zK_sI, zA_sI, zL_sI, zK_sL, zA_sL, zI_sL, zK_fI, zA_fI, zL_fI, zK_fL, zA_fL, zI_fL, Nat.reduceAdd, Nat.reduceLeDiff, forall_eq', zl_lt, zl_gt, zl_eq, zl_le, zl_ge, zm_0, zaft_n, zaft_v, zb_eq, Decidable.not_not, zK_rH, zI_rH, zL_rH, zA_rH, zsI_rH, zsL_rH, zsA_rH, zcpI_rH, zn_b, zm_b, Int.toNat_natCast, Int.toNat_zero, Int.reduceToNat, GK.K14, GK.K15, GK.K23, GA1.B3, GA1.B5, GA1.R15, GA1.R23]
    refine ⟨by omega, _, rfl, ⟨fr, t1, t2, fun s hs j hj => ?_, zu_same _ _ _ _⟩, fun i hi1 hi2 => ?_⟩
    · rw [zu_cell _ _ _ (by omega)]
      obtain rfl | rfl | rfl : s = 0 ∨ s = 1 ∨ s = 2 := by omega
      · rw [f3_n (by omega), f3_n (by omega), f3_s hj]
        unfold yXX yJ; rw [if_pos (by omega)]; congr 1; omega
      · rw [f3_n (by omega), f3_s hj]
        unfold yXX yJ; rw [if_neg (by omega), if_pos (by omega)]; congr 1; omega
      · rw [f3_s hj]
        unfold yXX yJ; rw [if_neg (by omega), if_neg (by omega)]; congr 1; omega
    · rw [zu_cell _ _ _ (by omega), f3_n (by omega), f3_n (by omega), f3_n (by omega)]; exact q i hi1 hi2
  simp (disch := omega) only [r441_0, r441_1, r441_2, r441_5, r441_6, r441_7, r441_10, r441_13, r441_14, r441_15, r441_16, r441_19, r441_22, r441_25, r441_26, r441_27, r441_28, r441_29, r441_32, r441_33, r441_34, r441_37, r441_38, r441_39, r441_40, r441_43, r441_44, r441_47, r441_48, r441_49, r441_52, r441_53, r441_56, r441_59, r441_60, r441_63, r441_64, r441_65, r441_66, r441_69, r441_70, r441_71, r441_72, r441_75, r441_76, r441_77, r441_80, r441_83, r441_84, r441_85, r441_86, r441_89, r441_90, r441_93, r441_94, r441_95, r441_98, r441_99, r441_102, r441_103, r441_104, r441_105, r441_108, r441_109, r441_110, r441_111, r441_114, r441_115, r441_116, r441_119, r441_120, r441_123, r441_124, r441_125, r441_126, r441_129, r441_130, r441_131, r441_132, r441_135, r441_136, r441_137, r441_140, r441_141, r441_144, r441_145, r441_146, r441_147, r441_150, r441_151, r441_152, r441_153, r441_156, r441_157, r441_158, r441_161, r441_162, r441_163, r441_166, r441_167, r441_168, r441_169, r441_172, r441_173, r441_174, r441_177, r441_180, znl_i, znl_r, znl_j, znl_l, List.length_cons, List.length_nil, Option.some.injEq, Sum.inl.injEq, Sum.inr.injEq, Prod.mk.injEq, true_and, and_true, exists_eq_left', zK_sI, zA_sI, zL_sI, zK_sL, zA_sL, zI_sL, zK_fI, zA_fI, zL_fI, zK_fL, zA_fL, zI_fL, Nat.reduceAdd, Nat.reduceLeDiff, forall_eq', zl_lt, zl_gt, zl_eq, zl_le, zl_ge, zm_0, zaft_n, zaft_v, zb_eq, Decidable.not_not, zK_rH, zI_rH, zL_rH, zA_rH, zsI_rH, zsL_rH, zsA_rH, zcpI_rH, zn_b, zm_b, Int.toNat_natCast, Int.toNat_zero, Int.reduceToNat, GK.K14, GK.K15, GK.K23, GA1.B3, GA1.B5, GA1.R15, GA1.R23, K.K0]
  repeat (refine And.intro (by omega) ?_)
  refine zc_w (f_difference (c := g + 16 + 0) K A' S2 1 0 (by omega) (by omega) (by omega) (GK.K16 0 (by omega))) ?_
  simp (disch := omega) only [r441_0, r441_1, r441_2, r441_5, r441_6, r441_7, r441_10, r441_13, r441_14, r441_15, r441_16, r441_19, r441_22, r441_25, r441_26, r441_27, r441_28, r441_29, r441_32, r441_33, r441_34, r441_37, r441_38, r441_39, r441_40, r441_43, r441_44, r441_47, r441_48, r441_49, r441_52, r441_53, r441_56, r441_59, r441_60, r441_63, r441_64, r441_65, r441_66, r441_69, r441_70, r441_71, r441_72, r441_75, r441_76, r441_77, r441_80, r441_83, r441_84, r441_85, r441_86, r441_89, r441_90, r441_93, r441_94, r441_95, r441_98, r441_99, r441_102, r441_103, r441_104, r441_105, r441_108, r441_109, r441_110, r441_111, r441_114, r441_115, r441_116, r441_119, r441_120, r441_123, r441_124, r441_125, r441_126, r441_129, r441_130, r441_131, r441_132, r441_135, r441_136, r441_137, r441_140, r441_141, r441_144, r441_145, r441_146, r441_147, r441_150, r441_151, r441_152, r441_153, r441_156, r441_157, r441_158, r441_161, r441_162, r441_163, r441_166, r441_167, r441_168, r441_169, r441_172, r441_173, r441_174, r441_177, r441_180, znl_i, znl_r, znl_j, znl_l, List.length_cons, List.length_nil, Option.some.injEq, Sum.inl.injEq, Sum.inr.injEq, Prod.mk.injEq, true_and, and_true, exists_eq_left', zK_sI, zA_sI, zL_sI, zK_sL, zA_sL, zI_sL, zK_fI, zA_fI, zL_fI, zK_fL, zA_fL, zI_fL, Nat.reduceAdd, Nat.reduceLeDiff, forall_eq', zl_lt, zl_gt, zl_eq, zl_le, zl_ge, zm_0, zaft_n, zaft_v, zb_eq, Decidable.not_not, zK_rH, zI_rH, zL_rH, zA_rH, zsI_rH, zsL_rH, zsA_rH, zcpI_rH, zn_b, zm_b, Int.toNat_natCast, Int.toNat_zero, Int.reduceToNat, GK.K14, GK.K15, GK.K23, GA1.B3, GA1.B5, GA1.R15, GA1.R23, K.K0, t1]
  repeat (refine And.intro (by omega) ?_)
  refine zc_w (f_difference (c := g + 16 + 1) K A' S2 (yQ3 F) 0 (by omega) (by omega) (by omega) (GK.K16 1 (by omega))) ?_
  simp (disch := omega) only [r441_0, r441_1, r441_2, r441_5, r441_6, r441_7, r441_10, r441_13, r441_14, r441_15, r441_16, r441_19, r441_22, r441_25, r441_26, r441_27, r441_28, r441_29, r441_32, r441_33, r441_34, r441_37, r441_38, r441_39, r441_40, r441_43, r441_44, r441_47, r441_48, r441_49, r441_52, r441_53, r441_56, r441_59, r441_60, r441_63, r441_64, r441_65, r441_66, r441_69, r441_70, r441_71, r441_72, r441_75, r441_76, r441_77, r441_80, r441_83, r441_84, r441_85, r441_86, r441_89, r441_90, r441_93, r441_94, r441_95, r441_99, r441_102, r441_103, r441_104, r441_105, r441_108, r441_109, r441_110, r441_111, r441_114, r441_115, r441_116, r441_119, r441_120, r441_123, r441_124, r441_125, r441_126, r441_129, r441_130, r441_131, r441_132, r441_135, r441_136, r441_137, r441_140, r441_141, r441_144, r441_145, r441_146, r441_147, r441_150, r441_151, r441_152, r441_153, r441_156, r441_157, r441_158, r441_161, r441_162, r441_163, r441_166, r441_167, r441_168, r441_169, r441_172, r441_173, r441_174, r441_177, r441_180, znl_i, znl_r, znl_j, znl_l, List.length_cons, List.length_nil, Option.some.injEq, Sum.inl.injEq, Sum.inr.injEq, Prod.mk.injEq, true_and, and_true, exists_eq_left', zK_sI, zA_sI, zL_sI, zK_sL, zA_sL, zI_sL, zK_fI, zA_fI, zL_fI, zK_fL, zA_fL, zI_fL, Nat.reduceAdd, Nat.reduceLeDiff, forall_eq', zl_lt, zl_gt, zl_eq, zl_le, zl_ge, zm_0, zaft_n, zaft_v, zb_eq, Decidable.not_not, zK_rH, zI_rH, zL_rH, zA_rH, zsI_rH, zsL_rH, zsA_rH, zcpI_rH, zn_b, zm_b, Int.toNat_natCast, Int.toNat_zero, Int.reduceToNat, GK.K14, GK.K15, GK.K23, GA1.B3, GA1.B5, GA1.R15, GA1.R23, K.K0, t2]
  refine ⟨fun z => ?_, fun z => ?_⟩
  · obtain ⟨q, hq⟩ := Int.eq_ofNat_of_zero_le (a := yQ4 F) (by omega)
    repeat (refine And.intro (by omega) ?_)
    rw [show yQ4 F = (q : Int) from hq]
    refine zc_w (f_difference (c := g + 16 + 2) K A' S2 q 0 (by omega) (by omega) (by omega) (GK.K16 2 (by omega))) ?_
    simp (disch := omega) only [r441_0, r441_1, r441_2, r441_5, r441_6, r441_7, r441_10, r441_13, r441_14, r441_15, r441_16, r441_19, r441_22, r441_25, r441_26, r441_27, r441_28, r441_29, r441_32, r441_33, r441_34, r441_37, r441_38, r441_39, r441_40, r441_43, r441_44, r441_47, r441_48, r441_49, r441_52, r441_53, r441_56, r441_59, r441_60, r441_63, r441_64, r441_65, r441_66, r441_69, r441_70, r441_71, r441_72, r441_75, r441_76, r441_77, r441_80, r441_83, r441_84, r441_85, r441_86, r441_89, r441_90, r441_93, r441_94, r441_95, r441_99, r441_102, r441_103, r441_104, r441_105, r441_108, r441_109, r441_110, r441_111, r441_114, r441_115, r441_116, r441_119, r441_120, r441_123, r441_124, r441_125, r441_126, r441_129, r441_130, r441_131, r441_132, r441_135, r441_136, r441_137, r441_140, r441_141, r441_144, r441_145, r441_146, r441_147, r441_150, r441_151, r441_152, r441_153, r441_156, r441_157, r441_158, r441_161, r441_162, r441_163, r441_166, r441_167, r441_168, r441_169, r441_172, r441_173, r441_174, r441_177, r441_180, znl_i, znl_r, znl_j, znl_l, List.length_cons, List.length_nil, Option.some.injEq, Sum.inl.injEq, Sum.inr.injEq, Prod.mk.injEq, true_and, and_true, exists_eq_left', zK_sI, zA_sI, zL_sI, zK_sL, zA_sL, zI_sL, zK_fI, zA_fI, zL_fI, zK_fL, zA_fL, zI_fL, Nat.reduceAdd, Nat.reduceLeDiff, forall_eq', zl_lt, zl_gt, zl_eq, zl_le, zl_ge, zm_0, zaft_n, zaft_v, zb_eq, Decidable.not_not, zK_rH, zI_rH, zL_rH, zA_rH, zsI_rH, zsL_rH, zsA_rH, zcpI_rH, zn_b, zm_b, Int.toNat_natCast, Int.toNat_zero, Int.reduceToNat, GK.K14]
    refine join _ (fun j hj => by rw [f3_n (by omega), f3_n (by omega), f3_s hj]) (fun j hj => by rw [f3_n (by omega), f3_s hj]) (fun j hj => by rw [f3_s hj]; unfold yw2; rw [show yQ4 F = (q : Int) from hq, if_neg (by omega), Int.toNat_natCast]) (fun i hi1 hi2 => by rw [f3_n (by omega), f3_n (by omega), f3_n (by omega)]; exact p i hi1)
  · have hq : yQ4 F = -1 := by omega
    repeat (refine And.intro (by omega) ?_)
    refine zc_w (f_crosses (a := g + 16 + 0) (b := g + 16 + 1) (c := g + 16 + 2) (u := ysub F 1 0) (v := ysub F (yQ3 F) 0) kb (by omega) (by omega) (by omega) (by omega) (by omega) (GK.K16 0 (by omega)) (GK.K16 1 (by omega)) (GK.K16 2 (by omega)) (fun i hi => by rw [f3_n (by omega), f3_s hi]) (fun i hi => f3_s hi)) ?_
    simp (disch := omega) only [r441_0, r441_1, r441_2, r441_5, r441_6, r441_7, r441_10, r441_13, r441_14, r441_15, r441_16, r441_19, r441_22, r441_25, r441_26, r441_27, r441_28, r441_29, r441_32, r441_33, r441_34, r441_37, r441_38, r441_39, r441_40, r441_43, r441_44, r441_47, r441_48, r441_49, r441_52, r441_53, r441_56, r441_59, r441_60, r441_63, r441_64, r441_65, r441_66, r441_69, r441_70, r441_71, r441_72, r441_75, r441_76, r441_77, r441_80, r441_83, r441_84, r441_85, r441_86, r441_89, r441_90, r441_93, r441_94, r441_95, r441_99, r441_102, r441_103, r441_104, r441_105, r441_108, r441_109, r441_110, r441_111, r441_114, r441_115, r441_116, r441_119, r441_120, r441_123, r441_124, r441_125, r441_126, r441_129, r441_130, r441_131, r441_132, r441_135, r441_136, r441_137, r441_140, r441_141, r441_144, r441_145, r441_146, r441_147, r441_150, r441_151, r441_152, r441_153, r441_156, r441_157, r441_158, r441_161, r441_162, r441_163, r441_166, r441_167, r441_168, r441_169, r441_172, r441_173, r441_174, r441_177, r441_180, znl_i, znl_r, znl_j, znl_l, List.length_cons, List.length_nil, Option.some.injEq, Sum.inl.injEq, Sum.inr.injEq, Prod.mk.injEq, true_and, and_true, exists_eq_left', zK_sI, zA_sI, zL_sI, zK_sL, zA_sL, zI_sL, zK_fI, zA_fI, zL_fI, zK_fL, zA_fL, zI_fL, Nat.reduceAdd, Nat.reduceLeDiff, forall_eq', zl_lt, zl_gt, zl_eq, zl_le, zl_ge, zm_0, zaft_n, zaft_v, zb_eq, Decidable.not_not, zK_rH, zI_rH, zL_rH, zA_rH, zsI_rH, zsL_rH, zsA_rH, zcpI_rH, zn_b, zm_b, Int.toNat_natCast, Int.toNat_zero, Int.reduceToNat, GK.K14]
    refine join _ (fun j hj => by rw [f3_n (by omega), f3_n (by omega), f3_s hj]) (fun j hj => by rw [f3_n (by omega), f3_s hj]) (fun j hj => by rw [f3_s hj]; unfold yw2; rw [if_pos hq]) (fun i hi1 hi2 => by rw [f3_n (by omega), f3_n (by omega), f3_n (by omega)]; exact p i hi1)
end
