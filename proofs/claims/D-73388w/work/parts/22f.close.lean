section
variable {e : zEv} {d x f o r n g b : Nat} {h h1 h2 : zH} {φ φ' φ'' ψ ψ' ψ'' : Nat → Nat → Int} {α α' α'' : Nat → Nat → Option Nat} {F : yF} {T : yT}
theorem z1n : (1 : Int) = ((1 : Nat) : Int) := rfl
theorem z0n : (0 : Int) = ((0 : Nat) : Int) := rfl
theorem ypw2_lt {m b : Nat} (hm : m ≤ 48) {s : Nat} (h : s < 2 ^ m) : s < 2 ^ 48 := Nat.lt_of_lt_of_le h (Nat.pow_le_pow_right (by omega) hm)
/-- the least closed set -/
theorem g_closes (D : gD e h x f g T φ α) {B : Nat} (hB : B < 2 ^ Tm T) : zc e (d + 3) 429 [zr (some (x + g)), zl (B : Int)] (cH h x φ ψ α) (fun ov h' => ov = Sum.inl (some (zl (ygn T (fun b => B.testBit b = true) : Int))) ∧ h' = cH h x φ ψ α) := by
  have GK := D.GK
  have GA := D.GA
  have V := D.V
  have gn := GK.n
  have m := V.m
  have hX : ∀ g, B.testBit g = true → g < Tm T := fun g hg => by
    refine Nat.lt_of_not_le fun z => ?_
    rw [Nat.testBit_lt_two_pow (Nat.lt_of_lt_of_le hB (Nat.pow_le_pow_right (by omega) z))] at hg
    cases hg
  have B48 := ypw2_lt (b := 0) m.2 hB
  generalize hQ : (fun ov h' => ov = Sum.inl (some (zl (ygn T (fun b => B.testBit b = true) : Int))) ∧ h' = cH h x φ ψ α : zEt) = Q
  have main : ∀ (M set fresh : Nat), yCm set fresh ≤ (M : Int) → yCl T (fun b => B.testBit b = true) set fresh → ∀ w7 w8 w9 w10, zg e 429 (d + 2) 5 [zr (some (x + g)), zl (B : Int), zj, zl (set : Int), zj, zl (fresh : Int), zj, w7, w8, w9, w10] [] (cH h x φ ψ α) Q := by
    intro M
    induction M with
    | zero =>
      intro set fresh hM C w7 w8 w9 w10
      have nn := yCm_nn set fresh
      have f48 := ypw2_lt (b := 0) m.2 C.fl
      by_cases c : fresh = 0
      · subst c
        rw [r429_5]
        simp (disch := omega) only [r429_0, r429_1, r429_2, r429_3, r429_7, r429_8, r429_9, r429_12, r429_14, r429_17, r429_19, r429_21, r429_23, r429_24, r429_25, r429_26, r429_28, r429_29, r429_33, r429_34, r429_35, r429_38, r429_39, r429_42, r429_44, r429_45, r429_47, r429_50, r429_51, r429_53, r429_54, r429_56, r429_59, r429_62, r429_65, r429_66, r429_67, r429_69, r429_70, r429_71, r429_72, r429_74, r429_75, r429_77, r429_78, r429_79, r429_81, r429_83, r429_85, r429_86, r429_87, r429_88, r429_90, r429_93, r429_96, r429_97, znl_i, znl_r, znl_j, znl_l, List.length_cons, List.length_nil, Option.some.injEq, Sum.inl.injEq, Sum.inr.injEq, Prod.mk.injEq, true_and, and_true, exists_eq_left', zK_sI, zA_sI, zL_sI, zK_sL, zA_sL, zI_sL, zK_fI, zA_fI, zL_fI, zK_fL, zA_fL, zI_fL, Nat.reduceAdd, Nat.reduceLeDiff, forall_eq', zl_lt, zl_gt, zl_eq, zl_le, zl_ge, zm_0, zaft_n, zaft_v, zb_eq, Decidable.not_not, zK_rH, zI_rH, zL_rH, zA_rH, zsI_rH, zsL_rH, zsA_rH, zcpI_rH, zn_b, zm_b, Int.toNat_natCast, Int.toNat_zero, Int.reduceToNat]
        trace_state
        sorry
      · have := yCm_drop (set := set) (fresh := fresh) (by omega) c
        have := yCm_nn set (fresh &&& (fresh - 1))
        omega
    | succ M ih =>
      intro set fresh hM C w7 w8 w9 w10
      sorry
  simp (disch := omega) only [n429, r429_0, r429_1, r429_2, r429_3, r429_7, r429_8, r429_9, r429_12, r429_14, r429_17, r429_19, r429_21, r429_23, r429_24, r429_25, r429_26, r429_28, r429_29, r429_33, r429_34, r429_35, r429_38, r429_39, r429_42, r429_44, r429_45, r429_47, r429_50, r429_51, r429_53, r429_54, r429_56, r429_59, r429_62, r429_65, r429_66, r429_67, r429_69, r429_70, r429_71, r429_72, r429_74, r429_75, r429_77, r429_78, r429_79, r429_81, r429_83, r429_85, r429_86, r429_87, r429_88, r429_90, r429_93, r429_96, r429_97, znl_i, znl_r, znl_j, znl_l, List.length_cons, List.length_nil, Option.some.injEq, Sum.inl.injEq, Sum.inr.injEq, Prod.mk.injEq, true_and, and_true, exists_eq_left', zK_sI, zA_sI, zL_sI, zK_sL, zA_sL, zI_sL, zK_fI, zA_fI, zL_fI, zK_fL, zA_fL, zI_fL, Nat.reduceAdd, Nat.reduceLeDiff, forall_eq', zl_lt, zl_gt, zl_eq, zl_le, zl_ge, zm_0, zaft_n, zaft_v, zb_eq, Decidable.not_not, zK_rH, zI_rH, zL_rH, zA_rH, zsI_rH, zsL_rH, zsA_rH, zcpI_rH, zn_b, zm_b, Int.toNat_natCast, Int.toNat_zero, Int.reduceToNat, GK.K0]
  trace_state
  sorry
end
