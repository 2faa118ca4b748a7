section
variable {e : zEv} {d x f o a b c : Nat} {h h1 h2 : zH} {φ φ' φ'' ψ : Nat → Nat → Int} {α α' α'' : Nat → Nat → Option Nat} {F : yF} {u v : Nat → Int}
theorem ycnt_sb (q : Nat → Bool) (n : Nat) : ycnt q (n + 1) = ycnt q n + yb (q n) := by
  rw [ycnt_s]; cases q n <;> rfl
/-- cells as a relation -/
def ycr9 (cl : Nat → Nat) : yP := fun k o => decide (cl k = cl o)
theorem f_isAlike (K : fK e h x f) (A : fA x f α) (S : fS F f φ) (V : fV F x f φ α) (cl : Nat → Nat) (hc : ∀ k, k < F.1 → φ (f + 24) k = (cl k : Int) ∧ cl k < 12) (k j : Nat) (hk : k < F.1) (hj : j < F.1) : zc e (d + 3) 408 [zr (some (x + f)), zi (k : Int), zi (j : Int)] (cH h x φ ψ α)
    (fun ov h' => ov = Sum.inl (some (zi (yb (yref F (ycr9 cl) k j)))) ∧ ∃ h1 φ' α', h' = cH h1 x φ' ψ α' ∧ fP F x f h φ α h1 φ' α') := by
  have kn := K.n
  have kb := K.b
  have ks := K.s
  have hm := S.w.1
  have hp : yplaced F := S.w.2.2.1
  have ck := hc k hk
  have cj := hc j hj
  by_cases q0 : cl k = cl j
  · have loop := zdown0 (fun i => (∀ z, z < i → (!ylike F (ycr9 cl) k j z) = false) → ∀ (h1 : zH) (φ' : Nat → Nat → Int) (α' : Nat → Nat → Option Nat), fP F x f h φ α h1 φ' α' → ∀ w1 w2 w3, zg e 408 (d + 2) 19 [zr (some (x + f)), zi (k : Int), zi (j : Int), zi (i : Int), w1, w2, w3] [] (cH h1 x φ' ψ α') (fun ov h' => ov = Sum.inl (some (zi (yb (yref F (ycr9 cl) k j)))) ∧ ∃ h1 φ' α', h' = cH h1 x φ' ψ α' ∧ fP F x f h φ α h1 φ' α')) F.1 (fun q h1 φ' α' P w1 w2 w3 => ?_) (fun i hi ih q h1 φ' α' P w1 w2 w3 => ?_)
    · simp (disch := omega) only [n408, r408_0, r408_1, r408_4, r408_5, r408_6, r408_7, r408_10, r408_11, r408_12, r408_15, r408_16, r408_17, r408_18, r408_20, r408_21, r408_24, r408_27, r408_28, r408_30, r408_31, r408_33, r408_34, r408_38, r408_39, r408_42, r408_45, r408_47, r408_48, r408_51, r408_53, r408_54, r408_55, r408_58, r408_59, r408_60, r408_63, r408_64, r408_65, r408_67, r408_70, r408_71, r408_72, r408_73, r408_76, r408_79, r408_80, r408_83, r408_84, r408_85, r408_87, r408_89, r408_90, r408_93, r408_95, r408_96, r408_97, r408_100, r408_101, r408_102, r408_105, r408_106, r408_107, r408_109, r408_112, r408_113, r408_114, r408_115, r408_118, r408_121, r408_122, r408_125, r408_126, r408_127, r408_129, r408_132, r408_135, r408_137, r408_139, r408_142, r408_143, r408_144, r408_147, r408_150, r408_151, znl_i, znl_r, znl_j, znl_l, List.length_cons, List.length_nil, Option.some.injEq, Sum.inl.injEq, Sum.inr.injEq, Prod.mk.injEq, true_and, and_true, exists_eq_left', zK_sI, zA_sI, zL_sI, zK_sL, zA_sL, zI_sL, zK_fI, zA_fI, zL_fI, zK_fL, zA_fL, zI_fL, Nat.reduceAdd, Nat.reduceLeDiff, forall_eq', zl_lt, zl_gt, zl_eq, zl_le, zl_ge, zm_0, zaft_n, zaft_v, zb_eq, Decidable.not_not, zK_rH, zI_rH, zL_rH, zA_rH, zsI_rH, zsL_rH, zsA_rH, zcpI_rH, zn_b, zm_b, Int.toNat_natCast, Int.toNat_zero, Int.reduceToNat, K.K0, K.K1, K.K2, K.K3, K.K6, K.K7, K.K8, K.K20, K.K21, K.K22, K.K23, K.K24, K.K25, A.A1, A.A2, A.A3, A.A4, A.A5, A.A6, A.A7, A.A8, A.A9, A.A10, A.R2, A.R7, hc]
      refine ⟨by omega, by omega, by omega, by omega, fun _ => ?_, fun z => absurd z (by omega)⟩
      exact loop (fun z hz => absurd hz (by omega)) h φ α (fP.refl V) _ _ _
    · have K' := P.K K
      have A' := P.A A
      have S' := P.S S
      rw [r408_19]
      simp (disch := omega) only [r408_0, r408_1, r408_4, r408_5, r408_6, r408_7, r408_10, r408_11, r408_12, r408_15, r408_16, r408_17, r408_18, r408_20, r408_21, r408_24, r408_27, r408_28, r408_30, r408_31, r408_33, r408_34, r408_38, r408_39, r408_42, r408_45, r408_47, r408_48, r408_51, r408_53, r408_54, r408_55, r408_58, r408_59, r408_60, r408_63, r408_64, r408_65, r408_67, r408_70, r408_71, r408_72, r408_73, r408_76, r408_79, r408_80, r408_83, r408_84, r408_85, r408_87, r408_89, r408_90, r408_93, r408_95, r408_96, r408_97, r408_100, r408_101, r408_102, r408_105, r408_106, r408_107, r408_109, r408_112, r408_113, r408_114, r408_115, r408_118, r408_121, r408_122, r408_125, r408_126, r408_127, r408_129, r408_132, r408_135, r408_137, r408_139, r408_142, r408_143, r408_144, r408_147, r408_150, r408_151, znl_i, znl_r, znl_j, znl_l, List.length_cons, List.length_nil, Option.some.injEq, Sum.inl.injEq, Sum.inr.injEq, Prod.mk.injEq, true_and, and_true, exists_eq_left', zK_sI, zA_sI, zL_sI, zK_sL, zA_sL, zI_sL, zK_fI, zA_fI, zL_fI, zK_fL, zA_fL, zI_fL, Nat.reduceAdd, Nat.reduceLeDiff, forall_eq', zl_lt, zl_gt, zl_eq, zl_le, zl_ge, zm_0, zaft_n, zaft_v, zb_eq, Decidable.not_not, zK_rH, zI_rH, zL_rH, zA_rH, zsI_rH, zsL_rH, zsA_rH, zcpI_rH, zn_b, zm_b, Int.toNat_natCast, Int.toNat_zero, Int.reduceToNat, K'.K0, K'.K1, K'.K2, K'.K3, K'.K6, K'.K7, K'.K8, K'.K20, K'.K21, K'.K22, K'.K23, K'.K24, K'.K25, A'.A1, A'.A2, A'.A3, A'.A4, A'.A5, A'.A6, A'.A7, A'.A8, A'.A9, A'.A10, A'.R2, A'.R7, S'.m]
      refine ⟨fun _ => ⟨by decide, by decide, ?_, _, _, _, rfl, P⟩, fun z => absurd z (by omega)⟩
      have t : yref F (ycr9 cl) k j = true := by
        unfold yref
        rw [yfind_no q]
        simp [ycr9, q0]
      rw [t]; rfl
    · have K' := P.K K
      have A' := P.A A
      have S' := P.S S
      have ci := hc i hi
      have vb := ydist_bd hp hk hi
      have inner := zdown0 (fun w => ∀ (h1 : zH) (φ' : Nat → Nat → Int) (α' : Nat → Nat → Option Nat), fP F x f h φ α h1 φ' α' → zg e 408 (d + 2) 36 [zr (some (x + f)), zi (k : Int), zi (j : Int), zi (i : Int), zi (ycnt (yfarq F (ycr9 cl) k i (ydist F k i)) w), zi (ycnt (yfarq F (ycr9 cl) j i (ydist F k i)) w), zi (w : Int)] [] (cH h1 x φ' ψ α') (fun ov h' => ov = Sum.inl (some (zi (yb (yref F (ycr9 cl) k j)))) ∧ ∃ h1 φ' α', h' = cH h1 x φ' ψ α' ∧ fP F x f h φ α h1 φ' α')) F.1 (fun h1 φ' α' P => ?_) (fun w hw ihw h1 φ' α' P => ?_)
      · rw [r408_19]
        simp (disch := omega) only [r408_0, r408_1, r408_4, r408_5, r408_6, r408_7, r408_10, r408_11, r408_12, r408_15, r408_16, r408_17, r408_18, r408_20, r408_21, r408_24, r408_27, r408_28, r408_30, r408_31, r408_33, r408_34, r408_38, r408_39, r408_42, r408_45, r408_47, r408_48, r408_51, r408_53, r408_54, r408_55, r408_58, r408_59, r408_60, r408_63, r408_64, r408_65, r408_67, r408_70, r408_71, r408_72, r408_73, r408_76, r408_79, r408_80, r408_83, r408_84, r408_85, r408_87, r408_89, r408_90, r408_93, r408_95, r408_96, r408_97, r408_100, r408_101, r408_102, r408_105, r408_106, r408_107, r408_109, r408_112, r408_113, r408_114, r408_115, r408_118, r408_121, r408_122, r408_125, r408_126, r408_127, r408_129, r408_132, r408_135, r408_137, r408_139, r408_142, r408_143, r408_144, r408_147, r408_150, r408_151, znl_i, znl_r, znl_j, znl_l, List.length_cons, List.length_nil, Option.some.injEq, Sum.inl.injEq, Sum.inr.injEq, Prod.mk.injEq, true_and, and_true, exists_eq_left', zK_sI, zA_sI, zL_sI, zK_sL, zA_sL, zI_sL, zK_fI, zA_fI, zL_fI, zK_fL, zA_fL, zI_fL, Nat.reduceAdd, Nat.reduceLeDiff, forall_eq', zl_lt, zl_gt, zl_eq, zl_le, zl_ge, zm_0, zaft_n, zaft_v, zb_eq, Decidable.not_not, zK_rH, zI_rH, zL_rH, zA_rH, zsI_rH, zsL_rH, zsA_rH, zcpI_rH, zn_b, zm_b, Int.toNat_natCast, Int.toNat_zero, Int.reduceToNat, K'.K0, K'.K1, K'.K2, K'.K3, K'.K6, K'.K7, K'.K8, K'.K20, K'.K21, K'.K22, K'.K23, K'.K24, K'.K25, A'.A1, A'.A2, A'.A3, A'.A4, A'.A5, A'.A6, A'.A7, A'.A8, A'.A9, A'.A10, A'.R2, A'.R7, S'.m]
        refine ⟨fun z => absurd z (by omega), fun _ => ?_⟩
        exact inner h1 φ' α' P
      · have K' := P.K K
        have A' := P.A A
        have S' := P.S S
        have b1 := ycnt_bd (yfarq F (ycr9 cl) k i (ydist F k i)) F.1
        have b2 := ycnt_bd (yfarq F (ycr9 cl) j i (ydist F k i)) F.1
        rw [r408_36]
        simp (disch := omega) only [r408_0, r408_1, r408_4, r408_5, r408_6, r408_7, r408_10, r408_11, r408_12, r408_15, r408_16, r408_17, r408_18, r408_20, r408_21, r408_24, r408_27, r408_28, r408_30, r408_31, r408_33, r408_34, r408_38, r408_39, r408_42, r408_45, r408_47, r408_48, r408_51, r408_53, r408_54, r408_55, r408_58, r408_59, r408_60, r408_63, r408_64, r408_65, r408_67, r408_70, r408_71, r408_72, r408_73, r408_76, r408_79, r408_80, r408_83, r408_84, r408_85, r408_87, r408_89, r408_90, r408_93, r408_95, r408_96, r408_97, r408_100, r408_101, r408_102, r408_105, r408_106, r408_107, r408_109, r408_112, r408_113, r408_114, r408_115, r408_118, r408_121, r408_122, r408_125, r408_126, r408_127, r408_129, r408_132, r408_135, r408_137, r408_139, r408_142, r408_143, r408_144, r408_147, r408_150, r408_151, znl_i, znl_r, znl_j, znl_l, List.length_cons, List.length_nil, Option.some.injEq, Sum.inl.injEq, Sum.inr.injEq, Prod.mk.injEq, true_and, and_true, exists_eq_left', zK_sI, zA_sI, zL_sI, zK_sL, zA_sL, zI_sL, zK_fI, zA_fI, zL_fI, zK_fL, zA_fL, zI_fL, Nat.reduceAdd, Nat.reduceLeDiff, forall_eq', zl_lt, zl_gt, zl_eq, zl_le, zl_ge, zm_0, zaft_n, zaft_v, zb_eq, Decidable.not_not, zK_rH, zI_rH, zL_rH, zA_rH, zsI_rH, zsL_rH, zsA_rH, zcpI_rH, zn_b, zm_b, Int.toNat_natCast, Int.toNat_zero, Int.reduceToNat, K'.K0, K'.K1, K'.K2, K'.K3, K'.K6, K'.K7, K'.K8, K'.K20, K'.K21, K'.K22, K'.K23, K'.K24, K'.K25, A'.A1, A'.A2, A'.A3, A'.A4, A'.A5, A'.A6, A'.A7, A'.A8, A'.A9, A'.A10, A'.R2, A'.R7, S'.m]
        refine ⟨fun _ => ⟨fun z => ?_, fun z => ?_⟩, fun z => absurd z (by omega)⟩
        · refine ih (fun y hy => ?_) h1 φ' α' P _ _ _
          by_cases c2 : y = i
          · subst c2
            have : ylike F (ycr9 cl) k j y = true := decide_eq_true z
            rw [this]; rfl
          · exact q y (by omega)
        · have n : ylike F (ycr9 cl) k j i = false := decide_eq_false z
          have t : yref F (ycr9 cl) k j = false := by
            unfold yref
            rw [yfind_hit hi q (by rw [n]; rfl), Bool.and_eq_false_iff]
            right; exact decide_eq_false (by omega)
          rw [t]
          exact ⟨by decide, by decide, rfl, _, _, _, rfl, P⟩
      · have cw := hc w hw
        have b1 := ycnt_bd (yfarq F (ycr9 cl) k i (ydist F k i)) w
        have b2 := ycnt_bd (yfarq F (ycr9 cl) j i (ydist F k i)) w
        have y1 := yb_bd (yfarq F (ycr9 cl) k i (ydist F k i) w)
        have y2 := yb_bd (yfarq F (ycr9 cl) j i (ydist F k i) w)
        have k126 : ∀ (h1 : zH) (φ' : Nat → Nat → Int) (α' : Nat → Nat → Option Nat), fP F x f h φ α h1 φ' α' → zg e 408 (d + 2) 126 [zr (some (x + f)), zi (k : Int), zi (j : Int), zi (i : Int), zi (ycnt (yfarq F (ycr9 cl) k i (ydist F k i)) (w + 1)), zi (ycnt (yfarq F (ycr9 cl) j i (ydist F k i)) w), zi (w : Int)] [zi (yb (yfarq F (ycr9 cl) j i (ydist F k i) w)), zi (ycnt (yfarq F (ycr9 cl) j i (ydist F k i)) w)] (cH h1 x φ' ψ α') (fun ov h' => ov = Sum.inl (some (zi (yb (yref F (ycr9 cl) k j)))) ∧ ∃ h1 φ' α', h' = cH h1 x φ' ψ α' ∧ fP F x f h φ α h1 φ' α') := by
          intro h1 φ' α' P
          have K' := P.K K
          have A' := P.A A
          have g := ihw h1 φ' α' P
          rw [ycnt_sb (yfarq F (ycr9 cl) j i (ydist F k i)) w] at g
          simp (disch := omega) only [r408_0, r408_1, r408_4, r408_5, r408_6, r408_7, r408_10, r408_11, r408_12, r408_15, r408_16, r408_17, r408_18, r408_20, r408_21, r408_24, r408_27, r408_28, r408_30, r408_31, r408_33, r408_34, r408_38, r408_39, r408_42, r408_45, r408_47, r408_48, r408_51, r408_53, r408_54, r408_55, r408_58, r408_59, r408_60, r408_63, r408_64, r408_65, r408_67, r408_70, r408_71, r408_72, r408_73, r408_76, r408_79, r408_80, r408_83, r408_84, r408_85, r408_87, r408_89, r408_90, r408_93, r408_95, r408_96, r408_97, r408_100, r408_101, r408_102, r408_105, r408_106, r408_107, r408_109, r408_112, r408_113, r408_114, r408_115, r408_118, r408_121, r408_122, r408_125, r408_126, r408_127, r408_129, r408_132, r408_135, r408_137, r408_139, r408_142, r408_143, r408_144, r408_147, r408_150, r408_151, znl_i, znl_r, znl_j, znl_l, List.length_cons, List.length_nil, Option.some.injEq, Sum.inl.injEq, Sum.inr.injEq, Prod.mk.injEq, true_and, and_true, exists_eq_left', zK_sI, zA_sI, zL_sI, zK_sL, zA_sL, zI_sL, zK_fI, zA_fI, zL_fI, zK_fL, zA_fL, zI_fL, Nat.reduceAdd, Nat.reduceLeDiff, forall_eq', zl_lt, zl_gt, zl_eq, zl_le, zl_ge, zm_0, zaft_n, zaft_v, zb_eq, Decidable.not_not, zK_rH, zI_rH, zL_rH, zA_rH, zsI_rH, zsL_rH, zsA_rH, zcpI_rH, zn_b, zm_b, Int.toNat_natCast, Int.toNat_zero, Int.reduceToNat, K'.K0, K'.K1, K'.K2, K'.K3, K'.K6, K'.K7, K'.K8, K'.K20, K'.K21, K'.K22, K'.K23, K'.K24, K'.K25, A'.A1, A'.A2, A'.A3, A'.A4, A'.A5, A'.A6, A'.A7, A'.A8, A'.A9, A'.A10, A'.R2, A'.R7]
          exact g
        have pc : ∀ {h1 : zH} {φ' : Nat → Nat → Int} {α' : Nat → Nat → Option Nat}, fP F x f h φ α h1 φ' α' → ∀ y, y < F.1 → φ' (f + 24) y = (cl y : Int) := fun P y hy => by rw [P.i _ (by omega)]; exact (hc y hy).1
        have k84 : ∀ (h1 : zH) (φ' : Nat → Nat → Int) (α' : Nat → Nat → Option Nat), fP F x f h φ α h1 φ' α' → zg e 408 (d + 2) 84 [zr (some (x + f)), zi (k : Int), zi (j : Int), zi (i : Int), zi (ycnt (yfarq F (ycr9 cl) k i (ydist F k i)) w), zi (ycnt (yfarq F (ycr9 cl) j i (ydist F k i)) w), zi (w : Int)] [zi (yb (yfarq F (ycr9 cl) k i (ydist F k i) w)), zi (ycnt (yfarq F (ycr9 cl) k i (ydist F k i)) w)] (cH h1 x φ' ψ α') (fun ov h' => ov = Sum.inl (some (zi (yb (yref F (ycr9 cl) k j)))) ∧ ∃ h1 φ' α', h' = cH h1 x φ' ψ α' ∧ fP F x f h φ α h1 φ' α') := by
          intro h1 φ' α' P
          have K' := P.K K
          have A' := P.A A
          have S' := P.S S
          have cc := pc P
          have db := ydist_bd hp hj hw
          have e1 := ycnt_sb (yfarq F (ycr9 cl) k i (ydist F k i)) w
          simp (disch := omega) only [r408_0, r408_1, r408_4, r408_5, r408_6, r408_7, r408_10, r408_11, r408_12, r408_15, r408_16, r408_17, r408_18, r408_20, r408_21, r408_24, r408_27, r408_28, r408_30, r408_31, r408_33, r408_34, r408_38, r408_39, r408_42, r408_45, r408_47, r408_48, r408_51, r408_53, r408_54, r408_55, r408_58, r408_59, r408_60, r408_63, r408_64, r408_65, r408_67, r408_70, r408_71, r408_72, r408_73, r408_76, r408_79, r408_80, r408_83, r408_84, r408_85, r408_87, r408_89, r408_90, r408_93, r408_95, r408_96, r408_97, r408_100, r408_101, r408_102, r408_105, r408_106, r408_107, r408_109, r408_112, r408_113, r408_114, r408_115, r408_118, r408_121, r408_122, r408_125, r408_127, r408_129, r408_132, r408_135, r408_137, r408_139, r408_142, r408_143, r408_144, r408_147, r408_150, r408_151, znl_i, znl_r, znl_j, znl_l, List.length_cons, List.length_nil, Option.some.injEq, Sum.inl.injEq, Sum.inr.injEq, Prod.mk.injEq, true_and, and_true, exists_eq_left', zK_sI, zA_sI, zL_sI, zK_sL, zA_sL, zI_sL, zK_fI, zA_fI, zL_fI, zK_fL, zA_fL, zI_fL, Nat.reduceAdd, Nat.reduceLeDiff, forall_eq', zl_lt, zl_gt, zl_eq, zl_le, zl_ge, zm_0, zaft_n, zaft_v, zb_eq, Decidable.not_not, zK_rH, zI_rH, zL_rH, zA_rH, zsI_rH, zsL_rH, zsA_rH, zcpI_rH, zn_b, zm_b, Int.toNat_natCast, Int.toNat_zero, Int.reduceToNat, K'.K0, K'.K1, K'.K2, K'.K3, K'.K6, K'.K7, K'.K8, K'.K20, K'.K21, K'.K22, K'.K23, K'.K24, K'.K25, A'.A1, A'.A2, A'.A3, A'.A4, A'.A5, A'.A6, A'.A7, A'.A8, A'.A9, A'.A10, A'.R2, A'.R7, cc]
          rw [← e1]
          refine ⟨by omega, by omega, by omega, by omega, fun z => ?_, fun z => ?_⟩
          · have n : yfarq F (ycr9 cl) j i (ydist F k i) w = false := by
              unfold yfarq ycr9; rw [Bool.and_eq_false_iff]; left; exact decide_eq_false (by omega)
            have g := k126 h1 φ' α' P
            rw [n] at g
            exact g
          · refine zc_mono (f_apart (d := d) K' A' S' P.v j w hj hw) ?_
            rintro _ _ ⟨rfl, h2, φ2, α2, rfl, P2⟩
            have P2 := P.trans P2
            have K2 := P2.K K
            have A2 := P2.A A
            have S2 := P2.S S
            simp (disch := omega) only [r408_0, r408_1, r408_4, r408_5, r408_6, r408_7, r408_10, r408_11, r408_12, r408_15, r408_16, r408_17, r408_18, r408_20, r408_21, r408_24, r408_27, r408_28, r408_30, r408_31, r408_33, r408_34, r408_38, r408_39, r408_42, r408_45, r408_47, r408_48, r408_51, r408_53, r408_54, r408_55, r408_58, r408_59, r408_60, r408_63, r408_64, r408_65, r408_67, r408_70, r408_71, r408_72, r408_73, r408_76, r408_79, r408_80, r408_83, r408_84, r408_85, r408_87, r408_89, r408_90, r408_93, r408_95, r408_96, r408_97, r408_100, r408_101, r408_102, r408_105, r408_106, r408_107, r408_109, r408_112, r408_113, r408_114, r408_115, r408_118, r408_121, r408_122, r408_125, r408_127, r408_129, r408_132, r408_135, r408_137, r408_139, r408_142, r408_143, r408_144, r408_147, r408_150, r408_151, znl_i, znl_r, znl_j, znl_l, List.length_cons, List.length_nil, Option.some.injEq, Sum.inl.injEq, Sum.inr.injEq, Prod.mk.injEq, true_and, and_true, exists_eq_left', zK_sI, zA_sI, zL_sI, zK_sL, zA_sL, zI_sL, zK_fI, zA_fI, zL_fI, zK_fL, zA_fL, zI_fL, Nat.reduceAdd, Nat.reduceLeDiff, forall_eq', zl_lt, zl_gt, zl_eq, zl_le, zl_ge, zm_0, zaft_n, zaft_v, zb_eq, Decidable.not_not, zK_rH, zI_rH, zL_rH, zA_rH, zsI_rH, zsL_rH, zsA_rH, zcpI_rH, zn_b, zm_b, Int.toNat_natCast, Int.toNat_zero, Int.reduceToNat, K2.K0, K2.K1, K2.K2, K2.K3, K2.K6, K2.K7, K2.K8, K2.K20, K2.K21, K2.K22, K2.K23, K2.K24, K2.K25, A2.A1, A2.A2, A2.A3, A2.A4, A2.A5, A2.A6, A2.A7, A2.A8, A2.A9, A2.A10, A2.R2, A2.R7]
            refine zc_mono (f_apart (d := d) K2 A2 S2 P2.v k i hk hi) ?_
            rintro _ _ ⟨rfl, h3, φ3, α3, rfl, P3⟩
            have P3 := P2.trans P3
            simp (disch := omega) only [r408_0, r408_1, r408_4, r408_5, r408_6, r408_7, r408_10, r408_11, r408_12, r408_15, r408_16, r408_17, r408_18, r408_20, r408_21, r408_24, r408_27, r408_28, r408_30, r408_31, r408_33, r408_34, r408_38, r408_39, r408_42, r408_45, r408_47, r408_48, r408_51, r408_53, r408_54, r408_55, r408_58, r408_59, r408_60, r408_63, r408_64, r408_65, r408_67, r408_70, r408_71, r408_72, r408_73, r408_76, r408_79, r408_80, r408_83, r408_84, r408_85, r408_87, r408_89, r408_90, r408_93, r408_95, r408_96, r408_97, r408_100, r408_101, r408_102, r408_105, r408_106, r408_107, r408_109, r408_112, r408_113, r408_114, r408_115, r408_118, r408_121, r408_122, r408_125, r408_127, r408_129, r408_132, r408_135, r408_137, r408_139, r408_142, r408_143, r408_144, r408_147, r408_150, r408_151, znl_i, znl_r, znl_j, znl_l, List.length_cons, List.length_nil, Option.some.injEq, Sum.inl.injEq, Sum.inr.injEq, Prod.mk.injEq, true_and, and_true, exists_eq_left', zK_sI, zA_sI, zL_sI, zK_sL, zA_sL, zI_sL, zK_fI, zA_fI, zL_fI, zK_fL, zA_fL, zI_fL, Nat.reduceAdd, Nat.reduceLeDiff, forall_eq', zl_lt, zl_gt, zl_eq, zl_le, zl_ge, zm_0, zaft_n, zaft_v, zb_eq, Decidable.not_not, zK_rH, zI_rH, zL_rH, zA_rH, zsI_rH, zsL_rH, zsA_rH, zcpI_rH, zn_b, zm_b, Int.toNat_natCast, Int.toNat_zero, Int.reduceToNat, K2.K0, K2.K1, K2.K2, K2.K3, K2.K6, K2.K7, K2.K8, K2.K20, K2.K21, K2.K22, K2.K23, K2.K24, K2.K25, A2.A1, A2.A2, A2.A3, A2.A4, A2.A5, A2.A6, A2.A7, A2.A8, A2.A9, A2.A10, A2.R2, A2.R7]
            have g := k126 h3 φ3 α3 P3
            refine ⟨fun z2 => ?_, fun z2 => ?_⟩
            · have n : yfarq F (ycr9 cl) j i (ydist F k i) w = false := by
                unfold yfarq; rw [Bool.and_eq_false_iff]; right; exact decide_eq_false z2
              rw [n] at g
              exact g
            · have n : yfarq F (ycr9 cl) j i (ydist F k i) w = true := by
                unfold yfarq ycr9; rw [Bool.and_eq_true]; exact ⟨decide_eq_true (by omega), decide_eq_true z2⟩
              rw [n] at g
              exact g
        have K' := P.K K
        have A' := P.A A
        have S' := P.S S
        have cc := pc P
        have db := ydist_bd hp hk hw
        rw [r408_36]
        simp (disch := omega) only [r408_0, r408_1, r408_4, r408_5, r408_6, r408_7, r408_10, r408_11, r408_12, r408_15, r408_16, r408_17, r408_18, r408_20, r408_21, r408_24, r408_27, r408_28, r408_30, r408_31, r408_33, r408_34, r408_38, r408_39, r408_42, r408_45, r408_47, r408_48, r408_51, r408_53, r408_54, r408_55, r408_58, r408_59, r408_60, r408_63, r408_64, r408_65, r408_67, r408_70, r408_71, r408_72, r408_73, r408_76, r408_79, r408_80, r408_83, r408_85, r408_87, r408_89, r408_90, r408_93, r408_95, r408_96, r408_97, r408_100, r408_101, r408_102, r408_105, r408_106, r408_107, r408_109, r408_112, r408_113, r408_114, r408_115, r408_118, r408_121, r408_122, r408_125, r408_127, r408_129, r408_132, r408_135, r408_137, r408_139, r408_142, r408_143, r408_144, r408_147, r408_150, r408_151, znl_i, znl_r, znl_j, znl_l, List.length_cons, List.length_nil, Option.some.injEq, Sum.inl.injEq, Sum.inr.injEq, Prod.mk.injEq, true_and, and_true, exists_eq_left', zK_sI, zA_sI, zL_sI, zK_sL, zA_sL, zI_sL, zK_fI, zA_fI, zL_fI, zK_fL, zA_fL, zI_fL, Nat.reduceAdd, Nat.reduceLeDiff, forall_eq', zl_lt, zl_gt, zl_eq, zl_le, zl_ge, zm_0, zaft_n, zaft_v, zb_eq, Decidable.not_not, zK_rH, zI_rH, zL_rH, zA_rH, zsI_rH, zsL_rH, zsA_rH, zcpI_rH, zn_b, zm_b, Int.toNat_natCast, Int.toNat_zero, Int.reduceToNat, K'.K0, K'.K1, K'.K2, K'.K3, K'.K6, K'.K7, K'.K8, K'.K20, K'.K21, K'.K22, K'.K23, K'.K24, K'.K25, A'.A1, A'.A2, A'.A3, A'.A4, A'.A5, A'.A6, A'.A7, A'.A8, A'.A9, A'.A10, A'.R2, A'.R7, S'.m, cc]
        refine ⟨fun z => absurd z (by omega), fun _ => ⟨by omega, by omega, by omega, by omega, fun z => ?_, fun z => ?_⟩⟩
        · have n : yfarq F (ycr9 cl) k i (ydist F k i) w = false := by
            unfold yfarq ycr9; rw [Bool.and_eq_false_iff]; left; exact decide_eq_false (by omega)
          have g := k84 h1 φ' α' P
          rw [n] at g
          exact g
        · refine zc_mono (f_apart (d := d) K' A' S' P.v k w hk hw) ?_
          rintro _ _ ⟨rfl, h2, φ2, α2, rfl, P2⟩
          have P2 := P.trans P2
          have K2 := P2.K K
          have A2 := P2.A A
          have S2 := P2.S S
          simp (disch := omega) only [r408_0, r408_1, r408_4, r408_5, r408_6, r408_7, r408_10, r408_11, r408_12, r408_15, r408_16, r408_17, r408_18, r408_20, r408_21, r408_24, r408_27, r408_28, r408_30, r408_31, r408_33, r408_34, r408_38, r408_39, r408_42, r408_45, r408_47, r408_48, r408_51, r408_53, r408_54, r408_55, r408_58, r408_59, r408_60, r408_63, r408_64, r408_65, r408_67, r408_70, r408_71, r408_72, r408_73, r408_76, r408_79, r408_80, r408_83, r408_85, r408_87, r408_89, r408_90, r408_93, r408_95, r408_96, r408_97, r408_100, r408_101, r408_102, r408_105, r408_106, r408_107, r408_109, r408_112, r408_113, r408_114, r408_115, r408_118, r408_121, r408_122, r408_125, r408_127, r408_129, r408_132, r408_135, r408_137, r408_139, r408_142, r408_143, r408_144, r408_147, r408_150, r408_151, znl_i, znl_r, znl_j, znl_l, List.length_cons, List.length_nil, Option.some.injEq, Sum.inl.injEq, Sum.inr.injEq, Prod.mk.injEq, true_and, and_true, exists_eq_left', zK_sI, zA_sI, zL_sI, zK_sL, zA_sL, zI_sL, zK_fI, zA_fI, zL_fI, zK_fL, zA_fL, zI_fL, Nat.reduceAdd, Nat.reduceLeDiff, forall_eq', zl_lt, zl_gt, zl_eq, zl_le, zl_ge, zm_0, zaft_n, zaft_v, zb_eq, Decidable.not_not, zK_rH, zI_rH, zL_rH, zA_rH, zsI_rH, zsL_rH, zsA_rH, zcpI_rH, zn_b, zm_b, Int.toNat_natCast, Int.toNat_zero, Int.reduceToNat, K2.K0, K2.K1, K2.K2, K2.K3, K2.K6, K2.K7, K2.K8, K2.K20, K2.K21, K2.K22, K2.K23, K2.K24, K2.K25, A2.A1, A2.A2, A2.A3, A2.A4, A2.A5, A2.A6, A2.A7, A2.A8, A2.A9, A2.A10, A2.R2, A2.R7]
          refine zc_mono (f_apart (d := d) K2 A2 S2 P2.v k i hk hi) ?_
          rintro _ _ ⟨rfl, h3, φ3, α3, rfl, P3⟩
          have P3 := P2.trans P3
          simp (disch := omega) only [r408_0, r408_1, r408_4, r408_5, r408_6, r408_7, r408_10, r408_11, r408_12, r408_15, r408_16, r408_17, r408_18, r408_20, r408_21, r408_24, r408_27, r408_28, r408_30, r408_31, r408_33, r408_34, r408_38, r408_39, r408_42, r408_45, r408_47, r408_48, r408_51, r408_53, r408_54, r408_55, r408_58, r408_59, r408_60, r408_63, r408_64, r408_65, r408_67, r408_70, r408_71, r408_72, r408_73, r408_76, r408_79, r408_80, r408_83, r408_85, r408_87, r408_89, r408_90, r408_93, r408_95, r408_96, r408_97, r408_100, r408_101, r408_102, r408_105, r408_106, r408_107, r408_109, r408_112, r408_113, r408_114, r408_115, r408_118, r408_121, r408_122, r408_125, r408_127, r408_129, r408_132, r408_135, r408_137, r408_139, r408_142, r408_143, r408_144, r408_147, r408_150, r408_151, znl_i, znl_r, znl_j, znl_l, List.length_cons, List.length_nil, Option.some.injEq, Sum.inl.injEq, Sum.inr.injEq, Prod.mk.injEq, true_and, and_true, exists_eq_left', zK_sI, zA_sI, zL_sI, zK_sL, zA_sL, zI_sL, zK_fI, zA_fI, zL_fI, zK_fL, zA_fL, zI_fL, Nat.reduceAdd, Nat.reduceLeDiff, forall_eq', zl_lt, zl_gt, zl_eq, zl_le, zl_ge, zm_0, zaft_n, zaft_v, zb_eq, Decidable.not_not, zK_rH, zI_rH, zL_rH, zA_rH, zsI_rH, zsL_rH, zsA_rH, zcpI_rH, zn_b, zm_b, Int.toNat_natCast, Int.toNat_zero, Int.reduceToNat, K2.K0, K2.K1, K2.K2, K2.K3, K2.K6, K2.K7, K2.K8, K2.K20, K2.K21, K2.K22, K2.K23, K2.K24, K2.K25, A2.A1, A2.A2, A2.A3, A2.A4, A2.A5, A2.A6, A2.A7, A2.A8, A2.A9, A2.A10, A2.R2, A2.R7]
          have g := k84 h3 φ3 α3 P3
          refine ⟨fun z2 => ?_, fun z2 => ?_⟩
          · have n : yfarq F (ycr9 cl) k i (ydist F k i) w = false := by
              unfold yfarq; rw [Bool.and_eq_false_iff]; right; exact decide_eq_false z2
            rw [n] at g
            exact g
          · have n : yfarq F (ycr9 cl) k i (ydist F k i) w = true := by
              unfold yfarq ycr9; rw [Bool.and_eq_true]; exact ⟨decide_eq_true (by omega), decide_eq_true z2⟩
            rw [n] at g
            exact g
  · simp (disch := omega) only [n408, r408_0, r408_1, r408_4, r408_5, r408_6, r408_7, r408_10, r408_11, r408_12, r408_15, r408_16, r408_17, r408_18, r408_20, r408_21, r408_24, r408_27, r408_28, r408_30, r408_31, r408_33, r408_34, r408_38, r408_39, r408_42, r408_45, r408_47, r408_48, r408_51, r408_53, r408_54, r408_55, r408_58, r408_59, r408_60, r408_63, r408_64, r408_65, r408_67, r408_70, r408_71, r408_72, r408_73, r408_76, r408_79, r408_80, r408_83, r408_84, r408_85, r408_87, r408_89, r408_90, r408_93, r408_95, r408_96, r408_97, r408_100, r408_101, r408_102, r408_105, r408_106, r408_107, r408_109, r408_112, r408_113, r408_114, r408_115, r408_118, r408_121, r408_122, r408_125, r408_126, r408_127, r408_129, r408_132, r408_135, r408_137, r408_139, r408_142, r408_143, r408_144, r408_147, r408_150, r408_151, znl_i, znl_r, znl_j, znl_l, List.length_cons, List.length_nil, Option.some.injEq, Sum.inl.injEq, Sum.inr.injEq, Prod.mk.injEq, true_and, and_true, exists_eq_left', zK_sI, zA_sI, zL_sI, zK_sL, zA_sL, zI_sL, zK_fI, zA_fI, zL_fI, zK_fL, zA_fL, zI_fL, Nat.reduceAdd, Nat.reduceLeDiff, forall_eq', zl_lt, zl_gt, zl_eq, zl_le, zl_ge, zm_0, zaft_n, zaft_v, zb_eq, Decidable.not_not, zK_rH, zI_rH, zL_rH, zA_rH, zsI_rH, zsL_rH, zsA_rH, zcpI_rH, zn_b, zm_b, Int.toNat_natCast, Int.toNat_zero, Int.reduceToNat, K.K0, K.K1, K.K2, K.K3, K.K6, K.K7, K.K8, K.K20, K.K21, K.K22, K.K23, K.K24, K.K25, A.A1, A.A2, A.A3, A.A4, A.A5, A.A6, A.A7, A.A8, A.A9, A.A10, A.R2, A.R7, hc]
    refine ⟨by omega, by omega, by omega, by omega, fun z => absurd z (by omega), fun z => ?_⟩
    have t : yref F (ycr9 cl) k j = false := by
      unfold yref; rw [Bool.and_eq_false_iff]; left; exact decide_eq_false q0
    rw [t]
    exact ⟨by decide, by decide, rfl, _, _, _, rfl, fP.refl V⟩
end
