section
variable {e : zEv} {d x f o : Nat} {h h1 h2 : zH} {φ φ' φ'' ψ : Nat → Nat → Int} {α α' α'' : Nat → Nat → Option Nat} {F : yF}
theorem f_imaged (K : fK e h x f) (A : fA x f α) (S : fS F f φ) (w k i : Nat) (hw : w ≤ 7) (hk : k < F.1) (hi : i < 3) : zc e (d + 1) 393 [zr (some (x + f)), zi (w : Int), zi (k : Int), zi (i : Int)] (cH h x φ ψ α)
    (fun ov h' => ov = Sum.inl (some (zi (yimg w (F.2 k) (i + 1)))) ∧ h' = cH h x φ ψ α) := by
  have kn := K.n
  have kb := K.b
  have hm := S.w.1
  have p0 := S.p 0 (by omega) k hk
  have p1 := S.p 1 (by omega) k hk
  have p2 := S.p 2 (by omega) k hk
  obtain rfl | rfl | rfl : i = 0 ∨ i = 1 ∨ i = 2 := by omega
  all_goals
    obtain rfl | rfl | rfl | rfl | rfl | rfl | rfl | rfl : w = 0 ∨ w = 1 ∨ w = 2 ∨ w = 3 ∨ w = 4 ∨ w = 5 ∨ w = 6 ∨ w = 7 := by omega
  all_goals
    simp (disch := omega) only [n393, r393_0, r393_1, r393_44, r393_45, r393_48, r393_49, r393_50, r393_51, r393_52, r393_53, r393_56, r393_57, r393_58, r393_59, r393_60, r393_63, r393_64, r393_67, r393_68, r393_69, r393_70, r393_71, r393_72, r393_75, r393_76, r393_79, r393_80, r393_81, r393_82, r393_83, r393_86, r393_87, r393_90, r393_91, r393_92, r393_95, r393_96, r393_99, r393_100, r393_101, r393_102, r393_103, r393_104, r393_105, r393_108, r393_109, r393_112, r393_113, r393_116, r393_117, r393_120, r393_121, r393_122, r393_123, r393_124, r393_125, r393_126, r393_129, r393_130, r393_133, r393_134, r393_135, r393_136, r393_137, r393_138, r393_139, r393_142, r393_143, r393_146, r393_147, r393_148, r393_149, r393_150, r393_151, r393_152, r393_153, r393_154, znl_i, znl_r, znl_j, znl_l, List.length_cons, List.length_nil, Option.some.injEq, Sum.inl.injEq, Sum.inr.injEq, Prod.mk.injEq, true_and, and_true, exists_eq_left', zK_sI, zA_sI, zL_sI, zK_sL, zA_sL, zI_sL, zK_fI, zA_fI, zL_fI, zK_fL, zA_fL, zI_fL, Nat.reduceAdd, Nat.reduceLeDiff, forall_eq', zl_lt, zl_gt, zl_eq, zl_le, zl_ge, zm_0, zaft_n, zaft_v, zb_eq, Decidable.not_not, zK_rH, zI_rH, zL_rH, zA_rH, zsI_rH, zsL_rH, zsA_rH, zcpI_rH, zn_b, zm_b, Int.toNat_natCast, Int.toNat_zero, Int.reduceToNat, K.K0, K.K1, K.K2, K.K3, K.K6, K.K7, K.K8, K.K20, K.K21, K.K22, K.K23, K.K24, K.K25, A.A1, A.A2, A.A3, A.A4, A.A5, A.A6, A.A7, A.A8, A.A9, A.A10, A.R2, A.R7, p0, p1, p2, show zts 0 [44, 56, 56, 56, 86, 108, 129] 142 ((0 : Nat) : Int) = 44 from rfl, show zts 0 [44, 56, 56, 56, 86, 108, 129] 142 ((1 : Nat) : Int) = 56 from rfl, show zts 0 [44, 56, 56, 56, 86, 108, 129] 142 ((2 : Nat) : Int) = 56 from rfl, show zts 0 [44, 56, 56, 56, 86, 108, 129] 142 ((3 : Nat) : Int) = 56 from rfl, show zts 0 [44, 56, 56, 56, 86, 108, 129] 142 ((4 : Nat) : Int) = 86 from rfl, show zts 0 [44, 56, 56, 56, 86, 108, 129] 142 ((5 : Nat) : Int) = 108 from rfl, show zts 0 [44, 56, 56, 56, 86, 108, 129] 142 ((6 : Nat) : Int) = 129 from rfl, show zts 0 [44, 56, 56, 56, 86, 108, 129] 142 ((7 : Nat) : Int) = 142 from rfl, show (zn ((((0 : Nat) : Int) + 2).tmod 3)).toNat = 2 by decide, show (zn ((((1 : Nat) : Int) + 2).tmod 3)).toNat = 0 by decide, show (zn ((((2 : Nat) : Int) + 2).tmod 3)).toNat = 1 by decide]
  all_goals (repeat' (first | omega | decide | rfl | refine And.intro ?_ ?_ | intro z))
  all_goals first | exact p0 | exact p1 | exact p2 | exact absurd rfl z | (trace_state; sorry)
end
