/-! ===== the reference: the shape ===== -/
/-- the third: the first atom that is not on the line of the first two, -1: none; the fourth -/
def ycr (F : yF) (k : Nat) : Nat → Int := ycrs (ysub F 1 0) (ysub F k 0)
def y3q (F : yF) (k : Nat) : Bool := decide (¬ (ycr F k 0 = 0 ∧ ycr F k 1 = 0 ∧ ycr F k 2 = 0))
def y3 (F : yF) : Int := yfind (y3q F) (F.1 - 2) 2
def y4q (F : yF) (t k : Nat) : Bool := decide (¬ ydot (ysub F k 0) (ycr F t) = 0)
def y4 (F : yF) (t : Nat) : Int := yfind (y4q F t) (F.1 - 2) 2
def yshape (F : yF) : Int := if y3 F = -1 then 0 else if y4 F (y3 F).toNat = -1 then 1 else 2
theorem ymul_b {x y A B : Int} (hx : -A ≤ x ∧ x ≤ A) (hy : -B ≤ y ∧ y ≤ B) : -(A * B) ≤ x * y ∧ x * y ≤ A * B := by
  have a1 : (x + A) * (y + B) ≥ 0 := Int.mul_nonneg (by omega) (by omega)
  have a2 : (x + A) * (B - y) ≥ 0 := Int.mul_nonneg (by omega) (by omega)
  have a3 : (A - x) * (y + B) ≥ 0 := Int.mul_nonneg (by omega) (by omega)
  have a4 : (A - x) * (B - y) ≥ 0 := Int.mul_nonneg (by omega) (by omega)
  simp only [Int.add_mul, Int.mul_add, Int.sub_mul, Int.mul_sub] at a1 a2 a3 a4
  rw [Int.mul_comm A y] at a1 a2 a3 a4
  generalize x * y = w at *
  generalize x * B = u at *
  generalize y * A = v at *
  generalize A * B = z at *
  omega
theorem ycrs_bd {u v : Nat → Int} {A B : Int} (hu : ∀ i, i < 3 → -A ≤ u i ∧ u i ≤ A) (hv : ∀ i, i < 3 → -B ≤ v i ∧ v i ≤ B) (i : Nat) : -(2 * (A * B)) ≤ ycrs u v i ∧ ycrs u v i ≤ 2 * (A * B) := by
  have h1 := ymul_b (hu ((i + 1) % 3) (by omega)) (hv ((i + 2) % 3) (by omega))
  have h2 := ymul_b (hu ((i + 2) % 3) (by omega)) (hv ((i + 1) % 3) (by omega))
  simp only [ycrs]
  omega
theorem ydot_bd {u v : Nat → Int} {A B : Int} (hu : ∀ i, i < 3 → -A ≤ u i ∧ u i ≤ A) (hv : ∀ i, i < 3 → -B ≤ v i ∧ v i ≤ B) : -(3 * (A * B)) ≤ ydot u v ∧ ydot u v ≤ 3 * (A * B) := by
  have h1 := ymul_b (hu 0 (by omega)) (hv 0 (by omega))
  have h2 := ymul_b (hu 1 (by omega)) (hv 1 (by omega))
  have h3 := ymul_b (hu 2 (by omega)) (hv 2 (by omega))
  simp only [ydot]
  omega
theorem ycr_bd {F : yF} (hp : yplaced F) {k : Nat} (hk : k < F.1) (h1 : 1 < F.1) (i : Nat) : -20000 ≤ ycr F k i ∧ ycr F k i ≤ 20000 := by
  have := ycrs_bd (u := ysub F 1 0) (v := ysub F k 0) (A := 100) (B := 100) (fun i hi => ysub_bd hp h1 (by omega) hi) (fun i hi => ysub_bd hp hk (by omega) hi) i
  exact this
section
variable {e : zEv} {a d : Nat} {h : zH}
/-- the heap with the numbers of cell a, the sides and what is across -/
def mW3 (h : zH) (a : Nat) (f S X : Nat → Int) : zH := zfL (zfL (zfI h a f) (a + 5) S) (a + 6) X
theorem mW3_S (h a f S X S') : zfL (mW3 h a f S X) (a + 5) S' = mW3 h a f S' X := by
  unfold mW3; rw [zfL_comm _ _ _ (by omega), zfL_fL]
theorem mW3_X (h a f S X X') : zfL (mW3 h a f S X) (a + 6) X' = mW3 h a f S X' := by
  unfold mW3; rw [zfL_fL]
theorem mW3_f (h a f S X) (k : Nat) (v : Int) : zsI (mW3 h a f S X) a k v = mW3 h a (zup f k v) S X := by
  show zfL (zfL (zsI (zfI h a f) a k v) (a + 5) S) (a + 6) X = _
  rw [zsI_f, zI_fI_s, zfI_fI]; rfl
theorem mW3_vS (h a f S X) : zL (mW3 h a f S X) (a + 5) = S := by
  unfold mW3; rw [zL_fL_n _ _ (by omega), zL_fL_s]
theorem mW3_vX (h a f S X) : zL (mW3 h a f S X) (a + 6) = X := by
  unfold mW3; rw [zL_fL_s]
theorem mW3_vf (h a f S X) : zI (mW3 h a f S X) a = f := by
  show zI (zfI h a f) a = f
  rw [zI_fI_s]
theorem mW3_v1 (h a f S X) {b : Nat} (hb : b ≠ a) : zI (mW3 h a f S X) b = zI h b := by
  show zI (zfI h a f) b = _
  rw [zI_fI_n _ _ hb]
theorem yrow_at (f t u) (i : Nat) (hi : i < 3) : yrow f t u (t + i) = u i := by
  simp only [yrow]; rw [if_pos (by omega), show t + i - t = i by omega]
theorem yrow_off (f t u) (j : Nat) (hj : j < t ∨ t + 3 ≤ j) : yrow f t u j = f j := by
  simp only [yrow]; rw [if_neg (by omega)]
theorem m_shapeNow (H : zmo e a h) (F : yF) (hF : mF (zI h (a + 1)) 0 F) (hn : F.1 ≤ 12) (hp : yplaced F) : zc e (d + 3) 256 [zr (some a)] h (fun ov h' => ov = Sum.inl (some (zi (yshape F))) ∧ ∃ S X, h' = mW3 h a (zup (zup (zI h a) 20 (y3 F)) 21 (if y3 F = -1 then -1 else y4 F (y3 F).toNat)) S X) := by
  have hb := H.1
  have e0 : zn 0 = 0 := by decide
  have em : zn (-1) = -1 := by decide
  have H3 : ∀ f S X, zmo e a (mW3 h a f S X) := fun _ _ _ => H
  have F3 : ∀ f S X, mF (zI (mW3 h a f S X) (a + 1)) 0 F := fun f S X => by rw [mW3_v1 _ _ _ _ _ (by omega)]; exact hF
  have a3 : ∀ f S X, zI (mW3 h a f S X) (a + 1) 0 = (F.1 : Int) := fun f S X => (F3 f S X).1
  have K3 : ∀ f S X, zK (mW3 h a f S X) = zK h := fun _ _ _ => rfl
  have A3 : ∀ f S X, zA (mW3 h a f S X) = zA h := fun _ _ _ => rfl
  -- the second search
  have loop2 : ∀ (t : Nat), t < F.1 → 1 < F.1 → ∀ (j k : Nat) (f S X : Nat → Int), k + j = F.1 → 2 ≤ k → f 20 = (t : Int) → f 21 = -1 → (∀ i, i ≠ 20 → i ≠ 21 → f i = zI h a i) → (∀ i, i < 3 → X (6 + i) = ycr F t i) → zg e 256 (d + 2) 102 [zr (some a), zi k] [] (mW3 h a f S X) (fun ov h' => ov = Sum.inl (some (zi (if yfind (y4q F t) j k = -1 then 1 else 2))) ∧ ∃ S X, h' = mW3 h a (zup (zup (zI h a) 20 (t : Int)) 21 (yfind (y4q F t) j k)) S X) := by
    intro t htn h1 j
    have fend : ∀ (f : Nat → Int) (v : Int), f 20 = (t : Int) → f 21 = v → (∀ i, i ≠ 20 → i ≠ 21 → f i = zI h a i) → f = zup (zup (zI h a) 20 (t : Int)) 21 v := fun f v q1 q2 q3 => funext fun i => by
      simp only [zup]
      by_cases z1 : i = 21
      · rw [if_pos z1, z1, q2]
      · rw [if_neg z1]
        by_cases z2 : i = 20
        · rw [if_pos z2, z2, q1]
        · rw [if_neg z2]; exact q3 i z2 z1
    induction j with
    | zero =>
      intro k f S X hk h2 f20 f21 fo hX
      rw [r256_102]
      simp only [r256_0, r256_1, r256_2, r256_5, r256_6, r256_7, r256_10, r256_11, r256_13, r256_14, r256_17, r256_18, r256_19, r256_22, r256_23, r256_26, r256_27, r256_30, r256_31, r256_32, r256_35, r256_36, r256_37, r256_38, r256_41, r256_42, r256_43, r256_46, r256_47, r256_48, r256_49, r256_52, r256_53, r256_56, r256_57, r256_58, r256_59, r256_62, r256_64, r256_67, r256_68, r256_71, r256_73, r256_76, r256_79, r256_80, r256_81, r256_84, r256_87, r256_90, r256_91, r256_94, r256_95, r256_98, r256_99, r256_100, r256_101, r256_103, r256_104, r256_107, r256_108, r256_109, r256_112, r256_113, r256_116, r256_117, r256_120, r256_121, r256_122, r256_125, r256_127, r256_128, r256_129, r256_132, r256_133, r256_136, r256_138, r256_139, r256_140, r256_143, r256_145, r256_146, r256_147, r256_148, r256_151, r256_153, r256_154, r256_155, r256_158, r256_160, r256_161, r256_162, r256_163, r256_164, r256_167, r256_169, r256_170, r256_171, r256_174, r256_176, r256_177, r256_178, r256_179, r256_180, r256_181, r256_184, r256_185, r256_186, r256_189, r256_192, r256_195, r256_196, r256_199, r256_200, r256_203, r256_204, r256_207, r256_208, znl_i, znl_r, znl_j, znl_l, List.length_cons, List.length_nil, Option.some.injEq, Sum.inl.injEq, Sum.inr.injEq, Prod.mk.injEq, true_and, and_true, exists_eq_left', zK_sI, zA_sI, zL_sI, zK_sL, zA_sL, zI_sL, zK_fI, zA_fI, zL_fI, zK_fL, zA_fL, zI_fL, Nat.reduceAdd, Nat.reduceLeDiff, forall_eq', zl_lt, zl_gt, zl_eq, zl_le, zl_ge, zm_0, zaft_n, zaft_v, zb_eq, Decidable.not_not, K3, A3, H.K, H.A0, H.K1, a3, mW3_vf, e0, Int.toNat_zero, f21, em]
      rw [zn_b (x := (k : Int)) (by omega) (by omega), zn_b (x := (F.1 : Int)) (by omega) (by omega)]
      refine ⟨by omega, by omega, fun _ => ⟨fun z => absurd trivial z, fun _ => ?_⟩, fun z => by omega⟩
      exact ⟨rfl, S, X, by rw [show yfind (y4q F t) 0 k = -1 from rfl, ← fend f (-1) f20 f21 fo]⟩
    | succ j ih =>
      intro k f S X hk h2 f20 f21 fo hX
      have hkn : k < F.1 := by omega
      rw [r256_102]
      simp only [r256_0, r256_1, r256_2, r256_5, r256_6, r256_7, r256_10, r256_11, r256_13, r256_14, r256_17, r256_18, r256_19, r256_22, r256_23, r256_26, r256_27, r256_30, r256_31, r256_32, r256_35, r256_36, r256_37, r256_38, r256_41, r256_42, r256_43, r256_46, r256_47, r256_48, r256_49, r256_52, r256_53, r256_56, r256_57, r256_58, r256_59, r256_62, r256_64, r256_67, r256_68, r256_71, r256_73, r256_76, r256_79, r256_80, r256_81, r256_84, r256_87, r256_90, r256_91, r256_94, r256_95, r256_98, r256_99, r256_100, r256_101, r256_103, r256_104, r256_107, r256_108, r256_109, r256_112, r256_113, r256_116, r256_117, r256_120, r256_121, r256_122, r256_125, r256_127, r256_128, r256_129, r256_132, r256_133, r256_136, r256_138, r256_139, r256_140, r256_143, r256_145, r256_146, r256_147, r256_148, r256_151, r256_153, r256_154, r256_155, r256_158, r256_160, r256_161, r256_162, r256_163, r256_164, r256_167, r256_169, r256_170, r256_171, r256_174, r256_176, r256_177, r256_178, r256_179, r256_180, r256_181, r256_184, r256_185, r256_186, r256_189, r256_192, r256_196, r256_199, r256_200, r256_203, r256_204, r256_207, r256_208, znl_i, znl_r, znl_j, znl_l, List.length_cons, List.length_nil, Option.some.injEq, Sum.inl.injEq, Sum.inr.injEq, Prod.mk.injEq, true_and, and_true, exists_eq_left', zK_sI, zA_sI, zL_sI, zK_sL, zA_sL, zI_sL, zK_fI, zA_fI, zL_fI, zK_fL, zA_fL, zI_fL, Nat.reduceAdd, Nat.reduceLeDiff, forall_eq', zl_lt, zl_gt, zl_eq, zl_le, zl_ge, zm_0, zaft_n, zaft_v, zb_eq, Decidable.not_not, K3, A3, H.K, H.A0, H.K1, H.A22, H.K5, a3, mW3_vf, e0, Int.toNat_zero, f21, em]
      rw [zn_b (x := (k : Int)) (by omega) (by omega), zn_b (x := (F.1 : Int)) (by omega) (by omega)]
      refine ⟨by omega, by omega, fun z => by omega, fun _ => ⟨fun z => absurd trivial z, fun _ => ?_⟩⟩
      refine zc_w (m_sideTo (H3 f S X) (a + 5) 6 k 0 F (F3 f S X) hn hp H.K5 (by omega) (by omega) hkn (by omega)) ?_
      rw [mW3_vS, mW3_S]
      simp only [r256_0, r256_1, r256_2, r256_5, r256_6, r256_7, r256_10, r256_11, r256_13, r256_14, r256_17, r256_18, r256_19, r256_22, r256_23, r256_26, r256_27, r256_30, r256_31, r256_32, r256_35, r256_36, r256_37, r256_38, r256_41, r256_42, r256_43, r256_46, r256_47, r256_48, r256_49, r256_52, r256_53, r256_56, r256_57, r256_58, r256_59, r256_62, r256_64, r256_67, r256_68, r256_71, r256_73, r256_76, r256_79, r256_80, r256_81, r256_84, r256_87, r256_90, r256_91, r256_94, r256_95, r256_98, r256_99, r256_100, r256_101, r256_103, r256_104, r256_107, r256_108, r256_109, r256_112, r256_113, r256_116, r256_117, r256_120, r256_121, r256_122, r256_125, r256_127, r256_128, r256_129, r256_132, r256_133, r256_136, r256_138, r256_139, r256_140, r256_143, r256_145, r256_146, r256_147, r256_148, r256_151, r256_153, r256_154, r256_155, r256_158, r256_160, r256_161, r256_162, r256_163, r256_164, r256_167, r256_169, r256_170, r256_171, r256_174, r256_176, r256_177, r256_178, r256_179, r256_180, r256_181, r256_184, r256_185, r256_186, r256_189, r256_192, r256_196, r256_199, r256_200, r256_203, r256_204, r256_207, r256_208, znl_i, znl_r, znl_j, znl_l, List.length_cons, List.length_nil, Option.some.injEq, Sum.inl.injEq, Sum.inr.injEq, Prod.mk.injEq, true_and, and_true, exists_eq_left', zK_sI, zA_sI, zL_sI, zK_sL, zA_sL, zI_sL, zK_fI, zA_fI, zL_fI, zK_fL, zA_fL, zI_fL, Nat.reduceAdd, Nat.reduceLeDiff, forall_eq', zl_lt, zl_gt, zl_eq, zl_le, zl_ge, zm_0, zaft_n, zaft_v, zb_eq, Decidable.not_not, K3, A3, H.K, H.A22, H.K5, H.A23, H.K6, mW3_vS, mW3_vX, show zn 6 = 6 by decide, show zn 7 = 7 by decide, show zn 8 = 8 by decide]
      have s6 := yrow_at S 6 (ysub F k 0) 0 (by omega)
      have s7 := yrow_at S 6 (ysub F k 0) 1 (by omega)
      have s8 := yrow_at S 6 (ysub F k 0) 2 (by omega)
      have x6 := hX 0 (by omega)
      have x7 := hX 1 (by omega)
      have x8 := hX 2 (by omega)
      simp only [show (6 : Int).toNat = 6 from rfl, show (7 : Int).toNat = 7 from rfl, show (8 : Int).toNat = 8 from rfl]
      simp only [Nat.add_zero, Nat.reduceAdd] at s6 s7 s8 x6 x7 x8
      rw [s6, s7, s8, x6, x7, x8, show ysub F k 0 0 * ycr F t 0 + ysub F k 0 1 * ycr F t 1 + ysub F k 0 2 * ycr F t 2 = ydot (ysub F k 0) (ycr F t) from rfl]
      have db := ydot_bd (u := ysub F k 0) (v := ycr F t) (A := 100) (B := 20000) (fun i hi => ysub_bd hp hkn (by omega) hi) (fun i _ => ycr_bd hp htn h1 i)
      rw [zm_b (x := ydot (ysub F k 0) (ycr F t)) (by omega) (by omega)]
      repeat (refine And.intro (by omega) ?_)
      refine ⟨fun q => ?_, fun q => ?_⟩
      · have hq : y4q F t k = false := by simp [y4q, q]
        rw [yfind_f hq]
        exact ih (k + 1) f _ X (by omega) (by omega) f20 f21 fo hX
      · have hq : y4q F t k = true := by simp [y4q, q]
        rw [yfind_t hq, if_neg (by omega)]
        simp only [H.1, true_and]
        rw [mW3_f, r256_102]
        simp only [r256_0, r256_1, r256_2, r256_5, r256_6, r256_7, r256_10, r256_11, r256_13, r256_14, r256_17, r256_18, r256_19, r256_22, r256_23, r256_26, r256_27, r256_30, r256_31, r256_32, r256_35, r256_36, r256_37, r256_38, r256_41, r256_42, r256_43, r256_46, r256_47, r256_48, r256_49, r256_52, r256_53, r256_56, r256_57, r256_58, r256_59, r256_62, r256_64, r256_67, r256_68, r256_71, r256_73, r256_76, r256_79, r256_80, r256_81, r256_84, r256_87, r256_90, r256_91, r256_94, r256_95, r256_98, r256_99, r256_100, r256_101, r256_103, r256_104, r256_107, r256_108, r256_109, r256_112, r256_113, r256_116, r256_117, r256_120, r256_121, r256_122, r256_125, r256_127, r256_128, r256_129, r256_132, r256_133, r256_136, r256_138, r256_139, r256_140, r256_143, r256_145, r256_146, r256_147, r256_148, r256_151, r256_153, r256_154, r256_155, r256_158, r256_160, r256_161, r256_162, r256_163, r256_164, r256_167, r256_169, r256_170, r256_171, r256_174, r256_176, r256_177, r256_178, r256_179, r256_180, r256_181, r256_184, r256_185, r256_186, r256_189, r256_192, r256_195, r256_196, r256_199, r256_200, r256_203, r256_204, r256_207, r256_208, znl_i, znl_r, znl_j, znl_l, List.length_cons, List.length_nil, Option.some.injEq, Sum.inl.injEq, Sum.inr.injEq, Prod.mk.injEq, true_and, and_true, exists_eq_left', zK_sI, zA_sI, zL_sI, zK_sL, zA_sL, zI_sL, zK_fI, zA_fI, zL_fI, zK_fL, zA_fL, zI_fL, Nat.reduceAdd, Nat.reduceLeDiff, forall_eq', zl_lt, zl_gt, zl_eq, zl_le, zl_ge, zm_0, zaft_n, zaft_v, zb_eq, Decidable.not_not, K3, A3, H.K, H.A0, H.K1, a3, mW3_vf, e0, Int.toNat_zero, em, zup_s]
        rw [zn_b (x := (k : Int) + 1) (by omega) (by omega), zn_b (x := (F.1 : Int)) (by omega) (by omega), zn_b (x := (k : Int)) (by omega) (by omega)]
        have fe : zup f 21 (k : Int) = zup (zup (zI h a) 20 (t : Int)) 21 (k : Int) := fend _ _ (by simp [zup, f20]) (by simp [zup]) (fun i q1 q2 => by simp [zup, q2]; exact fo i q1 q2)
        rw [fe]
        exact ⟨by omega, by omega, fun _ => ⟨fun _ => ⟨_, _, rfl⟩, fun z => by omega⟩, fun _ => ⟨fun _ => ⟨fun _ => ⟨_, _, rfl⟩, fun z => by omega⟩, fun z => by omega⟩⟩
  have loop1 : ∀ (j k : Nat) (f S X : Nat → Int), F.1 ≤ k + j → (j = 0 ∨ k + j = F.1) → 2 ≤ k → k ≤ 12 → f 20 = -1 → f 21 = -1 → (∀ i, i ≠ 20 → i ≠ 21 → f i = zI h a i) → zg e 256 (d + 2) 12 [zr (some a), zi k] [] (mW3 h a f S X) (fun ov h' => ov = Sum.inl (some (zi (if yfind (y3q F) j k = -1 then 0 else if y4 F (yfind (y3q F) j k).toNat = -1 then 1 else 2))) ∧ ∃ S X, h' = mW3 h a (zup (zup (zI h a) 20 (yfind (y3q F) j k)) 21 (if yfind (y3q F) j k = -1 then -1 else y4 F (yfind (y3q F) j k).toNat)) S X) := by
    intro j
    induction j with
    | zero =>
      intro k f S X hk hk2 h2 h12 f20 f21 fo
      have fe : f = zup (zup (zI h a) 20 (-1)) 21 (-1) := funext fun i => by
        simp only [zup]
        by_cases z1 : i = 21
        · rw [if_pos z1, z1, f21]
        · rw [if_neg z1]
          by_cases z2 : i = 20
          · rw [if_pos z2, z2, f20]
          · rw [if_neg z2]; exact fo i z2 z1
      rw [r256_12]
      simp only [r256_0, r256_1, r256_2, r256_5, r256_6, r256_7, r256_10, r256_11, r256_13, r256_14, r256_17, r256_18, r256_19, r256_22, r256_23, r256_26, r256_27, r256_30, r256_31, r256_32, r256_35, r256_36, r256_37, r256_38, r256_41, r256_42, r256_43, r256_46, r256_47, r256_48, r256_49, r256_52, r256_53, r256_56, r256_57, r256_58, r256_59, r256_62, r256_64, r256_67, r256_68, r256_71, r256_73, r256_76, r256_79, r256_80, r256_81, r256_84, r256_87, r256_90, r256_91, r256_94, r256_95, r256_98, r256_99, r256_100, r256_101, r256_103, r256_104, r256_107, r256_108, r256_109, r256_112, r256_113, r256_116, r256_117, r256_120, r256_121, r256_122, r256_125, r256_127, r256_128, r256_129, r256_132, r256_133, r256_136, r256_138, r256_139, r256_140, r256_143, r256_145, r256_146, r256_147, r256_148, r256_151, r256_153, r256_154, r256_155, r256_158, r256_160, r256_161, r256_162, r256_163, r256_164, r256_167, r256_169, r256_170, r256_171, r256_174, r256_176, r256_177, r256_178, r256_179, r256_180, r256_181, r256_184, r256_185, r256_186, r256_189, r256_192, r256_195, r256_196, r256_199, r256_200, r256_203, r256_204, r256_207, r256_208, znl_i, znl_r, znl_j, znl_l, List.length_cons, List.length_nil, Option.some.injEq, Sum.inl.injEq, Sum.inr.injEq, Prod.mk.injEq, true_and, and_true, exists_eq_left', zK_sI, zA_sI, zL_sI, zK_sL, zA_sL, zI_sL, zK_fI, zA_fI, zL_fI, zK_fL, zA_fL, zI_fL, Nat.reduceAdd, Nat.reduceLeDiff, forall_eq', zl_lt, zl_gt, zl_eq, zl_le, zl_ge, zm_0, zaft_n, zaft_v, zb_eq, Decidable.not_not, K3, A3, H.K, H.A0, H.K1, a3, mW3_vf, e0, Int.toNat_zero, f20, em]
      rw [zn_b (x := (k : Int)) (by omega) (by omega), zn_b (x := (F.1 : Int)) (by omega) (by omega)]
      refine ⟨by omega, by omega, fun _ => ⟨fun z => absurd trivial z, fun _ => ?_⟩, fun z => by omega⟩
      rw [show yfind (y3q F) 0 k = -1 from rfl, if_pos rfl, if_pos rfl, ← fe]
      exact ⟨rfl, S, X, rfl⟩
    | succ j ih =>
      intro k f S X hk hk2 h2 h12 f20 f21 fo
      have hkn : k < F.1 := by omega
      rw [r256_12]
      simp only [r256_0, r256_1, r256_2, r256_5, r256_6, r256_7, r256_10, r256_11, r256_13, r256_14, r256_17, r256_18, r256_19, r256_22, r256_23, r256_26, r256_27, r256_30, r256_31, r256_32, r256_35, r256_36, r256_37, r256_38, r256_41, r256_42, r256_43, r256_46, r256_47, r256_48, r256_49, r256_52, r256_53, r256_56, r256_57, r256_58, r256_59, r256_62, r256_64, r256_67, r256_68, r256_71, r256_73, r256_76, r256_79, r256_80, r256_81, r256_84, r256_87, r256_91, r256_94, r256_95, r256_98, r256_99, r256_100, r256_101, r256_103, r256_104, r256_107, r256_108, r256_109, r256_112, r256_113, r256_116, r256_117, r256_120, r256_121, r256_122, r256_125, r256_127, r256_128, r256_129, r256_132, r256_133, r256_136, r256_138, r256_139, r256_140, r256_143, r256_145, r256_146, r256_147, r256_148, r256_151, r256_153, r256_154, r256_155, r256_158, r256_160, r256_161, r256_162, r256_163, r256_164, r256_167, r256_169, r256_170, r256_171, r256_174, r256_176, r256_177, r256_178, r256_179, r256_180, r256_181, r256_184, r256_185, r256_186, r256_189, r256_192, r256_195, r256_196, r256_199, r256_200, r256_203, r256_204, r256_207, r256_208, znl_i, znl_r, znl_j, znl_l, List.length_cons, List.length_nil, Option.some.injEq, Sum.inl.injEq, Sum.inr.injEq, Prod.mk.injEq, true_and, and_true, exists_eq_left', zK_sI, zA_sI, zL_sI, zK_sL, zA_sL, zI_sL, zK_fI, zA_fI, zL_fI, zK_fL, zA_fL, zI_fL, Nat.reduceAdd, Nat.reduceLeDiff, forall_eq', zl_lt, zl_gt, zl_eq, zl_le, zl_ge, zm_0, zaft_n, zaft_v, zb_eq, Decidable.not_not, K3, A3, H.K, H.A0, H.K1, H.A22, H.K5, a3, mW3_vf, e0, Int.toNat_zero, f20, em]
      rw [zn_b (x := (k : Int)) (by omega) (by omega), zn_b (x := (F.1 : Int)) (by omega) (by omega)]
      refine ⟨by omega, by omega, fun z => by omega, fun _ => ⟨fun z => absurd trivial z, fun _ => ?_⟩⟩
      refine zc_w (m_sideTo (H3 f S X) (a + 5) 0 1 0 F (F3 f S X) hn hp H.K5 (by omega) (by omega) (by omega) (by omega)) ?_
      rw [mW3_vS, mW3_S]
      simp only [r256_0, r256_1, r256_2, r256_5, r256_6, r256_7, r256_10, r256_11, r256_13, r256_14, r256_17, r256_18, r256_19, r256_22, r256_23, r256_26, r256_27, r256_30, r256_31, r256_32, r256_35, r256_36, r256_37, r256_38, r256_41, r256_42, r256_43, r256_46, r256_47, r256_48, r256_49, r256_52, r256_53, r256_56, r256_57, r256_58, r256_59, r256_62, r256_64, r256_67, r256_68, r256_71, r256_73, r256_76, r256_79, r256_80, r256_81, r256_84, r256_87, r256_91, r256_94, r256_95, r256_98, r256_99, r256_100, r256_101, r256_103, r256_104, r256_107, r256_108, r256_109, r256_112, r256_113, r256_116, r256_117, r256_120, r256_121, r256_122, r256_125, r256_127, r256_128, r256_129, r256_132, r256_133, r256_136, r256_138, r256_139, r256_140, r256_143, r256_145, r256_146, r256_147, r256_148, r256_151, r256_153, r256_154, r256_155, r256_158, r256_160, r256_161, r256_162, r256_163, r256_164, r256_167, r256_169, r256_170, r256_171, r256_174, r256_176, r256_177, r256_178, r256_179, r256_180, r256_181, r256_184, r256_185, r256_186, r256_189, r256_192, r256_195, r256_196, r256_199, r256_200, r256_203, r256_204, r256_207, r256_208, znl_i, znl_r, znl_j, znl_l, List.length_cons, List.length_nil, Option.some.injEq, Sum.inl.injEq, Sum.inr.injEq, Prod.mk.injEq, true_and, and_true, exists_eq_left', zK_sI, zA_sI, zL_sI, zK_sL, zA_sL, zI_sL, zK_fI, zA_fI, zL_fI, zK_fL, zA_fL, zI_fL, Nat.reduceAdd, Nat.reduceLeDiff, forall_eq', zl_lt, zl_gt, zl_eq, zl_le, zl_ge, zm_0, zaft_n, zaft_v, zb_eq, Decidable.not_not, K3, A3, H.K, H.A22, H.K5]
      refine zc_w (m_sideTo (H3 f _ X) (a + 5) 3 k 0 F (F3 f _ X) hn hp H.K5 (by omega) (by omega) hkn (by omega)) ?_
      rw [mW3_vS, mW3_S]
      simp only [r256_0, r256_1, r256_2, r256_5, r256_6, r256_7, r256_10, r256_11, r256_13, r256_14, r256_17, r256_18, r256_19, r256_22, r256_23, r256_26, r256_27, r256_30, r256_31, r256_32, r256_35, r256_36, r256_37, r256_38, r256_41, r256_42, r256_43, r256_46, r256_47, r256_48, r256_49, r256_52, r256_53, r256_56, r256_57, r256_58, r256_59, r256_62, r256_64, r256_67, r256_68, r256_71, r256_73, r256_76, r256_79, r256_80, r256_81, r256_84, r256_87, r256_91, r256_94, r256_95, r256_98, r256_99, r256_100, r256_101, r256_103, r256_104, r256_107, r256_108, r256_109, r256_112, r256_113, r256_116, r256_117, r256_120, r256_121, r256_122, r256_125, r256_127, r256_128, r256_129, r256_132, r256_133, r256_136, r256_138, r256_139, r256_140, r256_143, r256_145, r256_146, r256_147, r256_148, r256_151, r256_153, r256_154, r256_155, r256_158, r256_160, r256_161, r256_162, r256_163, r256_164, r256_167, r256_169, r256_170, r256_171, r256_174, r256_176, r256_177, r256_178, r256_179, r256_180, r256_181, r256_184, r256_185, r256_186, r256_189, r256_192, r256_195, r256_196, r256_199, r256_200, r256_203, r256_204, r256_207, r256_208, znl_i, znl_r, znl_j, znl_l, List.length_cons, List.length_nil, Option.some.injEq, Sum.inl.injEq, Sum.inr.injEq, Prod.mk.injEq, true_and, and_true, exists_eq_left', zK_sI, zA_sI, zL_sI, zK_sL, zA_sL, zI_sL, zK_fI, zA_fI, zL_fI, zK_fL, zA_fL, zI_fL, Nat.reduceAdd, Nat.reduceLeDiff, forall_eq', zl_lt, zl_gt, zl_eq, zl_le, zl_ge, zm_0, zaft_n, zaft_v, zb_eq, Decidable.not_not, K3, A3, H.K, H.A22, H.K5, H.A23, H.K6]
      generalize hS : yrow (yrow S 0 (ysub F 1 0)) 3 (ysub F k 0) = S2
      have s0 : ∀ i, i < 3 → yfrom S2 0 i = ysub F 1 0 i := fun i hi => by
        rw [yfrom, ← hS, yrow_off _ _ _ _ (by omega), yrow_at _ _ _ _ hi]
      have s3 : ∀ i, i < 3 → yfrom S2 3 i = ysub F k 0 i := fun i hi => by
        rw [yfrom, ← hS, yrow_at _ _ _ _ hi]
      have sc : ∀ i, ycrs (yfrom S2 0) (yfrom S2 3) i = ycr F k i := fun i => by
        simp only [ycr, ycrs]
        rw [s0 _ (by omega), s0 _ (by omega), s3 _ (by omega), s3 _ (by omega)]
      refine zc_w (m_crosses (h := mW3 h a f S2 X) (a + 5) 0 3 6 (a + 6) H.K5 H.K6 (by omega) (by omega) (by omega) (by omega) (Or.inl (by omega))) ?_
      rw [mW3_vS, mW3_vX, mW3_X]
      simp only [r256_0, r256_1, r256_2, r256_5, r256_6, r256_7, r256_10, r256_11, r256_13, r256_14, r256_17, r256_18, r256_19, r256_22, r256_23, r256_26, r256_27, r256_30, r256_31, r256_32, r256_35, r256_36, r256_37, r256_38, r256_41, r256_42, r256_43, r256_46, r256_47, r256_48, r256_49, r256_52, r256_53, r256_56, r256_57, r256_58, r256_59, r256_62, r256_64, r256_67, r256_68, r256_71, r256_73, r256_76, r256_79, r256_80, r256_81, r256_84, r256_87, r256_91, r256_94, r256_95, r256_98, r256_99, r256_100, r256_101, r256_103, r256_104, r256_107, r256_108, r256_109, r256_112, r256_113, r256_116, r256_117, r256_120, r256_121, r256_122, r256_125, r256_127, r256_128, r256_129, r256_132, r256_133, r256_136, r256_138, r256_139, r256_140, r256_143, r256_145, r256_146, r256_147, r256_148, r256_151, r256_153, r256_154, r256_155, r256_158, r256_160, r256_161, r256_162, r256_163, r256_164, r256_167, r256_169, r256_170, r256_171, r256_174, r256_176, r256_177, r256_178, r256_179, r256_180, r256_181, r256_184, r256_185, r256_186, r256_189, r256_192, r256_195, r256_196, r256_199, r256_200, r256_203, r256_204, r256_207, r256_208, znl_i, znl_r, znl_j, znl_l, List.length_cons, List.length_nil, Option.some.injEq, Sum.inl.injEq, Sum.inr.injEq, Prod.mk.injEq, true_and, and_true, exists_eq_left', zK_sI, zA_sI, zL_sI, zK_sL, zA_sL, zI_sL, zK_fI, zA_fI, zL_fI, zK_fL, zA_fL, zI_fL, Nat.reduceAdd, Nat.reduceLeDiff, forall_eq', zl_lt, zl_gt, zl_eq, zl_le, zl_ge, zm_0, zaft_n, zaft_v, zb_eq, Decidable.not_not, K3, A3, H.K, H.A23, H.K6]
      generalize hX : yrow X 6 (ycrs (yfrom S2 0) (yfrom S2 3)) = X2
      have x0 : ∀ i, i < 3 → X2 (6 + i) = ycr F k i := fun i hi => by rw [← hX, yrow_at _ _ _ _ hi, sc]
      have cb := fun i => ycr_bd hp hkn (show 1 < F.1 by omega) i
      refine zc_w (m_isNought (h := mW3 h a f S2 X2) (a + 6) 6 H.K6 (by omega) (fun i hi => by rw [mW3_vX, x0 i hi]; have := cb i; omega)) ?_
      rw [mW3_vX, show X2 6 = ycr F k 0 from x0 0 (by omega), show X2 (6 + 1) = ycr F k 1 from x0 1 (by omega), show X2 (6 + 2) = ycr F k 2 from x0 2 (by omega)]
      simp only [r256_0, r256_1, r256_2, r256_5, r256_6, r256_7, r256_10, r256_11, r256_13, r256_14, r256_17, r256_18, r256_19, r256_22, r256_23, r256_26, r256_27, r256_30, r256_31, r256_32, r256_35, r256_36, r256_37, r256_38, r256_41, r256_42, r256_43, r256_46, r256_47, r256_48, r256_49, r256_52, r256_53, r256_56, r256_57, r256_58, r256_59, r256_62, r256_64, r256_67, r256_68, r256_71, r256_73, r256_76, r256_79, r256_80, r256_81, r256_84, r256_87, r256_91, r256_94, r256_95, r256_98, r256_99, r256_100, r256_101, r256_103, r256_104, r256_107, r256_108, r256_109, r256_112, r256_113, r256_116, r256_117, r256_120, r256_121, r256_122, r256_125, r256_127, r256_128, r256_129, r256_132, r256_133, r256_136, r256_138, r256_139, r256_140, r256_143, r256_145, r256_146, r256_147, r256_148, r256_151, r256_153, r256_154, r256_155, r256_158, r256_160, r256_161, r256_162, r256_163, r256_164, r256_167, r256_169, r256_170, r256_171, r256_174, r256_176, r256_177, r256_178, r256_179, r256_180, r256_181, r256_184, r256_185, r256_186, r256_189, r256_192, r256_195, r256_196, r256_199, r256_200, r256_203, r256_204, r256_207, r256_208, znl_i, znl_r, znl_j, znl_l, List.length_cons, List.length_nil, Option.some.injEq, Sum.inl.injEq, Sum.inr.injEq, Prod.mk.injEq, true_and, and_true, exists_eq_left', zK_sI, zA_sI, zL_sI, zK_sL, zA_sL, zI_sL, zK_fI, zA_fI, zL_fI, zK_fL, zA_fL, zI_fL, Nat.reduceAdd, Nat.reduceLeDiff, forall_eq', zl_lt, zl_gt, zl_eq, zl_le, zl_ge, zm_0, zaft_n, zaft_v, zb_eq, Decidable.not_not, K3, A3, H.K, H.A23, H.K6]
      refine ⟨fun q => ?_, fun q => ?_⟩
      · have hq : y3q F k = false := by simp [y3q, q]
        rw [yfind_f hq]
        exact ih (k + 1) f _ _ (by omega) (by omega) (by omega) (by omega) f20 f21 fo
      · have hq : y3q F k = true := by simp only [y3q, decide_eq_true_iff]; exact q
        have hne : ¬ (k : Int) = -1 := by omega
        rw [yfind_t hq]
        simp only [hne, if_false, Int.toNat_natCast, H.1, true_and]
        rw [mW3_f]
        have l2 := loop2 k hkn (by omega) (F.1 - 2) 2 (zup f 20 (k : Int)) S2 X2 (by omega) (by omega) (by simp [zup]) (by simp [zup, f21]) (fun i q1 q2 => by simp [zup, q1]; exact fo i q1 q2) x0
        rw [r256_12]
        simp only [r256_0, r256_1, r256_2, r256_5, r256_6, r256_7, r256_10, r256_11, r256_13, r256_14, r256_17, r256_18, r256_19, r256_22, r256_23, r256_26, r256_27, r256_30, r256_31, r256_32, r256_35, r256_36, r256_37, r256_38, r256_41, r256_42, r256_43, r256_46, r256_47, r256_48, r256_49, r256_52, r256_53, r256_56, r256_57, r256_58, r256_59, r256_62, r256_64, r256_67, r256_68, r256_71, r256_73, r256_76, r256_79, r256_80, r256_81, r256_84, r256_87, r256_90, r256_91, r256_94, r256_95, r256_98, r256_99, r256_100, r256_101, r256_103, r256_104, r256_107, r256_108, r256_109, r256_112, r256_113, r256_116, r256_117, r256_120, r256_121, r256_122, r256_125, r256_127, r256_128, r256_129, r256_132, r256_133, r256_136, r256_138, r256_139, r256_140, r256_143, r256_145, r256_146, r256_147, r256_148, r256_151, r256_153, r256_154, r256_155, r256_158, r256_160, r256_161, r256_162, r256_163, r256_164, r256_167, r256_169, r256_170, r256_171, r256_174, r256_176, r256_177, r256_178, r256_179, r256_180, r256_181, r256_184, r256_185, r256_186, r256_189, r256_192, r256_195, r256_196, r256_199, r256_200, r256_203, r256_204, r256_207, r256_208, znl_i, znl_r, znl_j, znl_l, List.length_cons, List.length_nil, Option.some.injEq, Sum.inl.injEq, Sum.inr.injEq, Prod.mk.injEq, true_and, and_true, exists_eq_left', zK_sI, zA_sI, zL_sI, zK_sL, zA_sL, zI_sL, zK_fI, zA_fI, zL_fI, zK_fL, zA_fL, zI_fL, Nat.reduceAdd, Nat.reduceLeDiff, forall_eq', zl_lt, zl_gt, zl_eq, zl_le, zl_ge, zm_0, zaft_n, zaft_v, zb_eq, Decidable.not_not, K3, A3, H.K, H.A0, H.K1, a3, mW3_vf, e0, Int.toNat_zero, em, zup_s]
        rw [zn_b (x := (k : Int) + 1) (by omega) (by omega), zn_b (x := (F.1 : Int)) (by omega) (by omega), zn_b (x := (k : Int)) (by omega) (by omega)]
        exact ⟨by omega, by omega, fun _ => ⟨fun _ => l2, fun z => by omega⟩, fun _ => ⟨fun _ => ⟨fun _ => l2, fun z => by omega⟩, fun z => by omega⟩⟩
  simp only [n256, r256_0, r256_1, r256_2, r256_5, r256_6, r256_7, r256_10, r256_11, r256_13, r256_14, r256_17, r256_18, r256_19, r256_22, r256_23, r256_26, r256_27, r256_30, r256_31, r256_32, r256_35, r256_36, r256_37, r256_38, r256_41, r256_42, r256_43, r256_46, r256_47, r256_48, r256_49, r256_52, r256_53, r256_56, r256_57, r256_58, r256_59, r256_62, r256_64, r256_67, r256_68, r256_71, r256_73, r256_76, r256_79, r256_80, r256_81, r256_84, r256_87, r256_90, r256_91, r256_94, r256_95, r256_98, r256_99, r256_100, r256_101, r256_103, r256_104, r256_107, r256_108, r256_109, r256_112, r256_113, r256_116, r256_117, r256_120, r256_121, r256_122, r256_125, r256_127, r256_128, r256_129, r256_132, r256_133, r256_136, r256_138, r256_139, r256_140, r256_143, r256_145, r256_146, r256_147, r256_148, r256_151, r256_153, r256_154, r256_155, r256_158, r256_160, r256_161, r256_162, r256_163, r256_164, r256_167, r256_169, r256_170, r256_171, r256_174, r256_176, r256_177, r256_178, r256_179, r256_180, r256_181, r256_184, r256_185, r256_186, r256_189, r256_192, r256_195, r256_196, r256_199, r256_200, r256_203, r256_204, r256_207, r256_208, znl_i, znl_r, znl_j, znl_l, List.length_cons, List.length_nil, Option.some.injEq, Sum.inl.injEq, Sum.inr.injEq, Prod.mk.injEq, true_and, and_true, exists_eq_left', zK_sI, zA_sI, zL_sI, zK_sL, zA_sL, zI_sL, zK_fI, zA_fI, zL_fI, zK_fL, zA_fL, zI_fL, Nat.reduceAdd, Nat.reduceLeDiff, forall_eq', zl_lt, zl_gt, zl_eq, zl_le, zl_ge, zm_0, zaft_n, zaft_v, zb_eq, Decidable.not_not, H.K, H.1]
  have u : zsI (zsI h a 20 (-1)) a 21 (-1) = mW3 h a (zup (zup (zI h a) 20 (-1)) 21 (-1)) (zL h (a + 5)) (zL h (a + 6)) := by
    unfold mW3
    rw [zsI_f, zsI_f, zI_fI_s, zfI_fI]
    generalize zup (zup (zI h a) 20 (-1)) 21 (-1) = f
    rw [show zfL (zfI h a f) (a + 5) (zL h (a + 5)) = zfI h a f from zfL_id (zfI h a f) (a + 5)]
    exact (zfL_id (zfI h a f) (a + 6)).symm
  rw [u]
  exact loop1 (F.1 - 2) 2 _ _ _ (by omega) (by omega) (by omega) (by omega) (by simp [zup]) (by simp [zup]) (fun i q1 q2 => by simp [zup, q1, q2])
end
