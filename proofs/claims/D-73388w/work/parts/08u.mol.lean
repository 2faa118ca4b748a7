/-! ===== the reference: finds ===== -/
/-- what finds leaves -/
def mFs (a : Nat) (h h' : zH) (F : yF) : Prop := zonly (fun b => b = a ∨ (a + 5 ≤ b ∧ b ≤ a + 7) ∨ b = a + 10 ∨ b = a + 11 ∨ b = a + 15) h h' ∧ zI h' a 27 = ((yops F).length : Int) ∧ (∀ j, j ≠ 20 → j ≠ 21 → j ≠ 27 → zI h' a j = zI h a j) ∧ (∀ j, j ≠ 35 → zL h' a j = zL h a j) ∧
  (y3 F ≠ -1 → zL h' a 35 = yWh F (y3 F).toNat (y4 F (y3 F).toNat)) ∧ mOp F.1 (zI h' (a + 10)) (zI h' (a + 11)) (zL h' (a + 15)) (yops F)
theorem y3_bd (F : yF) : y3 F = -1 ∨ (2 ≤ y3 F ∧ y3 F < F.1) := by
  by_cases h : y3 F = -1
  · exact Or.inl h
  · right
    have b := yfind_bd (y3q F) (F.1 - 2) 2
    obtain ⟨r, hr⟩ : ∃ r : Nat, y3 F = (r : Int) := ⟨(y3 F).toNat, by show y3 F = _; have : -1 ≤ y3 F := b.1; omega⟩
    have := (yfind_some (q := y3q F) (j := F.1 - 2) (k := 2) (r := r)).mp hr
    rw [hr]; omega
theorem y4_bd (F : yF) (t : Nat) : y4 F t = -1 ∨ (0 ≤ y4 F t ∧ y4 F t < F.1) := by
  by_cases h : y4 F t = -1
  · exact Or.inl h
  · right
    have b := yfind_bd (y4q F t) (F.1 - 2) 2
    obtain ⟨r, hr⟩ : ∃ r : Nat, y4 F t = (r : Int) := ⟨(y4 F t).toNat, by show y4 F t = _; have : -1 ≤ y4 F t := b.1; omega⟩
    have := (yfind_some (q := y4q F t) (j := F.1 - 2) (k := 2) (r := r)).mp hr
    rw [hr]; omega
theorem yshape_0 {F : yF} : yshape F = 0 ↔ y3 F = -1 := by
  simp only [yshape]
  by_cases h : y3 F = -1
  · simp [h]
  · rw [if_neg h]
    constructor
    · intro q; split at q <;> omega
    · intro q; exact absurd q h
section
variable {e : zEv} {a d : Nat} {h : zH}
theorem mWf_vR (h : zH) (a : Nat) (f R G M : Nat → Int) : zI (mWf h a f R G M) (a + 10) = R := by
  unfold mWf; rw [zI_fL, zI_fI_n (c := a + 11) (b := a + 10) _ _ (by omega), zI_fI_s]
theorem mWf_vG (h : zH) (a : Nat) (f R G M : Nat → Int) : zI (mWf h a f R G M) (a + 11) = G := by
  unfold mWf; rw [zI_fL, zI_fI_s]
theorem mWf_only (h : zH) (a : Nat) (J f R G M : Nat → Int) : zonly (fun b => b = a ∨ (a + 5 ≤ b ∧ b ≤ a + 7) ∨ b = a + 10 ∨ b = a + 11 ∨ b = a + 15) h (mWf (zfL h (a + 7) J) a f R G M) := by
  unfold mWf
  have q1 : zonly (fun b => b = a ∨ (a + 5 ≤ b ∧ b ≤ a + 7) ∨ b = a + 10 ∨ b = a + 11 ∨ b = a + 15) h (zfL h (a + 7) J) := zonly.fL (Or.inr (Or.inl ⟨by omega, by omega⟩))
  have q2 := q1.trans (zonly.fI (h := zfL h (a + 7) J) (c := a) (f := f) (Or.inl rfl))
  have q3 := q2.trans (zonly.fI (h := zfI (zfL h (a + 7) J) a f) (c := a + 10) (f := R) (Or.inr (Or.inr (Or.inl rfl))))
  have q4 := q3.trans (zonly.fI (h := zfI (zfI (zfL h (a + 7) J) a f) (a + 10) R) (c := a + 11) (f := G) (Or.inr (Or.inr (Or.inr (Or.inl rfl)))))
  exact q4.trans (zonly.fL (h := zfI (zfI (zfI (zfL h (a + 7) J) a f) (a + 10) R) (a + 11) G) (c := a + 15) (f := M) (Or.inr (Or.inr (Or.inr (Or.inr rfl)))))
theorem m_finds (H : zmo e a h) (F : yF) (hF : mF (zI h (a + 1)) 0 F) (hW : yW F) (hl : (yops F).length ≤ 48) : zc e (d + 5) 269 [zr (some a)] h (fun ov h' => ov = Sum.inl (some (zi ((yops F).length : Int))) ∧ mFs a h h' F) := by
  have hn := hW.1
  have hp : yplaced F := hW.2.2.1
  have hb := H.1
  have em : zn (-1) = -1 := by decide
  have H1 : zmo e a (zsI h a 27 0) := H
  have F1 : mF (zI (zsI h a 27 0) (a + 1)) 0 F := by rw [zI_sI, zu_cell _ _ _ (by omega)]; exact hF
  simp only [n269, r269_0, r269_1, r269_2, r269_5, r269_6, r269_9, r269_12, r269_13, r269_14, r269_15, r269_16, r269_19, r269_20, r269_21, r269_22, r269_25, r269_26, r269_27, r269_30, r269_31, r269_32, r269_35, r269_36, r269_39, r269_40, r269_43, r269_44, r269_47, r269_48, r269_51, r269_52, r269_53, r269_54, r269_57, r269_59, r269_62, r269_65, r269_66, r269_67, r269_70, r269_72, r269_73, r269_76, r269_77, r269_80, r269_81, r269_84, r269_85, r269_87, r269_88, r269_91, r269_92, r269_95, r269_96, r269_99, r269_101, r269_102, r269_103, r269_106, r269_107, r269_110, r269_111, r269_114, r269_115, r269_116, r269_117, r269_120, r269_122, r269_125, r269_126, r269_127, r269_130, r269_131, r269_134, r269_137, r269_140, r269_141, r269_143, r269_144, r269_147, r269_148, r269_149, r269_152, r269_153, r269_155, r269_156, r269_159, r269_160, r269_161, r269_164, r269_165, r269_166, r269_167, r269_170, r269_173, r269_174, r269_175, r269_176, r269_179, r269_182, r269_183, r269_184, r269_185, r269_188, r269_189, r269_190, r269_191, r269_194, r269_197, r269_200, r269_201, r269_203, r269_204, r269_207, r269_208, r269_209, r269_212, r269_213, r269_214, r269_215, r269_218, r269_221, r269_224, r269_225, r269_226, r269_227, r269_230, r269_231, r269_232, r269_233, r269_236, r269_239, r269_242, r269_243, r269_244, r269_245, r269_248, r269_249, r269_250, r269_251, r269_254, r269_257, r269_260, r269_261, r269_262, r269_263, r269_264, r269_267, r269_270, r269_273, r269_276, r269_279, r269_282, r269_285, r269_286, r269_289, znl_i, znl_r, znl_j, znl_l, List.length_cons, List.length_nil, Option.some.injEq, Sum.inl.injEq, Sum.inr.injEq, Prod.mk.injEq, true_and, and_true, exists_eq_left', zK_sI, zA_sI, zL_sI, zK_sL, zA_sL, zI_sL, zK_fI, zA_fI, zL_fI, zK_fL, zA_fL, zI_fL, Nat.reduceAdd, Nat.reduceLeDiff, forall_eq', zl_lt, zl_gt, zl_eq, zl_le, zl_ge, zm_0, zaft_n, zaft_v, zb_eq, Decidable.not_not, H.K, H.1]
  refine zc_mono (m_shapeNow H1 F F1 hn hp) ?_
  rintro _ _ ⟨rfl, S, X, rfl⟩
  simp only [r269_0, r269_1, r269_2, r269_5, r269_6, r269_9, r269_12, r269_13, r269_14, r269_15, r269_16, r269_19, r269_20, r269_21, r269_22, r269_25, r269_26, r269_27, r269_30, r269_31, r269_32, r269_35, r269_36, r269_39, r269_40, r269_43, r269_44, r269_47, r269_48, r269_51, r269_52, r269_53, r269_54, r269_57, r269_59, r269_62, r269_65, r269_66, r269_67, r269_70, r269_72, r269_73, r269_76, r269_77, r269_80, r269_81, r269_84, r269_85, r269_87, r269_88, r269_91, r269_92, r269_95, r269_96, r269_99, r269_101, r269_102, r269_103, r269_106, r269_107, r269_110, r269_111, r269_114, r269_115, r269_116, r269_117, r269_120, r269_122, r269_125, r269_126, r269_127, r269_130, r269_131, r269_134, r269_137, r269_140, r269_141, r269_143, r269_144, r269_147, r269_148, r269_149, r269_152, r269_153, r269_155, r269_156, r269_159, r269_160, r269_161, r269_164, r269_165, r269_166, r269_167, r269_170, r269_173, r269_174, r269_175, r269_176, r269_179, r269_182, r269_183, r269_184, r269_185, r269_188, r269_189, r269_190, r269_191, r269_194, r269_197, r269_200, r269_201, r269_203, r269_204, r269_207, r269_208, r269_209, r269_212, r269_213, r269_214, r269_215, r269_218, r269_221, r269_224, r269_225, r269_226, r269_227, r269_230, r269_231, r269_232, r269_233, r269_236, r269_239, r269_242, r269_243, r269_244, r269_245, r269_248, r269_249, r269_250, r269_251, r269_254, r269_257, r269_260, r269_261, r269_262, r269_263, r269_264, r269_267, r269_270, r269_273, r269_276, r269_279, r269_282, r269_285, r269_286, r269_289, znl_i, znl_r, znl_j, znl_l, List.length_cons, List.length_nil, Option.some.injEq, Sum.inl.injEq, Sum.inr.injEq, Prod.mk.injEq, true_and, and_true, exists_eq_left', zK_sI, zA_sI, zL_sI, zK_sL, zA_sL, zI_sL, zK_fI, zA_fI, zL_fI, zK_fL, zA_fL, zI_fL, Nat.reduceAdd, Nat.reduceLeDiff, forall_eq', zl_lt, zl_gt, zl_eq, zl_le, zl_ge, zm_0, zaft_n, zaft_v, zb_eq, Decidable.not_not]
  have sbd : 0 ≤ yshape F ∧ yshape F ≤ 2 := by simp only [yshape]; split; omega; split <;> omega
  rw [zn_b (x := yshape F) (by omega) (by omega), yshape_0]
  generalize hf2 : zup (zup (zI (zsI h a 27 0) a) 20 (y3 F)) 21 (if y3 F = -1 then -1 else y4 F (y3 F).toNat) = f2
  have f27 : f2 27 = 0 := by rw [← hf2]; simp only [zup]; rw [if_neg (by decide), if_neg (by decide), zI_sI, zu_same]
  have f20 : f2 20 = y3 F := by rw [← hf2, zup_n _ _ (by decide), zup_s]
  have f21 : f2 21 = (if y3 F = -1 then -1 else y4 F (y3 F).toNat) := by rw [← hf2, zup_s]
  have fo : ∀ j, j ≠ 20 → j ≠ 21 → j ≠ 27 → f2 j = zI h a j := fun j q1 q2 q3 => by rw [← hf2]; simp only [zup]; rw [if_neg q2, if_neg q1, zI_sI, zu_slot _ _ _ q3]
  have o3 : ∀ f S X, zonly (fun b => b = a ∨ (a + 5 ≤ b ∧ b ≤ a + 7) ∨ b = a + 10 ∨ b = a + 11 ∨ b = a + 15) h (mW3 (zsI h a 27 0) a f S X) := fun f S X =>
    (((zonly.sI (Or.inl rfl)).trans (zonly.fI (Or.inl rfl))).trans (zonly.fL (Or.inr (Or.inl ⟨by omega, by omega⟩)))).trans (zonly.fL (Or.inr (Or.inl ⟨by omega, by omega⟩)))
  refine ⟨fun hs => ?_, fun hs => ?_⟩
  · -- not straight
    rw [if_neg hs] at f21
    have b3 := y3_bd F
    obtain ⟨t, ht⟩ : ∃ t : Nat, y3 F = (t : Int) := ⟨(y3 F).toNat, by omega⟩
    have htn : t < F.1 := by omega
    have h2n : 2 < F.1 := by omega
    rw [ht] at f20
    rw [show (y3 F).toNat = t by omega] at f21
    have b4 := y4_bd F t
    have hops : yops F = (List.range F.1).flatMap (yfx F t (y4 F t)) := by rw [yops, if_neg hs, show (y3 F).toNat = t by omega]
    generalize hq4 : y4 F t = q4 at f21 b4 hops
    rw [hops] at hl ⊢
    have HM : ∀ S X, zmo e a (mW3 (zsI h a 27 0) a f2 S X) := fun _ _ => H
    have FM : ∀ S X, mF (zI (mW3 (zsI h a 27 0) a f2 S X) (a + 1)) 0 F := fun S X => by rw [mW3_v1 _ _ _ _ _ (by omega)]; exact F1
    have KM : ∀ S X, zK (mW3 (zsI h a 27 0) a f2 S X) = zK h := fun _ _ => rfl
    have AM : ∀ S X, zA (mW3 (zsI h a 27 0) a f2 S X) = zA h := fun _ _ => rfl
    simp only [KM, AM, H.K, H.A22, true_and]
    refine zc_w (m_sideTo (HM S X) (a + 5) 0 1 0 F (FM S X) hn hp H.K5 (by omega) (by omega) (by omega) (by omega)) ?_
    rw [mW3_vS, mW3_S]
    simp only [r269_0, r269_1, r269_2, r269_5, r269_6, r269_9, r269_12, r269_13, r269_14, r269_15, r269_16, r269_19, r269_20, r269_21, r269_22, r269_25, r269_26, r269_27, r269_30, r269_31, r269_32, r269_35, r269_36, r269_39, r269_40, r269_43, r269_44, r269_47, r269_48, r269_51, r269_52, r269_53, r269_54, r269_57, r269_59, r269_62, r269_65, r269_66, r269_67, r269_70, r269_72, r269_73, r269_76, r269_77, r269_80, r269_81, r269_84, r269_85, r269_87, r269_88, r269_91, r269_92, r269_95, r269_96, r269_99, r269_101, r269_102, r269_103, r269_106, r269_107, r269_110, r269_111, r269_114, r269_115, r269_116, r269_117, r269_120, r269_122, r269_125, r269_126, r269_127, r269_130, r269_131, r269_134, r269_137, r269_140, r269_141, r269_143, r269_144, r269_147, r269_148, r269_149, r269_152, r269_153, r269_155, r269_156, r269_159, r269_160, r269_161, r269_164, r269_165, r269_166, r269_167, r269_170, r269_173, r269_174, r269_175, r269_176, r269_179, r269_182, r269_183, r269_184, r269_185, r269_188, r269_189, r269_190, r269_191, r269_194, r269_197, r269_200, r269_201, r269_203, r269_204, r269_207, r269_208, r269_209, r269_212, r269_213, r269_214, r269_215, r269_218, r269_221, r269_224, r269_225, r269_226, r269_227, r269_230, r269_231, r269_232, r269_233, r269_236, r269_239, r269_242, r269_243, r269_244, r269_245, r269_248, r269_249, r269_250, r269_251, r269_254, r269_257, r269_260, r269_261, r269_262, r269_263, r269_264, r269_267, r269_270, r269_273, r269_276, r269_279, r269_282, r269_285, r269_286, r269_289, znl_i, znl_r, znl_j, znl_l, List.length_cons, List.length_nil, Option.some.injEq, Sum.inl.injEq, Sum.inr.injEq, Prod.mk.injEq, true_and, and_true, exists_eq_left', zK_sI, zA_sI, zL_sI, zK_sL, zA_sL, zI_sL, zK_fI, zA_fI, zL_fI, zK_fL, zA_fL, zI_fL, Nat.reduceAdd, Nat.reduceLeDiff, forall_eq', zl_lt, zl_gt, zl_eq, zl_le, zl_ge, zm_0, zaft_n, zaft_v, zb_eq, Decidable.not_not, KM, AM, H.K, H.A22, mW3_vf, f20]
    refine zc_w (m_sideTo (HM _ X) (a + 5) 3 t 0 F (FM _ X) hn hp H.K5 (by omega) (by omega) htn (by omega)) ?_
    rw [mW3_vS, mW3_S]
    generalize hS2 : yrow (yrow S 0 (ysub F 1 0)) 3 (ysub F t 0) = S2
    have s0 : ∀ i, i < 3 → S2 i = ysub F 1 0 i := fun i hi => by
      rw [← hS2, yrow_off _ _ _ _ (by omega)]; have := yrow_at S 0 (ysub F 1 0) i hi; rw [Nat.zero_add] at this; exact this
    have s3 : ∀ i, i < 3 → S2 (3 + i) = ysub F t 0 i := fun i hi => by rw [← hS2, yrow_at _ _ _ _ hi]
    have u1 : ∀ i, i < 3 → -100 ≤ ysub F 1 0 i ∧ ysub F 1 0 i ≤ 100 := fun i hi => ysub_bd hp (by omega) (by omega) hi
    have u2 : ∀ i, i < 3 → -100 ≤ ysub F t 0 i ∧ ysub F t 0 i ≤ 100 := fun i hi => ysub_bd hp htn (by omega) hi
    have u3 : ∀ i, i < 3 → -20000 ≤ yw2 F t q4 i ∧ yw2 F t q4 i ≤ 20000 := fun i hi => by
      simp only [yw2]
      by_cases z : q4 = -1
      · rw [if_pos z]; exact ycrs_bd (A := 100) (B := 100) u1 u2 i
      · rw [if_neg z]; have := ysub_bd hp (show q4.toNat < F.1 by omega) (show 0 < F.1 by omega) hi; omega
    have fin : zg e 269 (d + 4) 80 [zr (some a), zj, zj, zj] [] (mW3 (zsI h a 27 0) a f2 (yrow S2 6 (yw2 F t q4)) X) (fun ov h' => ov = Sum.inl (some (zi (((List.range F.1).flatMap (yfx F t q4)).length : Int))) ∧ mFs a h h' F) := by
      generalize hS3 : yrow S2 6 (yw2 F t q4) = S3
      have r0 : ∀ i, i < 3 → S3 i = ysub F 1 0 i := fun i hi => by rw [← hS3, yrow_off _ _ _ _ (by omega)]; exact s0 i hi
      have r3 : ∀ i, i < 3 → S3 (3 + i) = ysub F t 0 i := fun i hi => by rw [← hS3, yrow_off _ _ _ _ (by omega)]; exact s3 i hi
      have r6 : ∀ i, i < 3 → S3 (6 + i) = yw2 F t q4 i := fun i hi => by rw [← hS3, yrow_at _ _ _ _ hi]
      have c36 : ycrs (yfrom S3 3) (yfrom S3 6) = ycrs (ysub F t 0) (yw2 F t q4) := funext fun i => by
        simp only [ycrs, yfrom]
        rw [r3 ((i + 1) % 3) (by omega), r3 ((i + 2) % 3) (by omega), r6 ((i + 1) % 3) (by omega), r6 ((i + 2) % 3) (by omega)]
      have c60 : ycrs (yfrom S3 6) (yfrom S3 0) = ycrs (yw2 F t q4) (ysub F 1 0) := funext fun i => by
        simp only [ycrs, yfrom, Nat.zero_add]
        rw [r0 ((i + 1) % 3) (by omega), r0 ((i + 2) % 3) (by omega), r6 ((i + 1) % 3) (by omega), r6 ((i + 2) % 3) (by omega)]
      have c03 : ycrs (yfrom S3 0) (yfrom S3 3) = ycrs (ysub F 1 0) (ysub F t 0) := funext fun i => by
        simp only [ycrs, yfrom, Nat.zero_add]
        rw [r0 ((i + 1) % 3) (by omega), r0 ((i + 2) % 3) (by omega), r3 ((i + 1) % 3) (by omega), r3 ((i + 2) % 3) (by omega)]
      simp only [r269_0, r269_1, r269_2, r269_5, r269_6, r269_9, r269_12, r269_13, r269_14, r269_15, r269_16, r269_19, r269_20, r269_21, r269_22, r269_25, r269_26, r269_27, r269_30, r269_31, r269_32, r269_35, r269_36, r269_39, r269_40, r269_43, r269_44, r269_47, r269_48, r269_51, r269_52, r269_53, r269_54, r269_57, r269_59, r269_62, r269_65, r269_66, r269_67, r269_70, r269_72, r269_73, r269_76, r269_77, r269_80, r269_81, r269_84, r269_85, r269_87, r269_88, r269_91, r269_92, r269_95, r269_96, r269_99, r269_101, r269_102, r269_103, r269_106, r269_107, r269_110, r269_111, r269_114, r269_115, r269_116, r269_117, r269_120, r269_122, r269_125, r269_126, r269_127, r269_130, r269_131, r269_134, r269_137, r269_140, r269_141, r269_143, r269_144, r269_147, r269_148, r269_149, r269_152, r269_153, r269_155, r269_156, r269_159, r269_160, r269_161, r269_164, r269_165, r269_166, r269_167, r269_170, r269_173, r269_174, r269_175, r269_176, r269_179, r269_182, r269_183, r269_184, r269_185, r269_188, r269_189, r269_190, r269_191, r269_194, r269_197, r269_200, r269_201, r269_203, r269_204, r269_207, r269_208, r269_209, r269_212, r269_213, r269_214, r269_215, r269_218, r269_221, r269_224, r269_225, r269_226, r269_227, r269_230, r269_231, r269_232, r269_233, r269_236, r269_239, r269_242, r269_243, r269_244, r269_245, r269_248, r269_249, r269_250, r269_251, r269_254, r269_257, r269_260, r269_261, r269_262, r269_263, r269_264, r269_267, r269_270, r269_273, r269_276, r269_279, r269_282, r269_285, r269_286, r269_289, znl_i, znl_r, znl_j, znl_l, List.length_cons, List.length_nil, Option.some.injEq, Sum.inl.injEq, Sum.inr.injEq, Prod.mk.injEq, true_and, and_true, exists_eq_left', zK_sI, zA_sI, zL_sI, zK_sL, zA_sL, zI_sL, zK_fI, zA_fI, zL_fI, zK_fL, zA_fL, zI_fL, Nat.reduceAdd, Nat.reduceLeDiff, forall_eq', zl_lt, zl_gt, zl_eq, zl_le, zl_ge, zm_0, zaft_n, zaft_v, zb_eq, Decidable.not_not, KM, AM, H.K, H.A22, H.A23]
      refine zc_w (m_crosses (h := mW3 (zsI h a 27 0) a f2 S3 X) (a + 5) 3 6 0 (a + 6) H.K5 H.K6 (by omega) (by omega) (by omega) (by omega) (Or.inl (by omega))) ?_
      rw [mW3_vS, mW3_vX, mW3_X, c36]
      simp only [r269_0, r269_1, r269_2, r269_5, r269_6, r269_9, r269_12, r269_13, r269_14, r269_15, r269_16, r269_19, r269_20, r269_21, r269_22, r269_25, r269_26, r269_27, r269_30, r269_31, r269_32, r269_35, r269_36, r269_39, r269_40, r269_43, r269_44, r269_47, r269_48, r269_51, r269_52, r269_53, r269_54, r269_57, r269_59, r269_62, r269_65, r269_66, r269_67, r269_70, r269_72, r269_73, r269_76, r269_77, r269_80, r269_81, r269_84, r269_85, r269_87, r269_88, r269_91, r269_92, r269_95, r269_96, r269_99, r269_101, r269_102, r269_103, r269_106, r269_107, r269_110, r269_111, r269_114, r269_115, r269_116, r269_117, r269_120, r269_122, r269_125, r269_126, r269_127, r269_130, r269_131, r269_134, r269_137, r269_140, r269_141, r269_143, r269_144, r269_147, r269_148, r269_149, r269_152, r269_153, r269_155, r269_156, r269_159, r269_160, r269_161, r269_164, r269_165, r269_166, r269_167, r269_170, r269_173, r269_174, r269_175, r269_176, r269_179, r269_182, r269_183, r269_184, r269_185, r269_188, r269_189, r269_190, r269_191, r269_194, r269_197, r269_200, r269_201, r269_203, r269_204, r269_207, r269_208, r269_209, r269_212, r269_213, r269_214, r269_215, r269_218, r269_221, r269_224, r269_225, r269_226, r269_227, r269_230, r269_231, r269_232, r269_233, r269_236, r269_239, r269_242, r269_243, r269_244, r269_245, r269_248, r269_249, r269_250, r269_251, r269_254, r269_257, r269_260, r269_261, r269_262, r269_263, r269_264, r269_267, r269_270, r269_273, r269_276, r269_279, r269_282, r269_285, r269_286, r269_289, znl_i, znl_r, znl_j, znl_l, List.length_cons, List.length_nil, Option.some.injEq, Sum.inl.injEq, Sum.inr.injEq, Prod.mk.injEq, true_and, and_true, exists_eq_left', zK_sI, zA_sI, zL_sI, zK_sL, zA_sL, zI_sL, zK_fI, zA_fI, zL_fI, zK_fL, zA_fL, zI_fL, Nat.reduceAdd, Nat.reduceLeDiff, forall_eq', zl_lt, zl_gt, zl_eq, zl_le, zl_ge, zm_0, zaft_n, zaft_v, zb_eq, Decidable.not_not, KM, AM, H.K, H.A22, H.A23]
      refine zc_w (m_crosses (h := mW3 (zsI h a 27 0) a f2 S3 _) (a + 5) 6 0 3 (a + 6) H.K5 H.K6 (by omega) (by omega) (by omega) (by omega) (Or.inl (by omega))) ?_
      rw [mW3_vS, mW3_vX, mW3_X, c60]
      simp only [r269_0, r269_1, r269_2, r269_5, r269_6, r269_9, r269_12, r269_13, r269_14, r269_15, r269_16, r269_19, r269_20, r269_21, r269_22, r269_25, r269_26, r269_27, r269_30, r269_31, r269_32, r269_35, r269_36, r269_39, r269_40, r269_43, r269_44, r269_47, r269_48, r269_51, r269_52, r269_53, r269_54, r269_57, r269_59, r269_62, r269_65, r269_66, r269_67, r269_70, r269_72, r269_73, r269_76, r269_77, r269_80, r269_81, r269_84, r269_85, r269_87, r269_88, r269_91, r269_92, r269_95, r269_96, r269_99, r269_101, r269_102, r269_103, r269_106, r269_107, r269_110, r269_111, r269_114, r269_115, r269_116, r269_117, r269_120, r269_122, r269_125, r269_126, r269_127, r269_130, r269_131, r269_134, r269_137, r269_140, r269_141, r269_143, r269_144, r269_147, r269_148, r269_149, r269_152, r269_153, r269_155, r269_156, r269_159, r269_160, r269_161, r269_164, r269_165, r269_166, r269_167, r269_170, r269_173, r269_174, r269_175, r269_176, r269_179, r269_182, r269_183, r269_184, r269_185, r269_188, r269_189, r269_190, r269_191, r269_194, r269_197, r269_200, r269_201, r269_203, r269_204, r269_207, r269_208, r269_209, r269_212, r269_213, r269_214, r269_215, r269_218, r269_221, r269_224, r269_225, r269_226, r269_227, r269_230, r269_231, r269_232, r269_233, r269_236, r269_239, r269_242, r269_243, r269_244, r269_245, r269_248, r269_249, r269_250, r269_251, r269_254, r269_257, r269_260, r269_261, r269_262, r269_263, r269_264, r269_267, r269_270, r269_273, r269_276, r269_279, r269_282, r269_285, r269_286, r269_289, znl_i, znl_r, znl_j, znl_l, List.length_cons, List.length_nil, Option.some.injEq, Sum.inl.injEq, Sum.inr.injEq, Prod.mk.injEq, true_and, and_true, exists_eq_left', zK_sI, zA_sI, zL_sI, zK_sL, zA_sL, zI_sL, zK_fI, zA_fI, zL_fI, zK_fL, zA_fL, zI_fL, Nat.reduceAdd, Nat.reduceLeDiff, forall_eq', zl_lt, zl_gt, zl_eq, zl_le, zl_ge, zm_0, zaft_n, zaft_v, zb_eq, Decidable.not_not, KM, AM, H.K, H.A22, H.A23]
      refine zc_w (m_crosses (h := mW3 (zsI h a 27 0) a f2 S3 _) (a + 5) 0 3 6 (a + 6) H.K5 H.K6 (by omega) (by omega) (by omega) (by omega) (Or.inl (by omega))) ?_
      rw [mW3_vS, mW3_vX, mW3_X, c03]
      simp only [r269_0, r269_1, r269_2, r269_5, r269_6, r269_9, r269_12, r269_13, r269_14, r269_15, r269_16, r269_19, r269_20, r269_21, r269_22, r269_25, r269_26, r269_27, r269_30, r269_31, r269_32, r269_35, r269_36, r269_39, r269_40, r269_43, r269_44, r269_47, r269_48, r269_51, r269_52, r269_53, r269_54, r269_57, r269_59, r269_62, r269_65, r269_66, r269_67, r269_70, r269_72, r269_73, r269_76, r269_77, r269_80, r269_81, r269_84, r269_85, r269_87, r269_88, r269_91, r269_92, r269_95, r269_96, r269_99, r269_101, r269_102, r269_103, r269_106, r269_107, r269_110, r269_111, r269_114, r269_115, r269_116, r269_117, r269_120, r269_122, r269_125, r269_126, r269_127, r269_130, r269_131, r269_134, r269_137, r269_140, r269_141, r269_143, r269_144, r269_147, r269_148, r269_149, r269_152, r269_153, r269_155, r269_156, r269_159, r269_160, r269_161, r269_164, r269_165, r269_166, r269_167, r269_170, r269_173, r269_174, r269_175, r269_176, r269_179, r269_182, r269_183, r269_184, r269_185, r269_188, r269_189, r269_190, r269_191, r269_194, r269_197, r269_200, r269_201, r269_203, r269_204, r269_207, r269_208, r269_209, r269_212, r269_213, r269_214, r269_215, r269_218, r269_221, r269_224, r269_225, r269_226, r269_227, r269_230, r269_231, r269_232, r269_233, r269_236, r269_239, r269_242, r269_243, r269_244, r269_245, r269_248, r269_249, r269_250, r269_251, r269_254, r269_257, r269_260, r269_261, r269_262, r269_263, r269_264, r269_267, r269_270, r269_273, r269_276, r269_279, r269_282, r269_285, r269_286, r269_289, znl_i, znl_r, znl_j, znl_l, List.length_cons, List.length_nil, Option.some.injEq, Sum.inl.injEq, Sum.inr.injEq, Prod.mk.injEq, true_and, and_true, exists_eq_left', zK_sI, zA_sI, zL_sI, zK_sL, zA_sL, zI_sL, zK_fI, zA_fI, zL_fI, zK_fL, zA_fL, zI_fL, Nat.reduceAdd, Nat.reduceLeDiff, forall_eq', zl_lt, zl_gt, zl_eq, zl_le, zl_ge, zm_0, zaft_n, zaft_v, zb_eq, Decidable.not_not, KM, AM, H.K, H.A22, H.A23]
      generalize hX3 : yrow (yrow (yrow X 0 (ycrs (ysub F t 0) (yw2 F t q4))) 3 (ycrs (yw2 F t q4) (ysub F 1 0))) 6 (ycrs (ysub F 1 0) (ysub F t 0)) = X3
      have x9 : ∀ j, j < 9 → X3 j = yXX F t q4 j := fun j hj => by rw [← hX3]; exact yJ_row j hj
      refine zc_w (m_spans (h := mW3 (zsI h a 27 0) a f2 S3 X3) (a + 5) (a + 6) H.K5 H.K6) ?_
      rw [mW3_vS, mW3_vX]
      have hwh : ydot S3 X3 = yWh F t q4 := by
        have y9 : ∀ i, i < 3 → X3 i = ycrs (ysub F t 0) (yw2 F t q4) i := fun i hi => by rw [x9 i (by omega)]; simp only [yXX, yJ]; rw [if_pos hi]
        simp only [ydot, yWh]
        rw [r0 0 (by omega), r0 1 (by omega), r0 2 (by omega), y9 0 (by omega), y9 1 (by omega), y9 2 (by omega)]
      rw [hwh]
      simp only [r269_0, r269_1, r269_2, r269_5, r269_6, r269_9, r269_12, r269_13, r269_14, r269_15, r269_16, r269_19, r269_20, r269_21, r269_22, r269_25, r269_26, r269_27, r269_30, r269_31, r269_32, r269_35, r269_36, r269_39, r269_40, r269_43, r269_44, r269_47, r269_48, r269_51, r269_52, r269_53, r269_54, r269_57, r269_59, r269_62, r269_65, r269_66, r269_67, r269_70, r269_72, r269_73, r269_76, r269_77, r269_80, r269_81, r269_84, r269_85, r269_87, r269_88, r269_91, r269_92, r269_95, r269_96, r269_99, r269_101, r269_102, r269_103, r269_106, r269_107, r269_110, r269_111, r269_114, r269_115, r269_116, r269_117, r269_120, r269_122, r269_125, r269_126, r269_127, r269_130, r269_131, r269_134, r269_137, r269_140, r269_141, r269_143, r269_144, r269_147, r269_148, r269_149, r269_152, r269_153, r269_155, r269_156, r269_159, r269_160, r269_161, r269_164, r269_165, r269_166, r269_167, r269_170, r269_173, r269_174, r269_175, r269_176, r269_179, r269_182, r269_183, r269_184, r269_185, r269_188, r269_189, r269_190, r269_191, r269_194, r269_197, r269_200, r269_201, r269_203, r269_204, r269_207, r269_208, r269_209, r269_212, r269_213, r269_214, r269_215, r269_218, r269_221, r269_224, r269_225, r269_226, r269_227, r269_230, r269_231, r269_232, r269_233, r269_236, r269_239, r269_242, r269_243, r269_244, r269_245, r269_248, r269_249, r269_250, r269_251, r269_254, r269_257, r269_260, r269_261, r269_262, r269_263, r269_264, r269_267, r269_270, r269_273, r269_276, r269_279, r269_282, r269_285, r269_286, r269_289, znl_i, znl_r, znl_j, znl_l, List.length_cons, List.length_nil, Option.some.injEq, Sum.inl.injEq, Sum.inr.injEq, Prod.mk.injEq, true_and, and_true, exists_eq_left', zK_sI, zA_sI, zL_sI, zK_sL, zA_sL, zI_sL, zK_fI, zA_fI, zL_fI, zK_fL, zA_fL, zI_fL, Nat.reduceAdd, Nat.reduceLeDiff, forall_eq', zl_lt, zl_gt, zl_eq, zl_le, zl_ge, zm_0, zaft_n, zaft_v, zb_eq, Decidable.not_not, KM, AM, H.K, H.1]
      generalize hh3 : zsL (mW3 (zsI h a 27 0) a f2 S3 X3) a 35 (yWh F t q4) = h3
      have H3 : zmo e a h3 := zmo.of (by rw [← hh3]; rfl) (by rw [← hh3]; rfl) H
      have i3 : ∀ b, zI h3 b = zI (mW3 (zsI h a 27 0) a f2 S3 X3) b := fun b => by rw [← hh3, zI_sL]
      have F3 : mF (zI h3 (a + 1)) 0 F := by rw [i3]; exact FM S3 X3
      have w35 : zL h3 a 35 = yWh F t q4 := by rw [← hh3, zL_sL, zu_same]
      have x3 : zL h3 (a + 6) = X3 := by rw [← hh3, zL_sL, zu_cell _ _ _ (by omega), mW3_vX]
      have wo : ∀ j, j ≠ 35 → zL h3 a j = zL h a j := fun j hj => by
        rw [← hh3, zL_sL, zu_slot _ _ _ hj]; unfold mW3; rw [zL_fL_n _ _ (by omega), zL_fL_n _ _ (by omega)]; rfl
      have xb : ∀ j, j < 9 → -4000000 ≤ zL h3 (a + 6) j ∧ zL h3 (a + 6) j ≤ 4000000 := fun j hj => by
        have cb1 := fun i => ycrs_bd (u := ysub F t 0) (v := yw2 F t q4) (A := 100) (B := 20000) u2 u3 i
        have cb2 := fun i => ycrs_bd (u := yw2 F t q4) (v := ysub F 1 0) (A := 20000) (B := 100) u3 u1 i
        have cb3 := fun i => ycrs_bd (u := ysub F 1 0) (v := ysub F t 0) (A := 100) (B := 100) u1 u2 i
        rw [x3, x9 j hj]
        simp only [yXX, yJ]
        split
        · have := cb1 j; omega
        · split
          · have := cb2 (j - 3); omega
          · have := cb3 (j - 6); omega
      have wb : -1000000000000 ≤ zL h3 a 35 ∧ zL h3 a 35 ≤ 1000000000000 := by
        rw [w35]
        have := ydot_bd (u := ysub F 1 0) (v := ycrs (ysub F t 0) (yw2 F t q4)) (A := 100) (B := 4000000) u1 (fun i _ => by have := ycrs_bd (u := ysub F t 0) (v := yw2 F t q4) (A := 100) (B := 20000) u2 u3 i; omega)
        simp only [yWh]; omega
      have l9 := m_findsLoop (d := d) H3 F F3 hW h2n t q4 htn b4 (zI h3 a) (zI h3 (a + 10)) (zI h3 (a + 11)) (zL h3 (a + 15)) (zL h3 (a + 7)) (by rw [i3, mW3_vf]; exact f20) (by rw [i3, mW3_vf]; exact f21) w35 (fun j hj => by rw [x3]; exact x9 j hj) hl xb wb
      rw [zup_id (show zI h3 a 27 = 0 by rw [i3, mW3_vf]; exact f27), mWf_id] at l9
      refine zg_mono l9 ?_
      rintro _ _ ⟨rfl, J', R', G', M', rfl, hO⟩
      have oh3 : zonly (fun b => b = a ∨ (a + 5 ≤ b ∧ b ≤ a + 7) ∨ b = a + 10 ∨ b = a + 11 ∨ b = a + 15) h h3 := by rw [← hh3]; exact (o3 f2 S3 X3).trans (zonly.sL (Or.inl rfl))
      refine ⟨rfl, oh3.trans (mWf_only h3 a J' _ R' G' M'), ?_, fun j q1 q2 q3 => ?_, fun j q => ?_, fun _ => ?_, ?_⟩
      · rw [mWf_vf, zup_s, hops]
      · rw [mWf_vf, zup_n _ _ q3, i3, mW3_vf]; exact fo j q1 q2 q3
      · rw [mWf_vL _ _ _ _ _ _ (by omega), zL_fL_n _ _ (by omega)]; exact wo j q
      · rw [mWf_vL _ _ _ _ _ _ (by omega), zL_fL_n _ _ (by omega), w35, show (y3 F).toNat = t by omega, hq4]
      · rw [hops, mWf_vM]
        rw [mWf_vR, mWf_vG]
        exact hO
    simp only [r269_0, r269_1, r269_2, r269_5, r269_6, r269_9, r269_12, r269_13, r269_14, r269_15, r269_16, r269_19, r269_20, r269_21, r269_22, r269_25, r269_26, r269_27, r269_30, r269_31, r269_32, r269_35, r269_36, r269_39, r269_40, r269_43, r269_44, r269_47, r269_48, r269_51, r269_52, r269_53, r269_54, r269_57, r269_59, r269_62, r269_65, r269_66, r269_67, r269_70, r269_72, r269_73, r269_76, r269_77, r269_81, r269_84, r269_85, r269_87, r269_88, r269_91, r269_92, r269_95, r269_96, r269_99, r269_101, r269_102, r269_103, r269_106, r269_107, r269_110, r269_111, r269_114, r269_115, r269_116, r269_117, r269_120, r269_122, r269_125, r269_126, r269_127, r269_130, r269_131, r269_134, r269_137, r269_140, r269_141, r269_143, r269_144, r269_147, r269_148, r269_149, r269_152, r269_153, r269_155, r269_156, r269_159, r269_160, r269_161, r269_164, r269_165, r269_166, r269_167, r269_170, r269_173, r269_174, r269_175, r269_176, r269_179, r269_182, r269_183, r269_184, r269_185, r269_188, r269_189, r269_190, r269_191, r269_194, r269_197, r269_200, r269_201, r269_203, r269_204, r269_207, r269_208, r269_209, r269_212, r269_213, r269_214, r269_215, r269_218, r269_221, r269_224, r269_225, r269_226, r269_227, r269_230, r269_231, r269_232, r269_233, r269_236, r269_239, r269_242, r269_243, r269_244, r269_245, r269_248, r269_249, r269_250, r269_251, r269_254, r269_257, r269_260, r269_261, r269_262, r269_263, r269_264, r269_267, r269_270, r269_273, r269_276, r269_279, r269_282, r269_285, r269_286, r269_289, znl_i, znl_r, znl_j, znl_l, List.length_cons, List.length_nil, Option.some.injEq, Sum.inl.injEq, Sum.inr.injEq, Prod.mk.injEq, true_and, and_true, exists_eq_left', zK_sI, zA_sI, zL_sI, zK_sL, zA_sL, zI_sL, zK_fI, zA_fI, zL_fI, zK_fL, zA_fL, zI_fL, Nat.reduceAdd, Nat.reduceLeDiff, forall_eq', zl_lt, zl_gt, zl_eq, zl_le, zl_ge, zm_0, zaft_n, zaft_v, zb_eq, Decidable.not_not, KM, AM, H.K, H.A22, mW3_vf, f21, em]
    rw [zn_b (x := q4) (by omega) (by omega)]
    refine ⟨fun z => ?_, fun z => ?_⟩
    · obtain ⟨w, hw⟩ : ∃ w : Nat, q4 = (w : Int) := ⟨q4.toNat, by omega⟩
      rw [hw]
      refine zc_w (m_sideTo (HM S2 X) (a + 5) 6 w 0 F (FM S2 X) hn hp H.K5 (by omega) (by omega) (by omega) (by omega)) ?_
      rw [mW3_vS, mW3_S]
      simp only [r269_0, r269_1, r269_2, r269_5, r269_6, r269_9, r269_12, r269_13, r269_14, r269_15, r269_16, r269_19, r269_20, r269_21, r269_22, r269_25, r269_26, r269_27, r269_30, r269_31, r269_32, r269_35, r269_36, r269_39, r269_40, r269_43, r269_44, r269_47, r269_48, r269_51, r269_52, r269_53, r269_54, r269_57, r269_59, r269_62, r269_65, r269_66, r269_67, r269_70, r269_72, r269_73, r269_76, r269_77, r269_81, r269_84, r269_85, r269_87, r269_88, r269_91, r269_92, r269_95, r269_96, r269_99, r269_101, r269_102, r269_103, r269_106, r269_107, r269_110, r269_111, r269_114, r269_115, r269_116, r269_117, r269_120, r269_122, r269_125, r269_126, r269_127, r269_130, r269_131, r269_134, r269_137, r269_140, r269_141, r269_143, r269_144, r269_147, r269_148, r269_149, r269_152, r269_153, r269_155, r269_156, r269_159, r269_160, r269_161, r269_164, r269_165, r269_166, r269_167, r269_170, r269_173, r269_174, r269_175, r269_176, r269_179, r269_182, r269_183, r269_184, r269_185, r269_188, r269_189, r269_190, r269_191, r269_194, r269_197, r269_200, r269_201, r269_203, r269_204, r269_207, r269_208, r269_209, r269_212, r269_213, r269_214, r269_215, r269_218, r269_221, r269_224, r269_225, r269_226, r269_227, r269_230, r269_231, r269_232, r269_233, r269_236, r269_239, r269_242, r269_243, r269_244, r269_245, r269_248, r269_249, r269_250, r269_251, r269_254, r269_257, r269_260, r269_261, r269_262, r269_263, r269_264, r269_267, r269_270, r269_273, r269_276, r269_279, r269_282, r269_285, r269_286, r269_289, znl_i, znl_r, znl_j, znl_l, List.length_cons, List.length_nil, Option.some.injEq, Sum.inl.injEq, Sum.inr.injEq, Prod.mk.injEq, true_and, and_true, exists_eq_left', zK_sI, zA_sI, zL_sI, zK_sL, zA_sL, zI_sL, zK_fI, zA_fI, zL_fI, zK_fL, zA_fL, zI_fL, Nat.reduceAdd, Nat.reduceLeDiff, forall_eq', zl_lt, zl_gt, zl_eq, zl_le, zl_ge, zm_0, zaft_n, zaft_v, zb_eq, Decidable.not_not]
      have : yw2 F t q4 = ysub F w 0 := by simp only [yw2]; rw [if_neg z, hw, Int.toNat_natCast]
      rw [this] at fin
      rw [← hw]
      exact fin
    · refine zc_w (m_crosses (h := mW3 (zsI h a 27 0) a f2 S2 X) (a + 5) 0 3 6 (a + 5) H.K5 H.K5 (by omega) (by omega) (by omega) (by omega) (Or.inr ⟨by omega, by omega⟩)) ?_
      rw [mW3_vS, mW3_S]
      simp only [r269_0, r269_1, r269_2, r269_5, r269_6, r269_9, r269_12, r269_13, r269_14, r269_15, r269_16, r269_19, r269_20, r269_21, r269_22, r269_25, r269_26, r269_27, r269_30, r269_31, r269_32, r269_35, r269_36, r269_39, r269_40, r269_43, r269_44, r269_47, r269_48, r269_51, r269_52, r269_53, r269_54, r269_57, r269_59, r269_62, r269_65, r269_66, r269_67, r269_70, r269_72, r269_73, r269_76, r269_77, r269_81, r269_84, r269_85, r269_87, r269_88, r269_91, r269_92, r269_95, r269_96, r269_99, r269_101, r269_102, r269_103, r269_106, r269_107, r269_110, r269_111, r269_114, r269_115, r269_116, r269_117, r269_120, r269_122, r269_125, r269_126, r269_127, r269_130, r269_131, r269_134, r269_137, r269_140, r269_141, r269_143, r269_144, r269_147, r269_148, r269_149, r269_152, r269_153, r269_155, r269_156, r269_159, r269_160, r269_161, r269_164, r269_165, r269_166, r269_167, r269_170, r269_173, r269_174, r269_175, r269_176, r269_179, r269_182, r269_183, r269_184, r269_185, r269_188, r269_189, r269_190, r269_191, r269_194, r269_197, r269_200, r269_201, r269_203, r269_204, r269_207, r269_208, r269_209, r269_212, r269_213, r269_214, r269_215, r269_218, r269_221, r269_224, r269_225, r269_226, r269_227, r269_230, r269_231, r269_232, r269_233, r269_236, r269_239, r269_242, r269_243, r269_244, r269_245, r269_248, r269_249, r269_250, r269_251, r269_254, r269_257, r269_260, r269_261, r269_262, r269_263, r269_264, r269_267, r269_270, r269_273, r269_276, r269_279, r269_282, r269_285, r269_286, r269_289, znl_i, znl_r, znl_j, znl_l, List.length_cons, List.length_nil, Option.some.injEq, Sum.inl.injEq, Sum.inr.injEq, Prod.mk.injEq, true_and, and_true, exists_eq_left', zK_sI, zA_sI, zL_sI, zK_sL, zA_sL, zI_sL, zK_fI, zA_fI, zL_fI, zK_fL, zA_fL, zI_fL, Nat.reduceAdd, Nat.reduceLeDiff, forall_eq', zl_lt, zl_gt, zl_eq, zl_le, zl_ge, zm_0, zaft_n, zaft_v, zb_eq, Decidable.not_not]
      have : yw2 F t q4 = ycrs (yfrom S2 0) (yfrom S2 3) := by
        simp only [yw2]; rw [if_pos z]
        funext i
        simp only [ycrs, yfrom, Nat.zero_add]
        rw [s0 ((i + 1) % 3) (by omega), s0 ((i + 2) % 3) (by omega), s3 ((i + 1) % 3) (by omega), s3 ((i + 2) % 3) (by omega)]
      rw [this] at fin
      exact fin
  · -- straight
    have hops : yops F = [] := by rw [yops, if_pos hs]
    rw [hops]
    refine ⟨rfl, o3 _ _ _, ?_, fun j q1 q2 q3 => ?_, fun j _ => ?_, fun q => absurd hs q, fun i op hop => by rw [hops] at hop; simp at hop⟩
    · rw [mW3_vf, f27, hops]; rfl
    · rw [mW3_vf]; exact fo j q1 q2 q3
    · show zL (mW3 (zsI h a 27 0) a f2 S X) a j = _
      unfold mW3; rw [zL_fL_n _ _ (by omega), zL_fL_n _ _ (by omega)]; rfl
end
