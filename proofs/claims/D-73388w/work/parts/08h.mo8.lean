/-! ===== the reference: drop, move, swap, back ===== -/
theorem mF_set3 {A : Nat → Int} {k : Nat} {F : yF} {x y z : Int} (hk : k < F.1) (h : mF A 0 F) : mF (zup (zup (zup A (4 + 4 * k + 1) x) (4 + 4 * k + 2) y) (4 + 4 * k + 3) z) 0 (F.1, yset k (yat (F.2 k 0) x y z) F.2) := by
  refine ⟨?_, fun j hj i hi => ?_⟩
  · simp only [zup]; rw [if_neg (by omega), if_neg (by omega), if_neg (by omega)]; exact h.1
  · dsimp only at hj ⊢
    have h9 := h.2 j hj i hi
    simp only [zup, yset]
    by_cases q : j = k
    · subst q
      rw [if_pos rfl]
      have hi' : i = 0 ∨ i = 1 ∨ i = 2 ∨ i = 3 := by omega
      rcases hi' with rfl | rfl | rfl | rfl
      · rw [if_neg (by omega), if_neg (by omega), if_neg (by omega)]; exact h9
      · rw [if_neg (by omega), if_neg (by omega), if_pos (by omega)]; rfl
      · rw [if_neg (by omega), if_pos (by omega)]; rfl
      · rw [if_pos (by omega)]; rfl
    · rw [if_neg q, if_neg (by omega), if_neg (by omega), if_neg (by omega)]; exact h9
theorem mF_set0 {A : Nat → Int} {k : Nat} {F : yF} {c : Int} (hk : k < F.1) (h : mF A 0 F) : mF (zup A (4 + 4 * k) c) 0 (F.1, yset k (yat c (F.2 k 1) (F.2 k 2) (F.2 k 3)) F.2) := by
  refine ⟨?_, fun j hj i hi => ?_⟩
  · simp only [zup]; rw [if_neg (by omega)]; exact h.1
  · dsimp only at hj ⊢
    have h9 := h.2 j hj i hi
    simp only [zup, yset]
    by_cases q : j = k
    · subst q
      rw [if_pos rfl]
      have hi' : i = 0 ∨ i = 1 ∨ i = 2 ∨ i = 3 := by omega
      rcases hi' with rfl | rfl | rfl | rfl
      · rw [if_pos (by omega)]; rfl
      · rw [if_neg (by omega)]; exact h9
      · rw [if_neg (by omega)]; exact h9
      · rw [if_neg (by omega)]; exact h9
    · rw [if_neg q, if_neg (by omega)]; exact h9
section
variable {e : zEv} {a d : Nat} {h : zH} {s : yS}
theorem m_drop (B : mB e a h s) (k : Int) (hk : yi k) : zc e (d + 3) 245 [zr (some a), zi k] h (mQ e a h s (s_drop s k)) := by
  have H := B.1
  have hF := B.2.1
  have hn := hF.1.1
  have e0 : zn 0 = 0 := by decide
  have fin : ∀ v, (v = 1 ∨ v = 3) → s_drop s k = (yst v s, -1) → zg e 245 (d + 2) 5 [zr (some a), zi k, zj] [zi v] h (mQ e a h s (s_drop s k)) := fun v hv hs => by
    simp only [r245_0, r245_1, r245_2, r245_5, r245_6, r245_7, r245_10, r245_11, r245_12, r245_15, r245_16, r245_17, r245_20, r245_21, r245_22, r245_23, r245_26, r245_27, r245_28, r245_31, r245_32, r245_33, r245_36, znl_i, znl_r, znl_j, znl_l, List.length_cons, List.length_nil, Option.some.injEq, Sum.inl.injEq, Sum.inr.injEq, Prod.mk.injEq, true_and, and_true, exists_eq_left', zK_sI, zA_sI, zL_sI, zK_sL, zA_sL, zI_sL, zK_fI, zA_fI, zL_fI, zK_fL, zA_fL, zI_fL, Nat.reduceAdd, Nat.reduceLeDiff, forall_eq', zl_lt, zl_gt, zl_eq, zl_le, zl_ge, zm_0, zaft_n, zaft_v, zb_eq, Decidable.not_not, H.K, H.A0, H.K1]
    rw [hs]
    refine ⟨fun q => ?_, fun _ => ?_⟩
    · rw [zn_b (by omega) (by omega)] at q; omega
    · refine zc_w (m_refuse H v) ?_
      simp only [r245_0, r245_1, r245_2, r245_5, r245_6, r245_7, r245_10, r245_11, r245_12, r245_15, r245_16, r245_17, r245_20, r245_21, r245_22, r245_23, r245_26, r245_27, r245_28, r245_31, r245_32, r245_33, r245_36, znl_i, znl_r, znl_j, znl_l, List.length_cons, List.length_nil, Option.some.injEq, Sum.inl.injEq, Sum.inr.injEq, Prod.mk.injEq, true_and, and_true, exists_eq_left', zK_sI, zA_sI, zL_sI, zK_sL, zA_sL, zI_sL, zK_fI, zA_fI, zL_fI, zK_fL, zA_fL, zI_fL, Nat.reduceAdd, Nat.reduceLeDiff, forall_eq', zl_lt, zl_gt, zl_eq, zl_le, zl_ge, zm_0, zaft_n, zaft_v, zb_eq, Decidable.not_not, H.K, H.A0, H.K1]
      exact mQ_ref B v (-1)
  simp only [n245, r245_0, r245_1, r245_2, r245_6, r245_7, r245_10, r245_11, r245_12, r245_15, r245_16, r245_17, r245_20, r245_21, r245_22, r245_23, r245_26, r245_27, r245_28, r245_31, r245_32, r245_33, r245_36, znl_i, znl_r, znl_j, znl_l, List.length_cons, List.length_nil, Option.some.injEq, Sum.inl.injEq, Sum.inr.injEq, Prod.mk.injEq, true_and, and_true, exists_eq_left', zK_sI, zA_sI, zL_sI, zK_sL, zA_sL, zI_sL, zK_fI, zA_fI, zL_fI, zK_fL, zA_fL, zI_fL, Nat.reduceAdd, Nat.reduceLeDiff, forall_eq', zl_lt, zl_gt, zl_eq, zl_le, zl_ge, zm_0, zaft_n, zaft_v, zb_eq, Decidable.not_not, H.K, H.A0, H.K1]
  refine zc_w (m_wrongAtom H s.1 k hF.2.1 hn) ?_
  simp only [r245_0, r245_1, r245_2, r245_6, r245_7, r245_10, r245_11, r245_12, r245_15, r245_16, r245_17, r245_20, r245_21, r245_22, r245_23, r245_26, r245_27, r245_28, r245_31, r245_32, r245_33, r245_36, znl_i, znl_r, znl_j, znl_l, List.length_cons, List.length_nil, Option.some.injEq, Sum.inl.injEq, Sum.inr.injEq, Prod.mk.injEq, true_and, and_true, exists_eq_left', zK_sI, zA_sI, zL_sI, zK_sL, zA_sL, zI_sL, zK_fI, zA_fI, zL_fI, zK_fL, zA_fL, zI_fL, Nat.reduceAdd, Nat.reduceLeDiff, forall_eq', zl_lt, zl_gt, zl_eq, zl_le, zl_ge, zm_0, zaft_n, zaft_v, zb_eq, Decidable.not_not, H.K, H.A0, H.K1]
  rw [zn_i hk]
  by_cases q3 : k < 0
  · rw [if_pos q3]; exact fin 1 (Or.inl rfl) (by rw [s_drop, if_pos q3])
  · rw [if_neg q3]
    by_cases q4 : k < (s.1.1 : Int)
    · rw [if_pos q4]
      have hs : s_drop s k = (ydeed (s.1.1 - 1, ydrp k.toNat s.1.2) s, (s.1.1 : Int) - 1) := by rw [s_drop, if_neg q3, if_neg (by omega)]
      simp only [r245_0, r245_1, r245_2, r245_5, r245_6, r245_7, r245_10, r245_11, r245_12, r245_15, r245_16, r245_17, r245_20, r245_21, r245_22, r245_23, r245_26, r245_27, r245_28, r245_31, r245_32, r245_33, r245_36, znl_i, znl_r, znl_j, znl_l, List.length_cons, List.length_nil, Option.some.injEq, Sum.inl.injEq, Sum.inr.injEq, Prod.mk.injEq, true_and, and_true, exists_eq_left', zK_sI, zA_sI, zL_sI, zK_sL, zA_sL, zI_sL, zK_fI, zA_fI, zL_fI, zK_fL, zA_fL, zI_fL, Nat.reduceAdd, Nat.reduceLeDiff, forall_eq', zl_lt, zl_gt, zl_eq, zl_le, zl_ge, zm_0, zaft_n, zaft_v, zb_eq, Decidable.not_not, H.K, H.A0, H.K1]
      rw [hs, e0]
      refine ⟨fun _ => ?_, fun q => absurd q (by decide)⟩
      refine zc_mono (m_done B) ?_
      rintro _ _ ⟨rfl, A, f, rfl, hA, f1, f17, f18, f19, fo, ho⟩
      simp only [r245_0, r245_1, r245_2, r245_5, r245_6, r245_7, r245_10, r245_11, r245_12, r245_15, r245_16, r245_17, r245_20, r245_21, r245_22, r245_23, r245_26, r245_27, r245_28, r245_31, r245_32, r245_33, r245_36, znl_i, znl_r, znl_j, znl_l, List.length_cons, List.length_nil, Option.some.injEq, Sum.inl.injEq, Sum.inr.injEq, Prod.mk.injEq, true_and, and_true, exists_eq_left', zK_sI, zA_sI, zL_sI, zK_sL, zA_sL, zI_sL, zK_fI, zA_fI, zL_fI, zK_fL, zA_fL, zI_fL, Nat.reduceAdd, Nat.reduceLeDiff, forall_eq', zl_lt, zl_gt, zl_eq, zl_le, zl_ge, zm_0, zaft_n, zaft_v, zb_eq, Decidable.not_not, H.K, H.A0, H.K1]
      obtain ⟨n, rfl⟩ : ∃ n : Nat, k = (n : Int) := ⟨k.toNat, by omega⟩
      refine zc_w (m_drops (h := zfI (zfI h a f) (a + 1) A) H 0 n s.1.1 (by omega) (by rw [zI_fI_s]; exact hA.2.1.1) hn (by omega)) ?_
      simp only [r245_0, r245_1, r245_2, r245_5, r245_6, r245_7, r245_10, r245_11, r245_12, r245_15, r245_16, r245_17, r245_20, r245_21, r245_22, r245_23, r245_26, r245_27, r245_28, r245_31, r245_32, r245_33, r245_36, znl_i, znl_r, znl_j, znl_l, List.length_cons, List.length_nil, Option.some.injEq, Sum.inl.injEq, Sum.inr.injEq, Prod.mk.injEq, true_and, and_true, exists_eq_left', zK_sI, zA_sI, zL_sI, zK_sL, zA_sL, zI_sL, zK_fI, zA_fI, zL_fI, zK_fL, zA_fL, zI_fL, Nat.reduceAdd, Nat.reduceLeDiff, forall_eq', zl_lt, zl_gt, zl_eq, zl_le, zl_ge, zm_0, zaft_n, zaft_v, zb_eq, Decidable.not_not, H.K, H.A0, H.K1]
      rw [zfI_fI, zI_fI_s, zI_fI_s]
      have hm := mF_shft hn (show n < s.1.1 by omega) hA.2.1
      have p0 : yshft A 0 n s.1.1 0 = (s.1.1 : Int) - 1 := by simp only [yshft, if_true]; rw [hA.2.1.1]
      simp only [e0, Int.toNat_zero, p0]
      repeat (refine And.intro (by omega) ?_)
      refine zc_w (m_gives (h := zfI (zfI h a f) (a + 1) _) H _) ?_
      simp only [r245_0, r245_1, r245_2, r245_5, r245_6, r245_7, r245_10, r245_11, r245_12, r245_15, r245_16, r245_17, r245_20, r245_21, r245_22, r245_23, r245_26, r245_27, r245_28, r245_31, r245_32, r245_33, r245_36, znl_i, znl_r, znl_j, znl_l, List.length_cons, List.length_nil, Option.some.injEq, Sum.inl.injEq, Sum.inr.injEq, Prod.mk.injEq, true_and, and_true, exists_eq_left', zK_sI, zA_sI, zL_sI, zK_sL, zA_sL, zI_sL, zK_fI, zA_fI, zL_fI, zK_fL, zA_fL, zI_fL, Nat.reduceAdd, Nat.reduceLeDiff, forall_eq', zl_lt, zl_gt, zl_eq, zl_le, zl_ge, zm_0, zaft_n, zaft_v, zb_eq, Decidable.not_not, H.K, H.A0, H.K1]
      exact mQ_deed B (mFr_cur hA (fun j hj => by simp only [yshft]; rw [if_neg (by omega), if_neg (by omega)]) (by rw [Int.toNat_natCast]; exact yW_drp hF.1 (by omega)) (by rw [Int.toNat_natCast]; exact hm)) f1 f17 f18 f19 fo
    · rw [if_neg q4]; exact fin 3 (Or.inr rfl) (by rw [s_drop, if_neg q3, if_pos q4])
theorem m_move (B : mB e a h s) (k x y z : Int) (hk : yi k) (hx : yi x) (hy : yi y) (hz : yi z) : zc e (d + 3) 246 [zr (some a), zi k, zi x, zi y, zi z] h (mQ e a h s (s_move s k x y z)) := by
  have H := B.1
  have hb := H.1
  have hF := B.2.1
  have hn := hF.1.1
  have e0 : zn 0 = 0 := by decide
  have em : zn (-1) = -1 := by decide
  have z0 : 0 ≤ zn 0 ∧ zn 0 ≤ 1 := by decide
  have z1 : 0 ≤ zn 1 ∧ zn 1 ≤ 1 := by decide
  have fin : ∀ v, (v = 1 ∨ v = 3) → s_move s k x y z = (yst v s, 0) → zg e 246 (d + 2) 19 [zr (some a), zi k, zi x, zi y, zi z, zj] [zi v] h (mQ e a h s (s_move s k x y z)) := fun v hv hs => by
    simp only [r246_0, r246_1, r246_2, r246_4, r246_7, r246_10, r246_11, r246_14, r246_15, r246_16, r246_19, r246_21, r246_23, r246_26, r246_27, r246_29, r246_32, r246_33, r246_34, r246_35, r246_36, r246_37, r246_39, r246_42, r246_43, r246_46, r246_47, r246_48, r246_51, r246_52, r246_53, r246_56, r246_57, r246_60, r246_61, r246_62, r246_63, r246_64, r246_65, r246_66, r246_67, r246_68, r246_69, r246_70, r246_73, r246_74, r246_75, r246_76, r246_77, r246_78, r246_79, r246_80, r246_81, r246_82, r246_83, r246_86, r246_87, r246_88, r246_89, r246_90, r246_91, r246_92, r246_93, r246_95, r246_96, r246_97, r246_98, r246_101, znl_i, znl_r, znl_j, znl_l, List.length_cons, List.length_nil, Option.some.injEq, Sum.inl.injEq, Sum.inr.injEq, Prod.mk.injEq, true_and, and_true, exists_eq_left', zK_sI, zA_sI, zL_sI, zK_sL, zA_sL, zI_sL, zK_fI, zA_fI, zL_fI, zK_fL, zA_fL, zI_fL, Nat.reduceAdd, Nat.reduceLeDiff, forall_eq', zl_lt, zl_gt, zl_eq, zl_le, zl_ge, zm_0, zaft_n, zaft_v, zb_eq, Decidable.not_not, H.K, H.A0, H.K1]
    rw [hs]
    refine ⟨fun q => ?_, fun _ => ?_⟩
    · rw [zn_b (by omega) (by omega)] at q; omega
    · refine zc_w (m_is H v (by omega) (by omega)) ?_
      simp only [r246_0, r246_1, r246_2, r246_4, r246_7, r246_10, r246_11, r246_14, r246_15, r246_16, r246_19, r246_21, r246_23, r246_26, r246_27, r246_29, r246_32, r246_33, r246_34, r246_35, r246_36, r246_37, r246_39, r246_42, r246_43, r246_46, r246_47, r246_48, r246_51, r246_52, r246_53, r246_56, r246_57, r246_60, r246_61, r246_62, r246_63, r246_64, r246_65, r246_66, r246_67, r246_68, r246_69, r246_70, r246_73, r246_74, r246_75, r246_76, r246_77, r246_78, r246_79, r246_80, r246_81, r246_82, r246_83, r246_86, r246_87, r246_88, r246_89, r246_90, r246_91, r246_92, r246_93, r246_95, r246_96, r246_97, r246_98, r246_101, znl_i, znl_r, znl_j, znl_l, List.length_cons, List.length_nil, Option.some.injEq, Sum.inl.injEq, Sum.inr.injEq, Prod.mk.injEq, true_and, and_true, exists_eq_left', zK_sI, zA_sI, zL_sI, zK_sL, zA_sL, zI_sL, zK_fI, zA_fI, zL_fI, zK_fL, zA_fL, zI_fL, Nat.reduceAdd, Nat.reduceLeDiff, forall_eq', zl_lt, zl_gt, zl_eq, zl_le, zl_ge, zm_0, zaft_n, zaft_v, zb_eq, Decidable.not_not, H.K, H.A0, H.K1]
      rw [if_neg (by omega)]
      exact ⟨z0.1, z0.2, mQ_ref B v 0⟩
  simp only [n246, r246_0, r246_1, r246_2, r246_4, r246_7, r246_10, r246_11, r246_14, r246_15, r246_16, r246_21, r246_23, r246_26, r246_27, r246_29, r246_32, r246_33, r246_34, r246_35, r246_36, r246_37, r246_39, r246_42, r246_43, r246_46, r246_47, r246_48, r246_51, r246_52, r246_53, r246_56, r246_57, r246_60, r246_61, r246_62, r246_63, r246_64, r246_65, r246_66, r246_67, r246_68, r246_69, r246_70, r246_73, r246_74, r246_75, r246_76, r246_77, r246_78, r246_79, r246_80, r246_81, r246_82, r246_83, r246_86, r246_87, r246_88, r246_89, r246_90, r246_91, r246_92, r246_93, r246_95, r246_96, r246_97, r246_98, r246_101, znl_i, znl_r, znl_j, znl_l, List.length_cons, List.length_nil, Option.some.injEq, Sum.inl.injEq, Sum.inr.injEq, Prod.mk.injEq, true_and, and_true, exists_eq_left', zK_sI, zA_sI, zL_sI, zK_sL, zA_sL, zI_sL, zK_fI, zA_fI, zL_fI, zK_fL, zA_fL, zI_fL, Nat.reduceAdd, Nat.reduceLeDiff, forall_eq', zl_lt, zl_gt, zl_eq, zl_le, zl_ge, zm_0, zaft_n, zaft_v, zb_eq, Decidable.not_not, H.K, H.A0, H.K1]
  refine zc_w (m_isPlace x y z) ?_
  simp only [r246_0, r246_1, r246_2, r246_4, r246_7, r246_10, r246_11, r246_14, r246_15, r246_16, r246_21, r246_23, r246_26, r246_27, r246_29, r246_32, r246_33, r246_34, r246_35, r246_36, r246_37, r246_39, r246_42, r246_43, r246_46, r246_47, r246_48, r246_51, r246_52, r246_53, r246_56, r246_57, r246_60, r246_61, r246_62, r246_63, r246_64, r246_65, r246_66, r246_67, r246_68, r246_69, r246_70, r246_73, r246_74, r246_75, r246_76, r246_77, r246_78, r246_79, r246_80, r246_81, r246_82, r246_83, r246_86, r246_87, r246_88, r246_89, r246_90, r246_91, r246_92, r246_93, r246_95, r246_96, r246_97, r246_98, r246_101, znl_i, znl_r, znl_j, znl_l, List.length_cons, List.length_nil, Option.some.injEq, Sum.inl.injEq, Sum.inr.injEq, Prod.mk.injEq, true_and, and_true, exists_eq_left', zK_sI, zA_sI, zL_sI, zK_sL, zA_sL, zI_sL, zK_fI, zA_fI, zL_fI, zK_fL, zA_fL, zI_fL, Nat.reduceAdd, Nat.reduceLeDiff, forall_eq', zl_lt, zl_gt, zl_eq, zl_le, zl_ge, zm_0, zaft_n, zaft_v, zb_eq, Decidable.not_not, H.K, H.A0, H.K1]
  rw [zn_i hx, zn_i hy, zn_i hz]
  refine ⟨fun q2 => ?_, fun q => fin 1 (Or.inl rfl) (by rw [s_move, if_pos q])⟩
  refine zc_w (m_wrongAtom H s.1 k hF.2.1 hn) ?_
  simp only [r246_0, r246_1, r246_2, r246_4, r246_7, r246_10, r246_11, r246_14, r246_15, r246_16, r246_21, r246_23, r246_26, r246_27, r246_29, r246_32, r246_33, r246_34, r246_35, r246_36, r246_37, r246_39, r246_42, r246_43, r246_46, r246_47, r246_48, r246_51, r246_52, r246_53, r246_56, r246_57, r246_60, r246_61, r246_62, r246_63, r246_64, r246_65, r246_66, r246_67, r246_68, r246_69, r246_70, r246_73, r246_74, r246_75, r246_76, r246_77, r246_78, r246_79, r246_80, r246_81, r246_82, r246_83, r246_86, r246_87, r246_88, r246_89, r246_90, r246_91, r246_92, r246_93, r246_95, r246_96, r246_97, r246_98, r246_101, znl_i, znl_r, znl_j, znl_l, List.length_cons, List.length_nil, Option.some.injEq, Sum.inl.injEq, Sum.inr.injEq, Prod.mk.injEq, true_and, and_true, exists_eq_left', zK_sI, zA_sI, zL_sI, zK_sL, zA_sL, zI_sL, zK_fI, zA_fI, zL_fI, zK_fL, zA_fL, zI_fL, Nat.reduceAdd, Nat.reduceLeDiff, forall_eq', zl_lt, zl_gt, zl_eq, zl_le, zl_ge, zm_0, zaft_n, zaft_v, zb_eq, Decidable.not_not, H.K, H.A0, H.K1]
  rw [zn_i hk]
  by_cases q3 : k < 0
  · rw [if_pos q3]; exact fin 1 (Or.inl rfl) (by rw [s_move, if_neg (fun z => z q2), if_pos q3])
  · rw [if_neg q3]
    by_cases q4 : k < (s.1.1 : Int)
    · rw [if_pos q4]
      have hs : s_move s k x y z = if ¬ yatom s.1 x y z = -1 then (yst 5 s, 0) else (ydeed (s.1.1, yset k.toNat (yat (s.1.2 k.toNat 0) x y z) s.1.2) s, 1) := by rw [s_move, if_neg (fun z => z q2), if_neg q3, if_neg (by omega)]
      simp only [r246_0, r246_1, r246_2, r246_4, r246_7, r246_10, r246_11, r246_14, r246_15, r246_16, r246_19, r246_21, r246_23, r246_26, r246_27, r246_29, r246_32, r246_33, r246_34, r246_35, r246_36, r246_37, r246_39, r246_42, r246_43, r246_46, r246_47, r246_48, r246_51, r246_52, r246_53, r246_56, r246_57, r246_60, r246_61, r246_62, r246_63, r246_64, r246_65, r246_66, r246_67, r246_68, r246_69, r246_70, r246_73, r246_74, r246_75, r246_76, r246_77, r246_78, r246_79, r246_80, r246_81, r246_82, r246_83, r246_86, r246_87, r246_88, r246_89, r246_90, r246_91, r246_92, r246_93, r246_95, r246_96, r246_97, r246_98, r246_101, znl_i, znl_r, znl_j, znl_l, List.length_cons, List.length_nil, Option.some.injEq, Sum.inl.injEq, Sum.inr.injEq, Prod.mk.injEq, true_and, and_true, exists_eq_left', zK_sI, zA_sI, zL_sI, zK_sL, zA_sL, zI_sL, zK_fI, zA_fI, zL_fI, zK_fL, zA_fL, zI_fL, Nat.reduceAdd, Nat.reduceLeDiff, forall_eq', zl_lt, zl_gt, zl_eq, zl_le, zl_ge, zm_0, zaft_n, zaft_v, zb_eq, Decidable.not_not, H.K, H.A0, H.K1]
      rw [hs, e0]
      refine ⟨fun _ => ?_, fun q => absurd q (by decide)⟩
      refine zc_w (m_atomAt H 0 s.1 x y z (by omega) hF.2.1 hn hF.1.2.2.1 q2.1 q2.2.1 q2.2.2) ?_
      simp only [r246_0, r246_1, r246_2, r246_4, r246_7, r246_10, r246_11, r246_14, r246_15, r246_16, r246_19, r246_21, r246_23, r246_26, r246_27, r246_29, r246_32, r246_33, r246_34, r246_35, r246_36, r246_37, r246_39, r246_42, r246_43, r246_46, r246_47, r246_48, r246_51, r246_52, r246_53, r246_56, r246_57, r246_60, r246_61, r246_62, r246_63, r246_64, r246_65, r246_66, r246_67, r246_68, r246_69, r246_70, r246_73, r246_74, r246_75, r246_76, r246_77, r246_78, r246_79, r246_80, r246_81, r246_82, r246_83, r246_86, r246_87, r246_88, r246_89, r246_90, r246_91, r246_92, r246_93, r246_95, r246_96, r246_97, r246_98, r246_101, znl_i, znl_r, znl_j, znl_l, List.length_cons, List.length_nil, Option.some.injEq, Sum.inl.injEq, Sum.inr.injEq, Prod.mk.injEq, true_and, and_true, exists_eq_left', zK_sI, zA_sI, zL_sI, zK_sL, zA_sL, zI_sL, zK_fI, zA_fI, zL_fI, zK_fL, zA_fL, zI_fL, Nat.reduceAdd, Nat.reduceLeDiff, forall_eq', zl_lt, zl_gt, zl_eq, zl_le, zl_ge, zm_0, zaft_n, zaft_v, zb_eq, Decidable.not_not, H.K, H.A0, H.K1]
      have ba := yfind_bd (yplc s.1 x y z) s.1.1 0
      rw [em, zn_b (x := yatom s.1 x y z) (by show _ ≤ yfind _ _ _; omega) (by show yfind _ _ _ ≤ _; omega)]
      refine ⟨fun q5 => ?_, fun q5 => ?_⟩
      · rw [if_neg (fun z => z q5)]
        refine zc_mono (m_done B) ?_
        rintro _ _ ⟨rfl, A, f, rfl, hA, f1, f17, f18, f19, fo, ho⟩
        simp only [r246_0, r246_1, r246_2, r246_4, r246_7, r246_10, r246_11, r246_14, r246_15, r246_16, r246_19, r246_21, r246_23, r246_26, r246_27, r246_29, r246_32, r246_33, r246_34, r246_35, r246_36, r246_37, r246_39, r246_42, r246_43, r246_46, r246_47, r246_48, r246_51, r246_52, r246_53, r246_56, r246_57, r246_60, r246_61, r246_62, r246_63, r246_64, r246_65, r246_66, r246_67, r246_68, r246_69, r246_70, r246_73, r246_74, r246_75, r246_76, r246_77, r246_78, r246_79, r246_80, r246_81, r246_82, r246_83, r246_86, r246_87, r246_88, r246_89, r246_90, r246_91, r246_92, r246_93, r246_95, r246_96, r246_97, r246_98, r246_101, znl_i, znl_r, znl_j, znl_l, List.length_cons, List.length_nil, Option.some.injEq, Sum.inl.injEq, Sum.inr.injEq, Prod.mk.injEq, true_and, and_true, exists_eq_left', zK_sI, zA_sI, zL_sI, zK_sL, zA_sL, zI_sL, zK_fI, zA_fI, zL_fI, zK_fL, zA_fL, zI_fL, Nat.reduceAdd, Nat.reduceLeDiff, forall_eq', zl_lt, zl_gt, zl_eq, zl_le, zl_ge, zm_0, zaft_n, zaft_v, zb_eq, Decidable.not_not, H.K, H.A0, H.K1]
        obtain ⟨n, rfl⟩ : ∃ n : Nat, k = (n : Int) := ⟨k.toNat, by omega⟩
        have t1 : ((4 : Int) + 4 * n + 1).toNat = 4 + 4 * n + 1 := by omega
        have t2 : ((4 : Int) + 4 * n + 2).toNat = 4 + 4 * n + 2 := by omega
        have t3 : ((4 : Int) + 4 * n + 3).toNat = 4 + 4 * n + 3 := by omega
        simp (disch := omega) only [zn_b, t1, t2, t3]
        repeat (refine And.intro (by omega) ?_)
        simp only [zsI_f, zfI_fI, zI_fI_s]
        refine zc_w (m_is (h := zfI (zfI h a f) (a + 1) _) H 0 (by omega) (by omega)) ?_
        simp only [r246_0, r246_1, r246_2, r246_4, r246_7, r246_10, r246_11, r246_14, r246_15, r246_16, r246_19, r246_21, r246_23, r246_26, r246_27, r246_29, r246_32, r246_33, r246_34, r246_35, r246_36, r246_37, r246_39, r246_42, r246_43, r246_46, r246_47, r246_48, r246_51, r246_52, r246_53, r246_56, r246_57, r246_60, r246_61, r246_62, r246_63, r246_64, r246_65, r246_66, r246_67, r246_68, r246_69, r246_70, r246_73, r246_74, r246_75, r246_76, r246_77, r246_78, r246_79, r246_80, r246_81, r246_82, r246_83, r246_86, r246_87, r246_88, r246_89, r246_90, r246_91, r246_92, r246_93, r246_95, r246_96, r246_97, r246_98, r246_101, znl_i, znl_r, znl_j, znl_l, List.length_cons, List.length_nil, Option.some.injEq, Sum.inl.injEq, Sum.inr.injEq, Prod.mk.injEq, true_and, and_true, exists_eq_left', zK_sI, zA_sI, zL_sI, zK_sL, zA_sL, zI_sL, zK_fI, zA_fI, zL_fI, zK_fL, zA_fL, zI_fL, Nat.reduceAdd, Nat.reduceLeDiff, forall_eq', zl_lt, zl_gt, zl_eq, zl_le, zl_ge, zm_0, zaft_n, zaft_v, zb_eq, Decidable.not_not, H.K, H.A0, H.K1]
        refine ⟨by decide, by decide, ?_⟩
        refine mQ_deed B (mFr_cur hA (fun j hj => by simp only [zup]; rw [if_neg (by omega), if_neg (by omega), if_neg (by omega)]) ?_ ?_) f1 f17 f18 f19 fo
        · rw [Int.toNat_natCast]
          refine yW_set hF.1 (by omega) (hF.1.2.1 n (by omega)) (fun i i1 i2 => ?_) (fun j hj _ => ywat hF.1 q5 j hj)
          have hi' : i = 1 ∨ i = 2 ∨ i = 3 := by omega
          rcases hi' with rfl | rfl | rfl
          · exact q2.1
          · exact q2.2.1
          · exact q2.2.2
        · rw [Int.toNat_natCast]; exact mF_set3 (by omega) hA.2.1
      · rw [if_pos q5]
        refine zc_w (m_is H 5 (by omega) (by omega)) ?_
        simp only [r246_0, r246_1, r246_2, r246_4, r246_7, r246_10, r246_11, r246_14, r246_15, r246_16, r246_19, r246_21, r246_23, r246_26, r246_27, r246_29, r246_32, r246_33, r246_34, r246_35, r246_36, r246_37, r246_39, r246_42, r246_43, r246_46, r246_47, r246_48, r246_51, r246_52, r246_53, r246_56, r246_57, r246_60, r246_61, r246_62, r246_63, r246_64, r246_65, r246_66, r246_67, r246_68, r246_69, r246_70, r246_73, r246_74, r246_75, r246_76, r246_77, r246_78, r246_79, r246_80, r246_81, r246_82, r246_83, r246_86, r246_87, r246_88, r246_89, r246_90, r246_91, r246_92, r246_93, r246_95, r246_96, r246_97, r246_98, r246_101, znl_i, znl_r, znl_j, znl_l, List.length_cons, List.length_nil, Option.some.injEq, Sum.inl.injEq, Sum.inr.injEq, Prod.mk.injEq, true_and, and_true, exists_eq_left', zK_sI, zA_sI, zL_sI, zK_sL, zA_sL, zI_sL, zK_fI, zA_fI, zL_fI, zK_fL, zA_fL, zI_fL, Nat.reduceAdd, Nat.reduceLeDiff, forall_eq', zl_lt, zl_gt, zl_eq, zl_le, zl_ge, zm_0, zaft_n, zaft_v, zb_eq, Decidable.not_not, H.K, H.A0, H.K1]
        exact ⟨by decide, by decide, mQ_ref B 5 0⟩
    · rw [if_neg q4]; exact fin 3 (Or.inr rfl) (by rw [s_move, if_neg (fun z => z q2), if_neg q3, if_pos q4])
theorem m_swap (B : mB e a h s) (k c : Int) (hk : yi k) (hc : yi c) : zc e (d + 3) 248 [zr (some a), zi k, zi c] h (mQ e a h s (s_swap s k c)) := by
  have H := B.1
  have hb := H.1
  have hF := B.2.1
  have hn := hF.1.1
  have e0 : zn 0 = 0 := by decide
  have e1 : zn 1 = 1 := by decide
  have e9 : zn 9 = 9 := by decide
  have fin : ∀ v, (v = 1 ∨ v = 3) → s_swap s k c = (yst v s, -1) → zg e 248 (d + 2) 19 [zr (some a), zi k, zi c, zj, zj] [zi v] h (mQ e a h s (s_swap s k c)) := fun v hv hs => by
    simp only [r248_0, r248_1, r248_2, r248_4, r248_7, r248_10, r248_11, r248_14, r248_15, r248_16, r248_19, r248_20, r248_21, r248_24, r248_25, r248_26, r248_29, r248_30, r248_31, r248_32, r248_33, r248_36, r248_38, r248_40, r248_41, r248_44, r248_45, r248_47, r248_50, r248_51, r248_52, r248_55, r248_56, r248_59, r248_60, r248_61, r248_62, r248_63, r248_64, r248_65, r248_66, r248_67, r248_69, r248_72, znl_i, znl_r, znl_j, znl_l, List.length_cons, List.length_nil, Option.some.injEq, Sum.inl.injEq, Sum.inr.injEq, Prod.mk.injEq, true_and, and_true, exists_eq_left', zK_sI, zA_sI, zL_sI, zK_sL, zA_sL, zI_sL, zK_fI, zA_fI, zL_fI, zK_fL, zA_fL, zI_fL, Nat.reduceAdd, Nat.reduceLeDiff, forall_eq', zl_lt, zl_gt, zl_eq, zl_le, zl_ge, zm_0, zaft_n, zaft_v, zb_eq, Decidable.not_not, H.K, H.A0, H.K1]
    rw [hs]
    refine ⟨fun q => ?_, fun _ => ?_⟩
    · rw [zn_b (by omega) (by omega)] at q; omega
    · refine zc_w (m_refuse H v) ?_
      simp only [r248_0, r248_1, r248_2, r248_4, r248_7, r248_10, r248_11, r248_14, r248_15, r248_16, r248_19, r248_20, r248_21, r248_24, r248_25, r248_26, r248_29, r248_30, r248_31, r248_32, r248_33, r248_36, r248_38, r248_40, r248_41, r248_44, r248_45, r248_47, r248_50, r248_51, r248_52, r248_55, r248_56, r248_59, r248_60, r248_61, r248_62, r248_63, r248_64, r248_65, r248_66, r248_67, r248_69, r248_72, znl_i, znl_r, znl_j, znl_l, List.length_cons, List.length_nil, Option.some.injEq, Sum.inl.injEq, Sum.inr.injEq, Prod.mk.injEq, true_and, and_true, exists_eq_left', zK_sI, zA_sI, zL_sI, zK_sL, zA_sL, zI_sL, zK_fI, zA_fI, zL_fI, zK_fL, zA_fL, zI_fL, Nat.reduceAdd, Nat.reduceLeDiff, forall_eq', zl_lt, zl_gt, zl_eq, zl_le, zl_ge, zm_0, zaft_n, zaft_v, zb_eq, Decidable.not_not, H.K, H.A0, H.K1]
      exact mQ_ref B v (-1)
  simp only [n248, r248_0, r248_1, r248_2, r248_4, r248_7, r248_10, r248_11, r248_14, r248_15, r248_16, r248_20, r248_21, r248_24, r248_25, r248_26, r248_29, r248_30, r248_31, r248_32, r248_33, r248_36, r248_38, r248_40, r248_41, r248_44, r248_45, r248_47, r248_50, r248_51, r248_52, r248_55, r248_56, r248_59, r248_60, r248_61, r248_62, r248_63, r248_64, r248_65, r248_66, r248_67, r248_69, r248_72, znl_i, znl_r, znl_j, znl_l, List.length_cons, List.length_nil, Option.some.injEq, Sum.inl.injEq, Sum.inr.injEq, Prod.mk.injEq, true_and, and_true, exists_eq_left', zK_sI, zA_sI, zL_sI, zK_sL, zA_sL, zI_sL, zK_fI, zA_fI, zL_fI, zK_fL, zA_fL, zI_fL, Nat.reduceAdd, Nat.reduceLeDiff, forall_eq', zl_lt, zl_gt, zl_eq, zl_le, zl_ge, zm_0, zaft_n, zaft_v, zb_eq, Decidable.not_not, H.K, H.A0, H.K1]
  refine zc_w (m_isFrom c 1 9) ?_
  simp only [r248_0, r248_1, r248_2, r248_4, r248_7, r248_10, r248_11, r248_14, r248_15, r248_16, r248_20, r248_21, r248_24, r248_25, r248_26, r248_29, r248_30, r248_31, r248_32, r248_33, r248_36, r248_38, r248_40, r248_41, r248_44, r248_45, r248_47, r248_50, r248_51, r248_52, r248_55, r248_56, r248_59, r248_60, r248_61, r248_62, r248_63, r248_64, r248_65, r248_66, r248_67, r248_69, r248_72, znl_i, znl_r, znl_j, znl_l, List.length_cons, List.length_nil, Option.some.injEq, Sum.inl.injEq, Sum.inr.injEq, Prod.mk.injEq, true_and, and_true, exists_eq_left', zK_sI, zA_sI, zL_sI, zK_sL, zA_sL, zI_sL, zK_fI, zA_fI, zL_fI, zK_fL, zA_fL, zI_fL, Nat.reduceAdd, Nat.reduceLeDiff, forall_eq', zl_lt, zl_gt, zl_eq, zl_le, zl_ge, zm_0, zaft_n, zaft_v, zb_eq, Decidable.not_not, H.K, H.A0, H.K1]
  rw [zn_i hc, e1, e9]
  refine ⟨fun q2 => ?_, fun q => fin 1 (Or.inl rfl) (by rw [s_swap, if_pos q])⟩
  refine zc_w (m_wrongAtom H s.1 k hF.2.1 hn) ?_
  simp only [r248_0, r248_1, r248_2, r248_4, r248_7, r248_10, r248_11, r248_14, r248_15, r248_16, r248_20, r248_21, r248_24, r248_25, r248_26, r248_29, r248_30, r248_31, r248_32, r248_33, r248_36, r248_38, r248_40, r248_41, r248_44, r248_45, r248_47, r248_50, r248_51, r248_52, r248_55, r248_56, r248_59, r248_60, r248_61, r248_62, r248_63, r248_64, r248_65, r248_66, r248_67, r248_69, r248_72, znl_i, znl_r, znl_j, znl_l, List.length_cons, List.length_nil, Option.some.injEq, Sum.inl.injEq, Sum.inr.injEq, Prod.mk.injEq, true_and, and_true, exists_eq_left', zK_sI, zA_sI, zL_sI, zK_sL, zA_sL, zI_sL, zK_fI, zA_fI, zL_fI, zK_fL, zA_fL, zI_fL, Nat.reduceAdd, Nat.reduceLeDiff, forall_eq', zl_lt, zl_gt, zl_eq, zl_le, zl_ge, zm_0, zaft_n, zaft_v, zb_eq, Decidable.not_not, H.K, H.A0, H.K1]
  rw [zn_i hk]
  by_cases q3 : k < 0
  · rw [if_pos q3]; exact fin 1 (Or.inl rfl) (by rw [s_swap, if_neg (fun z => z q2), if_pos q3])
  · rw [if_neg q3]
    by_cases q4 : k < (s.1.1 : Int)
    · rw [if_pos q4]
      have hs : s_swap s k c = if s.1.2 k.toNat 0 = c then (yst 6 s, -1) else (ydeed (s.1.1, yset k.toNat (yat c (s.1.2 k.toNat 1) (s.1.2 k.toNat 2) (s.1.2 k.toNat 3)) s.1.2) s, s.1.2 k.toNat 0) := by rw [s_swap, if_neg (fun z => z q2), if_neg q3, if_neg (by omega)]
      simp only [r248_0, r248_1, r248_2, r248_4, r248_7, r248_10, r248_11, r248_14, r248_15, r248_16, r248_19, r248_20, r248_21, r248_24, r248_25, r248_26, r248_29, r248_30, r248_31, r248_32, r248_33, r248_36, r248_38, r248_40, r248_41, r248_44, r248_45, r248_47, r248_50, r248_51, r248_52, r248_55, r248_56, r248_59, r248_60, r248_61, r248_62, r248_63, r248_64, r248_65, r248_66, r248_67, r248_69, r248_72, znl_i, znl_r, znl_j, znl_l, List.length_cons, List.length_nil, Option.some.injEq, Sum.inl.injEq, Sum.inr.injEq, Prod.mk.injEq, true_and, and_true, exists_eq_left', zK_sI, zA_sI, zL_sI, zK_sL, zA_sL, zI_sL, zK_fI, zA_fI, zL_fI, zK_fL, zA_fL, zI_fL, Nat.reduceAdd, Nat.reduceLeDiff, forall_eq', zl_lt, zl_gt, zl_eq, zl_le, zl_ge, zm_0, zaft_n, zaft_v, zb_eq, Decidable.not_not, H.K, H.A0, H.K1]
      rw [hs, e0]
      refine ⟨fun _ => ?_, fun q => absurd q (by decide)⟩
      obtain ⟨n, rfl⟩ : ∃ n : Nat, k = (n : Int) := ⟨k.toNat, by omega⟩
      refine zc_w (m_of H n 0 (by omega) (by omega) (by omega) (by omega)) ?_
      simp only [r248_0, r248_1, r248_2, r248_4, r248_7, r248_10, r248_11, r248_14, r248_15, r248_16, r248_19, r248_20, r248_21, r248_24, r248_25, r248_26, r248_29, r248_30, r248_31, r248_32, r248_33, r248_36, r248_38, r248_40, r248_41, r248_44, r248_45, r248_47, r248_50, r248_51, r248_52, r248_55, r248_56, r248_59, r248_60, r248_61, r248_62, r248_63, r248_64, r248_65, r248_66, r248_67, r248_69, r248_72, znl_i, znl_r, znl_j, znl_l, List.length_cons, List.length_nil, Option.some.injEq, Sum.inl.injEq, Sum.inr.injEq, Prod.mk.injEq, true_and, and_true, exists_eq_left', zK_sI, zA_sI, zL_sI, zK_sL, zA_sL, zI_sL, zK_fI, zA_fI, zL_fI, zK_fL, zA_fL, zI_fL, Nat.reduceAdd, Nat.reduceLeDiff, forall_eq', zl_lt, zl_gt, zl_eq, zl_le, zl_ge, zm_0, zaft_n, zaft_v, zb_eq, Decidable.not_not, H.K, H.A0, H.K1]
      have v0 : zI h (a + 1) (4 + 4 * (n : Int) + 0).toNat = s.1.2 n 0 := by
        have := hF.2.1.2 n (by omega) 0 (by omega)
        rw [← this]
        congr 1 <;> omega
      have kb := hF.1.2.1 n (by omega)
      rw [v0, Int.toNat_natCast, zn_b (x := s.1.2 n 0) (by omega) (by omega), zn_i hc]
      refine ⟨fun q5 => ?_, fun q5 => ?_⟩
      · rw [if_neg q5]
        refine zc_mono (m_done B) ?_
        rintro _ _ ⟨rfl, A, f, rfl, hA, f1, f17, f18, f19, fo, ho⟩
        simp only [r248_0, r248_1, r248_2, r248_4, r248_7, r248_10, r248_11, r248_14, r248_15, r248_16, r248_19, r248_20, r248_21, r248_24, r248_25, r248_26, r248_29, r248_30, r248_31, r248_32, r248_33, r248_36, r248_38, r248_40, r248_41, r248_44, r248_45, r248_47, r248_50, r248_51, r248_52, r248_55, r248_56, r248_59, r248_60, r248_61, r248_62, r248_63, r248_64, r248_65, r248_66, r248_67, r248_69, r248_72, znl_i, znl_r, znl_j, znl_l, List.length_cons, List.length_nil, Option.some.injEq, Sum.inl.injEq, Sum.inr.injEq, Prod.mk.injEq, true_and, and_true, exists_eq_left', zK_sI, zA_sI, zL_sI, zK_sL, zA_sL, zI_sL, zK_fI, zA_fI, zL_fI, zK_fL, zA_fL, zI_fL, Nat.reduceAdd, Nat.reduceLeDiff, forall_eq', zl_lt, zl_gt, zl_eq, zl_le, zl_ge, zm_0, zaft_n, zaft_v, zb_eq, Decidable.not_not, H.K, H.A0, H.K1]
        have t1 : ((4 : Int) + 4 * n).toNat = 4 + 4 * n := by omega
        simp (disch := omega) only [zn_b, t1]
        repeat (refine And.intro (by omega) ?_)
        simp only [zsI_f, zfI_fI, zI_fI_s]
        refine zc_w (m_gives (h := zfI (zfI h a f) (a + 1) _) H _) ?_
        simp only [r248_0, r248_1, r248_2, r248_4, r248_7, r248_10, r248_11, r248_14, r248_15, r248_16, r248_19, r248_20, r248_21, r248_24, r248_25, r248_26, r248_29, r248_30, r248_31, r248_32, r248_33, r248_36, r248_38, r248_40, r248_41, r248_44, r248_45, r248_47, r248_50, r248_51, r248_52, r248_55, r248_56, r248_59, r248_60, r248_61, r248_62, r248_63, r248_64, r248_65, r248_66, r248_67, r248_69, r248_72, znl_i, znl_r, znl_j, znl_l, List.length_cons, List.length_nil, Option.some.injEq, Sum.inl.injEq, Sum.inr.injEq, Prod.mk.injEq, true_and, and_true, exists_eq_left', zK_sI, zA_sI, zL_sI, zK_sL, zA_sL, zI_sL, zK_fI, zA_fI, zL_fI, zK_fL, zA_fL, zI_fL, Nat.reduceAdd, Nat.reduceLeDiff, forall_eq', zl_lt, zl_gt, zl_eq, zl_le, zl_ge, zm_0, zaft_n, zaft_v, zb_eq, Decidable.not_not, H.K, H.A0, H.K1]
        refine mQ_deed B (mFr_cur hA (fun j hj => by simp only [zup]; rw [if_neg (by omega)]) ?_ (mF_set0 (by omega) hA.2.1)) f1 f17 f18 f19 fo
        refine yW_set hF.1 (by omega) q2 (fun i i1 i2 => ?_) (fun j hj hjn q => hjn (hF.1.2.2.2 j n hj (by omega) q.1 q.2.1 q.2.2))
        have hi' : i = 1 ∨ i = 2 ∨ i = 3 := by omega
        rcases hi' with rfl | rfl | rfl <;> exact hF.1.2.2.1 n (by omega) _ (by omega) (by omega)
      · rw [if_pos q5]
        refine zc_w (m_refuse H 6) ?_
        simp only [r248_0, r248_1, r248_2, r248_4, r248_7, r248_10, r248_11, r248_14, r248_15, r248_16, r248_19, r248_20, r248_21, r248_24, r248_25, r248_26, r248_29, r248_30, r248_31, r248_32, r248_33, r248_36, r248_38, r248_40, r248_41, r248_44, r248_45, r248_47, r248_50, r248_51, r248_52, r248_55, r248_56, r248_59, r248_60, r248_61, r248_62, r248_63, r248_64, r248_65, r248_66, r248_67, r248_69, r248_72, znl_i, znl_r, znl_j, znl_l, List.length_cons, List.length_nil, Option.some.injEq, Sum.inl.injEq, Sum.inr.injEq, Prod.mk.injEq, true_and, and_true, exists_eq_left', zK_sI, zA_sI, zL_sI, zK_sL, zA_sL, zI_sL, zK_fI, zA_fI, zL_fI, zK_fL, zA_fL, zI_fL, Nat.reduceAdd, Nat.reduceLeDiff, forall_eq', zl_lt, zl_gt, zl_eq, zl_le, zl_ge, zm_0, zaft_n, zaft_v, zb_eq, Decidable.not_not, H.K, H.A0, H.K1]
        exact mQ_ref B 6 (-1)
    · rw [if_neg q4]; exact fin 3 (Or.inr rfl) (by rw [s_swap, if_neg (fun z => z q2), if_neg q3, if_pos q4])
end
