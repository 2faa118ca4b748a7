/-! ===== the reference: deeds ===== -/
def yi (v : Int) : Prop := -2147483648 ≤ v ∧ v < 2147483648
theorem zn_i {v : Int} (h : yi v) : zn v = v := zn_id h.1 h.2
def s_put (s : yS) (k x y z : Int) : yS × Int :=
  if ¬ ((1 ≤ k ∧ k ≤ 9) ∧ (-50 ≤ x ∧ x ≤ 50) ∧ (-50 ≤ y ∧ y ≤ 50) ∧ (-50 ≤ z ∧ z ≤ 50)) then (yst 1 s, -1) else if s.1.1 = 12 then (yst 4 s, -1) else
  if ¬ yatom s.1 x y z = -1 then (yst 5 s, -1) else (ydeed (s.1.1 + 1, yset s.1.1 (yat k x y z) s.1.2) s, s.1.1)
def s_drop (s : yS) (k : Int) : yS × Int :=
  if k < 0 then (yst 1 s, -1) else if ¬ k < (s.1.1 : Int) then (yst 3 s, -1) else (ydeed (s.1.1 - 1, ydrp k.toNat s.1.2) s, (s.1.1 : Int) - 1)
/-- what a call of the reference leaves: a refusal, or a deed -/
def mQ (e : zEv) (a : Nat) (h : zH) (s : yS) (r : yS × Int) (o : zO) (h' : zH) : Prop := o = Sum.inl (some (zi r.2)) ∧ mB e a h' r.1 ∧ r.1.2.2.2.1 = s.2.2.2.1 ∧ ((h' = zsI h a 2 r.1.2.2.1.1 ∧ r.1.1 = s.1) ∨ (zonly (fun b => b = a ∨ b = a + 1) h h' ∧ mUn h' a))
theorem mFr_cur {A A2 : Nat → Int} {F G : yF} {ks : List yF} (h : mFr A F ks) (hA : ∀ j, 52 ≤ j → A2 j = A j) (hw : yW G) (hm : mF A2 0 G) : mFr A2 G ks :=
  ⟨hw, hm, h.2.2.1, fun j K hj => ⟨(h.2.2.2 j K hj).1, mF_off (h.2.2.2 j K hj).1.1 (h.2.2.2 j K hj).2 (fun i hi _ => hA i (by omega))⟩⟩
theorem ywat {F : yF} (hw : yW F) {x y z : Int} (h : yatom F x y z = -1) : ∀ j, j < F.1 → ¬ (F.2 j 1 = x ∧ F.2 j 2 = y ∧ F.2 j 3 = z) := fun j hj q => by
  have := yfind_none.mp h j (Nat.zero_le _) (by omega)
  simp only [yplc, decide_eq_false_iff_not] at this
  exact this q
theorem yW_add {F : yF} (hw : yW F) (hn : F.1 < 12) {k x y z : Int} (hk : 1 ≤ k ∧ k ≤ 9) (hx : -50 ≤ x ∧ x ≤ 50) (hy : -50 ≤ y ∧ y ≤ 50) (hz : -50 ≤ z ∧ z ≤ 50) (h : yatom F x y z = -1) : yW (F.1 + 1, yset F.1 (yat k x y z) F.2) := by
  obtain ⟨w1, w2, w3, w4⟩ := hw
  have hno := ywat ⟨w1, w2, w3, w4⟩ h
  refine ⟨hn, fun j hj => ?_, fun j hj i h1 h2 => ?_, fun i j hi hj e1 e2 e3 => ?_⟩
  · dsimp only at hj ⊢
    simp only [yset]
    by_cases q : j = F.1
    · rw [if_pos q]; exact hk
    · rw [if_neg q]; exact w2 j (by omega)
  · dsimp only at hj ⊢
    simp only [yset]
    by_cases q : j = F.1
    · rw [if_pos q]
      have hi' : i = 1 ∨ i = 2 ∨ i = 3 := by omega
      rcases hi' with rfl | rfl | rfl <;> assumption
    · rw [if_neg q]; exact w3 j (by omega) i h1 h2
  · dsimp only at hi hj e1 e2 e3 ⊢
    simp only [yset] at e1 e2 e3
    by_cases q1 : i = F.1 <;> by_cases q2 : j = F.1
    · omega
    · simp only [q1, q2, if_true, if_false] at e1 e2 e3
      exact absurd ⟨e1.symm, e2.symm, e3.symm⟩ (hno j (by omega))
    · simp only [q1, q2, if_true, if_false] at e1 e2 e3
      exact absurd ⟨e1, e2, e3⟩ (hno i (by omega))
    · simp only [q1, q2, if_false] at e1 e2 e3
      exact w4 i j (by omega) (by omega) e1 e2 e3
theorem yW_drp {F : yF} (hw : yW F) {k : Nat} (hk : k < F.1) : yW (F.1 - 1, ydrp k F.2) := by
  obtain ⟨w1, w2, w3, w4⟩ := hw
  refine ⟨by dsimp only; omega, fun j hj => ?_, fun j hj i h1 h2 => ?_, fun i j hi hj e1 e2 e3 => ?_⟩
  · dsimp only at hj ⊢
    simp only [ydrp]
    split
    · exact w2 j (by omega)
    · exact w2 (j + 1) (by omega)
  · dsimp only at hj ⊢
    simp only [ydrp]
    split
    · exact w3 j (by omega) i h1 h2
    · exact w3 (j + 1) (by omega) i h1 h2
  · dsimp only at hi hj e1 e2 e3 ⊢
    simp only [ydrp] at e1 e2 e3
    by_cases q1 : i < k <;> by_cases q2 : j < k
    · simp only [q1, q2, if_true] at e1 e2 e3
      exact w4 i j (by omega) (by omega) e1 e2 e3
    · simp only [q1, q2, if_true, if_false] at e1 e2 e3
      have := w4 i (j + 1) (by omega) (by omega) e1 e2 e3
      omega
    · simp only [q1, q2, if_true, if_false] at e1 e2 e3
      have := w4 (i + 1) j (by omega) (by omega) e1 e2 e3
      omega
    · simp only [q1, q2, if_false] at e1 e2 e3
      have := w4 (i + 1) (j + 1) (by omega) (by omega) e1 e2 e3
      omega
section
variable {e : zEv} {a d : Nat} {h : zH} {s : yS}
theorem mB.tape (B : mB e a h s) : zI h a 7 = (s.2.2.2.1.1 : Int) := B.2.2.2.2.2.2.1
theorem mQ_ref (B : mB e a h s) (v w : Int) : mQ e a h s (yst v s, w) (Sum.inl (some (zi w))) (zsI h a 2 v) := ⟨rfl, B.st v, rfl, Or.inl ⟨rfl, rfl⟩⟩
theorem mQ_deed (B : mB e a h s) {G : yF} {A f : Nat → Int} {v : Int} (hA : mFr A G ((if s.2.1.length = 6 then s.2.1.tail else s.2.1) ++ [s.1])) (f1 : f 1 = (((if s.2.1.length = 6 then s.2.1.tail else s.2.1) ++ [s.1]).length : Int)) (f17 : f 17 = 0) (f18 : f 18 = 0) (f19 : f 19 = 0) (fo : ∀ j, j ≠ 1 → j ≠ 17 → j ≠ 18 → j ≠ 19 → f j = zI h a j) :
    mQ e a h s (ydeed G s, v) (Sum.inl (some (zi v))) (zsI (zfI (zfI h a f) (a + 1) A) a 2 0) := by
  obtain ⟨H, hF, b1, b2, b3, b4, b5, b6, b7, b8, b9⟩ := B
  have hh : zsI (zfI (zfI h a f) (a + 1) A) a 2 0 = zfI (zfI h a (zup f 2 0)) (a + 1) A := by
    rw [zsI_f, zI_fI_n (c := a + 1) (b := a) _ _ (by omega), zI_fI_s, zfI_comm _ _ _ (by omega : a + 1 ≠ a), zfI_fI]
  have r : ∀ j, zI (zfI (zfI h a (zup f 2 0)) (a + 1) A) a j = zup f 2 0 j := fun j => by rw [zI_fI_n (c := a + 1) (b := a) _ _ (by omega), zI_fI_s]
  rw [hh]
  refine ⟨rfl, ⟨H, ?_, ?_, ?_, b3, b4, ?_, b6, fun j hj => ?_, ?_, ?_⟩, rfl, Or.inr ⟨?_, ?_, ?_, ?_⟩⟩
  · rw [zI_fI_s]; exact hA
  · rw [r]; simp only [zup]; rw [if_neg (by decide)]; exact f1
  · rw [r]; rfl
  · rw [r]; simp only [zup]; rw [if_neg (by decide), fo 7 (by decide) (by decide) (by decide) (by decide)]; exact b5
  · rw [zI_fI_n (c := a + 1) (b := a + 2) _ _ (by omega), zI_fI_n _ _ (by omega)]; exact b7 j hj
  · rw [r]; simp only [zup]; rw [if_neg (by decide), fo 15 (by decide) (by decide) (by decide) (by decide)]; exact b8
  · rw [r]; simp only [zup]; rw [if_neg (by decide), fo 14 (by decide) (by decide) (by decide) (by decide)]; exact b9
  · exact (zonly.fI (Or.inl rfl)).trans (zonly.fI (Or.inr rfl))
  · rw [r]; simp only [zup]; rw [if_neg (by decide)]; exact f17
  · rw [r]; simp only [zup]; rw [if_neg (by decide)]; exact f18
  · rw [r]; simp only [zup]; rw [if_neg (by decide)]; exact f19
theorem m_put (B : mB e a h s) (k x y z : Int) (hk : yi k) (hx : yi x) (hy : yi y) (hz : yi z) : zc e (d + 3) 243 [zr (some a), zi k, zi x, zi y, zi z] h (mQ e a h s (s_put s k x y z)) := by
  have H := B.1
  have hF := B.2.1
  have hb := H.1
  have hn := hF.1.1
  have e1 : zn 1 = 1 := by decide
  have e9 : zn 9 = 9 := by decide
  have e0 : zn 0 = 0 := by decide
  have em : zn (-1) = -1 := by decide
  have e12 : zn 12 = 12 := by decide
  simp only [n243, r243_0, r243_1, r243_2, r243_4, r243_7, r243_10, r243_11, r243_12, r243_14, r243_17, r243_20, r243_21, r243_22, r243_25, r243_26, r243_27, r243_30, r243_31, r243_32, r243_34, r243_37, r243_38, r243_39, r243_42, r243_43, r243_44, r243_45, r243_46, r243_47, r243_49, r243_52, r243_53, r243_56, r243_57, r243_58, r243_61, r243_62, r243_63, r243_66, r243_67, r243_68, r243_69, r243_70, r243_71, r243_73, r243_76, r243_77, r243_78, r243_81, r243_82, r243_83, r243_84, r243_85, r243_88, znl_i, znl_r, znl_j, znl_l, List.length_cons, List.length_nil, Option.some.injEq, Sum.inl.injEq, Sum.inr.injEq, Prod.mk.injEq, true_and, and_true, exists_eq_left', zK_sI, zA_sI, zL_sI, zK_sL, zA_sL, zI_sL, zK_fI, zA_fI, zL_fI, zK_fL, zA_fL, zI_fL, Nat.reduceAdd, Nat.reduceLeDiff, forall_eq', zl_lt, zl_gt, zl_eq, zl_le, zl_ge, zm_0, zaft_n, zaft_v, zb_eq, Decidable.not_not, H.K, H.A0, H.K1]
  refine zc_w (m_isFrom k 1 9) ?_
  simp only [r243_0, r243_1, r243_2, r243_4, r243_7, r243_10, r243_11, r243_12, r243_14, r243_17, r243_20, r243_21, r243_22, r243_25, r243_26, r243_27, r243_30, r243_31, r243_32, r243_34, r243_37, r243_38, r243_39, r243_42, r243_43, r243_44, r243_45, r243_46, r243_47, r243_49, r243_52, r243_53, r243_56, r243_57, r243_58, r243_61, r243_62, r243_63, r243_66, r243_67, r243_68, r243_69, r243_70, r243_71, r243_73, r243_76, r243_77, r243_78, r243_81, r243_82, r243_83, r243_84, r243_85, r243_88, znl_i, znl_r, znl_j, znl_l, List.length_cons, List.length_nil, Option.some.injEq, Sum.inl.injEq, Sum.inr.injEq, Prod.mk.injEq, true_and, and_true, exists_eq_left', zK_sI, zA_sI, zL_sI, zK_sL, zA_sL, zI_sL, zK_fI, zA_fI, zL_fI, zK_fL, zA_fL, zI_fL, Nat.reduceAdd, Nat.reduceLeDiff, forall_eq', zl_lt, zl_gt, zl_eq, zl_le, zl_ge, zm_0, zaft_n, zaft_v, zb_eq, Decidable.not_not, H.K, H.A0, H.K1]
  rw [zn_i hk, e1, e9]
  refine ⟨fun q => ?_, fun q1 => ?_⟩
  · refine zc_w (m_refuse H 1) ?_
    simp only [r243_0, r243_1, r243_2, r243_4, r243_7, r243_10, r243_11, r243_12, r243_14, r243_17, r243_20, r243_21, r243_22, r243_25, r243_26, r243_27, r243_30, r243_31, r243_32, r243_34, r243_37, r243_38, r243_39, r243_42, r243_43, r243_44, r243_45, r243_46, r243_47, r243_49, r243_52, r243_53, r243_56, r243_57, r243_58, r243_61, r243_62, r243_63, r243_66, r243_67, r243_68, r243_69, r243_70, r243_71, r243_73, r243_76, r243_77, r243_78, r243_81, r243_82, r243_83, r243_84, r243_85, r243_88, znl_i, znl_r, znl_j, znl_l, List.length_cons, List.length_nil, Option.some.injEq, Sum.inl.injEq, Sum.inr.injEq, Prod.mk.injEq, true_and, and_true, exists_eq_left', zK_sI, zA_sI, zL_sI, zK_sL, zA_sL, zI_sL, zK_fI, zA_fI, zL_fI, zK_fL, zA_fL, zI_fL, Nat.reduceAdd, Nat.reduceLeDiff, forall_eq', zl_lt, zl_gt, zl_eq, zl_le, zl_ge, zm_0, zaft_n, zaft_v, zb_eq, Decidable.not_not, H.K, H.A0, H.K1]
    rw [s_put, if_pos (fun z => q z.1)]
    exact mQ_ref B 1 (-1)
  refine zc_w (m_isPlace x y z) ?_
  simp only [r243_0, r243_1, r243_2, r243_4, r243_7, r243_10, r243_11, r243_12, r243_14, r243_17, r243_20, r243_21, r243_22, r243_25, r243_26, r243_27, r243_30, r243_31, r243_32, r243_34, r243_37, r243_38, r243_39, r243_42, r243_43, r243_44, r243_45, r243_46, r243_47, r243_49, r243_52, r243_53, r243_56, r243_57, r243_58, r243_61, r243_62, r243_63, r243_66, r243_67, r243_68, r243_69, r243_70, r243_71, r243_73, r243_76, r243_77, r243_78, r243_81, r243_82, r243_83, r243_84, r243_85, r243_88, znl_i, znl_r, znl_j, znl_l, List.length_cons, List.length_nil, Option.some.injEq, Sum.inl.injEq, Sum.inr.injEq, Prod.mk.injEq, true_and, and_true, exists_eq_left', zK_sI, zA_sI, zL_sI, zK_sL, zA_sL, zI_sL, zK_fI, zA_fI, zL_fI, zK_fL, zA_fL, zI_fL, Nat.reduceAdd, Nat.reduceLeDiff, forall_eq', zl_lt, zl_gt, zl_eq, zl_le, zl_ge, zm_0, zaft_n, zaft_v, zb_eq, Decidable.not_not, H.K, H.A0, H.K1]
  rw [zn_i hx, zn_i hy, zn_i hz]
  refine ⟨fun q2 => ?_, fun q => ?_⟩
  case' refine_2 =>
    refine zc_w (m_refuse H 1) ?_
    simp only [r243_0, r243_1, r243_2, r243_4, r243_7, r243_10, r243_11, r243_12, r243_14, r243_17, r243_20, r243_21, r243_22, r243_25, r243_26, r243_27, r243_30, r243_31, r243_32, r243_34, r243_37, r243_38, r243_39, r243_42, r243_43, r243_44, r243_45, r243_46, r243_47, r243_49, r243_52, r243_53, r243_56, r243_57, r243_58, r243_61, r243_62, r243_63, r243_66, r243_67, r243_68, r243_69, r243_70, r243_71, r243_73, r243_76, r243_77, r243_78, r243_81, r243_82, r243_83, r243_84, r243_85, r243_88, znl_i, znl_r, znl_j, znl_l, List.length_cons, List.length_nil, Option.some.injEq, Sum.inl.injEq, Sum.inr.injEq, Prod.mk.injEq, true_and, and_true, exists_eq_left', zK_sI, zA_sI, zL_sI, zK_sL, zA_sL, zI_sL, zK_fI, zA_fI, zL_fI, zK_fL, zA_fL, zI_fL, Nat.reduceAdd, Nat.reduceLeDiff, forall_eq', zl_lt, zl_gt, zl_eq, zl_le, zl_ge, zm_0, zaft_n, zaft_v, zb_eq, Decidable.not_not, H.K, H.A0, H.K1]
    rw [s_put, if_pos (fun z => q z.2)]
    exact mQ_ref B 1 (-1)
  have hs : s_put s k x y z = if s.1.1 = 12 then (yst 4 s, -1) else if ¬ yatom s.1 x y z = -1 then (yst 5 s, -1) else (ydeed (s.1.1 + 1, yset s.1.1 (yat k x y z) s.1.2) s, (s.1.1 : Int)) := by
    rw [s_put, if_neg (fun z => z ⟨q1, q2⟩)]
  rw [hs]
  have a0 : zI h (a + 1) 0 = (s.1.1 : Int) := hF.2.1.1
  simp only [e0, Int.toNat_zero, a0, e12]
  rw [zn_b (x := (s.1.1 : Int)) (by omega) (by omega)]
  repeat (refine And.intro (by omega) ?_)
  refine ⟨fun q => ?_, fun q => ?_⟩
  · rw [if_neg (by omega)]
    refine zc_w (m_atomAt H 0 s.1 x y z (by omega) hF.2.1 hn hF.1.2.2.1 q2.1 q2.2.1 q2.2.2) ?_
    simp only [r243_0, r243_1, r243_2, r243_4, r243_7, r243_10, r243_11, r243_12, r243_14, r243_17, r243_20, r243_21, r243_22, r243_25, r243_26, r243_27, r243_30, r243_31, r243_32, r243_34, r243_37, r243_38, r243_39, r243_42, r243_43, r243_44, r243_45, r243_46, r243_47, r243_49, r243_52, r243_53, r243_56, r243_57, r243_58, r243_61, r243_62, r243_63, r243_66, r243_67, r243_68, r243_69, r243_70, r243_71, r243_73, r243_76, r243_77, r243_78, r243_81, r243_82, r243_83, r243_84, r243_85, r243_88, znl_i, znl_r, znl_j, znl_l, List.length_cons, List.length_nil, Option.some.injEq, Sum.inl.injEq, Sum.inr.injEq, Prod.mk.injEq, true_and, and_true, exists_eq_left', zK_sI, zA_sI, zL_sI, zK_sL, zA_sL, zI_sL, zK_fI, zA_fI, zL_fI, zK_fL, zA_fL, zI_fL, Nat.reduceAdd, Nat.reduceLeDiff, forall_eq', zl_lt, zl_gt, zl_eq, zl_le, zl_ge, zm_0, zaft_n, zaft_v, zb_eq, Decidable.not_not, H.K, H.A0, H.K1]
    have ba := yfind_bd (yplc s.1 x y z) s.1.1 0
    rw [em, zn_b (x := yatom s.1 x y z) (by show _ ≤ yfind _ _ _; omega) (by show yfind _ _ _ ≤ _; omega)]
    refine ⟨fun q3 => ?_, fun q3 => ?_⟩
    · rw [if_neg (fun z => z q3)]
      refine zc_mono (m_done B) ?_
      rintro _ _ ⟨rfl, A, f, rfl, hA, f1, f17, f18, f19, fo, ho⟩
      simp only [r243_0, r243_1, r243_2, r243_4, r243_7, r243_10, r243_11, r243_12, r243_14, r243_17, r243_20, r243_21, r243_22, r243_25, r243_26, r243_27, r243_30, r243_31, r243_32, r243_34, r243_37, r243_38, r243_39, r243_42, r243_43, r243_44, r243_45, r243_46, r243_47, r243_49, r243_52, r243_53, r243_56, r243_57, r243_58, r243_61, r243_62, r243_63, r243_66, r243_67, r243_68, r243_69, r243_70, r243_71, r243_73, r243_76, r243_77, r243_78, r243_81, r243_82, r243_83, r243_84, r243_85, r243_88, znl_i, znl_r, znl_j, znl_l, List.length_cons, List.length_nil, Option.some.injEq, Sum.inl.injEq, Sum.inr.injEq, Prod.mk.injEq, true_and, and_true, exists_eq_left', zK_sI, zA_sI, zL_sI, zK_sL, zA_sL, zI_sL, zK_fI, zA_fI, zL_fI, zK_fL, zA_fL, zI_fL, Nat.reduceAdd, Nat.reduceLeDiff, forall_eq', zl_lt, zl_gt, zl_eq, zl_le, zl_ge, zm_0, zaft_n, zaft_v, zb_eq, Decidable.not_not, H.K, H.A0, H.K1]
      refine zc_w (m_puts (h := zfI (zfI h a f) (a + 1) A) H 0 s.1.1 k x y z (by omega) (by omega) (by rw [zI_fI_s]; exact hA.2.1.1)) ?_
      simp only [r243_0, r243_1, r243_2, r243_4, r243_7, r243_10, r243_11, r243_12, r243_14, r243_17, r243_20, r243_21, r243_22, r243_25, r243_26, r243_27, r243_30, r243_31, r243_32, r243_34, r243_37, r243_38, r243_39, r243_42, r243_43, r243_44, r243_45, r243_46, r243_47, r243_49, r243_52, r243_53, r243_56, r243_57, r243_58, r243_61, r243_62, r243_63, r243_66, r243_67, r243_68, r243_69, r243_70, r243_71, r243_73, r243_76, r243_77, r243_78, r243_81, r243_82, r243_83, r243_84, r243_85, r243_88, znl_i, znl_r, znl_j, znl_l, List.length_cons, List.length_nil, Option.some.injEq, Sum.inl.injEq, Sum.inr.injEq, Prod.mk.injEq, true_and, and_true, exists_eq_left', zK_sI, zA_sI, zL_sI, zK_sL, zA_sL, zI_sL, zK_fI, zA_fI, zL_fI, zK_fL, zA_fL, zI_fL, Nat.reduceAdd, Nat.reduceLeDiff, forall_eq', zl_lt, zl_gt, zl_eq, zl_le, zl_ge, zm_0, zaft_n, zaft_v, zb_eq, Decidable.not_not, H.K, H.A0, H.K1]
      rw [zfI_fI, zI_fI_s, zI_fI_s]
      have p0 : yputs A 0 s.1.1 (yat k x y z) 0 = (s.1.1 : Int) + 1 := by simp only [yputs, if_true]; rw [hA.2.1.1]
      simp only [e0, Int.toNat_zero, p0]
      repeat (refine And.intro (by omega) ?_)
      refine zc_w (m_gives (h := zfI (zfI h a f) (a + 1) _) H _) ?_
      simp only [r243_0, r243_1, r243_2, r243_4, r243_7, r243_10, r243_11, r243_12, r243_14, r243_17, r243_20, r243_21, r243_22, r243_25, r243_26, r243_27, r243_30, r243_31, r243_32, r243_34, r243_37, r243_38, r243_39, r243_42, r243_43, r243_44, r243_45, r243_46, r243_47, r243_49, r243_52, r243_53, r243_56, r243_57, r243_58, r243_61, r243_62, r243_63, r243_66, r243_67, r243_68, r243_69, r243_70, r243_71, r243_73, r243_76, r243_77, r243_78, r243_81, r243_82, r243_83, r243_84, r243_85, r243_88, znl_i, znl_r, znl_j, znl_l, List.length_cons, List.length_nil, Option.some.injEq, Sum.inl.injEq, Sum.inr.injEq, Prod.mk.injEq, true_and, and_true, exists_eq_left', zK_sI, zA_sI, zL_sI, zK_sL, zA_sL, zI_sL, zK_fI, zA_fI, zL_fI, zK_fL, zA_fL, zI_fL, Nat.reduceAdd, Nat.reduceLeDiff, forall_eq', zl_lt, zl_gt, zl_eq, zl_le, zl_ge, zm_0, zaft_n, zaft_v, zb_eq, Decidable.not_not, H.K, H.A0, H.K1]
      rw [show (s.1.1 : Int) + 1 - 1 = (s.1.1 : Int) by omega]
      exact mQ_deed B (mFr_cur hA (fun j hj => by simp only [yputs]; rw [if_neg (by omega), if_neg (by omega)]) (yW_add hF.1 (by omega) q1 q2.1 q2.2.1 q2.2.2 q3) (mF_puts hA.2.1)) f1 f17 f18 f19 fo
    · rw [if_pos q3]
      refine zc_w (m_refuse H 5) ?_
      simp only [r243_0, r243_1, r243_2, r243_4, r243_7, r243_10, r243_11, r243_12, r243_14, r243_17, r243_20, r243_21, r243_22, r243_25, r243_26, r243_27, r243_30, r243_31, r243_32, r243_34, r243_37, r243_38, r243_39, r243_42, r243_43, r243_44, r243_45, r243_46, r243_47, r243_49, r243_52, r243_53, r243_56, r243_57, r243_58, r243_61, r243_62, r243_63, r243_66, r243_67, r243_68, r243_69, r243_70, r243_71, r243_73, r243_76, r243_77, r243_78, r243_81, r243_82, r243_83, r243_84, r243_85, r243_88, znl_i, znl_r, znl_j, znl_l, List.length_cons, List.length_nil, Option.some.injEq, Sum.inl.injEq, Sum.inr.injEq, Prod.mk.injEq, true_and, and_true, exists_eq_left', zK_sI, zA_sI, zL_sI, zK_sL, zA_sL, zI_sL, zK_fI, zA_fI, zL_fI, zK_fL, zA_fL, zI_fL, Nat.reduceAdd, Nat.reduceLeDiff, forall_eq', zl_lt, zl_gt, zl_eq, zl_le, zl_ge, zm_0, zaft_n, zaft_v, zb_eq, Decidable.not_not, H.K, H.A0, H.K1]
      exact mQ_ref B 5 (-1)
  · rw [if_pos (by omega)]
    refine zc_w (m_refuse H 4) ?_
    simp only [r243_0, r243_1, r243_2, r243_4, r243_7, r243_10, r243_11, r243_12, r243_14, r243_17, r243_20, r243_21, r243_22, r243_25, r243_26, r243_27, r243_30, r243_31, r243_32, r243_34, r243_37, r243_38, r243_39, r243_42, r243_43, r243_44, r243_45, r243_46, r243_47, r243_49, r243_52, r243_53, r243_56, r243_57, r243_58, r243_61, r243_62, r243_63, r243_66, r243_67, r243_68, r243_69, r243_70, r243_71, r243_73, r243_76, r243_77, r243_78, r243_81, r243_82, r243_83, r243_84, r243_85, r243_88, znl_i, znl_r, znl_j, znl_l, List.length_cons, List.length_nil, Option.some.injEq, Sum.inl.injEq, Sum.inr.injEq, Prod.mk.injEq, true_and, and_true, exists_eq_left', zK_sI, zA_sI, zL_sI, zK_sL, zA_sL, zI_sL, zK_fI, zA_fI, zL_fI, zK_fL, zA_fL, zI_fL, Nat.reduceAdd, Nat.reduceLeDiff, forall_eq', zl_lt, zl_gt, zl_eq, zl_le, zl_ge, zm_0, zaft_n, zaft_v, zb_eq, Decidable.not_not, H.K, H.A0, H.K1]
    exact mQ_ref B 4 (-1)
end
