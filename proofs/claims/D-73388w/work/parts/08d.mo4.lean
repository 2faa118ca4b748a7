/-! ===== the reference: images, distances, fractions ===== -/
def yplaced (F : yF) : Prop := ∀ k, k < F.1 → ∀ i, 1 ≤ i → i < 4 → -50 ≤ F.2 k i ∧ F.2 k i ≤ 50
theorem yimg_bd {w : Nat} {q : Nat → Int} {i : Nat} (hi : 1 ≤ i) (hi4 : i < 4) (hq : ∀ i, 1 ≤ i → i < 4 → -50 ≤ q i ∧ q i ≤ 50) : -50 ≤ yimg w q i ∧ yimg w q i ≤ 50 := by
  have h1 := hq 1 (by omega) (by omega)
  have h2 := hq 2 (by omega) (by omega)
  have h3 := hq 3 (by omega) (by omega)
  have hi' : i = 1 ∨ i = 2 ∨ i = 3 := by omega
  simp only [yimg]
  rcases hi' with rfl | rfl | rfl <;> repeat' split
  all_goals omega
/-- the image of atom k is where no atom is -/
def ynew (w : Nat) (F : yF) (k : Nat) : Bool := decide (yatom F (yimg w (F.2 k) 1) (yimg w (F.2 k) 2) (yimg w (F.2 k) 3) = -1)
def yimaged (w : Nat) (F : yF) (k : Nat) : yF := (F.1 + 1, yset F.1 (yat (F.2 k 0) (yimg w (F.2 k) 1) (yimg w (F.2 k) 2) (yimg w (F.2 k) 3)) F.2)
def ygrow (w : Nat) : Nat → Nat → yF → yF
  | 0, _, F => F
  | j + 1, k, F => if ynew w F k then ygrow w j (k + 1) (yimaged w F k) else ygrow w j (k + 1) F
theorem ygrow_t {w j k : Nat} {F : yF} (h : ynew w F k = true) : ygrow w (j + 1) k F = ygrow w j (k + 1) (yimaged w F k) := by simp [ygrow, h]
theorem ygrow_f {w j k : Nat} {F : yF} (h : ynew w F k = false) : ygrow w (j + 1) k F = ygrow w j (k + 1) F := by simp [ygrow, h]
theorem ygrow_le (w j k : Nat) (F : yF) : F.1 ≤ (ygrow w j k F).1 := by
  induction j generalizing k F with
  | zero => exact Nat.le_refl _
  | succ j ih =>
    cases hq : ynew w F k with
    | true => rw [ygrow_t hq]; exact Nat.le_trans (Nat.le_succ _) (ih (k + 1) (yimaged w F k))
    | false => rw [ygrow_f hq]; exact ih (k + 1) F
theorem yimaged_pl {w k : Nat} {F : yF} (hk : k < F.1) (h : yplaced F) : yplaced (yimaged w F k) := by
  intro j hj i hi hi4
  simp only [yimaged, yset]
  by_cases q : j = F.1
  · rw [if_pos q]
    have b1 := yimg_bd (w := w) (i := 1) (by omega) (by omega) (h k hk)
    have b2 := yimg_bd (w := w) (i := 2) (by omega) (by omega) (h k hk)
    have b3 := yimg_bd (w := w) (i := 3) (by omega) (by omega) (h k hk)
    have hi' : i = 1 ∨ i = 2 ∨ i = 3 := by omega
    rcases hi' with rfl | rfl | rfl <;> assumption
  · rw [if_neg q]
    have : j < F.1 + 1 := hj
    exact h j (by omega) i hi hi4
theorem ycnt_s (q : Nat → Bool) (n : Nat) : ycnt q (n + 1) = ycnt q n + (if q n then 1 else 0) := rfl
section
variable {e : zEv} {a d : Nat} {h : zH}
theorem mF_img {A : Nat → Int} {f k w i : Nat} {F : yF} (hk : k < F.1) (hi : 1 ≤ i) (hi4 : i < 4) (hF : mF A f F) : yimg w (fun j => A (f + 4 + 4 * k + j)) i = yimg w (F.2 k) i := by
  have e1 := hF.2 k hk 1 (by omega)
  have e2 := hF.2 k hk 2 (by omega)
  have e3 := hF.2 k hk 3 (by omega)
  have hi' : i = 1 ∨ i = 2 ∨ i = 3 := by omega
  simp only [yimg]
  rcases hi' with rfl | rfl | rfl <;> simp [e1, e2, e3]
theorem m_images0 (H : zmo e a h) (f w : Nat) (F : yF) (hf : f ≤ 416) (hw : w ≤ 7) (hF : mF (zI h (a + 1)) f F) (hn : F.1 ≤ 12) (hp : yplaced F) : zc e (d + 2) 226 [zr (some a), zi f, zi w, zi 0] h (fun o h' => o = Sum.inl (some (zi (ycnt (ynew w F) F.1))) ∧ h' = h) := by
  have loop : ∀ (j k : Nat) (u1 u2 u3 u4 : zV), k + j = F.1 → zg e 226 (d + 1) 14 [zr (some a), zi f, zi w, zi 0, zi (ycnt (ynew w F) k), zi F.1, zi k, u1, u2, u3, u4] [] h (fun o h' => o = Sum.inl (some (zi (ycnt (ynew w F) F.1))) ∧ h' = h) := by
    intro j
    induction j with
    | zero =>
      intro k u1 u2 u3 u4 hk
      obtain rfl : k = F.1 := by omega
      rw [r226_14]
      simp only [r226_0, r226_1, r226_3, r226_4, r226_7, r226_8, r226_9, r226_11, r226_12, r226_16, r226_18, r226_21, r226_22, r226_23, r226_24, r226_25, r226_27, r226_28, r226_29, r226_31, r226_32, r226_34, r226_35, r226_36, r226_39, r226_41, r226_42, r226_44, r226_45, r226_46, r226_49, r226_51, r226_52, r226_54, r226_55, r226_56, r226_59, r226_61, r226_62, r226_63, r226_65, r226_67, r226_69, r226_72, r226_73, r226_76, r226_79, r226_82, r226_83, r226_86, r226_87, r226_88, r226_89, r226_92, r226_94, r226_95, r226_97, r226_99, r226_101, r226_104, r226_107, r226_110, r226_112, znl_i, znl_r, znl_j, znl_l, List.length_cons, List.length_nil, Option.some.injEq, Sum.inl.injEq, Sum.inr.injEq, Prod.mk.injEq, true_and, and_true, exists_eq_left', zK_sI, zA_sI, zL_sI, zK_sL, zA_sL, zI_sL, zK_fI, zA_fI, zL_fI, zK_fL, zA_fL, zI_fL, Nat.reduceAdd, Nat.reduceLeDiff, forall_eq', zl_lt, zl_gt, zl_eq, zl_le, zl_ge, zm_0, zaft_n, zaft_v, zb_eq, Decidable.not_not, H.K, H.A0, H.K1]
      simp (disch := omega) only [zn_b, zm_b, Int.toNat_natCast]
      exact ⟨fun _ => trivial, fun z => by omega⟩
    | succ j ih =>
      intro k u1 u2 u3 u4 hk
      have hkn : k < F.1 := by omega
      have bc := ycnt_bd (ynew w F) k
      rw [r226_14]
      simp only [r226_0, r226_1, r226_3, r226_4, r226_7, r226_8, r226_9, r226_11, r226_12, r226_16, r226_18, r226_21, r226_22, r226_23, r226_24, r226_25, r226_27, r226_28, r226_29, r226_31, r226_32, r226_34, r226_35, r226_36, r226_39, r226_41, r226_42, r226_44, r226_45, r226_46, r226_49, r226_51, r226_52, r226_54, r226_55, r226_56, r226_59, r226_61, r226_62, r226_63, r226_65, r226_67, r226_69, r226_72, r226_73, r226_76, r226_79, r226_82, r226_83, r226_86, r226_87, r226_88, r226_89, r226_92, r226_94, r226_95, r226_97, r226_99, r226_101, r226_104, r226_107, r226_110, r226_112, znl_i, znl_r, znl_j, znl_l, List.length_cons, List.length_nil, Option.some.injEq, Sum.inl.injEq, Sum.inr.injEq, Prod.mk.injEq, true_and, and_true, exists_eq_left', zK_sI, zA_sI, zL_sI, zK_sL, zA_sL, zI_sL, zK_fI, zA_fI, zL_fI, zK_fL, zA_fL, zI_fL, Nat.reduceAdd, Nat.reduceLeDiff, forall_eq', zl_lt, zl_gt, zl_eq, zl_le, zl_ge, zm_0, zaft_n, zaft_v, zb_eq, Decidable.not_not, H.K, H.A0, H.K1]
      simp (disch := omega) only [zn_b, zm_b, Int.toNat_natCast]
      refine ⟨fun z => by omega, fun _ => ?_⟩
      have cast : (f : Int) + 4 + 4 * (k : Int) = ((f + 4 + 4 * k : Nat) : Int) := by omega
      rw [cast]
      refine zc_mono (m_imageOf H (f + 4 + 4 * k) w 1 (by omega) hw (by omega) (by omega)) ?_
      rintro _ _ ⟨rfl, rfl⟩
      simp only [r226_0, r226_1, r226_3, r226_4, r226_7, r226_8, r226_9, r226_11, r226_12, r226_16, r226_18, r226_21, r226_22, r226_23, r226_24, r226_25, r226_27, r226_28, r226_29, r226_31, r226_32, r226_34, r226_35, r226_36, r226_39, r226_41, r226_42, r226_44, r226_45, r226_46, r226_49, r226_51, r226_52, r226_54, r226_55, r226_56, r226_59, r226_61, r226_62, r226_63, r226_65, r226_67, r226_69, r226_72, r226_73, r226_76, r226_79, r226_82, r226_83, r226_86, r226_87, r226_88, r226_89, r226_92, r226_94, r226_95, r226_97, r226_99, r226_101, r226_104, r226_107, r226_110, r226_112, znl_i, znl_r, znl_j, znl_l, List.length_cons, List.length_nil, Option.some.injEq, Sum.inl.injEq, Sum.inr.injEq, Prod.mk.injEq, true_and, and_true, exists_eq_left', zK_sI, zA_sI, zL_sI, zK_sL, zA_sL, zI_sL, zK_fI, zA_fI, zL_fI, zK_fL, zA_fL, zI_fL, Nat.reduceAdd, Nat.reduceLeDiff, forall_eq', zl_lt, zl_gt, zl_eq, zl_le, zl_ge, zm_0, zaft_n, zaft_v, zb_eq, Decidable.not_not, H.K, H.A0, H.K1]
      refine zc_mono (m_imageOf H (f + 4 + 4 * k) w 2 (by omega) hw (by omega) (by omega)) ?_
      rintro _ _ ⟨rfl, rfl⟩
      simp only [r226_0, r226_1, r226_3, r226_4, r226_7, r226_8, r226_9, r226_11, r226_12, r226_16, r226_18, r226_21, r226_22, r226_23, r226_24, r226_25, r226_27, r226_28, r226_29, r226_31, r226_32, r226_34, r226_35, r226_36, r226_39, r226_41, r226_42, r226_44, r226_45, r226_46, r226_49, r226_51, r226_52, r226_54, r226_55, r226_56, r226_59, r226_61, r226_62, r226_63, r226_65, r226_67, r226_69, r226_72, r226_73, r226_76, r226_79, r226_82, r226_83, r226_86, r226_87, r226_88, r226_89, r226_92, r226_94, r226_95, r226_97, r226_99, r226_101, r226_104, r226_107, r226_110, r226_112, znl_i, znl_r, znl_j, znl_l, List.length_cons, List.length_nil, Option.some.injEq, Sum.inl.injEq, Sum.inr.injEq, Prod.mk.injEq, true_and, and_true, exists_eq_left', zK_sI, zA_sI, zL_sI, zK_sL, zA_sL, zI_sL, zK_fI, zA_fI, zL_fI, zK_fL, zA_fL, zI_fL, Nat.reduceAdd, Nat.reduceLeDiff, forall_eq', zl_lt, zl_gt, zl_eq, zl_le, zl_ge, zm_0, zaft_n, zaft_v, zb_eq, Decidable.not_not, H.K, H.A0, H.K1]
      refine zc_mono (m_imageOf H (f + 4 + 4 * k) w 3 (by omega) hw (by omega) (by omega)) ?_
      rintro _ _ ⟨rfl, rfl⟩
      simp only [r226_0, r226_1, r226_3, r226_4, r226_7, r226_8, r226_9, r226_11, r226_12, r226_16, r226_18, r226_21, r226_22, r226_23, r226_24, r226_25, r226_27, r226_28, r226_29, r226_31, r226_32, r226_34, r226_35, r226_36, r226_39, r226_41, r226_42, r226_44, r226_45, r226_46, r226_49, r226_51, r226_52, r226_54, r226_55, r226_56, r226_59, r226_61, r226_62, r226_63, r226_65, r226_67, r226_69, r226_72, r226_73, r226_76, r226_79, r226_82, r226_83, r226_86, r226_87, r226_88, r226_89, r226_92, r226_94, r226_95, r226_97, r226_99, r226_101, r226_104, r226_107, r226_110, r226_112, znl_i, znl_r, znl_j, znl_l, List.length_cons, List.length_nil, Option.some.injEq, Sum.inl.injEq, Sum.inr.injEq, Prod.mk.injEq, true_and, and_true, exists_eq_left', zK_sI, zA_sI, zL_sI, zK_sL, zA_sL, zI_sL, zK_fI, zA_fI, zL_fI, zK_fL, zA_fL, zI_fL, Nat.reduceAdd, Nat.reduceLeDiff, forall_eq', zl_lt, zl_gt, zl_eq, zl_le, zl_ge, zm_0, zaft_n, zaft_v, zb_eq, Decidable.not_not, H.K, H.A0, H.K1]
      rw [mF_img hkn (by omega) (by omega) hF, mF_img hkn (by omega) (by omega) hF, mF_img hkn (by omega) (by omega) hF]
      refine zc_mono (m_atomAt H f F _ _ _ hf hF hn hp (yimg_bd (by omega) (by omega) (hp k hkn)) (yimg_bd (by omega) (by omega) (hp k hkn)) (yimg_bd (by omega) (by omega) (hp k hkn))) ?_
      rintro _ _ ⟨rfl, rfl⟩
      simp only [r226_0, r226_1, r226_3, r226_4, r226_7, r226_8, r226_9, r226_11, r226_12, r226_16, r226_18, r226_21, r226_22, r226_23, r226_24, r226_25, r226_27, r226_28, r226_29, r226_31, r226_32, r226_34, r226_35, r226_36, r226_39, r226_41, r226_42, r226_44, r226_45, r226_46, r226_49, r226_51, r226_52, r226_54, r226_55, r226_56, r226_59, r226_61, r226_62, r226_63, r226_65, r226_67, r226_69, r226_72, r226_73, r226_76, r226_79, r226_82, r226_83, r226_86, r226_87, r226_88, r226_89, r226_92, r226_94, r226_95, r226_97, r226_99, r226_101, r226_104, r226_107, r226_110, r226_112, znl_i, znl_r, znl_j, znl_l, List.length_cons, List.length_nil, Option.some.injEq, Sum.inl.injEq, Sum.inr.injEq, Prod.mk.injEq, true_and, and_true, exists_eq_left', zK_sI, zA_sI, zL_sI, zK_sL, zA_sL, zI_sL, zK_fI, zA_fI, zL_fI, zK_fL, zA_fL, zI_fL, Nat.reduceAdd, Nat.reduceLeDiff, forall_eq', zl_lt, zl_gt, zl_eq, zl_le, zl_ge, zm_0, zaft_n, zaft_v, zb_eq, Decidable.not_not, H.K, H.A0, H.K1]
      have ba := yfind_bd (yplc F (yimg w (F.2 k) 1) (yimg w (F.2 k) 2) (yimg w (F.2 k) 3)) F.1 0
      have e0 : zn (-1) = -1 := by decide
      have e00 : zn 0 = 0 := by decide
      simp only [e0, e00]
      rw [zn_b (x := yatom _ _ _ _) (by show _ ≤ yfind _ _ _; omega) (by show yfind _ _ _ ≤ _; omega)]
      refine ⟨fun q => ⟨fun _ => ?_, fun z => absurd trivial z⟩, fun q => ?_⟩
      · have e1 : ycnt (ynew w F) k + 1 = ycnt (ynew w F) (k + 1) := by rw [ycnt_s]; simp [ynew, q]
        rw [e1]
        exact ih (k + 1) _ _ _ _ (by omega)
      · have e1 : ycnt (ynew w F) k = ycnt (ynew w F) (k + 1) := by rw [ycnt_s]; simp [ynew, q]
        rw [e1]
        exact ih (k + 1) _ _ _ _ (by omega)
  simp only [n226, r226_0, r226_1, r226_3, r226_4, r226_7, r226_8, r226_9, r226_11, r226_12, r226_16, r226_18, r226_21, r226_22, r226_23, r226_24, r226_25, r226_27, r226_28, r226_29, r226_31, r226_32, r226_34, r226_35, r226_36, r226_39, r226_41, r226_42, r226_44, r226_45, r226_46, r226_49, r226_51, r226_52, r226_54, r226_55, r226_56, r226_59, r226_61, r226_62, r226_63, r226_65, r226_67, r226_69, r226_72, r226_73, r226_76, r226_79, r226_82, r226_83, r226_86, r226_87, r226_88, r226_89, r226_92, r226_94, r226_95, r226_97, r226_99, r226_101, r226_104, r226_107, r226_110, r226_112, znl_i, znl_r, znl_j, znl_l, List.length_cons, List.length_nil, Option.some.injEq, Sum.inl.injEq, Sum.inr.injEq, Prod.mk.injEq, true_and, and_true, exists_eq_left', zK_sI, zA_sI, zL_sI, zK_sL, zA_sL, zI_sL, zK_fI, zA_fI, zL_fI, zK_fL, zA_fL, zI_fL, Nat.reduceAdd, Nat.reduceLeDiff, forall_eq', zl_lt, zl_gt, zl_eq, zl_le, zl_ge, zm_0, zaft_n, zaft_v, zb_eq, Decidable.not_not, H.K, H.A0, H.K1]
  simp (disch := omega) only [zn_b, Int.toNat_natCast, hF.1]
  repeat (refine And.intro (by omega) ?_)
  exact loop F.1 0 _ _ _ _ (by omega)
theorem m_images1 (H : zmo e a h) (f w : Nat) (F : yF) (hf : f ≤ 416) (hw : w ≤ 7) (hF : mF (zI h (a + 1)) f F) (hp : yplaced F) (hn : (ygrow w F.1 0 F).1 ≤ 12) : zc e (d + 2) 226 [zr (some a), zi f, zi w, zi 1] h (fun o h' => o = Sum.inl (some (zi ((ygrow w F.1 0 F).1 - F.1 : Int))) ∧ ∃ A, h' = zfI h (a + 1) A ∧ mF A f (ygrow w F.1 0 F) ∧ ∀ j, j < f ∨ f + 52 ≤ j → A j = zI h (a + 1) j) := by
  have loop : ∀ (j k : Nat) (E : yF) (A : Nat → Int) (u1 u2 u3 u4 : zV), k + j = F.1 → F.1 ≤ E.1 → yplaced E → mF A f E → (ygrow w j k E).1 ≤ 12 → (∀ j, j < f ∨ f + 52 ≤ j → A j = zI h (a + 1) j) → zg e 226 (d + 1) 14 [zr (some a), zi f, zi w, zi 1, zi ((E.1 : Int) - F.1), zi F.1, zi k, u1, u2, u3, u4] [] (zfI h (a + 1) A) (fun o h' => o = Sum.inl (some (zi ((ygrow w j k E).1 - F.1 : Int))) ∧ ∃ A, h' = zfI h (a + 1) A ∧ mF A f (ygrow w j k E) ∧ ∀ j, j < f ∨ f + 52 ≤ j → A j = zI h (a + 1) j) := by
    intro j
    induction j with
    | zero =>
      intro k E A u1 u2 u3 u4 hk hE hpE hA hn12 hout
      obtain rfl : k = F.1 := by omega
      have hn9 : E.1 ≤ 12 := hn12
      rw [r226_14]
      simp only [r226_0, r226_1, r226_3, r226_4, r226_7, r226_8, r226_9, r226_11, r226_12, r226_16, r226_18, r226_21, r226_22, r226_23, r226_24, r226_25, r226_27, r226_28, r226_29, r226_31, r226_32, r226_34, r226_35, r226_36, r226_39, r226_41, r226_42, r226_44, r226_45, r226_46, r226_49, r226_51, r226_52, r226_54, r226_55, r226_56, r226_59, r226_61, r226_62, r226_63, r226_65, r226_67, r226_69, r226_72, r226_73, r226_76, r226_79, r226_82, r226_83, r226_86, r226_87, r226_88, r226_89, r226_92, r226_94, r226_95, r226_97, r226_99, r226_101, r226_104, r226_107, r226_110, r226_112, znl_i, znl_r, znl_j, znl_l, List.length_cons, List.length_nil, Option.some.injEq, Sum.inl.injEq, Sum.inr.injEq, Prod.mk.injEq, true_and, and_true, exists_eq_left', zK_sI, zA_sI, zL_sI, zK_sL, zA_sL, zI_sL, zK_fI, zA_fI, zL_fI, zK_fL, zA_fL, zI_fL, Nat.reduceAdd, Nat.reduceLeDiff, forall_eq', zl_lt, zl_gt, zl_eq, zl_le, zl_ge, zm_0, zaft_n, zaft_v, zb_eq, Decidable.not_not, H.K, H.A0, H.K1]
      simp (disch := omega) only [zn_b, zm_b, Int.toNat_natCast]
      exact ⟨fun _ => ⟨rfl, A, rfl, hA, hout⟩, fun z => by omega⟩
    | succ j ih =>
      intro k E A u1 u2 u3 u4 hk hE hpE hA hn12 hout
      have hkn : k < E.1 := by omega
      have hle : E.1 ≤ 12 := Nat.le_trans (ygrow_le w (j + 1) k E) hn12
      have H1 : zmo e a (zfI h (a + 1) A) := H
      have hF1 : mF (zI (zfI h (a + 1) A) (a + 1)) f E := by rw [zI_fI_s]; exact hA
      rw [r226_14]
      simp only [r226_0, r226_1, r226_3, r226_4, r226_7, r226_8, r226_9, r226_11, r226_12, r226_16, r226_18, r226_21, r226_22, r226_23, r226_24, r226_25, r226_27, r226_28, r226_29, r226_31, r226_32, r226_34, r226_35, r226_36, r226_39, r226_41, r226_42, r226_44, r226_45, r226_46, r226_49, r226_51, r226_52, r226_54, r226_55, r226_56, r226_59, r226_61, r226_62, r226_63, r226_65, r226_67, r226_69, r226_72, r226_73, r226_76, r226_79, r226_82, r226_83, r226_86, r226_87, r226_88, r226_89, r226_92, r226_94, r226_95, r226_97, r226_99, r226_101, r226_104, r226_107, r226_110, r226_112, znl_i, znl_r, znl_j, znl_l, List.length_cons, List.length_nil, Option.some.injEq, Sum.inl.injEq, Sum.inr.injEq, Prod.mk.injEq, true_and, and_true, exists_eq_left', zK_sI, zA_sI, zL_sI, zK_sL, zA_sL, zI_sL, zK_fI, zA_fI, zL_fI, zK_fL, zA_fL, zI_fL, Nat.reduceAdd, Nat.reduceLeDiff, forall_eq', zl_lt, zl_gt, zl_eq, zl_le, zl_ge, zm_0, zaft_n, zaft_v, zb_eq, Decidable.not_not, H.K, H.A0, H.K1]
      simp (disch := omega) only [zn_b, zm_b, Int.toNat_natCast]
      refine ⟨fun z => by omega, fun _ => ?_⟩
      have cast : (f : Int) + 4 + 4 * (k : Int) = ((f + 4 + 4 * k : Nat) : Int) := by omega
      rw [cast]
      refine zc_mono (m_imageOf H1 (f + 4 + 4 * k) w 1 (by omega) hw (by omega) (by omega)) ?_
      rintro _ _ ⟨rfl, rfl⟩
      simp only [r226_0, r226_1, r226_3, r226_4, r226_7, r226_8, r226_9, r226_11, r226_12, r226_16, r226_18, r226_21, r226_22, r226_23, r226_24, r226_25, r226_27, r226_28, r226_29, r226_31, r226_32, r226_34, r226_35, r226_36, r226_39, r226_41, r226_42, r226_44, r226_45, r226_46, r226_49, r226_51, r226_52, r226_54, r226_55, r226_56, r226_59, r226_61, r226_62, r226_63, r226_65, r226_67, r226_69, r226_72, r226_73, r226_76, r226_79, r226_82, r226_83, r226_86, r226_87, r226_88, r226_89, r226_92, r226_94, r226_95, r226_97, r226_99, r226_101, r226_104, r226_107, r226_110, r226_112, znl_i, znl_r, znl_j, znl_l, List.length_cons, List.length_nil, Option.some.injEq, Sum.inl.injEq, Sum.inr.injEq, Prod.mk.injEq, true_and, and_true, exists_eq_left', zK_sI, zA_sI, zL_sI, zK_sL, zA_sL, zI_sL, zK_fI, zA_fI, zL_fI, zK_fL, zA_fL, zI_fL, Nat.reduceAdd, Nat.reduceLeDiff, forall_eq', zl_lt, zl_gt, zl_eq, zl_le, zl_ge, zm_0, zaft_n, zaft_v, zb_eq, Decidable.not_not, H.K, H.A0, H.K1]
      refine zc_mono (m_imageOf H1 (f + 4 + 4 * k) w 2 (by omega) hw (by omega) (by omega)) ?_
      rintro _ _ ⟨rfl, rfl⟩
      simp only [r226_0, r226_1, r226_3, r226_4, r226_7, r226_8, r226_9, r226_11, r226_12, r226_16, r226_18, r226_21, r226_22, r226_23, r226_24, r226_25, r226_27, r226_28, r226_29, r226_31, r226_32, r226_34, r226_35, r226_36, r226_39, r226_41, r226_42, r226_44, r226_45, r226_46, r226_49, r226_51, r226_52, r226_54, r226_55, r226_56, r226_59, r226_61, r226_62, r226_63, r226_65, r226_67, r226_69, r226_72, r226_73, r226_76, r226_79, r226_82, r226_83, r226_86, r226_87, r226_88, r226_89, r226_92, r226_94, r226_95, r226_97, r226_99, r226_101, r226_104, r226_107, r226_110, r226_112, znl_i, znl_r, znl_j, znl_l, List.length_cons, List.length_nil, Option.some.injEq, Sum.inl.injEq, Sum.inr.injEq, Prod.mk.injEq, true_and, and_true, exists_eq_left', zK_sI, zA_sI, zL_sI, zK_sL, zA_sL, zI_sL, zK_fI, zA_fI, zL_fI, zK_fL, zA_fL, zI_fL, Nat.reduceAdd, Nat.reduceLeDiff, forall_eq', zl_lt, zl_gt, zl_eq, zl_le, zl_ge, zm_0, zaft_n, zaft_v, zb_eq, Decidable.not_not, H.K, H.A0, H.K1]
      refine zc_mono (m_imageOf H1 (f + 4 + 4 * k) w 3 (by omega) hw (by omega) (by omega)) ?_
      rintro _ _ ⟨rfl, rfl⟩
      simp only [r226_0, r226_1, r226_3, r226_4, r226_7, r226_8, r226_9, r226_11, r226_12, r226_16, r226_18, r226_21, r226_22, r226_23, r226_24, r226_25, r226_27, r226_28, r226_29, r226_31, r226_32, r226_34, r226_35, r226_36, r226_39, r226_41, r226_42, r226_44, r226_45, r226_46, r226_49, r226_51, r226_52, r226_54, r226_55, r226_56, r226_59, r226_61, r226_62, r226_63, r226_65, r226_67, r226_69, r226_72, r226_73, r226_76, r226_79, r226_82, r226_83, r226_86, r226_87, r226_88, r226_89, r226_92, r226_94, r226_95, r226_97, r226_99, r226_101, r226_104, r226_107, r226_110, r226_112, znl_i, znl_r, znl_j, znl_l, List.length_cons, List.length_nil, Option.some.injEq, Sum.inl.injEq, Sum.inr.injEq, Prod.mk.injEq, true_and, and_true, exists_eq_left', zK_sI, zA_sI, zL_sI, zK_sL, zA_sL, zI_sL, zK_fI, zA_fI, zL_fI, zK_fL, zA_fL, zI_fL, Nat.reduceAdd, Nat.reduceLeDiff, forall_eq', zl_lt, zl_gt, zl_eq, zl_le, zl_ge, zm_0, zaft_n, zaft_v, zb_eq, Decidable.not_not, H.K, H.A0, H.K1]
      rw [mF_img hkn (by omega) (by omega) hF1, mF_img hkn (by omega) (by omega) hF1, mF_img hkn (by omega) (by omega) hF1]
      refine zc_mono (m_atomAt H1 f E _ _ _ hf hF1 hle hpE (yimg_bd (by omega) (by omega) (hpE k hkn)) (yimg_bd (by omega) (by omega) (hpE k hkn)) (yimg_bd (by omega) (by omega) (hpE k hkn))) ?_
      rintro _ _ ⟨rfl, rfl⟩
      simp only [r226_0, r226_1, r226_3, r226_4, r226_7, r226_8, r226_9, r226_11, r226_12, r226_16, r226_18, r226_21, r226_22, r226_23, r226_24, r226_25, r226_27, r226_28, r226_29, r226_31, r226_32, r226_34, r226_35, r226_36, r226_39, r226_41, r226_42, r226_44, r226_45, r226_46, r226_49, r226_51, r226_52, r226_54, r226_55, r226_56, r226_59, r226_61, r226_62, r226_63, r226_65, r226_67, r226_69, r226_72, r226_73, r226_76, r226_79, r226_82, r226_83, r226_86, r226_87, r226_88, r226_89, r226_92, r226_94, r226_95, r226_97, r226_99, r226_101, r226_104, r226_107, r226_110, r226_112, znl_i, znl_r, znl_j, znl_l, List.length_cons, List.length_nil, Option.some.injEq, Sum.inl.injEq, Sum.inr.injEq, Prod.mk.injEq, true_and, and_true, exists_eq_left', zK_sI, zA_sI, zL_sI, zK_sL, zA_sL, zI_sL, zK_fI, zA_fI, zL_fI, zK_fL, zA_fL, zI_fL, Nat.reduceAdd, Nat.reduceLeDiff, forall_eq', zl_lt, zl_gt, zl_eq, zl_le, zl_ge, zm_0, zaft_n, zaft_v, zb_eq, Decidable.not_not, H.K, H.A0, H.K1]
      have ba := yfind_bd (yplc E (yimg w (E.2 k) 1) (yimg w (E.2 k) 2) (yimg w (E.2 k) 3)) E.1 0
      have e0 : zn (-1) = -1 := by decide
      have e00 : zn 1 = 1 := by decide
      simp only [e0, e00]
      rw [zn_b (x := yatom _ _ _ _) (by show _ ≤ yfind _ _ _; omega) (by show yfind _ _ _ ≤ _; omega)]
      refine ⟨fun q => ⟨fun z => absurd z (by decide), fun _ => ?_⟩, fun q => ?_⟩
      · have hq : ynew w E k = true := decide_eq_true q
        rw [ygrow_t hq] at hn12 ⊢
        have hlt : E.1 < 12 := Nat.lt_of_lt_of_le (Nat.lt_of_lt_of_le (Nat.lt_succ_self _) (ygrow_le w j (k + 1) (yimaged w E k))) hn12
        rw [zn_b (x := ((f + 4 + 4 * k : Nat) : Int)) (by omega) (by omega), Int.toNat_natCast]
        repeat (refine And.intro (by omega) ?_)
        have k0 : zI (zfI h (a + 1) A) (a + 1) (f + 4 + 4 * k) = E.2 k 0 := by rw [zI_fI_s]; exact hA.2 k hkn 0 (by omega)
        rw [k0]
        refine zc_mono (m_puts H1 f E.1 _ _ _ _ hf hlt hF1.1) ?_
        rintro _ _ ⟨rfl, rfl⟩
        simp only [r226_0, r226_1, r226_3, r226_4, r226_7, r226_8, r226_9, r226_11, r226_12, r226_16, r226_18, r226_21, r226_22, r226_23, r226_24, r226_25, r226_27, r226_28, r226_29, r226_31, r226_32, r226_34, r226_35, r226_36, r226_39, r226_41, r226_42, r226_44, r226_45, r226_46, r226_49, r226_51, r226_52, r226_54, r226_55, r226_56, r226_59, r226_61, r226_62, r226_63, r226_65, r226_67, r226_69, r226_72, r226_73, r226_76, r226_79, r226_82, r226_83, r226_86, r226_87, r226_88, r226_89, r226_92, r226_94, r226_95, r226_97, r226_99, r226_101, r226_104, r226_107, r226_110, r226_112, znl_i, znl_r, znl_j, znl_l, List.length_cons, List.length_nil, Option.some.injEq, Sum.inl.injEq, Sum.inr.injEq, Prod.mk.injEq, true_and, and_true, exists_eq_left', zK_sI, zA_sI, zL_sI, zK_sL, zA_sL, zI_sL, zK_fI, zA_fI, zL_fI, zK_fL, zA_fL, zI_fL, Nat.reduceAdd, Nat.reduceLeDiff, forall_eq', zl_lt, zl_gt, zl_eq, zl_le, zl_ge, zm_0, zaft_n, zaft_v, zb_eq, Decidable.not_not, H.K, H.A0, H.K1]
        rw [zfI_fI, zI_fI_s]
        have nx := ih (k + 1) (yimaged w E k) (yputs A f E.1 (yat (E.2 k 0) (yimg w (E.2 k) 1) (yimg w (E.2 k) 2) (yimg w (E.2 k) 3))) (zi ((f + 4 + 4 * k : Nat) : Int)) (zi (yimg w (E.2 k) 1)) (zi (yimg w (E.2 k) 2)) (zi (yimg w (E.2 k) 3)) (by omega) (Nat.le_succ_of_le hE) (yimaged_pl hkn hpE) (mF_puts hA) hn12 (fun i hi => by
          simp only [yputs]; rw [if_neg (by omega), if_neg (by omega)]; exact hout i hi)
        have ec : ((yimaged w E k).1 : Int) - F.1 = (E.1 : Int) - F.1 + 1 := by simp only [yimaged]; omega
        rw [ec] at nx
        exact nx
      · have hq : ynew w E k = false := decide_eq_false q
        rw [ygrow_f hq] at hn12 ⊢
        exact ih (k + 1) E A _ _ _ _ (by omega) hE hpE hA hn12 hout
  have hle : F.1 ≤ 12 := Nat.le_trans (ygrow_le w F.1 0 F) hn
  simp only [n226, r226_0, r226_1, r226_3, r226_4, r226_7, r226_8, r226_9, r226_11, r226_12, r226_16, r226_18, r226_21, r226_22, r226_23, r226_24, r226_25, r226_27, r226_28, r226_29, r226_31, r226_32, r226_34, r226_35, r226_36, r226_39, r226_41, r226_42, r226_44, r226_45, r226_46, r226_49, r226_51, r226_52, r226_54, r226_55, r226_56, r226_59, r226_61, r226_62, r226_63, r226_65, r226_67, r226_69, r226_72, r226_73, r226_76, r226_79, r226_82, r226_83, r226_86, r226_87, r226_88, r226_89, r226_92, r226_94, r226_95, r226_97, r226_99, r226_101, r226_104, r226_107, r226_110, r226_112, znl_i, znl_r, znl_j, znl_l, List.length_cons, List.length_nil, Option.some.injEq, Sum.inl.injEq, Sum.inr.injEq, Prod.mk.injEq, true_and, and_true, exists_eq_left', zK_sI, zA_sI, zL_sI, zK_sL, zA_sL, zI_sL, zK_fI, zA_fI, zL_fI, zK_fL, zA_fL, zI_fL, Nat.reduceAdd, Nat.reduceLeDiff, forall_eq', zl_lt, zl_gt, zl_eq, zl_le, zl_ge, zm_0, zaft_n, zaft_v, zb_eq, Decidable.not_not, H.K, H.A0, H.K1]
  simp (disch := omega) only [zn_b, Int.toNat_natCast, hF.1]
  repeat (refine And.intro (by omega) ?_)
  have l0 := loop F.1 0 F (zI h (a + 1)) zj zj zj zj (by omega) (Nat.le_refl _) hp hF hn (fun _ _ => rfl)
  rw [zfI_id, Int.sub_self] at l0
  exact l0
end
