/-! ===== images: how many come ===== -/
theorem yimg_inj {w : Nat} {p q : Nat → Int} (hw : w ≤ 7) (h1 : yimg w p 1 = yimg w q 1) (h2 : yimg w p 2 = yimg w q 2) (h3 : yimg w p 3 = yimg w q 3) : p 1 = q 1 ∧ p 2 = q 2 ∧ p 3 = q 3 := by
  have hw' : w = 0 ∨ w = 1 ∨ w = 2 ∨ w = 3 ∨ w = 4 ∨ w = 5 ∨ w = 6 ∨ w = 7 := by omega
  rcases hw' with rfl | rfl | rfl | rfl | rfl | rfl | rfl | rfl <;> simp [yimg] at h1 h2 h3 <;> omega
/-- no atom is at a place -/
theorem yatom_none {F : yF} {x y z : Int} : yatom F x y z = -1 ↔ ∀ j, j < F.1 → ¬ (F.2 j 1 = x ∧ F.2 j 2 = y ∧ F.2 j 3 = z) := by
  rw [yatom, yfind_none]
  constructor
  · intro h j hj
    have := h j (Nat.zero_le _) (by omega)
    simpa [yplc] using this
  · intro h j _ hj
    have := h j (by omega)
    simpa [yplc] using this
/-- F, and images of its first k atoms -/
def yext (w : Nat) (F : yF) (k : Nat) (E : yF) : Prop := (E.1 : Int) = F.1 + ycnt (ynew w F) k ∧ (∀ j, j < F.1 → E.2 j = F.2 j) ∧ ∀ j, F.1 ≤ j → j < E.1 → ∃ i, i < k ∧ E.2 j = yat (F.2 i 0) (yimg w (F.2 i) 1) (yimg w (F.2 i) 2) (yimg w (F.2 i) 3)
theorem yext_new {w : Nat} {F E : yF} {k : Nat} (hF : yW F) (hw : w ≤ 7) (hk : k < F.1) (h : yext w F k E) : ynew w E k = ynew w F k := by
  have b := ycnt_bd (ynew w F) k
  obtain ⟨h1, h2, h3⟩ := h
  simp only [ynew]
  rw [h2 k hk]
  congr 1
  apply propext
  rw [yatom_none, yatom_none]
  constructor
  · intro q j hj
    have := q j (by omega)
    rw [h2 j hj] at this
    exact this
  · intro q j hj
    by_cases hjF : j < F.1
    · rw [h2 j hjF]; exact q j hjF
    · obtain ⟨i, hi, e⟩ := h3 j (by omega) hj
      rw [e]
      intro ⟨e1, e2, e3⟩
      have := yimg_inj hw e1 e2 e3
      have := hF.2.2.2 i k (by omega) hk this.1 this.2.1 this.2.2
      omega
theorem ygrow_ext {w : Nat} {F : yF} (hF : yW F) (hw : w ≤ 7) : ∀ (j k : Nat) (E : yF), k + j = F.1 → yext w F k E → yext w F F.1 (ygrow w j k E) := by
  intro j
  induction j with
  | zero => intro k E hk h; obtain rfl : k = F.1 := by omega
            exact h
  | succ j ih =>
    intro k E hk h
    have hn := yext_new hF hw (show k < F.1 by omega) h
    have b := ycnt_bd (ynew w F) k
    obtain ⟨h1, h2, h3⟩ := h
    cases hq : ynew w E k with
    | true =>
      rw [ygrow_t hq]
      refine ih (k + 1) _ (by omega) ⟨?_, fun i hi => ?_, fun i hi hi2 => ?_⟩
      · rw [ycnt_s, ← hn, hq]; simp only [yimaged, if_true]; omega
      · simp only [yimaged, yset]; rw [if_neg (by omega)]; exact h2 i hi
      · simp only [yimaged, yset] at hi2 ⊢
        by_cases q : i = E.1
        · rw [if_pos q, h2 k (by omega)]; exact ⟨k, by omega, rfl⟩
        · rw [if_neg q]
          obtain ⟨i2, hi3, e⟩ := h3 i hi (by omega)
          exact ⟨i2, by omega, e⟩
    | false =>
      rw [ygrow_f hq]
      refine ih (k + 1) _ (by omega) ⟨?_, h2, fun i hi hi2 => ?_⟩
      · rw [ycnt_s, ← hn, hq]; simp only [Bool.false_eq_true, if_false]; omega
      · obtain ⟨i2, hi3, e⟩ := h3 i hi hi2
        exact ⟨i2, by omega, e⟩
theorem ygrow_cnt {w : Nat} {F : yF} (hF : yW F) (hw : w ≤ 7) : ((ygrow w F.1 0 F).1 : Int) = F.1 + ycnt (ynew w F) F.1 :=
  (ygrow_ext hF hw F.1 0 F (by omega) ⟨by simp [ycnt], fun _ _ => rfl, fun j h1 h2 => by omega⟩).1
theorem ygrow_W {w : Nat} (hw : w ≤ 7) : ∀ (j k : Nat) (E : yF), k + j ≤ E.1 → yW E → (ygrow w j k E).1 ≤ 12 → yW (ygrow w j k E) := by
  intro j
  induction j with
  | zero => intro k E _ h _; exact h
  | succ j ih =>
    intro k E hk h h12
    cases hq : ynew w E k with
    | true =>
      rw [ygrow_t hq] at h12 ⊢
      have hlt : E.1 < 12 := Nat.lt_of_lt_of_le (Nat.lt_of_lt_of_le (Nat.lt_succ_self _) (ygrow_le w j (k + 1) (yimaged w E k))) h12
      have pk := h.2.2.1 k (by omega)
      exact ih (k + 1) _ (by simp only [yimaged]; omega) (yW_add h hlt (h.2.1 k (by omega)) (yimg_bd (by omega) (by omega) pk) (yimg_bd (by omega) (by omega) pk) (yimg_bd (by omega) (by omega) pk) (of_decide_eq_true hq)) h12
    | false =>
      rw [ygrow_f hq] at h12 ⊢
      exact ih (k + 1) _ (by omega) h h12
theorem mF_chF {A : Nat → Int} {f i : Nat} {F : yF} {t c : Int} (hi : 1 ≤ i) (hi4 : i < 4) (h : mF A f F) : mF (ychg A f i F.1 t c) f (ychF i t c F) := mF_chg (p := F.2) hi hi4 h
def s_image (s : yS) (w : Int) : yS × Int :=
  if ¬ (0 ≤ w ∧ w ≤ 7) then (yst 1 s, -1) else if ¬ (s.1.1 : Int) + ycnt (ynew w.toNat s.1) s.1.1 ≤ 12 then (yst 4 s, -1) else (ydeed (ygrow w.toNat s.1.1 0 s.1) s, ycnt (ynew w.toNat s.1) s.1.1)
section
variable {e : zEv} {a d : Nat} {h : zH} {s : yS}
theorem m_image (B : mB e a h s) (w : Int) (hw : yi w) : zc e (d + 3) 249 [zr (some a), zi w] h (mQ e a h s (s_image s w)) := by
  have H := B.1
  have hb := H.1
  have hF := B.2.1
  have hn := hF.1.1
  have e0 : zn 0 = 0 := by decide
  have e7 : zn 7 = 7 := by decide
  have e12 : zn 12 = 12 := by decide
  simp only [n249, r249_0, r249_1, r249_2, r249_4, r249_7, r249_10, r249_11, r249_12, r249_15, r249_16, r249_17, r249_18, r249_19, r249_20, r249_23, r249_24, r249_25, r249_28, r249_29, r249_30, r249_31, r249_32, r249_34, r249_37, r249_38, r249_39, r249_42, r249_43, r249_44, r249_47, r249_48, r249_49, r249_50, r249_51, r249_52, r249_55, r249_58, znl_i, znl_r, znl_j, znl_l, List.length_cons, List.length_nil, Option.some.injEq, Sum.inl.injEq, Sum.inr.injEq, Prod.mk.injEq, true_and, and_true, exists_eq_left', zK_sI, zA_sI, zL_sI, zK_sL, zA_sL, zI_sL, zK_fI, zA_fI, zL_fI, zK_fL, zA_fL, zI_fL, Nat.reduceAdd, Nat.reduceLeDiff, forall_eq', zl_lt, zl_gt, zl_eq, zl_le, zl_ge, zm_0, zaft_n, zaft_v, zb_eq, Decidable.not_not, H.K, H.A0, H.K1]
  refine zc_w (m_isFrom w 0 7) ?_
  simp only [r249_0, r249_1, r249_2, r249_4, r249_7, r249_10, r249_11, r249_12, r249_15, r249_16, r249_17, r249_18, r249_19, r249_20, r249_23, r249_24, r249_25, r249_28, r249_29, r249_30, r249_31, r249_32, r249_34, r249_37, r249_38, r249_39, r249_42, r249_43, r249_44, r249_47, r249_48, r249_49, r249_50, r249_51, r249_52, r249_55, r249_58, znl_i, znl_r, znl_j, znl_l, List.length_cons, List.length_nil, Option.some.injEq, Sum.inl.injEq, Sum.inr.injEq, Prod.mk.injEq, true_and, and_true, exists_eq_left', zK_sI, zA_sI, zL_sI, zK_sL, zA_sL, zI_sL, zK_fI, zA_fI, zL_fI, zK_fL, zA_fL, zI_fL, Nat.reduceAdd, Nat.reduceLeDiff, forall_eq', zl_lt, zl_gt, zl_eq, zl_le, zl_ge, zm_0, zaft_n, zaft_v, zb_eq, Decidable.not_not, H.K, H.A0, H.K1]
  rw [zn_i hw, e0, e7]
  refine ⟨fun q1 => ?_, fun q => ?_⟩
  case' refine_2 =>
    refine zc_w (m_refuse H 1) ?_
    simp only [r249_0, r249_1, r249_2, r249_4, r249_7, r249_10, r249_11, r249_12, r249_15, r249_16, r249_17, r249_18, r249_19, r249_20, r249_23, r249_24, r249_25, r249_28, r249_29, r249_30, r249_31, r249_32, r249_34, r249_37, r249_38, r249_39, r249_42, r249_43, r249_44, r249_47, r249_48, r249_49, r249_50, r249_51, r249_52, r249_55, r249_58, znl_i, znl_r, znl_j, znl_l, List.length_cons, List.length_nil, Option.some.injEq, Sum.inl.injEq, Sum.inr.injEq, Prod.mk.injEq, true_and, and_true, exists_eq_left', zK_sI, zA_sI, zL_sI, zK_sL, zA_sL, zI_sL, zK_fI, zA_fI, zL_fI, zK_fL, zA_fL, zI_fL, Nat.reduceAdd, Nat.reduceLeDiff, forall_eq', zl_lt, zl_gt, zl_eq, zl_le, zl_ge, zm_0, zaft_n, zaft_v, zb_eq, Decidable.not_not, H.K, H.A0, H.K1]
    rw [s_image, if_pos q]
    exact mQ_ref B 1 (-1)
  have hs : s_image s w = _ := if_neg (fun z => z q1)
  rw [hs]
  obtain ⟨n, rfl⟩ : ∃ n : Nat, w = (n : Int) := ⟨w.toNat, by omega⟩
  rw [Int.toNat_natCast]
  refine zc_w (m_images0 H 0 n s.1 (by omega) (by omega) hF.2.1 hn hF.1.2.2.1) ?_
  simp only [r249_0, r249_1, r249_2, r249_4, r249_7, r249_10, r249_11, r249_12, r249_15, r249_16, r249_17, r249_18, r249_19, r249_20, r249_23, r249_24, r249_25, r249_28, r249_29, r249_30, r249_31, r249_32, r249_34, r249_37, r249_38, r249_39, r249_42, r249_43, r249_44, r249_47, r249_48, r249_49, r249_50, r249_51, r249_52, r249_55, r249_58, znl_i, znl_r, znl_j, znl_l, List.length_cons, List.length_nil, Option.some.injEq, Sum.inl.injEq, Sum.inr.injEq, Prod.mk.injEq, true_and, and_true, exists_eq_left', zK_sI, zA_sI, zL_sI, zK_sL, zA_sL, zI_sL, zK_fI, zA_fI, zL_fI, zK_fL, zA_fL, zI_fL, Nat.reduceAdd, Nat.reduceLeDiff, forall_eq', zl_lt, zl_gt, zl_eq, zl_le, zl_ge, zm_0, zaft_n, zaft_v, zb_eq, Decidable.not_not, H.K, H.A0, H.K1]
  have a0 : zI h (a + 1) 0 = (s.1.1 : Int) := hF.2.1.1
  have bc := ycnt_bd (ynew n s.1) s.1.1
  simp only [e0, Int.toNat_zero, a0, e12]
  rw [zn_b (x := (s.1.1 : Int) + _) (by omega) (by omega)]
  repeat (refine And.intro (by omega) ?_)
  refine ⟨fun q2 => ?_, fun q2 => ?_⟩
  · rw [if_neg (by omega)]
    refine zc_mono (m_done B) ?_
    rintro _ _ ⟨rfl, A, f, rfl, hA, f1, f17, f18, f19, fo, ho⟩
    simp only [r249_0, r249_1, r249_2, r249_4, r249_7, r249_10, r249_11, r249_12, r249_15, r249_16, r249_17, r249_18, r249_19, r249_20, r249_23, r249_24, r249_25, r249_28, r249_29, r249_30, r249_31, r249_32, r249_34, r249_37, r249_38, r249_39, r249_42, r249_43, r249_44, r249_47, r249_48, r249_49, r249_50, r249_51, r249_52, r249_55, r249_58, znl_i, znl_r, znl_j, znl_l, List.length_cons, List.length_nil, Option.some.injEq, Sum.inl.injEq, Sum.inr.injEq, Prod.mk.injEq, true_and, and_true, exists_eq_left', zK_sI, zA_sI, zL_sI, zK_sL, zA_sL, zI_sL, zK_fI, zA_fI, zL_fI, zK_fL, zA_fL, zI_fL, Nat.reduceAdd, Nat.reduceLeDiff, forall_eq', zl_lt, zl_gt, zl_eq, zl_le, zl_ge, zm_0, zaft_n, zaft_v, zb_eq, Decidable.not_not, H.K, H.A0, H.K1]
    have gc := ygrow_cnt hF.1 (show n ≤ 7 by omega)
    refine zc_mono (m_images1 (h := zfI (zfI h a f) (a + 1) A) H 0 n s.1 (by omega) (by omega) (by rw [zI_fI_s]; exact hA.2.1) hF.1.2.2.1 (by omega)) ?_
    rintro _ _ ⟨rfl, A2, rfl, hm, hout⟩
    simp only [r249_0, r249_1, r249_2, r249_4, r249_7, r249_10, r249_11, r249_12, r249_15, r249_16, r249_17, r249_18, r249_19, r249_20, r249_23, r249_24, r249_25, r249_28, r249_29, r249_30, r249_31, r249_32, r249_34, r249_37, r249_38, r249_39, r249_42, r249_43, r249_44, r249_47, r249_48, r249_49, r249_50, r249_51, r249_52, r249_55, r249_58, znl_i, znl_r, znl_j, znl_l, List.length_cons, List.length_nil, Option.some.injEq, Sum.inl.injEq, Sum.inr.injEq, Prod.mk.injEq, true_and, and_true, exists_eq_left', zK_sI, zA_sI, zL_sI, zK_sL, zA_sL, zI_sL, zK_fI, zA_fI, zL_fI, zK_fL, zA_fL, zI_fL, Nat.reduceAdd, Nat.reduceLeDiff, forall_eq', zl_lt, zl_gt, zl_eq, zl_le, zl_ge, zm_0, zaft_n, zaft_v, zb_eq, Decidable.not_not, H.K, H.A0, H.K1]
    rw [zfI_fI, show ((ygrow n s.1.1 0 s.1).1 : Int) - s.1.1 = ycnt (ynew n s.1) s.1.1 by omega]
    refine zc_w (m_gives (h := zfI (zfI h a f) (a + 1) A2) H _) ?_
    simp only [r249_0, r249_1, r249_2, r249_4, r249_7, r249_10, r249_11, r249_12, r249_15, r249_16, r249_17, r249_18, r249_19, r249_20, r249_23, r249_24, r249_25, r249_28, r249_29, r249_30, r249_31, r249_32, r249_34, r249_37, r249_38, r249_39, r249_42, r249_43, r249_44, r249_47, r249_48, r249_49, r249_50, r249_51, r249_52, r249_55, r249_58, znl_i, znl_r, znl_j, znl_l, List.length_cons, List.length_nil, Option.some.injEq, Sum.inl.injEq, Sum.inr.injEq, Prod.mk.injEq, true_and, and_true, exists_eq_left', zK_sI, zA_sI, zL_sI, zK_sL, zA_sL, zI_sL, zK_fI, zA_fI, zL_fI, zK_fL, zA_fL, zI_fL, Nat.reduceAdd, Nat.reduceLeDiff, forall_eq', zl_lt, zl_gt, zl_eq, zl_le, zl_ge, zm_0, zaft_n, zaft_v, zb_eq, Decidable.not_not, H.K, H.A0, H.K1]
    exact mQ_deed B (mFr_cur hA (fun j hj => by rw [hout j (Or.inr (by omega)), zI_fI_s]) (ygrow_W (by omega) _ _ _ (by omega) hF.1 (by omega)) hm) f1 f17 f18 f19 fo
  · rw [if_pos (by omega)]
    refine zc_w (m_refuse H 4) ?_
    simp only [r249_0, r249_1, r249_2, r249_4, r249_7, r249_10, r249_11, r249_12, r249_15, r249_16, r249_17, r249_18, r249_19, r249_20, r249_23, r249_24, r249_25, r249_28, r249_29, r249_30, r249_31, r249_32, r249_34, r249_37, r249_38, r249_39, r249_42, r249_43, r249_44, r249_47, r249_48, r249_49, r249_50, r249_51, r249_52, r249_55, r249_58, znl_i, znl_r, znl_j, znl_l, List.length_cons, List.length_nil, Option.some.injEq, Sum.inl.injEq, Sum.inr.injEq, Prod.mk.injEq, true_and, and_true, exists_eq_left', zK_sI, zA_sI, zL_sI, zK_sL, zA_sL, zI_sL, zK_fI, zA_fI, zL_fI, zK_fL, zA_fL, zI_fL, Nat.reduceAdd, Nat.reduceLeDiff, forall_eq', zl_lt, zl_gt, zl_eq, zl_le, zl_ge, zm_0, zaft_n, zaft_v, zb_eq, Decidable.not_not, H.K, H.A0, H.K1]
    exact mQ_ref B 4 (-1)
theorem m_shift (B : mB e a h s) (x y z : Int) (hx : yi x) (hy : yi y) (hz : yi z) : zc e (d + 3) 250 [zr (some a), zi x, zi y, zi z] h (mQ e a h s (s_shift s x y z)) := by
  have H := B.1
  have hb := H.1
  have hF := B.2.1
  have hn := hF.1.1
  have em : zn (-100) = -100 := by decide
  have e100 : zn 100 = 100 := by decide
  have bad1 : s_shift s x y z = (yst 1 s, 0) → zg e 250 (d + 2) 33 [zr (some a), zi x, zi y, zi z] [] h (mQ e a h s (s_shift s x y z)) := fun hs => by
    simp only [r250_0, r250_1, r250_3, r250_5, r250_8, r250_11, r250_12, r250_14, r250_16, r250_19, r250_22, r250_23, r250_25, r250_27, r250_30, r250_33, r250_34, r250_35, r250_38, r250_39, r250_40, r250_41, r250_42, r250_43, r250_44, r250_47, r250_50, r250_51, r250_52, r250_53, r250_54, r250_55, r250_58, r250_61, r250_62, r250_63, r250_64, r250_65, r250_66, r250_69, r250_72, r250_73, r250_75, r250_78, r250_79, r250_80, r250_83, r250_84, r250_85, r250_86, r250_87, r250_88, r250_91, r250_92, r250_93, r250_94, r250_95, r250_96, r250_99, r250_100, r250_101, r250_102, r250_103, r250_104, r250_107, r250_108, r250_109, r250_112, znl_i, znl_r, znl_j, znl_l, List.length_cons, List.length_nil, Option.some.injEq, Sum.inl.injEq, Sum.inr.injEq, Prod.mk.injEq, true_and, and_true, exists_eq_left', zK_sI, zA_sI, zL_sI, zK_sL, zA_sL, zI_sL, zK_fI, zA_fI, zL_fI, zK_fL, zA_fL, zI_fL, Nat.reduceAdd, Nat.reduceLeDiff, forall_eq', zl_lt, zl_gt, zl_eq, zl_le, zl_ge, zm_0, zaft_n, zaft_v, zb_eq, Decidable.not_not, H.K]
    refine zc_w (m_is H 1 (by omega) (by omega)) ?_
    simp only [r250_0, r250_1, r250_3, r250_5, r250_8, r250_11, r250_12, r250_14, r250_16, r250_19, r250_22, r250_23, r250_25, r250_27, r250_30, r250_33, r250_34, r250_35, r250_38, r250_39, r250_40, r250_41, r250_42, r250_43, r250_44, r250_47, r250_50, r250_51, r250_52, r250_53, r250_54, r250_55, r250_58, r250_61, r250_62, r250_63, r250_64, r250_65, r250_66, r250_69, r250_72, r250_73, r250_75, r250_78, r250_79, r250_80, r250_83, r250_84, r250_85, r250_86, r250_87, r250_88, r250_91, r250_92, r250_93, r250_94, r250_95, r250_96, r250_99, r250_100, r250_101, r250_102, r250_103, r250_104, r250_107, r250_108, r250_109, r250_112, znl_i, znl_r, znl_j, znl_l, List.length_cons, List.length_nil, Option.some.injEq, Sum.inl.injEq, Sum.inr.injEq, Prod.mk.injEq, true_and, and_true, exists_eq_left', zK_sI, zA_sI, zL_sI, zK_sL, zA_sL, zI_sL, zK_fI, zA_fI, zL_fI, zK_fL, zA_fL, zI_fL, Nat.reduceAdd, Nat.reduceLeDiff, forall_eq', zl_lt, zl_gt, zl_eq, zl_le, zl_ge, zm_0, zaft_n, zaft_v, zb_eq, Decidable.not_not, H.K]
    rw [hs]
    exact ⟨by decide, by decide, mQ_ref B 1 0⟩
  have bad6 : s_shift s x y z = (yst 6 s, 0) → zg e 250 (d + 2) 72 [zr (some a), zi x, zi y, zi z] [] h (mQ e a h s (s_shift s x y z)) := fun hs => by
    simp only [r250_0, r250_1, r250_3, r250_5, r250_8, r250_11, r250_12, r250_14, r250_16, r250_19, r250_22, r250_23, r250_25, r250_27, r250_30, r250_33, r250_34, r250_35, r250_38, r250_39, r250_40, r250_41, r250_42, r250_43, r250_44, r250_47, r250_50, r250_51, r250_52, r250_53, r250_54, r250_55, r250_58, r250_61, r250_62, r250_63, r250_64, r250_65, r250_66, r250_69, r250_72, r250_73, r250_75, r250_78, r250_79, r250_80, r250_83, r250_84, r250_85, r250_86, r250_87, r250_88, r250_91, r250_92, r250_93, r250_94, r250_95, r250_96, r250_99, r250_100, r250_101, r250_102, r250_103, r250_104, r250_107, r250_108, r250_109, r250_112, znl_i, znl_r, znl_j, znl_l, List.length_cons, List.length_nil, Option.some.injEq, Sum.inl.injEq, Sum.inr.injEq, Prod.mk.injEq, true_and, and_true, exists_eq_left', zK_sI, zA_sI, zL_sI, zK_sL, zA_sL, zI_sL, zK_fI, zA_fI, zL_fI, zK_fL, zA_fL, zI_fL, Nat.reduceAdd, Nat.reduceLeDiff, forall_eq', zl_lt, zl_gt, zl_eq, zl_le, zl_ge, zm_0, zaft_n, zaft_v, zb_eq, Decidable.not_not, H.K]
    refine zc_w (m_is H 6 (by omega) (by omega)) ?_
    simp only [r250_0, r250_1, r250_3, r250_5, r250_8, r250_11, r250_12, r250_14, r250_16, r250_19, r250_22, r250_23, r250_25, r250_27, r250_30, r250_33, r250_34, r250_35, r250_38, r250_39, r250_40, r250_41, r250_42, r250_43, r250_44, r250_47, r250_50, r250_51, r250_52, r250_53, r250_54, r250_55, r250_58, r250_61, r250_62, r250_63, r250_64, r250_65, r250_66, r250_69, r250_72, r250_73, r250_75, r250_78, r250_79, r250_80, r250_83, r250_84, r250_85, r250_86, r250_87, r250_88, r250_91, r250_92, r250_93, r250_94, r250_95, r250_96, r250_99, r250_100, r250_101, r250_102, r250_103, r250_104, r250_107, r250_108, r250_109, r250_112, znl_i, znl_r, znl_j, znl_l, List.length_cons, List.length_nil, Option.some.injEq, Sum.inl.injEq, Sum.inr.injEq, Prod.mk.injEq, true_and, and_true, exists_eq_left', zK_sI, zA_sI, zL_sI, zK_sL, zA_sL, zI_sL, zK_fI, zA_fI, zL_fI, zK_fL, zA_fL, zI_fL, Nat.reduceAdd, Nat.reduceLeDiff, forall_eq', zl_lt, zl_gt, zl_eq, zl_le, zl_ge, zm_0, zaft_n, zaft_v, zb_eq, Decidable.not_not, H.K]
    rw [hs]
    exact ⟨by decide, by decide, mQ_ref B 6 0⟩
  simp only [n250, r250_0, r250_1, r250_3, r250_5, r250_8, r250_11, r250_12, r250_14, r250_16, r250_19, r250_22, r250_23, r250_25, r250_27, r250_30, r250_34, r250_35, r250_38, r250_39, r250_40, r250_41, r250_42, r250_43, r250_44, r250_47, r250_50, r250_51, r250_52, r250_53, r250_54, r250_55, r250_58, r250_61, r250_62, r250_63, r250_64, r250_65, r250_66, r250_69, r250_73, r250_75, r250_78, r250_79, r250_80, r250_83, r250_84, r250_85, r250_86, r250_87, r250_88, r250_91, r250_92, r250_93, r250_94, r250_95, r250_96, r250_99, r250_100, r250_101, r250_102, r250_103, r250_104, r250_107, r250_108, r250_109, r250_112, znl_i, znl_r, znl_j, znl_l, List.length_cons, List.length_nil, Option.some.injEq, Sum.inl.injEq, Sum.inr.injEq, Prod.mk.injEq, true_and, and_true, exists_eq_left', zK_sI, zA_sI, zL_sI, zK_sL, zA_sL, zI_sL, zK_fI, zA_fI, zL_fI, zK_fL, zA_fL, zI_fL, Nat.reduceAdd, Nat.reduceLeDiff, forall_eq', zl_lt, zl_gt, zl_eq, zl_le, zl_ge, zm_0, zaft_n, zaft_v, zb_eq, Decidable.not_not, H.K]
  refine zc_w (m_isFrom x (-100) 100) ?_
  simp only [r250_0, r250_1, r250_3, r250_5, r250_8, r250_11, r250_12, r250_14, r250_16, r250_19, r250_22, r250_23, r250_25, r250_27, r250_30, r250_34, r250_35, r250_38, r250_39, r250_40, r250_41, r250_42, r250_43, r250_44, r250_47, r250_50, r250_51, r250_52, r250_53, r250_54, r250_55, r250_58, r250_61, r250_62, r250_63, r250_64, r250_65, r250_66, r250_69, r250_73, r250_75, r250_78, r250_79, r250_80, r250_83, r250_84, r250_85, r250_86, r250_87, r250_88, r250_91, r250_92, r250_93, r250_94, r250_95, r250_96, r250_99, r250_100, r250_101, r250_102, r250_103, r250_104, r250_107, r250_108, r250_109, r250_112, znl_i, znl_r, znl_j, znl_l, List.length_cons, List.length_nil, Option.some.injEq, Sum.inl.injEq, Sum.inr.injEq, Prod.mk.injEq, true_and, and_true, exists_eq_left', zK_sI, zA_sI, zL_sI, zK_sL, zA_sL, zI_sL, zK_fI, zA_fI, zL_fI, zK_fL, zA_fL, zI_fL, Nat.reduceAdd, Nat.reduceLeDiff, forall_eq', zl_lt, zl_gt, zl_eq, zl_le, zl_ge, zm_0, zaft_n, zaft_v, zb_eq, Decidable.not_not, H.K]
  rw [zn_i hx, em, e100]
  refine ⟨fun q => bad1 (by rw [s_shift, if_pos (fun z => q z.1)]), fun q1 => ?_⟩
  refine zc_w (m_isFrom y (-100) 100) ?_
  simp only [r250_0, r250_1, r250_3, r250_5, r250_8, r250_11, r250_12, r250_14, r250_16, r250_19, r250_22, r250_23, r250_25, r250_27, r250_30, r250_34, r250_35, r250_38, r250_39, r250_40, r250_41, r250_42, r250_43, r250_44, r250_47, r250_50, r250_51, r250_52, r250_53, r250_54, r250_55, r250_58, r250_61, r250_62, r250_63, r250_64, r250_65, r250_66, r250_69, r250_73, r250_75, r250_78, r250_79, r250_80, r250_83, r250_84, r250_85, r250_86, r250_87, r250_88, r250_91, r250_92, r250_93, r250_94, r250_95, r250_96, r250_99, r250_100, r250_101, r250_102, r250_103, r250_104, r250_107, r250_108, r250_109, r250_112, znl_i, znl_r, znl_j, znl_l, List.length_cons, List.length_nil, Option.some.injEq, Sum.inl.injEq, Sum.inr.injEq, Prod.mk.injEq, true_and, and_true, exists_eq_left', zK_sI, zA_sI, zL_sI, zK_sL, zA_sL, zI_sL, zK_fI, zA_fI, zL_fI, zK_fL, zA_fL, zI_fL, Nat.reduceAdd, Nat.reduceLeDiff, forall_eq', zl_lt, zl_gt, zl_eq, zl_le, zl_ge, zm_0, zaft_n, zaft_v, zb_eq, Decidable.not_not, H.K]
  rw [zn_i hy, em, e100]
  refine ⟨fun q => bad1 (by rw [s_shift, if_pos (fun z => q z.2.1)]), fun q2 => ?_⟩
  refine zc_w (m_isFrom z (-100) 100) ?_
  simp only [r250_0, r250_1, r250_3, r250_5, r250_8, r250_11, r250_12, r250_14, r250_16, r250_19, r250_22, r250_23, r250_25, r250_27, r250_30, r250_34, r250_35, r250_38, r250_39, r250_40, r250_41, r250_42, r250_43, r250_44, r250_47, r250_50, r250_51, r250_52, r250_53, r250_54, r250_55, r250_58, r250_61, r250_62, r250_63, r250_64, r250_65, r250_66, r250_69, r250_73, r250_75, r250_78, r250_79, r250_80, r250_83, r250_84, r250_85, r250_86, r250_87, r250_88, r250_91, r250_92, r250_93, r250_94, r250_95, r250_96, r250_99, r250_100, r250_101, r250_102, r250_103, r250_104, r250_107, r250_108, r250_109, r250_112, znl_i, znl_r, znl_j, znl_l, List.length_cons, List.length_nil, Option.some.injEq, Sum.inl.injEq, Sum.inr.injEq, Prod.mk.injEq, true_and, and_true, exists_eq_left', zK_sI, zA_sI, zL_sI, zK_sL, zA_sL, zI_sL, zK_fI, zA_fI, zL_fI, zK_fL, zA_fL, zI_fL, Nat.reduceAdd, Nat.reduceLeDiff, forall_eq', zl_lt, zl_gt, zl_eq, zl_le, zl_ge, zm_0, zaft_n, zaft_v, zb_eq, Decidable.not_not, H.K]
  rw [zn_i hz, em, e100]
  refine ⟨fun q3 => ?_, fun q => bad1 (by rw [s_shift, if_pos (fun z => q z.2.2)])⟩
  have hs0 : s_shift s x y z = _ := if_neg (fun z => z ⟨q1, q2, q3⟩)
  refine zc_w (m_isInside H 0 1 s.1 1 x (by omega) (by omega) (by omega) hF.2.1 hn hF.1.2.2.1 (by omega) (by omega) q1) ?_
  simp only [r250_0, r250_1, r250_3, r250_5, r250_8, r250_11, r250_12, r250_14, r250_16, r250_19, r250_22, r250_23, r250_25, r250_27, r250_30, r250_34, r250_35, r250_38, r250_39, r250_40, r250_41, r250_42, r250_43, r250_44, r250_47, r250_50, r250_51, r250_52, r250_53, r250_54, r250_55, r250_58, r250_61, r250_62, r250_63, r250_64, r250_65, r250_66, r250_69, r250_73, r250_75, r250_78, r250_79, r250_80, r250_83, r250_84, r250_85, r250_86, r250_87, r250_88, r250_91, r250_92, r250_93, r250_94, r250_95, r250_96, r250_99, r250_100, r250_101, r250_102, r250_103, r250_104, r250_107, r250_108, r250_109, r250_112, znl_i, znl_r, znl_j, znl_l, List.length_cons, List.length_nil, Option.some.injEq, Sum.inl.injEq, Sum.inr.injEq, Prod.mk.injEq, true_and, and_true, exists_eq_left', zK_sI, zA_sI, zL_sI, zK_sL, zA_sL, zI_sL, zK_fI, zA_fI, zL_fI, zK_fL, zA_fL, zI_fL, Nat.reduceAdd, Nat.reduceLeDiff, forall_eq', zl_lt, zl_gt, zl_eq, zl_le, zl_ge, zm_0, zaft_n, zaft_v, zb_eq, Decidable.not_not, H.K]
  refine ⟨fun q => bad6 (by rw [hs0, if_pos (fun z => q (of_decide_eq_true z.1))]), fun p1 => ?_⟩
  refine zc_w (m_isInside H 0 2 s.1 1 y (by omega) (by omega) (by omega) hF.2.1 hn hF.1.2.2.1 (by omega) (by omega) q2) ?_
  simp only [r250_0, r250_1, r250_3, r250_5, r250_8, r250_11, r250_12, r250_14, r250_16, r250_19, r250_22, r250_23, r250_25, r250_27, r250_30, r250_34, r250_35, r250_38, r250_39, r250_40, r250_41, r250_42, r250_43, r250_44, r250_47, r250_50, r250_51, r250_52, r250_53, r250_54, r250_55, r250_58, r250_61, r250_62, r250_63, r250_64, r250_65, r250_66, r250_69, r250_73, r250_75, r250_78, r250_79, r250_80, r250_83, r250_84, r250_85, r250_86, r250_87, r250_88, r250_91, r250_92, r250_93, r250_94, r250_95, r250_96, r250_99, r250_100, r250_101, r250_102, r250_103, r250_104, r250_107, r250_108, r250_109, r250_112, znl_i, znl_r, znl_j, znl_l, List.length_cons, List.length_nil, Option.some.injEq, Sum.inl.injEq, Sum.inr.injEq, Prod.mk.injEq, true_and, and_true, exists_eq_left', zK_sI, zA_sI, zL_sI, zK_sL, zA_sL, zI_sL, zK_fI, zA_fI, zL_fI, zK_fL, zA_fL, zI_fL, Nat.reduceAdd, Nat.reduceLeDiff, forall_eq', zl_lt, zl_gt, zl_eq, zl_le, zl_ge, zm_0, zaft_n, zaft_v, zb_eq, Decidable.not_not, H.K]
  refine ⟨fun q => bad6 (by rw [hs0, if_pos (fun z => q (of_decide_eq_true z.2.1))]), fun p2 => ?_⟩
  refine zc_w (m_isInside H 0 3 s.1 1 z (by omega) (by omega) (by omega) hF.2.1 hn hF.1.2.2.1 (by omega) (by omega) q3) ?_
  simp only [r250_0, r250_1, r250_3, r250_5, r250_8, r250_11, r250_12, r250_14, r250_16, r250_19, r250_22, r250_23, r250_25, r250_27, r250_30, r250_34, r250_35, r250_38, r250_39, r250_40, r250_41, r250_42, r250_43, r250_44, r250_47, r250_50, r250_51, r250_52, r250_53, r250_54, r250_55, r250_58, r250_61, r250_62, r250_63, r250_64, r250_65, r250_66, r250_69, r250_73, r250_75, r250_78, r250_79, r250_80, r250_83, r250_84, r250_85, r250_86, r250_87, r250_88, r250_91, r250_92, r250_93, r250_94, r250_95, r250_96, r250_99, r250_100, r250_101, r250_102, r250_103, r250_104, r250_107, r250_108, r250_109, r250_112, znl_i, znl_r, znl_j, znl_l, List.length_cons, List.length_nil, Option.some.injEq, Sum.inl.injEq, Sum.inr.injEq, Prod.mk.injEq, true_and, and_true, exists_eq_left', zK_sI, zA_sI, zL_sI, zK_sL, zA_sL, zI_sL, zK_fI, zA_fI, zL_fI, zK_fL, zA_fL, zI_fL, Nat.reduceAdd, Nat.reduceLeDiff, forall_eq', zl_lt, zl_gt, zl_eq, zl_le, zl_ge, zm_0, zaft_n, zaft_v, zb_eq, Decidable.not_not, H.K]
  refine ⟨fun p3 => ?_, fun q => bad6 (by rw [hs0, if_pos (fun z => q (of_decide_eq_true z.2.2))])⟩
  have h1 : yinA s.1 1 1 x = true := decide_eq_true p1
  have h2 : yinA s.1 2 1 y = true := decide_eq_true p2
  have h3 : yinA s.1 3 1 z = true := decide_eq_true p3
  rw [hs0, if_neg (fun z => z ⟨h1, h2, h3⟩)]
  refine zc_mono (m_done B) ?_
  rintro _ _ ⟨rfl, A, f, rfl, hA, f1, f17, f18, f19, fo, ho⟩
  simp only [r250_0, r250_1, r250_3, r250_5, r250_8, r250_11, r250_12, r250_14, r250_16, r250_19, r250_22, r250_23, r250_25, r250_27, r250_30, r250_33, r250_34, r250_35, r250_38, r250_39, r250_40, r250_41, r250_42, r250_43, r250_44, r250_47, r250_50, r250_51, r250_52, r250_53, r250_54, r250_55, r250_58, r250_61, r250_62, r250_63, r250_64, r250_65, r250_66, r250_69, r250_72, r250_73, r250_75, r250_78, r250_79, r250_80, r250_83, r250_84, r250_85, r250_86, r250_87, r250_88, r250_91, r250_92, r250_93, r250_94, r250_95, r250_96, r250_99, r250_100, r250_101, r250_102, r250_103, r250_104, r250_107, r250_108, r250_109, r250_112, znl_i, znl_r, znl_j, znl_l, List.length_cons, List.length_nil, Option.some.injEq, Sum.inl.injEq, Sum.inr.injEq, Prod.mk.injEq, true_and, and_true, exists_eq_left', zK_sI, zA_sI, zL_sI, zK_sL, zA_sL, zI_sL, zK_fI, zA_fI, zL_fI, zK_fL, zA_fL, zI_fL, Nat.reduceAdd, Nat.reduceLeDiff, forall_eq', zl_lt, zl_gt, zl_eq, zl_le, zl_ge, zm_0, zaft_n, zaft_v, zb_eq, Decidable.not_not, H.K]
  have m1 := mF_chF (t := 1) (c := x) (show 1 ≤ 1 by omega) (by omega) hA.2.1
  have m2 := mF_chF (t := 1) (c := y) (show 1 ≤ 2 by omega) (by omega) m1
  have m3 := mF_chF (t := 1) (c := z) (show 1 ≤ 3 by omega) (by omega) m2
  refine zc_w (m_changes (h := zfI (zfI h a f) (a + 1) A) H 0 1 s.1.1 1 x (by omega) (by omega) (by omega) (by rw [zI_fI_s]; exact hA.2.1.1) hn) ?_
  simp only [r250_0, r250_1, r250_3, r250_5, r250_8, r250_11, r250_12, r250_14, r250_16, r250_19, r250_22, r250_23, r250_25, r250_27, r250_30, r250_33, r250_34, r250_35, r250_38, r250_39, r250_40, r250_41, r250_42, r250_43, r250_44, r250_47, r250_50, r250_51, r250_52, r250_53, r250_54, r250_55, r250_58, r250_61, r250_62, r250_63, r250_64, r250_65, r250_66, r250_69, r250_72, r250_73, r250_75, r250_78, r250_79, r250_80, r250_83, r250_84, r250_85, r250_86, r250_87, r250_88, r250_91, r250_92, r250_93, r250_94, r250_95, r250_96, r250_99, r250_100, r250_101, r250_102, r250_103, r250_104, r250_107, r250_108, r250_109, r250_112, znl_i, znl_r, znl_j, znl_l, List.length_cons, List.length_nil, Option.some.injEq, Sum.inl.injEq, Sum.inr.injEq, Prod.mk.injEq, true_and, and_true, exists_eq_left', zK_sI, zA_sI, zL_sI, zK_sL, zA_sL, zI_sL, zK_fI, zA_fI, zL_fI, zK_fL, zA_fL, zI_fL, Nat.reduceAdd, Nat.reduceLeDiff, forall_eq', zl_lt, zl_gt, zl_eq, zl_le, zl_ge, zm_0, zaft_n, zaft_v, zb_eq, Decidable.not_not, H.K]
  rw [zfI_fI, zI_fI_s]
  refine zc_w (m_changes (h := zfI (zfI h a f) (a + 1) _) H 0 2 s.1.1 1 y (by omega) (by omega) (by omega) (by rw [zI_fI_s]; exact m1.1) hn) ?_
  simp only [r250_0, r250_1, r250_3, r250_5, r250_8, r250_11, r250_12, r250_14, r250_16, r250_19, r250_22, r250_23, r250_25, r250_27, r250_30, r250_33, r250_34, r250_35, r250_38, r250_39, r250_40, r250_41, r250_42, r250_43, r250_44, r250_47, r250_50, r250_51, r250_52, r250_53, r250_54, r250_55, r250_58, r250_61, r250_62, r250_63, r250_64, r250_65, r250_66, r250_69, r250_72, r250_73, r250_75, r250_78, r250_79, r250_80, r250_83, r250_84, r250_85, r250_86, r250_87, r250_88, r250_91, r250_92, r250_93, r250_94, r250_95, r250_96, r250_99, r250_100, r250_101, r250_102, r250_103, r250_104, r250_107, r250_108, r250_109, r250_112, znl_i, znl_r, znl_j, znl_l, List.length_cons, List.length_nil, Option.some.injEq, Sum.inl.injEq, Sum.inr.injEq, Prod.mk.injEq, true_and, and_true, exists_eq_left', zK_sI, zA_sI, zL_sI, zK_sL, zA_sL, zI_sL, zK_fI, zA_fI, zL_fI, zK_fL, zA_fL, zI_fL, Nat.reduceAdd, Nat.reduceLeDiff, forall_eq', zl_lt, zl_gt, zl_eq, zl_le, zl_ge, zm_0, zaft_n, zaft_v, zb_eq, Decidable.not_not, H.K]
  rw [zfI_fI, zI_fI_s]
  refine zc_w (m_changes (h := zfI (zfI h a f) (a + 1) _) H 0 3 s.1.1 1 z (by omega) (by omega) (by omega) (by rw [zI_fI_s]; exact m2.1) hn) ?_
  simp only [r250_0, r250_1, r250_3, r250_5, r250_8, r250_11, r250_12, r250_14, r250_16, r250_19, r250_22, r250_23, r250_25, r250_27, r250_30, r250_33, r250_34, r250_35, r250_38, r250_39, r250_40, r250_41, r250_42, r250_43, r250_44, r250_47, r250_50, r250_51, r250_52, r250_53, r250_54, r250_55, r250_58, r250_61, r250_62, r250_63, r250_64, r250_65, r250_66, r250_69, r250_72, r250_73, r250_75, r250_78, r250_79, r250_80, r250_83, r250_84, r250_85, r250_86, r250_87, r250_88, r250_91, r250_92, r250_93, r250_94, r250_95, r250_96, r250_99, r250_100, r250_101, r250_102, r250_103, r250_104, r250_107, r250_108, r250_109, r250_112, znl_i, znl_r, znl_j, znl_l, List.length_cons, List.length_nil, Option.some.injEq, Sum.inl.injEq, Sum.inr.injEq, Prod.mk.injEq, true_and, and_true, exists_eq_left', zK_sI, zA_sI, zL_sI, zK_sL, zA_sL, zI_sL, zK_fI, zA_fI, zL_fI, zK_fL, zA_fL, zI_fL, Nat.reduceAdd, Nat.reduceLeDiff, forall_eq', zl_lt, zl_gt, zl_eq, zl_le, zl_ge, zm_0, zaft_n, zaft_v, zb_eq, Decidable.not_not, H.K]
  rw [zfI_fI, zI_fI_s]
  refine zc_w (m_is (h := zfI (zfI h a f) (a + 1) _) H 0 (by omega) (by omega)) ?_
  simp only [r250_0, r250_1, r250_3, r250_5, r250_8, r250_11, r250_12, r250_14, r250_16, r250_19, r250_22, r250_23, r250_25, r250_27, r250_30, r250_33, r250_34, r250_35, r250_38, r250_39, r250_40, r250_41, r250_42, r250_43, r250_44, r250_47, r250_50, r250_51, r250_52, r250_53, r250_54, r250_55, r250_58, r250_61, r250_62, r250_63, r250_64, r250_65, r250_66, r250_69, r250_72, r250_73, r250_75, r250_78, r250_79, r250_80, r250_83, r250_84, r250_85, r250_86, r250_87, r250_88, r250_91, r250_92, r250_93, r250_94, r250_95, r250_96, r250_99, r250_100, r250_101, r250_102, r250_103, r250_104, r250_107, r250_108, r250_109, r250_112, znl_i, znl_r, znl_j, znl_l, List.length_cons, List.length_nil, Option.some.injEq, Sum.inl.injEq, Sum.inr.injEq, Prod.mk.injEq, true_and, and_true, exists_eq_left', zK_sI, zA_sI, zL_sI, zK_sL, zA_sL, zI_sL, zK_fI, zA_fI, zL_fI, zK_fL, zA_fL, zI_fL, Nat.reduceAdd, Nat.reduceLeDiff, forall_eq', zl_lt, zl_gt, zl_eq, zl_le, zl_ge, zm_0, zaft_n, zaft_v, zb_eq, Decidable.not_not, H.K]
  refine ⟨by decide, by decide, ?_⟩
  exact mQ_deed B (mFr_cur hA (fun j hj => by simp only [ychg]; rw [if_neg (by omega), if_neg (by omega), if_neg (by omega)]) (yW_ch3 hF.1 (by omega) h1 h2 h3) m3) f1 f17 f18 f19 fo
end
