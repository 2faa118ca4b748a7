/-! ===== the reference: more of what is done to frames ===== -/
def yputs (A : Nat → Int) (f n : Nat) (q : Nat → Int) : Nat → Int := fun j => if j = f then A f + 1 else if f + 4 + 4 * n ≤ j ∧ j < f + 4 + 4 * n + 4 then q (j - (f + 4 + 4 * n)) else A j
theorem mF_off {A B : Nat → Int} {s : Nat} {F : yF} (hn : F.1 ≤ 12) (h : mF A s F) (hAB : ∀ j, s ≤ j → j < s + 52 → B j = A j) : mF B s F :=
  ⟨by rw [hAB s (Nat.le_refl _) (by omega)]; exact h.1, fun k hk i hi => by rw [hAB _ (by omega) (by omega)]; exact h.2 k hk i hi⟩
theorem mF_cpy {A : Nat → Int} {f t : Nat} {F : yF} (hn : F.1 ≤ 12) (h : mF A f F) : mF (ycpy A f t) t F :=
  ⟨by simp only [ycpy]; rw [if_pos (by omega), Nat.sub_self]; exact h.1, fun k hk i hi => by
    simp only [ycpy]; rw [if_pos (by omega), show f + (t + 4 + 4 * k + i - t) = f + 4 + 4 * k + i by omega]; exact h.2 k hk i hi⟩
theorem mF_shft {A : Nat → Int} {f k n : Nat} {p : Nat → Nat → Int} (hn : n ≤ 12) (hk : k < n) (h : mF A f (n, p)) : mF (yshft A f k n) f (n - 1, ydrp k p) := by
  refine ⟨?_, fun j hj i hi => ?_⟩
  · simp only [yshft, if_true]
    have := h.1
    dsimp only at this ⊢
    omega
  · dsimp only at hj ⊢
    simp only [yshft, ydrp]
    rw [if_neg (by omega)]
    by_cases q : j < k
    · rw [if_pos q, if_neg (by omega)]; exact h.2 j (by dsimp only; omega) i hi
    · rw [if_neg q, if_pos (by omega)]
      have := h.2 (j + 1) (by dsimp only; omega) i hi
      rw [show f + 4 + 4 * j + i + 4 = f + 4 + 4 * (j + 1) + i by omega]
      exact this
theorem mF_puts {A : Nat → Int} {f n : Nat} {p : Nat → Nat → Int} {q : Nat → Int} (h : mF A f (n, p)) : mF (yputs A f n q) f (n + 1, yset n q p) := by
  refine ⟨?_, fun j hj i hi => ?_⟩
  · simp only [yputs, if_true]
    have := h.1
    dsimp only at this ⊢
    omega
  · dsimp only at hj ⊢
    simp only [yputs, yset]
    rw [if_neg (by omega)]
    by_cases r : j = n
    · subst r; rw [if_pos (by omega), if_pos rfl, show f + 4 + 4 * j + i - (f + 4 + 4 * j) = i by omega]
    · rw [if_neg (by omega), if_neg r]; exact h.2 j (by dsimp only; omega) i hi
theorem yfind_t {q : Nat → Bool} {j k : Nat} (h : q k = true) : yfind q (j + 1) k = (k : Int) := by simp only [yfind, h, if_true]
theorem yfind_f {q : Nat → Bool} {j k : Nat} (h : q k = false) : yfind q (j + 1) k = yfind q j (k + 1) := by simp [yfind, h]
section
variable {e : zEv} {a d : Nat} {h : zH}
theorem m_puts (H : zmo e a h) (f n : Nat) (k x y z : Int) (hf : f ≤ 416) (hn : n < 12) (hA : zI h (a + 1) f = (n : Int)) : zc e (d + 1) 223 [zr (some a), zi f, zi k, zi x, zi y, zi z] h (fun o h' => o = Sum.inl none ∧ h' = zfI h (a + 1) (yputs (zI h (a + 1)) f n (yat k x y z))) := by
  have hb := H.1
  simp only [n223, r223_0, r223_1, r223_2, r223_3, r223_4, r223_5, r223_8, r223_9, r223_10, r223_11, r223_12, r223_14, r223_15, r223_18, r223_20, r223_21, r223_22, r223_23, r223_26, r223_28, r223_29, r223_30, r223_31, r223_32, r223_33, r223_36, r223_38, r223_39, r223_40, r223_42, r223_43, r223_44, r223_47, r223_49, r223_50, r223_51, r223_53, r223_54, r223_55, r223_58, r223_59, r223_60, r223_61, r223_62, r223_63, r223_64, znl_i, znl_r, znl_j, znl_l, List.length_cons, List.length_nil, Option.some.injEq, Sum.inl.injEq, Sum.inr.injEq, Prod.mk.injEq, true_and, and_true, exists_eq_left', zK_sI, zA_sI, zL_sI, zK_sL, zA_sL, zI_sL, zK_fI, zA_fI, zL_fI, zK_fL, zA_fL, zI_fL, Nat.reduceAdd, Nat.reduceLeDiff, forall_eq', zl_lt, zl_gt, zl_eq, zl_le, zl_ge, zm_0, zaft_n, zaft_v, zb_eq, Decidable.not_not, H.K, H.A0, H.K1]
  simp (disch := omega) only [zn_b, Int.toNat_natCast, hA]
  repeat (refine And.intro (by omega) ?_)
  have e0 : ((f : Int) + 4 + 4 * n).toNat = f + 4 + 4 * n := by omega
  have e1 : ((f : Int) + 4 + 4 * n + 1).toNat = f + 4 + 4 * n + 1 := by omega
  have e2 : ((f : Int) + 4 + 4 * n + 2).toNat = f + 4 + 4 * n + 2 := by omega
  have e3 : ((f : Int) + 4 + 4 * n + 3).toNat = f + 4 + 4 * n + 3 := by omega
  simp only [e0, e1, e2, e3, zsI_f, zfI_fI, zI_fI_s]
  refine congrArg (zfI h (a + 1)) (funext fun j => ?_)
  simp only [zup, yputs]
  by_cases q : j = f
  · subst q
    rw [if_pos rfl, if_pos rfl, if_neg (by omega), if_neg (by omega), if_neg (by omega), if_neg (by omega)]
  · rw [if_neg q, if_neg q]
    by_cases q3 : j = f + 4 + 4 * n + 3
    · subst q3; rw [if_pos rfl, if_pos (by omega), show f + 4 + 4 * n + 3 - (f + 4 + 4 * n) = 3 by omega]; rfl
    · rw [if_neg q3]
      by_cases q2 : j = f + 4 + 4 * n + 2
      · subst q2; rw [if_pos rfl, if_pos (by omega), show f + 4 + 4 * n + 2 - (f + 4 + 4 * n) = 2 by omega]; rfl
      · rw [if_neg q2]
        by_cases q1 : j = f + 4 + 4 * n + 1
        · subst q1; rw [if_pos rfl, if_pos (by omega), show f + 4 + 4 * n + 1 - (f + 4 + 4 * n) = 1 by omega]; rfl
        · rw [if_neg q1]
          by_cases q0 : j = f + 4 + 4 * n
          · subst q0; rw [if_pos rfl, if_pos (by omega), Nat.sub_self]; rfl
          · rw [if_neg q0, if_neg (by omega)]
/-- inside: each number times t and with c more -/
def yin (F : yF) (i : Nat) (t c : Int) (k : Nat) : Bool := decide (-50 ≤ t * F.2 k i + c ∧ t * F.2 k i + c ≤ 50)
theorem ymul_bd {t v : Int} (h1 : -2147483648 ≤ t) (h2 : t ≤ 2147483647) (h3 : -50 ≤ v) (h4 : v ≤ 50) : -107374182400 ≤ t * v ∧ t * v ≤ 107374182400 := by
  have a1 : (t + 2147483648) * (v + 50) ≥ 0 := Int.mul_nonneg (by omega) (by omega)
  have a2 : (t + 2147483648) * (50 - v) ≥ 0 := Int.mul_nonneg (by omega) (by omega)
  have a3 : (2147483648 - t) * (v + 50) ≥ 0 := Int.mul_nonneg (by omega) (by omega)
  have a4 : (2147483648 - t) * (50 - v) ≥ 0 := Int.mul_nonneg (by omega) (by omega)
  simp only [Int.add_mul, Int.mul_add, Int.sub_mul, Int.mul_sub] at a1 a2 a3 a4
  generalize t * v = w at *
  omega
theorem m_isInside (H : zmo e a h) (f i : Nat) (F : yF) (t c : Int) (hf : f ≤ 416) (hi : 1 ≤ i) (hi4 : i < 4) (hF : mF (zI h (a + 1)) f F) (hn : F.1 ≤ 12) (hb : ∀ k, k < F.1 → ∀ i, 1 ≤ i → i < 4 → -50 ≤ F.2 k i ∧ F.2 k i ≤ 50) (ht1 : -2147483648 ≤ t) (ht2 : t ≤ 2147483647) (hc : -100 ≤ c ∧ c ≤ 100) : zc e (d + 2) 229 [zr (some a), zi f, zi i, zl t, zi c] h (fun o h' => o = Sum.inl (some (zi (if yfind (fun k => !yin F i t c k) F.1 0 = -1 then 1 else 0))) ∧ h' = h) := by
  have e3 : 0 ≤ zn 0 ∧ zn 0 ≤ 1 := by decide
  have e4 : 0 ≤ zn 1 ∧ zn 1 ≤ 1 := by decide
  have loop : ∀ (j k : Nat), k + j = F.1 → zg e 229 (d + 1) 3 [zr (some a), zi f, zi i, zl t, zj, zi c, zi k] [] h (fun o h' => o = Sum.inl (some (zi (if yfind (fun k => !yin F i t c k) j k = -1 then 1 else 0))) ∧ h' = h) := by
    intro j
    induction j with
    | zero =>
      intro k hk
      rw [r229_3]
      simp only [r229_0, r229_1, r229_5, r229_6, r229_9, r229_10, r229_11, r229_14, r229_15, r229_16, r229_19, r229_20, r229_21, r229_22, r229_23, r229_25, r229_26, r229_27, r229_28, r229_29, r229_30, r229_31, r229_32, r229_34, r229_35, r229_36, r229_39, r229_42, r229_43, r229_46, r229_47, r229_48, r229_51, r229_54, r229_55, znl_i, znl_r, znl_j, znl_l, List.length_cons, List.length_nil, Option.some.injEq, Sum.inl.injEq, Sum.inr.injEq, Prod.mk.injEq, true_and, and_true, exists_eq_left', zK_sI, zA_sI, zL_sI, zK_sL, zA_sL, zI_sL, zK_fI, zA_fI, zL_fI, zK_fL, zA_fL, zI_fL, Nat.reduceAdd, Nat.reduceLeDiff, forall_eq', zl_lt, zl_gt, zl_eq, zl_le, zl_ge, zm_0, zaft_n, zaft_v, zb_eq, Decidable.not_not, H.K, H.A0, H.K1]
      simp (disch := omega) only [zn_b, Int.toNat_natCast, hF.1]
      refine ⟨by omega, by omega, fun _ => ?_, fun h9 => by omega⟩
      simp [yfind]
    | succ j ih =>
      intro k hk
      have nx := ih (k + 1) (by omega)
      have e1 := hF.2 k (by omega) i (by omega)
      have b1 := hb k (by omega) i (by omega) (by omega)
      have bb := ymul_bd ht1 ht2 b1.1 b1.2
      rw [r229_3]
      simp only [r229_0, r229_1, r229_5, r229_6, r229_9, r229_10, r229_11, r229_14, r229_15, r229_16, r229_19, r229_20, r229_21, r229_22, r229_23, r229_25, r229_26, r229_27, r229_28, r229_29, r229_30, r229_31, r229_32, r229_34, r229_35, r229_36, r229_39, r229_42, r229_43, r229_46, r229_47, r229_48, r229_51, r229_54, r229_55, znl_i, znl_r, znl_j, znl_l, List.length_cons, List.length_nil, Option.some.injEq, Sum.inl.injEq, Sum.inr.injEq, Prod.mk.injEq, true_and, and_true, exists_eq_left', zK_sI, zA_sI, zL_sI, zK_sL, zA_sL, zI_sL, zK_fI, zA_fI, zL_fI, zK_fL, zA_fL, zI_fL, Nat.reduceAdd, Nat.reduceLeDiff, forall_eq', zl_lt, zl_gt, zl_eq, zl_le, zl_ge, zm_0, zaft_n, zaft_v, zb_eq, Decidable.not_not, H.K, H.A0, H.K1]
      simp (disch := omega) only [zn_b, Int.toNat_natCast, hF.1, show ((f : Int) + 4 + 4 * k + i).toNat = f + 4 + 4 * k + i by omega, e1]
      refine ⟨by omega, by omega, fun h9 => by omega, fun _ => ⟨by omega, by omega, ?_⟩⟩
      refine zc_mono (j_absL _ (by omega) (by omega)) ?_
      rintro _ _ ⟨rfl, rfl⟩
      simp only [r229_0, r229_1, r229_5, r229_6, r229_9, r229_10, r229_11, r229_14, r229_15, r229_16, r229_19, r229_20, r229_21, r229_22, r229_23, r229_25, r229_26, r229_27, r229_28, r229_29, r229_30, r229_31, r229_32, r229_34, r229_35, r229_36, r229_39, r229_42, r229_43, r229_46, r229_47, r229_48, r229_51, r229_54, r229_55, znl_i, znl_r, znl_j, znl_l, List.length_cons, List.length_nil, Option.some.injEq, Sum.inl.injEq, Sum.inr.injEq, Prod.mk.injEq, true_and, and_true, exists_eq_left', zK_sI, zA_sI, zL_sI, zK_sL, zA_sL, zI_sL, zK_fI, zA_fI, zL_fI, zK_fL, zA_fL, zI_fL, Nat.reduceAdd, Nat.reduceLeDiff, forall_eq', zl_lt, zl_gt, zl_eq, zl_le, zl_ge, zm_0, zaft_n, zaft_v, zb_eq, Decidable.not_not, H.K, H.A0, H.K1]
      have e8 : zm 50 = 50 := by decide
      have k1 : yin F i t c k = true → yfind (fun k => !yin F i t c k) (j + 1) k = yfind (fun k => !yin F i t c k) j (k + 1) := fun z => yfind_f (by simp [z])
      have k2 : yin F i t c k = false → yfind (fun k => !yin F i t c k) (j + 1) k = (k : Int) := fun z => yfind_t (by simp [z])
      by_cases q : t * F.2 k i + c < 0
      · simp only [q, if_true, e8]
        rw [zm_b (by omega) (by omega)]
        refine ⟨fun z => ?_, fun z => ?_⟩
        · rw [k1 (decide_eq_true (by omega))]; exact nx
        · rw [k2 (decide_eq_false (by omega)), if_neg (by omega)]; exact ⟨e3.1, e3.2, rfl⟩
      · simp only [q, if_false, e8]
        rw [zm_b (by omega) (by omega)]
        refine ⟨fun z => ?_, fun z => ?_⟩
        · rw [k1 (decide_eq_true (by omega))]; exact nx
        · rw [k2 (decide_eq_false (by omega)), if_neg (by omega)]; exact ⟨e3.1, e3.2, rfl⟩
  simp only [n229, r229_0, r229_1, r229_5, r229_6, r229_9, r229_10, r229_11, r229_14, r229_15, r229_16, r229_19, r229_20, r229_21, r229_22, r229_23, r229_25, r229_26, r229_27, r229_28, r229_29, r229_30, r229_31, r229_32, r229_34, r229_35, r229_36, r229_39, r229_42, r229_43, r229_46, r229_47, r229_48, r229_51, r229_54, r229_55, znl_i, znl_r, znl_j, znl_l, List.length_cons, List.length_nil, Option.some.injEq, Sum.inl.injEq, Sum.inr.injEq, Prod.mk.injEq, true_and, and_true, exists_eq_left', zK_sI, zA_sI, zL_sI, zK_sL, zA_sL, zI_sL, zK_fI, zA_fI, zL_fI, zK_fL, zA_fL, zI_fL, Nat.reduceAdd, Nat.reduceLeDiff, forall_eq', zl_lt, zl_gt, zl_eq, zl_le, zl_ge, zm_0, zaft_n, zaft_v, zb_eq, Decidable.not_not]
  exact loop F.1 0 (by omega)
theorem m_changes (H : zmo e a h) (f i n : Nat) (t c : Int) (hf : f ≤ 416) (hi : 1 ≤ i) (hi4 : i < 4) (hA : zI h (a + 1) f = (n : Int)) (hn : n ≤ 12) : zc e (d + 1) 230 [zr (some a), zi f, zi i, zi t, zi c] h (fun o h' => o = Sum.inl none ∧ h' = zfI h (a + 1) (ychg (zI h (a + 1)) f i n t c)) := by
  have hb := H.1
  have loop : ∀ (j k : Nat), k + j = n → zg e 230 d 3 [zr (some a), zi f, zi i, zi t, zi c, zi k] [] (zfI h (a + 1) (ychg (zI h (a + 1)) f i k t c)) (fun o h' => o = Sum.inl none ∧ h' = zfI h (a + 1) (ychg (zI h (a + 1)) f i n t c)) := by
    intro j
    induction j with
    | zero =>
      intro k hk
      obtain rfl : k = n := by omega
      have e1 : ychg (zI h (a + 1)) f i k t c f = (k : Int) := by simp only [ychg]; rw [if_neg (by omega)]; exact hA
      rw [r230_3]
      simp only [r230_0, r230_1, r230_5, r230_6, r230_9, r230_10, r230_11, r230_14, r230_15, r230_18, r230_19, r230_20, r230_21, r230_22, r230_24, r230_25, r230_26, r230_27, r230_28, r230_29, r230_30, r230_33, r230_34, r230_35, r230_36, r230_37, r230_39, r230_40, r230_41, r230_42, r230_43, r230_44, r230_45, r230_47, r230_48, r230_49, r230_52, r230_55, znl_i, znl_r, znl_j, znl_l, List.length_cons, List.length_nil, Option.some.injEq, Sum.inl.injEq, Sum.inr.injEq, Prod.mk.injEq, true_and, and_true, exists_eq_left', zK_sI, zA_sI, zL_sI, zK_sL, zA_sL, zI_sL, zK_fI, zA_fI, zL_fI, zK_fL, zA_fL, zI_fL, Nat.reduceAdd, Nat.reduceLeDiff, forall_eq', zl_lt, zl_gt, zl_eq, zl_le, zl_ge, zm_0, zaft_n, zaft_v, zb_eq, Decidable.not_not, H.K, H.A0, H.K1]
      simp (disch := omega) only [zn_b, Int.toNat_natCast, zI_fI_s, e1]
      exact ⟨by omega, by omega, fun _ => trivial, fun z => by omega⟩
    | succ j ih =>
      intro k hk
      have nx := ih (k + 1) (by omega)
      have e1 : ychg (zI h (a + 1)) f i k t c f = (n : Int) := by simp only [ychg]; rw [if_neg (by omega)]; exact hA
      have e2 : ((f : Int) + 4 + 4 * k + i).toNat = f + 4 + 4 * k + i := by omega
      rw [r230_3]
      simp only [r230_0, r230_1, r230_5, r230_6, r230_9, r230_10, r230_11, r230_14, r230_15, r230_18, r230_19, r230_20, r230_21, r230_22, r230_24, r230_25, r230_26, r230_27, r230_28, r230_29, r230_30, r230_33, r230_34, r230_35, r230_36, r230_37, r230_39, r230_40, r230_41, r230_42, r230_43, r230_44, r230_45, r230_47, r230_48, r230_49, r230_52, r230_55, znl_i, znl_r, znl_j, znl_l, List.length_cons, List.length_nil, Option.some.injEq, Sum.inl.injEq, Sum.inr.injEq, Prod.mk.injEq, true_and, and_true, exists_eq_left', zK_sI, zA_sI, zL_sI, zK_sL, zA_sL, zI_sL, zK_fI, zA_fI, zL_fI, zK_fL, zA_fL, zI_fL, Nat.reduceAdd, Nat.reduceLeDiff, forall_eq', zl_lt, zl_gt, zl_eq, zl_le, zl_ge, zm_0, zaft_n, zaft_v, zb_eq, Decidable.not_not, H.K, H.A0, H.K1]
      simp (disch := omega) only [zn_b, Int.toNat_natCast, zI_fI_s, e1, e2]
      refine ⟨by omega, by omega, fun z => by omega, fun _ => ⟨by omega, by omega, by omega, by omega, by omega, ?_⟩⟩
      simp only [zsI_f, zfI_fI, zI_fI_s]
      have e3 : zup (ychg (zI h (a + 1)) f i k t c) (f + 4 + 4 * k + i) (t * ychg (zI h (a + 1)) f i k t c (f + 4 + 4 * k + i) + c) = ychg (zI h (a + 1)) f i (k + 1) t c := by
        funext j
        simp only [zup, ychg]
        by_cases q0 : j = f + 4 + 4 * k + i
        · subst q0; rw [if_pos rfl, if_neg (by omega), if_pos (by omega)]
        · rw [if_neg q0]
          by_cases q2 : f + 4 + i ≤ j ∧ j < f + 4 + i + 4 * k ∧ (j - (f + 4 + i)) % 4 = 0
          · rw [if_pos q2, if_pos (by omega)]
          · rw [if_neg q2, if_neg (by omega)]
      rw [e3]
      exact nx
  have l0 := loop n 0 (by omega)
  have e4 : ychg (zI h (a + 1)) f i 0 t c = zI h (a + 1) := funext fun j => by simp only [ychg]; rw [if_neg (by omega)]
  rw [e4, zfI_id] at l0
  simp only [n230, r230_0, r230_1, r230_5, r230_6, r230_9, r230_10, r230_11, r230_14, r230_15, r230_18, r230_19, r230_20, r230_21, r230_22, r230_24, r230_25, r230_26, r230_27, r230_28, r230_29, r230_30, r230_33, r230_34, r230_35, r230_36, r230_37, r230_39, r230_40, r230_41, r230_42, r230_43, r230_44, r230_45, r230_47, r230_48, r230_49, r230_52, r230_55, znl_i, znl_r, znl_j, znl_l, List.length_cons, List.length_nil, Option.some.injEq, Sum.inl.injEq, Sum.inr.injEq, Prod.mk.injEq, true_and, and_true, exists_eq_left', zK_sI, zA_sI, zL_sI, zK_sL, zA_sL, zI_sL, zK_fI, zA_fI, zL_fI, zK_fL, zA_fL, zI_fL, Nat.reduceAdd, Nat.reduceLeDiff, forall_eq', zl_lt, zl_gt, zl_eq, zl_le, zl_ge, zm_0, zaft_n, zaft_v, zb_eq, Decidable.not_not]
  exact l0
theorem mF_chg {A : Nat → Int} {f i n : Nat} {p : Nat → Nat → Int} {t c : Int} (hi : 1 ≤ i) (hi4 : i < 4) (h : mF A f (n, p)) : mF (ychg A f i n t c) f (n, fun k j => if j = i then t * p k i + c else p k j) := by
  refine ⟨?_, fun k hk j hj => ?_⟩
  · simp only [ychg]; rw [if_neg (by omega)]; exact h.1
  · dsimp only at hk ⊢
    simp only [ychg]
    by_cases q : j = i
    · subst q; rw [if_pos (by omega), if_pos rfl, h.2 k hk j hj]
    · rw [if_neg (by omega), if_neg q]; exact h.2 k hk j hj
theorem m_imageOf (H : zmo e a h) (b w i : Nat) (hb : b ≤ 464) (hw : w ≤ 7) (hi : 1 ≤ i) (hi4 : i < 4) : zc e (d + 1) 227 [zr (some a), zi b, zi w, zi i] h (fun o h' => o = Sum.inl (some (zi (yimg w (fun j => zI h (a + 1) (b + j)) i))) ∧ h' = h) := by
  simp only [n227, r227_0, r227_1, r227_4, r227_5, r227_8, r227_9, r227_10, r227_11, r227_12, r227_13, r227_14, r227_15, r227_16, r227_19, r227_20, r227_21, r227_24, r227_25, r227_28, r227_29, r227_30, r227_31, r227_32, r227_33, r227_36, r227_37, r227_40, r227_41, r227_42, r227_43, r227_44, r227_45, r227_46, r227_48, r227_51, r227_52, r227_55, r227_56, r227_57, r227_58, r227_61, r227_62, r227_65, r227_66, r227_67, r227_68, r227_69, r227_70, r227_71, r227_72, r227_73, r227_76, r227_77, r227_80, r227_81, r227_82, r227_85, r227_86, r227_89, r227_90, r227_92, r227_93, r227_95, r227_98, r227_99, r227_102, r227_103, r227_104, r227_105, r227_106, r227_109, r227_110, r227_113, r227_114, r227_116, r227_117, r227_119, r227_120, r227_121, r227_122, r227_123, znl_i, znl_r, znl_j, znl_l, List.length_cons, List.length_nil, Option.some.injEq, Sum.inl.injEq, Sum.inr.injEq, Prod.mk.injEq, true_and, and_true, exists_eq_left', zK_sI, zA_sI, zL_sI, zK_sL, zA_sL, zI_sL, zK_fI, zA_fI, zL_fI, zK_fL, zA_fL, zI_fL, Nat.reduceAdd, Nat.reduceLeDiff, forall_eq', zl_lt, zl_gt, zl_eq, zl_le, zl_ge, zm_0, zaft_n, zaft_v, zb_eq, Decidable.not_not, H.K, H.A0, H.K1]
  simp (disch := omega) only [zn_b, zm_b, Int.toNat_natCast]
  repeat' (first | refine And.intro ?_ ?_ | intro _)
  all_goals first | omega | (simp only [yimg]; (repeat (first | rw [if_pos (by omega)] | rw [if_neg (by omega)])); first | (congr 1 <;> omega) | (congr 2 <;> omega))
end
