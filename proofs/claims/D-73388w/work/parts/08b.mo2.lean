/-! ===== the reference: what is done to frames ===== -/
def ycpy (A : Nat → Int) (f t : Nat) : Nat → Int := fun j => if t ≤ j ∧ j < t + 52 then A (f + (j - t)) else A j
def yshft (A : Nat → Int) (f k n : Nat) : Nat → Int := fun j => if j = f then A f - 1 else if f + 4 + 4 * k ≤ j ∧ j + 4 < f + 4 + 4 * n then A (j + 4) else A j
def ychg (A : Nat → Int) (f i n : Nat) (t c : Int) : Nat → Int := fun j => if f + 4 + i ≤ j ∧ j < f + 4 + i + 4 * n ∧ (j - (f + 4 + i)) % 4 = 0 then t * A j + c else A j
/-- what becomes of a place by an image -/
def yimg (w : Nat) (q : Nat → Int) (i : Nat) : Int :=
  if w = 0 then -q i else if w < 4 then (if i = w then -q i else q i) else if w = 7 then q (if i = 1 then 3 else i - 1) else
  if w = 4 then (if i = 3 then q 3 else q (3 - i)) else if w = 5 then (if i = 1 then q 1 else q (5 - i)) else (if i = 2 then q 2 else q (4 - i))
def ydist (F : yF) (k o : Nat) : Int := (F.2 k 1 - F.2 o 1) * (F.2 k 1 - F.2 o 1) + (F.2 k 2 - F.2 o 2) * (F.2 k 2 - F.2 o 2) + (F.2 k 3 - F.2 o 3) * (F.2 k 3 - F.2 o 3)
section
variable {e : zEv} {a d : Nat} {h : zH}
theorem m_isPlace (x y z : Int) : zc e (d + 2) 244 [zi x, zi y, zi z] h (fun o h' => o = Sum.inl (some (zi (if (-50 ≤ zn x ∧ zn x ≤ 50) ∧ (-50 ≤ zn y ∧ zn y ≤ 50) ∧ (-50 ≤ zn z ∧ zn z ≤ 50) then 1 else 0))) ∧ h' = h) := by
  have e1 : zn (-50) = -50 := by decide
  have e2 : zn 50 = 50 := by decide
  have e3 : 0 ≤ zn 0 ∧ zn 0 ≤ 1 := by decide
  have e4 : 0 ≤ zn 1 ∧ zn 1 ≤ 1 := by decide
  simp only [n244, r244_0, r244_1, r244_3, r244_5, r244_8, r244_11, r244_12, r244_14, r244_16, r244_19, r244_22, r244_23, r244_25, r244_27, r244_30, r244_33, r244_34, r244_37, r244_38, znl_i, znl_r, znl_j, znl_l, List.length_cons, List.length_nil, Option.some.injEq, Sum.inl.injEq, Sum.inr.injEq, Prod.mk.injEq, true_and, and_true, exists_eq_left', zK_sI, zA_sI, zL_sI, zK_sL, zA_sL, zI_sL, zK_fI, zA_fI, zL_fI, zK_fL, zA_fL, zI_fL, Nat.reduceAdd, Nat.reduceLeDiff, forall_eq', zl_lt, zl_gt, zl_eq, zl_le, zl_ge, zm_0, zaft_n, zaft_v, zb_eq, Decidable.not_not]
  refine zc_mono (m_isFrom x (-50) 50) ?_
  rintro _ _ ⟨rfl, rfl⟩
  simp only [r244_0, r244_1, r244_3, r244_5, r244_8, r244_11, r244_12, r244_14, r244_16, r244_19, r244_22, r244_23, r244_25, r244_27, r244_30, r244_33, r244_34, r244_37, r244_38, znl_i, znl_r, znl_j, znl_l, List.length_cons, List.length_nil, Option.some.injEq, Sum.inl.injEq, Sum.inr.injEq, Prod.mk.injEq, true_and, and_true, exists_eq_left', zK_sI, zA_sI, zL_sI, zK_sL, zA_sL, zI_sL, zK_fI, zA_fI, zL_fI, zK_fL, zA_fL, zI_fL, Nat.reduceAdd, Nat.reduceLeDiff, forall_eq', zl_lt, zl_gt, zl_eq, zl_le, zl_ge, zm_0, zaft_n, zaft_v, zb_eq, Decidable.not_not, e1, e2, e3, e4]
  refine ⟨fun q => by rw [if_neg (fun z => q z.1)], fun q1 => ?_⟩
  refine zc_mono (m_isFrom y (-50) 50) ?_
  rintro _ _ ⟨rfl, rfl⟩
  simp only [r244_0, r244_1, r244_3, r244_5, r244_8, r244_11, r244_12, r244_14, r244_16, r244_19, r244_22, r244_23, r244_25, r244_27, r244_30, r244_33, r244_34, r244_37, r244_38, znl_i, znl_r, znl_j, znl_l, List.length_cons, List.length_nil, Option.some.injEq, Sum.inl.injEq, Sum.inr.injEq, Prod.mk.injEq, true_and, and_true, exists_eq_left', zK_sI, zA_sI, zL_sI, zK_sL, zA_sL, zI_sL, zK_fI, zA_fI, zL_fI, zK_fL, zA_fL, zI_fL, Nat.reduceAdd, Nat.reduceLeDiff, forall_eq', zl_lt, zl_gt, zl_eq, zl_le, zl_ge, zm_0, zaft_n, zaft_v, zb_eq, Decidable.not_not, e1, e2, e3, e4]
  refine ⟨fun q => by rw [if_neg (fun z => q z.2.1)], fun q2 => ?_⟩
  refine zc_mono (m_isFrom z (-50) 50) ?_
  rintro _ _ ⟨rfl, rfl⟩
  simp only [r244_0, r244_1, r244_3, r244_5, r244_8, r244_11, r244_12, r244_14, r244_16, r244_19, r244_22, r244_23, r244_25, r244_27, r244_30, r244_33, r244_34, r244_37, r244_38, znl_i, znl_r, znl_j, znl_l, List.length_cons, List.length_nil, Option.some.injEq, Sum.inl.injEq, Sum.inr.injEq, Prod.mk.injEq, true_and, and_true, exists_eq_left', zK_sI, zA_sI, zL_sI, zK_sL, zA_sL, zI_sL, zK_fI, zA_fI, zL_fI, zK_fL, zA_fL, zI_fL, Nat.reduceAdd, Nat.reduceLeDiff, forall_eq', zl_lt, zl_gt, zl_eq, zl_le, zl_ge, zm_0, zaft_n, zaft_v, zb_eq, Decidable.not_not, e1, e2, e3, e4]
  exact ⟨fun q => by rw [if_neg (fun z => q z.2.2)], fun q3 => by rw [if_pos ⟨q1, q2, q3⟩]⟩
theorem m_wrongAtom (H : zmo e a h) (F : yF) (k : Int) (hF : mF (zI h (a + 1)) 0 F) (hn : F.1 ≤ 12) : zc e (d + 1) 241 [zr (some a), zi k] h (fun o h' => o = Sum.inl (some (zi (if zn k < 0 then 1 else if zn k < (F.1 : Int) then 0 else 3))) ∧ h' = h) := by
  simp only [n241, r241_0, r241_1, r241_4, r241_5, r241_8, r241_9, r241_10, r241_13, r241_14, r241_15, r241_18, r241_19, r241_22, r241_23, znl_i, znl_r, znl_j, znl_l, List.length_cons, List.length_nil, Option.some.injEq, Sum.inl.injEq, Sum.inr.injEq, Prod.mk.injEq, true_and, and_true, exists_eq_left', zK_sI, zA_sI, zL_sI, zK_sL, zA_sL, zI_sL, zK_fI, zA_fI, zL_fI, zK_fL, zA_fL, zI_fL, Nat.reduceAdd, Nat.reduceLeDiff, forall_eq', zl_lt, zl_gt, zl_eq, zl_le, zl_ge, zm_0, zaft_n, zaft_v, zb_eq, Decidable.not_not, H.K, H.A0, H.K1]
  have e0 : zn 0 = 0 := by decide
  have e1 : zI h (a + 1) 0 = (F.1 : Int) := hF.1
  simp only [e0, Int.toNat_zero, e1]
  rw [zn_b (x := (F.1 : Int)) (by omega) (by omega)]
  refine ⟨fun q => ⟨by omega, by omega, fun q2 => ?_, fun q2 => ?_⟩, fun q => ?_⟩
  · rw [if_neg (by omega), if_pos q2]
  · rw [if_neg (by omega), if_neg (by omega)]
  · rw [if_pos q]
theorem m_unlays (H : zmo e a h) : zc e (d + 1) 235 [zr (some a)] h (fun o h' => o = Sum.inl none ∧ h' = zsI (zsI (zsI h a 17 0) a 18 0) a 19 0) := by
  have e3 : 0 ≤ zn 0 ∧ zn 0 ≤ 1 := by decide
  simp only [n235, r235_0, r235_1, r235_2, r235_5, r235_6, r235_7, r235_10, r235_11, r235_12, r235_15, znl_i, znl_r, znl_j, znl_l, List.length_cons, List.length_nil, Option.some.injEq, Sum.inl.injEq, Sum.inr.injEq, Prod.mk.injEq, true_and, and_true, exists_eq_left', zK_sI, zA_sI, zL_sI, zK_sL, zA_sL, zI_sL, zK_fI, zA_fI, zL_fI, zK_fL, zA_fL, zI_fL, Nat.reduceAdd, Nat.reduceLeDiff, forall_eq', zl_lt, zl_gt, zl_eq, zl_le, zl_ge, zm_0, zaft_n, zaft_v, zb_eq, Decidable.not_not, H.K, H.1, e3]
theorem m_copies (H : zmo e a h) (f t : Nat) (hf : f ≤ 416) (ht : t ≤ 416) (hft : f + 52 ≤ t ∨ t + 52 ≤ f) : zc e (d + 1) 236 [zr (some a), zi f, zi t] h (fun o h' => o = Sum.inl none ∧ h' = zfI h (a + 1) (ycpy (zI h (a + 1)) f t)) := by
  have hb := H.1
  have loop : ∀ (j k : Nat), k + j = 52 → zg e 236 d 2 [zr (some a), zi f, zi t, zi k] [] (zfI h (a + 1) (fun i => if t ≤ i ∧ i < t + k then zI h (a + 1) (f + (i - t)) else zI h (a + 1) i)) (fun o h' => o = Sum.inl none ∧ h' = zfI h (a + 1) (ycpy (zI h (a + 1)) f t)) := by
    intro j
    induction j with
    | zero =>
      intro k hk
      obtain rfl : k = 52 := by omega
      rw [r236_2]
      simp only [r236_0, r236_1, r236_3, r236_5, r236_8, r236_9, r236_12, r236_13, r236_14, r236_15, r236_16, r236_19, r236_20, r236_21, r236_22, r236_23, r236_24, r236_27, r236_30, znl_i, znl_r, znl_j, znl_l, List.length_cons, List.length_nil, Option.some.injEq, Sum.inl.injEq, Sum.inr.injEq, Prod.mk.injEq, true_and, and_true, exists_eq_left', zK_sI, zA_sI, zL_sI, zK_sL, zA_sL, zI_sL, zK_fI, zA_fI, zL_fI, zK_fL, zA_fL, zI_fL, Nat.reduceAdd, Nat.reduceLeDiff, forall_eq', zl_lt, zl_gt, zl_eq, zl_le, zl_ge, zm_0, zaft_n, zaft_v, zb_eq, Decidable.not_not, H.K, H.A0, H.K1]
      simp (disch := omega) only [zn_b]
      exact ⟨fun _ => rfl, fun z => by omega⟩
    | succ j ih =>
      intro k hk
      have nx := ih (k + 1) (by omega)
      rw [r236_2]
      simp only [r236_0, r236_1, r236_3, r236_5, r236_8, r236_9, r236_12, r236_13, r236_14, r236_15, r236_16, r236_19, r236_20, r236_21, r236_22, r236_23, r236_24, r236_27, r236_30, znl_i, znl_r, znl_j, znl_l, List.length_cons, List.length_nil, Option.some.injEq, Sum.inl.injEq, Sum.inr.injEq, Prod.mk.injEq, true_and, and_true, exists_eq_left', zK_sI, zA_sI, zL_sI, zK_sL, zA_sL, zI_sL, zK_fI, zA_fI, zL_fI, zK_fL, zA_fL, zI_fL, Nat.reduceAdd, Nat.reduceLeDiff, forall_eq', zl_lt, zl_gt, zl_eq, zl_le, zl_ge, zm_0, zaft_n, zaft_v, zb_eq, Decidable.not_not, H.K, H.A0, H.K1]
      simp (disch := omega) only [zn_b]
      refine ⟨fun z => by omega, fun _ => ⟨by omega, by omega, by omega, by omega, by omega, ?_⟩⟩
      have e1 : ((f : Int) + k).toNat = f + k := by omega
      have e2 : ((t : Int) + k).toNat = t + k := by omega
      simp only [e1, e2, zsI_f, zfI_fI, zI_fI_s]
      rw [if_neg (by omega)]
      have e3 : zup (fun i => if t ≤ i ∧ i < t + k then zI h (a + 1) (f + (i - t)) else zI h (a + 1) i) (t + k) (zI h (a + 1) (f + k)) = (fun i => if t ≤ i ∧ i < t + (k + 1) then zI h (a + 1) (f + (i - t)) else zI h (a + 1) i) := by
        funext i
        simp only [zup]
        by_cases q : i = t + k
        · subst q; rw [if_pos rfl, if_pos (by omega), show f + (t + k - t) = f + k by omega]
        · rw [if_neg q]
          by_cases q2 : t ≤ i ∧ i < t + k
          · rw [if_pos q2, if_pos (by omega)]
          · rw [if_neg q2, if_neg (by omega)]
      rw [e3]
      exact nx
  have l0 := loop 52 0 rfl
  have e4 : zfI h (a + 1) (fun i => if t ≤ i ∧ i < t + 0 then zI h (a + 1) (f + (i - t)) else zI h (a + 1) i) = h := by
    rw [show (fun i => if t ≤ i ∧ i < t + 0 then zI h (a + 1) (f + (i - t)) else zI h (a + 1) i) = zI h (a + 1) from funext fun i => if_neg (by omega)]
    exact zfI_id h (a + 1)
  rw [e4] at l0
  simp only [n236, r236_0, r236_1, r236_3, r236_5, r236_8, r236_9, r236_12, r236_13, r236_14, r236_15, r236_16, r236_19, r236_20, r236_21, r236_22, r236_23, r236_24, r236_27, r236_30, znl_i, znl_r, znl_j, znl_l, List.length_cons, List.length_nil, Option.some.injEq, Sum.inl.injEq, Sum.inr.injEq, Prod.mk.injEq, true_and, and_true, exists_eq_left', zK_sI, zA_sI, zL_sI, zK_sL, zA_sL, zI_sL, zK_fI, zA_fI, zL_fI, zK_fL, zA_fL, zI_fL, Nat.reduceAdd, Nat.reduceLeDiff, forall_eq', zl_lt, zl_gt, zl_eq, zl_le, zl_ge, zm_0, zaft_n, zaft_v, zb_eq, Decidable.not_not]
  exact l0
theorem m_drops (H : zmo e a h) (f k n : Nat) (hf : f ≤ 416) (hA : zI h (a + 1) f = (n : Int)) (hn : n ≤ 12) (hk : k < n) : zc e (d + 1) 233 [zr (some a), zi f, zi k] h (fun o h' => o = Sum.inl none ∧ h' = zfI h (a + 1) (yshft (zI h (a + 1)) f k n)) := by
  have hb := H.1
  have loop : ∀ (j q : Nat), q + j = 4 * (n - 1 - k) → zg e 233 d 18 [zr (some a), zi f, zi k, zi ((f : Int) + 4 + 4 * k + q)] [] (zfI h (a + 1) (fun i => if i = f then zI h (a + 1) f - 1 else if f + 4 + 4 * k ≤ i ∧ i < f + 4 + 4 * k + q then zI h (a + 1) (i + 4) else zI h (a + 1) i)) (fun o h' => o = Sum.inl none ∧ h' = zfI h (a + 1) (yshft (zI h (a + 1)) f k n)) := by
    intro j
    induction j with
    | zero =>
      intro q hq
      rw [r233_18]
      simp only [r233_0, r233_1, r233_4, r233_5, r233_6, r233_7, r233_8, r233_9, r233_10, r233_11, r233_12, r233_13, r233_14, r233_15, r233_16, r233_17, r233_19, r233_20, r233_21, r233_22, r233_23, r233_24, r233_27, r233_28, r233_29, r233_30, r233_31, r233_34, r233_35, r233_38, r233_39, r233_40, r233_43, r233_44, r233_45, r233_46, r233_47, r233_48, r233_51, r233_54, znl_i, znl_r, znl_j, znl_l, List.length_cons, List.length_nil, Option.some.injEq, Sum.inl.injEq, Sum.inr.injEq, Prod.mk.injEq, true_and, and_true, exists_eq_left', zK_sI, zA_sI, zL_sI, zK_sL, zA_sL, zI_sL, zK_fI, zA_fI, zL_fI, zK_fL, zA_fL, zI_fL, Nat.reduceAdd, Nat.reduceLeDiff, forall_eq', zl_lt, zl_gt, zl_eq, zl_le, zl_ge, zm_0, zaft_n, zaft_v, zb_eq, Decidable.not_not, H.K, H.A0, H.K1]
      simp (disch := omega) only [zn_b, Int.toNat_natCast, zI_fI_s, if_true, hA]
      refine ⟨by omega, by omega, fun _ => ?_, fun z => by omega⟩
      refine congrArg (zfI h (a + 1)) (funext fun i => ?_)
      simp only [yshft, hA]
      by_cases q1 : i = f
      · simp [q1]
      · rw [if_neg q1, if_neg q1]
        by_cases q2 : f + 4 + 4 * k ≤ i ∧ i < f + 4 + 4 * k + q
        · rw [if_pos q2, if_pos (by omega)]
        · rw [if_neg q2, if_neg (by omega)]
    | succ j ih =>
      intro q hq
      have nx := ih (q + 1) (by omega)
      rw [r233_18]
      simp only [r233_0, r233_1, r233_4, r233_5, r233_6, r233_7, r233_8, r233_9, r233_10, r233_11, r233_12, r233_13, r233_14, r233_15, r233_16, r233_17, r233_19, r233_20, r233_21, r233_22, r233_23, r233_24, r233_27, r233_28, r233_29, r233_30, r233_31, r233_34, r233_35, r233_38, r233_39, r233_40, r233_43, r233_44, r233_45, r233_46, r233_47, r233_48, r233_51, r233_54, znl_i, znl_r, znl_j, znl_l, List.length_cons, List.length_nil, Option.some.injEq, Sum.inl.injEq, Sum.inr.injEq, Prod.mk.injEq, true_and, and_true, exists_eq_left', zK_sI, zA_sI, zL_sI, zK_sL, zA_sL, zI_sL, zK_fI, zA_fI, zL_fI, zK_fL, zA_fL, zI_fL, Nat.reduceAdd, Nat.reduceLeDiff, forall_eq', zl_lt, zl_gt, zl_eq, zl_le, zl_ge, zm_0, zaft_n, zaft_v, zb_eq, Decidable.not_not, H.K, H.A0, H.K1]
      simp (disch := omega) only [zn_b, Int.toNat_natCast, zI_fI_s, if_true, hA]
      refine ⟨by omega, by omega, fun z => by omega, fun _ => ⟨by omega, by omega, by omega, by omega, by omega, ?_⟩⟩
      have e1 : ((f : Int) + 4 + 4 * k + q).toNat = f + 4 + 4 * k + q := by omega
      have e2 : ((f : Int) + 4 + 4 * k + q + 4).toNat = f + 4 + 4 * k + q + 4 := by omega
      simp only [e1, e2, zsI_f, zfI_fI, zI_fI_s]
      rw [if_neg (by omega), if_neg (by omega)]
      have e3 : zup (fun i => if i = f then (n : Int) - 1 else if f + 4 + 4 * k ≤ i ∧ i < f + 4 + 4 * k + q then zI h (a + 1) (i + 4) else zI h (a + 1) i) (f + 4 + 4 * k + q) (zI h (a + 1) (f + 4 + 4 * k + q + 4)) = (fun i => if i = f then (n : Int) - 1 else if f + 4 + 4 * k ≤ i ∧ i < f + 4 + 4 * k + (q + 1) then zI h (a + 1) (i + 4) else zI h (a + 1) i) := by
        funext i
        simp only [zup]
        by_cases q0 : i = f + 4 + 4 * k + q
        · subst q0; rw [if_pos rfl, if_neg (by omega), if_pos (by omega)]
        · rw [if_neg q0]
          by_cases q1 : i = f
          · rw [if_pos q1, if_pos q1]
          · rw [if_neg q1, if_neg q1]
            by_cases q2 : f + 4 + 4 * k ≤ i ∧ i < f + 4 + 4 * k + q
            · rw [if_pos q2, if_pos (by omega)]
            · rw [if_neg q2, if_neg (by omega)]
      rw [e3, show (f : Int) + 4 + 4 * k + q + 1 = (f : Int) + 4 + 4 * k + ((q + 1 : Nat) : Int) by omega]
      rw [hA] at nx
      exact nx
  simp only [n233, r233_0, r233_1, r233_4, r233_5, r233_6, r233_7, r233_8, r233_9, r233_10, r233_11, r233_12, r233_13, r233_14, r233_15, r233_16, r233_17, r233_19, r233_20, r233_21, r233_22, r233_23, r233_24, r233_27, r233_28, r233_29, r233_30, r233_31, r233_34, r233_35, r233_38, r233_39, r233_40, r233_43, r233_44, r233_45, r233_46, r233_47, r233_48, r233_51, r233_54, znl_i, znl_r, znl_j, znl_l, List.length_cons, List.length_nil, Option.some.injEq, Sum.inl.injEq, Sum.inr.injEq, Prod.mk.injEq, true_and, and_true, exists_eq_left', zK_sI, zA_sI, zL_sI, zK_sL, zA_sL, zI_sL, zK_fI, zA_fI, zL_fI, zK_fL, zA_fL, zI_fL, Nat.reduceAdd, Nat.reduceLeDiff, forall_eq', zl_lt, zl_gt, zl_eq, zl_le, zl_ge, zm_0, zaft_n, zaft_v, zb_eq, Decidable.not_not, H.K, H.A0, H.K1]
  simp (disch := omega) only [zn_b, Int.toNat_natCast]
  repeat (refine And.intro (by omega) ?_)
  have l0 := loop (4 * (n - 1 - k)) 0 (by omega)
  rw [zsI_f]
  have e4 : (fun i => if i = f then zI h (a + 1) f - 1 else if f + 4 + 4 * k ≤ i ∧ i < f + 4 + 4 * k + 0 then zI h (a + 1) (i + 4) else zI h (a + 1) i) = zup (zI h (a + 1)) f (zI h (a + 1) f - 1) := funext fun i => by
    simp only [zup]
    by_cases q1 : i = f
    · simp [q1]
    · rw [if_neg q1, if_neg q1, if_neg (by omega)]
  rw [e4] at l0
  simpa using l0
end
