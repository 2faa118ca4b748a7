/-! ===== the reference: sides, cross products, the shape ===== -/
def ysub (F : yF) (k o : Nat) : Nat → Int := fun i => F.2 k (i + 1) - F.2 o (i + 1)
def ycrs (u v : Nat → Int) : Nat → Int := fun i => u ((i + 1) % 3) * v ((i + 2) % 3) - u ((i + 2) % 3) * v ((i + 1) % 3)
def ydot (u v : Nat → Int) : Int := u 0 * v 0 + u 1 * v 1 + u 2 * v 2
/-- three numbers of a row from t on are those of u -/
def yrow (f : Nat → Int) (t : Nat) (u : Nat → Int) : Nat → Int := fun j => if t ≤ j ∧ j < t + 3 then u (j - t) else f j
def yfrom (f : Nat → Int) (t : Nat) : Nat → Int := fun i => f (t + i)
theorem zfL_comm (h : zH) {c c' : Nat} (f g) (hc : c ≠ c') : zfL (zfL h c f) c' g = zfL (zfL h c' g) c f := by
  refine zeq rfl rfl rfl ?_ rfl rfl
  funext b
  simp only [zL_fL]
  by_cases hb : b = c
  · subst hb; simp [hc]
  · simp [hb]
theorem ysub_bd {F : yF} (hp : yplaced F) {k o i : Nat} (hk : k < F.1) (ho : o < F.1) (hi : i < 3) : -100 ≤ ysub F k o i ∧ ysub F k o i ≤ 100 := by
  have h1 := hp k hk (i + 1) (by omega) (by omega)
  have h2 := hp o ho (i + 1) (by omega) (by omega)
  simp only [ysub]; omega
section
variable {e : zEv} {a d : Nat} {h : zH}
theorem m_sideTo (H : zmo e a h) (r t k o : Nat) (F : yF) (hF : mF (zI h (a + 1)) 0 F) (hn : F.1 ≤ 12) (hp : yplaced F) (hr : zK h r = some (Sum.inr (.long, 9))) (hb : e.1 ≤ r) (ht : t ≤ 6) (hk : k < F.1) (ho : o < F.1) : zc e (d + 2) 257 [zr (some a), zr (some r), zi t, zi k, zi o] h (fun ov h' => ov = Sum.inl none ∧ h' = zfL h r (yrow (zL h r) t (ysub F k o))) := by
  have loop : ∀ (j i : Nat), i + j = 3 → zg e 257 (d + 1) 3 [zr (some a), zr (some r), zi t, zi k, zi o, zi i] [] (zfL h r (fun q => if t ≤ q ∧ q < t + i then ysub F k o (q - t) else zL h r q)) (fun ov h' => ov = Sum.inl none ∧ h' = zfL h r (yrow (zL h r) t (ysub F k o))) := by
    intro j
    induction j with
    | zero =>
      intro i hi
      obtain rfl : i = 3 := by omega
      rw [r257_3]
      simp only [r257_0, r257_1, r257_5, r257_6, r257_9, r257_10, r257_11, r257_13, r257_14, r257_15, r257_16, r257_18, r257_19, r257_20, r257_23, r257_24, r257_26, r257_28, r257_29, r257_30, r257_33, r257_34, r257_35, r257_36, r257_39, r257_42, znl_i, znl_r, znl_j, znl_l, List.length_cons, List.length_nil, Option.some.injEq, Sum.inl.injEq, Sum.inr.injEq, Prod.mk.injEq, true_and, and_true, exists_eq_left', zK_sI, zA_sI, zL_sI, zK_sL, zA_sL, zI_sL, zK_fI, zA_fI, zL_fI, zK_fL, zA_fL, zI_fL, Nat.reduceAdd, Nat.reduceLeDiff, forall_eq', zl_lt, zl_gt, zl_eq, zl_le, zl_ge, zm_0, zaft_n, zaft_v, zb_eq, Decidable.not_not, H.K]
      simp (disch := omega) only [zn_b, zm_b, Int.toNat_natCast]
      exact ⟨fun _ => rfl, fun z => by omega⟩
    | succ j ih =>
      intro i hi
      have nx := ih (i + 1) (by omega)
      have sb := ysub_bd hp hk ho (show i < 3 by omega)
      have v1 : zI h (a + 1) (4 + 4 * (k : Int) + ((i : Int) + 1)).toNat = F.2 k (i + 1) := by
        rw [← hF.2 k hk (i + 1) (by omega)]; congr 1 <;> omega
      have v2 : zI h (a + 1) (4 + 4 * (o : Int) + ((i : Int) + 1)).toNat = F.2 o (i + 1) := by
        rw [← hF.2 o ho (i + 1) (by omega)]; congr 1 <;> omega
      rw [r257_3]
      simp only [r257_0, r257_1, r257_5, r257_6, r257_9, r257_10, r257_11, r257_13, r257_14, r257_15, r257_16, r257_18, r257_19, r257_20, r257_23, r257_24, r257_26, r257_28, r257_29, r257_30, r257_33, r257_34, r257_35, r257_36, r257_39, r257_42, znl_i, znl_r, znl_j, znl_l, List.length_cons, List.length_nil, Option.some.injEq, Sum.inl.injEq, Sum.inr.injEq, Prod.mk.injEq, true_and, and_true, exists_eq_left', zK_sI, zA_sI, zL_sI, zK_sL, zA_sL, zI_sL, zK_fI, zA_fI, zL_fI, zK_fL, zA_fL, zI_fL, Nat.reduceAdd, Nat.reduceLeDiff, forall_eq', zl_lt, zl_gt, zl_eq, zl_le, zl_ge, zm_0, zaft_n, zaft_v, zb_eq, Decidable.not_not, H.K]
      simp (disch := omega) only [zn_b, zm_b, Int.toNat_natCast]
      refine ⟨fun z => by omega, fun _ => ?_⟩
      refine zc_w (m_of (h := zfL h r _) H k ((i : Int) + 1) (by omega) (by omega) (by omega) (by omega)) ?_
      simp only [r257_0, r257_1, r257_5, r257_6, r257_9, r257_10, r257_11, r257_13, r257_14, r257_15, r257_16, r257_18, r257_19, r257_20, r257_23, r257_24, r257_26, r257_28, r257_29, r257_30, r257_33, r257_34, r257_35, r257_36, r257_39, r257_42, znl_i, znl_r, znl_j, znl_l, List.length_cons, List.length_nil, Option.some.injEq, Sum.inl.injEq, Sum.inr.injEq, Prod.mk.injEq, true_and, and_true, exists_eq_left', zK_sI, zA_sI, zL_sI, zK_sL, zA_sL, zI_sL, zK_fI, zA_fI, zL_fI, zK_fL, zA_fL, zI_fL, Nat.reduceAdd, Nat.reduceLeDiff, forall_eq', zl_lt, zl_gt, zl_eq, zl_le, zl_ge, zm_0, zaft_n, zaft_v, zb_eq, Decidable.not_not, H.K]
      refine zc_w (m_of (h := zfL h r _) H o ((i : Int) + 1) (by omega) (by omega) (by omega) (by omega)) ?_
      simp only [r257_0, r257_1, r257_5, r257_6, r257_9, r257_10, r257_11, r257_13, r257_14, r257_15, r257_16, r257_18, r257_19, r257_20, r257_23, r257_24, r257_26, r257_28, r257_29, r257_30, r257_33, r257_34, r257_35, r257_36, r257_39, r257_42, znl_i, znl_r, znl_j, znl_l, List.length_cons, List.length_nil, Option.some.injEq, Sum.inl.injEq, Sum.inr.injEq, Prod.mk.injEq, true_and, and_true, exists_eq_left', zK_sI, zA_sI, zL_sI, zK_sL, zA_sL, zI_sL, zK_fI, zA_fI, zL_fI, zK_fL, zA_fL, zI_fL, Nat.reduceAdd, Nat.reduceLeDiff, forall_eq', zl_lt, zl_gt, zl_eq, zl_le, zl_ge, zm_0, zaft_n, zaft_v, zb_eq, Decidable.not_not, hr]
      rw [v1, v2, show F.2 k (i + 1) - F.2 o (i + 1) = ysub F k o i from rfl, zn_b (x := ysub F k o i) (by omega) (by omega)]
      simp (disch := omega) only [zn_b, show ((t : Int) + i).toNat = t + i by omega]
      repeat (refine And.intro (by omega) ?_)
      rw [zsL_f, zL_fL_s, zfL_fL]
      have e3 : zup (fun q => if t ≤ q ∧ q < t + i then ysub F k o (q - t) else zL h r q) (t + i) (ysub F k o i) = (fun q => if t ≤ q ∧ q < t + (i + 1) then ysub F k o (q - t) else zL h r q) := by
        funext q
        simp only [zup]
        by_cases q0 : q = t + i
        · subst q0; rw [if_pos rfl, if_pos (by omega), show t + i - t = i by omega]
        · rw [if_neg q0]
          by_cases q2 : t ≤ q ∧ q < t + i
          · rw [if_pos q2, if_pos (by omega)]
          · rw [if_neg q2, if_neg (by omega)]
      rw [e3]
      exact nx
  have l0 := loop 3 0 rfl
  rw [show (fun q => if t ≤ q ∧ q < t + 0 then ysub F k o (q - t) else zL h r q) = zL h r from funext fun q => if_neg (by omega), zfL_id] at l0
  simp only [n257, r257_0, r257_1, r257_5, r257_6, r257_9, r257_10, r257_11, r257_13, r257_14, r257_15, r257_16, r257_18, r257_19, r257_20, r257_23, r257_24, r257_26, r257_28, r257_29, r257_30, r257_33, r257_34, r257_35, r257_36, r257_39, r257_42, znl_i, znl_r, znl_j, znl_l, List.length_cons, List.length_nil, Option.some.injEq, Sum.inl.injEq, Sum.inr.injEq, Prod.mk.injEq, true_and, and_true, exists_eq_left', zK_sI, zA_sI, zL_sI, zK_sL, zA_sL, zI_sL, zK_fI, zA_fI, zL_fI, zK_fL, zA_fL, zI_fL, Nat.reduceAdd, Nat.reduceLeDiff, forall_eq', zl_lt, zl_gt, zl_eq, zl_le, zl_ge, zm_0, zaft_n, zaft_v, zb_eq, Decidable.not_not]
  exact l0
theorem m_crosses (r q p t o : Nat) (hr : zK h r = some (Sum.inr (.long, 9))) (hro : zK h o = some (Sum.inr (.long, 9))) (hb : e.1 ≤ o) (hq : q ≤ 6) (hp : p ≤ 6) (ht : t ≤ 6) (hd : r ≠ o ∨ (q + 3 ≤ t ∧ p + 3 ≤ t)) : zc e (d + 1) 258 [zr (some r), zi q, zi p, zr (some o), zi t] h (fun ov h' => ov = Sum.inl none ∧ h' = zfL h o (yrow (zL h o) t (ycrs (yfrom (zL h r) q) (yfrom (zL h r) p)))) := by
  have step : ∀ (i : Nat) (f : Nat → Int) (w1 w2 : zV) (P : zEt), i < 3 → (∀ j, j < 3 → (if r = o then f (q + j) else zL h r (q + j)) = zL h r (q + j) ∧ (if r = o then f (p + j) else zL h r (p + j)) = zL h r (p + j)) → (∀ w1 w2, zg e 258 d 3 [zr (some r), zi q, zi p, zr (some o), zi t, zi ((i + 1 : Nat) : Int), w1, w2] [] (zfL h o (zup f (t + i) (ycrs (yfrom (zL h r) q) (yfrom (zL h r) p) i))) P) → zg e 258 d 3 [zr (some r), zi q, zi p, zr (some o), zi t, zi i, w1, w2] [] (zfL h o f) P := by
    intro i f w1 w2 P hi hf nx
    have rd : ∀ j, zL (zfL h o f) r j = if r = o then f j else zL h r j := fun j => by
      rw [zL_fL]; by_cases z : r = o <;> simp [z]
    have m1 : ((i : Int) + 1).tmod 3 = (((i + 1) % 3 : Nat) : Int) := by
      rw [Int.tmod_eq_emod_of_nonneg (by omega)]; omega
    have m2 : ((i : Int) + 2).tmod 3 = (((i + 2) % 3 : Nat) : Int) := by
      rw [Int.tmod_eq_emod_of_nonneg (by omega)]; omega
    rw [r258_3]
    simp only [r258_0, r258_1, r258_5, r258_6, r258_9, r258_11, r258_12, r258_13, r258_14, r258_15, r258_17, r258_19, r258_20, r258_21, r258_22, r258_23, r258_25, r258_26, r258_28, r258_30, r258_31, r258_32, r258_33, r258_35, r258_36, r258_37, r258_38, r258_39, r258_41, r258_42, r258_43, r258_44, r258_45, r258_46, r258_48, r258_49, r258_50, r258_51, r258_52, r258_54, r258_55, r258_56, r258_57, r258_58, r258_59, r258_62, r258_65, znl_i, znl_r, znl_j, znl_l, List.length_cons, List.length_nil, Option.some.injEq, Sum.inl.injEq, Sum.inr.injEq, Prod.mk.injEq, true_and, and_true, exists_eq_left', zK_sI, zA_sI, zL_sI, zK_sL, zA_sL, zI_sL, zK_fI, zA_fI, zL_fI, zK_fL, zA_fL, zI_fL, Nat.reduceAdd, Nat.reduceLeDiff, forall_eq', zl_lt, zl_gt, zl_eq, zl_le, zl_ge, zm_0, zaft_n, zaft_v, zb_eq, Decidable.not_not, hr, hro]
    simp (disch := omega) only [zn_b]
    rw [m1, m2]
    have b1 : (i + 1) % 3 < 3 := by omega
    have b2 : (i + 2) % 3 < 3 := by omega
    generalize h1 : (i + 1) % 3 = i1 at b1 ⊢
    generalize h2 : (i + 2) % 3 = i2 at b2 ⊢
    simp (disch := omega) only [zn_b, show ((q : Int) + i1).toNat = q + i1 by omega, show ((p : Int) + i2).toNat = p + i2 by omega, show ((q : Int) + i2).toNat = q + i2 by omega, show ((p : Int) + i1).toNat = p + i1 by omega, show ((t : Int) + i).toNat = t + i by omega, rd, (hf i1 b1).1, (hf i2 b2).2, (hf i2 b2).1, (hf i1 b1).2]
    refine ⟨fun z => by omega, fun _ => ⟨by omega, by omega, ?_⟩⟩
    repeat (refine And.intro (by omega) ?_)
    rw [zsL_f, zL_fL_s, zfL_fL]
    have e9 : ycrs (yfrom (zL h r) q) (yfrom (zL h r) p) i = zL h r (q + i1) * zL h r (p + i2) - zL h r (q + i2) * zL h r (p + i1) := by
      simp only [ycrs, yfrom, h1, h2]
    rw [← e9]
    exact nx _ _
  have off : ∀ (f : Nat → Int), (∀ j, j < t → f j = zL h o j) → ∀ j, j < 3 → (if r = o then f (q + j) else zL h r (q + j)) = zL h r (q + j) ∧ (if r = o then f (p + j) else zL h r (p + j)) = zL h r (p + j) := by
    intro f hf j hj
    by_cases z : r = o
    · rw [if_pos z, if_pos z, z]
      rcases hd with hd | hd
      · exact absurd z hd
      · exact ⟨hf _ (by omega), hf _ (by omega)⟩
    · rw [if_neg z, if_neg z]; exact ⟨rfl, rfl⟩
  simp only [n258, r258_0, r258_1, r258_5, r258_6, r258_9, r258_11, r258_12, r258_13, r258_14, r258_15, r258_17, r258_19, r258_20, r258_21, r258_22, r258_23, r258_25, r258_26, r258_28, r258_30, r258_31, r258_32, r258_33, r258_35, r258_36, r258_37, r258_38, r258_39, r258_41, r258_42, r258_43, r258_44, r258_45, r258_46, r258_48, r258_49, r258_50, r258_51, r258_52, r258_54, r258_55, r258_56, r258_57, r258_58, r258_59, r258_62, r258_65, znl_i, znl_r, znl_j, znl_l, List.length_cons, List.length_nil, Option.some.injEq, Sum.inl.injEq, Sum.inr.injEq, Prod.mk.injEq, true_and, and_true, exists_eq_left', zK_sI, zA_sI, zL_sI, zK_sL, zA_sL, zI_sL, zK_fI, zA_fI, zL_fI, zK_fL, zA_fL, zI_fL, Nat.reduceAdd, Nat.reduceLeDiff, forall_eq', zl_lt, zl_gt, zl_eq, zl_le, zl_ge, zm_0, zaft_n, zaft_v, zb_eq, Decidable.not_not]
  rw [← zfL_id h o]
  rw [show zL (zfL h o (zL h o)) = zL h by rw [zfL_id]]
  refine step 0 _ _ _ _ (by omega) (off _ (fun _ _ => rfl)) (fun w1 w2 => step 1 _ _ _ _ (by omega) (off _ (fun j hj => by simp only [zup]; rw [if_neg (by omega)])) (fun w3 w4 => step 2 _ _ _ _ (by omega) (off _ (fun j hj => by simp only [zup]; rw [if_neg (by omega), if_neg (by omega)])) (fun w5 w6 => ?_)))
  rw [r258_3]
  simp only [r258_0, r258_1, r258_5, r258_6, r258_9, r258_11, r258_12, r258_13, r258_14, r258_15, r258_17, r258_19, r258_20, r258_21, r258_22, r258_23, r258_25, r258_26, r258_28, r258_30, r258_31, r258_32, r258_33, r258_35, r258_36, r258_37, r258_38, r258_39, r258_41, r258_42, r258_43, r258_44, r258_45, r258_46, r258_48, r258_49, r258_50, r258_51, r258_52, r258_54, r258_55, r258_56, r258_57, r258_58, r258_59, r258_62, r258_65, znl_i, znl_r, znl_j, znl_l, List.length_cons, List.length_nil, Option.some.injEq, Sum.inl.injEq, Sum.inr.injEq, Prod.mk.injEq, true_and, and_true, exists_eq_left', zK_sI, zA_sI, zL_sI, zK_sL, zA_sL, zI_sL, zK_fI, zA_fI, zL_fI, zK_fL, zA_fL, zI_fL, Nat.reduceAdd, Nat.reduceLeDiff, forall_eq', zl_lt, zl_gt, zl_eq, zl_le, zl_ge, zm_0, zaft_n, zaft_v, zb_eq, Decidable.not_not]
  simp (disch := omega) only [zn_b, zm_b, Int.toNat_natCast]
  refine ⟨fun _ => ?_, fun z => by omega⟩
  rw [zfL_fL]
  refine congrArg (zfL h o) (funext fun j => ?_)
  simp only [zup, yrow]
  by_cases q2 : j = t + 2
  · subst q2; rw [if_pos rfl, if_pos (by omega), show t + 2 - t = 2 by omega]
  · rw [if_neg q2]
    by_cases q1 : j = t + 1
    · subst q1; rw [if_pos rfl, if_pos (by omega), show t + 1 - t = 1 by omega]
    · rw [if_neg q1]
      by_cases q0 : j = t + 0
      · rw [if_pos q0, if_pos (by omega), show j - t = 0 by omega]
      · rw [if_neg q0, if_neg (by omega)]
theorem m_isNought (r t : Nat) (hr : zK h r = some (Sum.inr (.long, 9))) (ht : t ≤ 6) (hv : ∀ i, i < 3 → -1000000000000000000 ≤ zL h r (t + i) ∧ zL h r (t + i) ≤ 1000000000000000000) : zc e (d + 1) 259 [zr (some r), zi t] h (fun ov h' => ov = Sum.inl (some (zi (if zL h r t = 0 ∧ zL h r (t + 1) = 0 ∧ zL h r (t + 2) = 0 then 1 else 0))) ∧ h' = h) := by
  have v0 := hv 0 (by omega)
  have v1 := hv 1 (by omega)
  have v2 := hv 2 (by omega)
  rw [Nat.add_zero] at v0
  simp only [n259, r259_0, r259_1, r259_2, r259_3, r259_4, r259_5, r259_8, r259_9, r259_10, r259_11, r259_12, r259_13, r259_14, r259_15, r259_18, r259_19, r259_20, r259_21, r259_22, r259_23, r259_24, r259_25, r259_28, r259_29, r259_32, r259_33, znl_i, znl_r, znl_j, znl_l, List.length_cons, List.length_nil, Option.some.injEq, Sum.inl.injEq, Sum.inr.injEq, Prod.mk.injEq, true_and, and_true, exists_eq_left', zK_sI, zA_sI, zL_sI, zK_sL, zA_sL, zI_sL, zK_fI, zA_fI, zL_fI, zK_fL, zA_fL, zI_fL, Nat.reduceAdd, Nat.reduceLeDiff, forall_eq', zl_lt, zl_gt, zl_eq, zl_le, zl_ge, zm_0, zaft_n, zaft_v, zb_eq, Decidable.not_not, hr]
  simp (disch := omega) only [zn_b, Int.toNat_natCast, show ((t : Int) + 1).toNat = t + 1 by omega, show ((t : Int) + 2).toNat = t + 2 by omega]
  rw [zm_b v0.1 v0.2, zm_b v1.1 v1.2, zm_b v2.1 v2.2]
  refine ⟨by omega, by omega, fun q => ?_, fun q0 => ⟨by omega, by omega, fun q => ?_, fun q1 => ⟨by omega, by omega, fun q => ?_, fun q2 => ?_⟩⟩⟩
  · rw [if_neg (fun z => q z.1)]; simp only [true_and]; decide
  · rw [if_neg (fun z => q z.2.1)]; simp only [true_and]; decide
  · rw [if_neg (fun z => q z.2.2)]; simp only [true_and]; decide
  · rw [if_pos ⟨q0, q1, q2⟩]; simp only [true_and]; decide
theorem m_spans (r o : Nat) (hr : zK h r = some (Sum.inr (.long, 9))) (ho : zK h o = some (Sum.inr (.long, 9))) : zc e (d + 1) 270 [zr (some r), zr (some o)] h (fun ov h' => ov = Sum.inl (some (zl (ydot (zL h r) (zL h o)))) ∧ h' = h) := by
  simp only [n270, r270_0, r270_1, r270_2, r270_3, r270_4, r270_5, r270_6, r270_7, r270_8, r270_9, r270_10, r270_11, r270_12, r270_13, r270_14, r270_15, r270_16, r270_17, r270_18, r270_19, r270_20, r270_21, r270_22, r270_23, znl_i, znl_r, znl_j, znl_l, List.length_cons, List.length_nil, Option.some.injEq, Sum.inl.injEq, Sum.inr.injEq, Prod.mk.injEq, true_and, and_true, exists_eq_left', zK_sI, zA_sI, zL_sI, zK_sL, zA_sL, zI_sL, zK_fI, zA_fI, zL_fI, zK_fL, zA_fL, zI_fL, Nat.reduceAdd, Nat.reduceLeDiff, forall_eq', zl_lt, zl_gt, zl_eq, zl_le, zl_ge, zm_0, zaft_n, zaft_v, zb_eq, Decidable.not_not, hr, ho]
  have e0 : zn 0 = 0 := by decide
  have e1 : zn 1 = 1 := by decide
  have e2 : zn 2 = 2 := by decide
  simp only [e0, e1, e2]
  repeat (refine And.intro (by omega) ?_)
  rfl
end
