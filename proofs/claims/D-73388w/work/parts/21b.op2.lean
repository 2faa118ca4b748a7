section
variable {e : zEv} {d x f o r n g b : Nat} {h h1 h2 : zH} {φ φ' φ'' ψ : Nat → Nat → Int} {α α' α'' : Nat → Nat → Option Nat} {F : yF} {π ρ : Nat → Nat} {sg sh : Int} {T : yT}
theorem o_lengthFrom (V : yV T) {i : Nat} (hi : i < Tm T) (O : oS h x φ α o r (Tn T) (TR T i) sg) {k : Nat} (hk : k < Tn T) : zc e (d + 2) 383 [zr (some (x + o)), zi (k : Int)] (cH h x φ ψ α) (fun ov h' => ov = Sum.inl (some (zi (if yrl T i k = -1 then 0 else yrl T i k))) ∧ h' = cH h x φ ψ α) := by
  have ho := O.lo
  have hn := O.ln
  obtain ⟨j1, j2, j3, j4⟩ := V.rj hi hk
  have ri := V.ri hi hk
  have loop := zdown (fun j => 1 ≤ j → j ≤ yrj T i k → zg e 383 (d + 1) 10 [zr (some (x + o)), zi (k : Int), zi (j : Int), zi (yri T i k j : Int)] [] (cH h x φ ψ α) (fun ov h' => ov = Sum.inl (some (zi (if yrl T i k = -1 then 0 else yrl T i k))) ∧ h' = cH h x φ ψ α)) (yrj T i k + 1) (fun _ z => absurd z (by omega)) (fun j hj ih hj1 hj2 => by
    have rb := ri j
    rw [r383_10]
    simp (disch := omega) only [r383_0, r383_1, r383_2, r383_3, r383_4, r383_9, r383_11, r383_12, r383_15, r383_16, r383_18, r383_21, r383_22, r383_23, r383_26, r383_27, r383_28, r383_31, r383_32, r383_33, r383_38, r383_39, r383_42, r383_43, znl_i, znl_r, znl_j, znl_l, List.length_cons, List.length_nil, Option.some.injEq, Sum.inl.injEq, Sum.inr.injEq, Prod.mk.injEq, true_and, and_true, exists_eq_left', zK_sI, zA_sI, zL_sI, zK_sL, zA_sL, zI_sL, zK_fI, zA_fI, zL_fI, zK_fL, zA_fL, zI_fL, Nat.reduceAdd, Nat.reduceLeDiff, forall_eq', zl_lt, zl_gt, zl_eq, zl_le, zl_ge, zm_0, zaft_n, zaft_v, zb_eq, Decidable.not_not, zK_rH, zI_rH, zL_rH, zA_rH, zsI_rH, zsL_rH, zsA_rH, zcpI_rH, zn_b, zm_b, Int.toNat_natCast, Int.toNat_zero, Int.reduceToNat, O.K]
    by_cases w : j = yrj T i k
    · subst w
      refine ⟨fun z => ?_, fun z => ⟨fun z2 => absurd z2 (by omega), fun _ => ⟨fun z3 => absurd z3 (by omega), fun _ => ?_⟩⟩⟩
      · have : yrl T i k = (yrj T i k : Int) := by unfold yrl; rw [if_pos (by omega)]
        rw [this, if_neg (by omega)]
      · have : yrl T i k = -1 := by unfold yrl; rw [if_neg (by omega)]
        rw [this, if_pos rfl]
    · have gt := j4 j hj1 (by omega)
      refine ⟨fun z => absurd z (by omega), fun z => ⟨fun z2 => absurd z2 (by omega), fun _ => ⟨fun z3 => ?_, fun z3 => absurd z3 (by omega)⟩⟩⟩
      refine Or.inl (zc_w (o_to (d := d) O rb) ?_)
      simp (disch := omega) only [r383_0, r383_1, r383_2, r383_3, r383_4, r383_9, r383_11, r383_12, r383_15, r383_16, r383_18, r383_21, r383_22, r383_23, r383_26, r383_27, r383_28, r383_31, r383_32, r383_33, r383_38, r383_39, r383_42, r383_43, znl_i, znl_r, znl_j, znl_l, List.length_cons, List.length_nil, Option.some.injEq, Sum.inl.injEq, Sum.inr.injEq, Prod.mk.injEq, true_and, and_true, exists_eq_left', zK_sI, zA_sI, zL_sI, zK_sL, zA_sL, zI_sL, zK_fI, zA_fI, zL_fI, zK_fL, zA_fL, zI_fL, Nat.reduceAdd, Nat.reduceLeDiff, forall_eq', zl_lt, zl_gt, zl_eq, zl_le, zl_ge, zm_0, zaft_n, zaft_v, zb_eq, Decidable.not_not, zK_rH, zI_rH, zL_rH, zA_rH, zsI_rH, zsL_rH, zsA_rH, zcpI_rH, zn_b, zm_b, Int.toNat_natCast, Int.toNat_zero, Int.reduceToNat, O.K]
      exact ih (by omega) (by omega)) 1 (by omega)
  simp (disch := omega) only [n383, r383_0, r383_1, r383_2, r383_3, r383_4, r383_9, r383_11, r383_12, r383_15, r383_16, r383_18, r383_21, r383_22, r383_23, r383_26, r383_27, r383_28, r383_31, r383_32, r383_33, r383_38, r383_39, r383_42, r383_43, znl_i, znl_r, znl_j, znl_l, List.length_cons, List.length_nil, Option.some.injEq, Sum.inl.injEq, Sum.inr.injEq, Prod.mk.injEq, true_and, and_true, exists_eq_left', zK_sI, zA_sI, zL_sI, zK_sL, zA_sL, zI_sL, zK_fI, zA_fI, zL_fI, zK_fL, zA_fL, zI_fL, Nat.reduceAdd, Nat.reduceLeDiff, forall_eq', zl_lt, zl_gt, zl_eq, zl_le, zl_ge, zm_0, zaft_n, zaft_v, zb_eq, Decidable.not_not, zK_rH, zI_rH, zL_rH, zA_rH, zsI_rH, zsL_rH, zsA_rH, zcpI_rH, zn_b, zm_b, Int.toNat_natCast, Int.toNat_zero, Int.reduceToNat, O.K]
  refine Or.inl (zc_w (o_to (d := d) O hk) ?_)
  simp (disch := omega) only [r383_0, r383_1, r383_2, r383_3, r383_4, r383_9, r383_11, r383_12, r383_15, r383_16, r383_18, r383_21, r383_22, r383_23, r383_26, r383_27, r383_28, r383_31, r383_32, r383_33, r383_38, r383_39, r383_42, r383_43, znl_i, znl_r, znl_j, znl_l, List.length_cons, List.length_nil, Option.some.injEq, Sum.inl.injEq, Sum.inr.injEq, Prod.mk.injEq, true_and, and_true, exists_eq_left', zK_sI, zA_sI, zL_sI, zK_sL, zA_sL, zI_sL, zK_fI, zA_fI, zL_fI, zK_fL, zA_fL, zI_fL, Nat.reduceAdd, Nat.reduceLeDiff, forall_eq', zl_lt, zl_gt, zl_eq, zl_le, zl_ge, zm_0, zaft_n, zaft_v, zb_eq, Decidable.not_not, zK_rH, zI_rH, zL_rH, zA_rH, zsI_rH, zsL_rH, zsA_rH, zcpI_rH, zn_b, zm_b, Int.toNat_natCast, Int.toNat_zero, Int.reduceToNat, O.K]
  exact loop (by omega) (by omega)
/-- how many rounds of a length -/
def yrn (T : yT) (i l k : Nat) : Int := ycnt (fun j => decide (yrl T i j = (l : Int))) k
theorem o_rounds (V : yV T) {i c : Nat} (hi : i < Tm T) (O : oS h x φ α o r (Tn T) (TR T i) sg) (eb : e.1 ≤ x) (hc : c < 1134) (co : c ≠ o) (cr : c ≠ r) (Kc : zK h (x + c) = some (Sum.inr (.int, 13))) : zc e (d + 3) 382 [zr (some (x + o)), zr (some (x + c))] (cH h x φ ψ α)
    (fun ov h' => ov = Sum.inl (some (zi (ycy T i))) ∧ ∃ φ', h' = cH h x φ' ψ α ∧ (∀ j, j ≠ c → φ' j = φ j) ∧ ∀ l, 1 ≤ l → l ≤ 12 → φ' c l = yrn T i l (Tn T)) := by
  have ho := O.lo
  have hn := O.ln
  have main := zdown0 (fun k => ∀ φ' : Nat → Nat → Int, (∀ j, j ≠ c → φ' j = φ j) → (∀ l, 1 ≤ l → l ≤ 12 → φ' c l = yrn T i l k) → ∀ w4, zg e 382 (d + 2) 22 [zr (some (x + o)), zr (some (x + c)), zi (ycnt (fun k => decide (yrl T i k ≠ -1)) k), zi (k : Int), w4] [] (cH h x φ' ψ α) (fun ov h' => ov = Sum.inl (some (zi (ycy T i))) ∧ ∃ φ', h' = cH h x φ' ψ α ∧ (∀ j, j ≠ c → φ' j = φ j) ∧ ∀ l, 1 ≤ l → l ≤ 12 → φ' c l = yrn T i l (Tn T))) (Tn T) (fun φ' q1 q2 w4 => ?_) (fun k hk ih φ' q1 q2 w4 => ?_)
  · have clr := zdown (fun k => ∀ φ' : Nat → Nat → Int, (∀ j, j ≠ c → φ' j = φ j) → (∀ l, l < k → φ' c l = 0) → ∀ w3 w4, zg e 382 (d + 2) 2 [zr (some (x + o)), zr (some (x + c)), zi (k : Int), w3, w4] [] (cH h x φ' ψ α) (fun ov h' => ov = Sum.inl (some (zi (ycy T i))) ∧ ∃ φ', h' = cH h x φ' ψ α ∧ (∀ j, j ≠ c → φ' j = φ j) ∧ ∀ l, 1 ≤ l → l ≤ 12 → φ' c l = yrn T i l (Tn T))) 13 (fun φ' q1 q2 w3 w4 => by
      rw [r382_2]
      simp (disch := omega) only [r382_0, r382_1, r382_3, r382_5, r382_8, r382_9, r382_10, r382_11, r382_12, r382_15, r382_18, r382_19, r382_20, r382_21, r382_23, r382_24, r382_29, r382_32, r382_33, r382_34, r382_39, r382_41, r382_43, r382_46, r382_49, r382_50, r382_52, r382_53, r382_54, r382_55, r382_56, r382_57, r382_60, r382_63, r382_66, r382_67, znl_i, znl_r, znl_j, znl_l, List.length_cons, List.length_nil, Option.some.injEq, Sum.inl.injEq, Sum.inr.injEq, Prod.mk.injEq, true_and, and_true, exists_eq_left', zK_sI, zA_sI, zL_sI, zK_sL, zA_sL, zI_sL, zK_fI, zA_fI, zL_fI, zK_fL, zA_fL, zI_fL, Nat.reduceAdd, Nat.reduceLeDiff, forall_eq', zl_lt, zl_gt, zl_eq, zl_le, zl_ge, zm_0, zaft_n, zaft_v, zb_eq, Decidable.not_not, zK_rH, zI_rH, zL_rH, zA_rH, zsI_rH, zsL_rH, zsA_rH, zcpI_rH, zn_b, zm_b, Int.toNat_natCast, Int.toNat_zero, Int.reduceToNat, O.K, Kc]
      refine ⟨fun _ => ?_, fun z => absurd z (by omega)⟩
      exact main φ' q1 (fun l l1 l2 => q2 l (by omega)) _) (fun k hk ih φ' q1 q2 w3 w4 => by
      rw [r382_2]
      simp (disch := omega) only [r382_0, r382_1, r382_3, r382_5, r382_8, r382_9, r382_10, r382_11, r382_12, r382_15, r382_18, r382_19, r382_20, r382_21, r382_23, r382_24, r382_29, r382_32, r382_33, r382_34, r382_39, r382_41, r382_43, r382_46, r382_49, r382_50, r382_52, r382_53, r382_54, r382_55, r382_56, r382_57, r382_60, r382_63, r382_66, r382_67, znl_i, znl_r, znl_j, znl_l, List.length_cons, List.length_nil, Option.some.injEq, Sum.inl.injEq, Sum.inr.injEq, Prod.mk.injEq, true_and, and_true, exists_eq_left', zK_sI, zA_sI, zL_sI, zK_sL, zA_sL, zI_sL, zK_fI, zA_fI, zL_fI, zK_fL, zA_fL, zI_fL, Nat.reduceAdd, Nat.reduceLeDiff, forall_eq', zl_lt, zl_gt, zl_eq, zl_le, zl_ge, zm_0, zaft_n, zaft_v, zb_eq, Decidable.not_not, zK_rH, zI_rH, zL_rH, zA_rH, zsI_rH, zsL_rH, zsA_rH, zcpI_rH, zn_b, zm_b, Int.toNat_natCast, Int.toNat_zero, Int.reduceToNat, O.K, Kc]
      refine ⟨fun z => absurd z (by omega), fun _ => ?_⟩
      repeat (refine And.intro (by omega) ?_)
      refine ih _ (fun j hj => ?_) (fun l hl => ?_) _ _
      · rw [zu_cell _ _ _ hj]; exact q1 j hj
      · by_cases c2 : l = k
        · subst c2; rw [zu_same]
        · rw [zu_slot _ _ _ c2]; exact q2 l (by omega)) 0 (by omega)
    simp (disch := omega) only [n382, r382_0, r382_1, r382_3, r382_5, r382_8, r382_9, r382_10, r382_11, r382_12, r382_15, r382_18, r382_19, r382_20, r382_21, r382_23, r382_24, r382_29, r382_32, r382_33, r382_34, r382_39, r382_41, r382_43, r382_46, r382_49, r382_50, r382_52, r382_53, r382_54, r382_55, r382_56, r382_57, r382_60, r382_63, r382_66, r382_67, znl_i, znl_r, znl_j, znl_l, List.length_cons, List.length_nil, Option.some.injEq, Sum.inl.injEq, Sum.inr.injEq, Prod.mk.injEq, true_and, and_true, exists_eq_left', zK_sI, zA_sI, zL_sI, zK_sL, zA_sL, zI_sL, zK_fI, zA_fI, zL_fI, zK_fL, zA_fL, zI_fL, Nat.reduceAdd, Nat.reduceLeDiff, forall_eq', zl_lt, zl_gt, zl_eq, zl_le, zl_ge, zm_0, zaft_n, zaft_v, zb_eq, Decidable.not_not, zK_rH, zI_rH, zL_rH, zA_rH, zsI_rH, zsL_rH, zsA_rH, zcpI_rH, zn_b, zm_b, Int.toNat_natCast, Int.toNat_zero, Int.reduceToNat, O.K]
    exact clr φ (fun _ _ => rfl) (fun l hl => absurd hl (by omega)) _ _
  · have O' := O.of (h1 := h) (φ' := φ') (α' := α) (fun _ _ => rfl) (q1 _ (by omega)) (q1 _ (by omega)) rfl
    have b := ycnt_bd (fun k => decide (yrl T i k ≠ -1)) (Tn T)
    rw [r382_22]
    simp (disch := omega) only [r382_0, r382_1, r382_3, r382_5, r382_8, r382_9, r382_10, r382_11, r382_12, r382_15, r382_18, r382_19, r382_20, r382_21, r382_23, r382_24, r382_29, r382_32, r382_33, r382_34, r382_39, r382_41, r382_43, r382_46, r382_49, r382_50, r382_52, r382_53, r382_54, r382_55, r382_56, r382_57, r382_60, r382_63, r382_66, r382_67, znl_i, znl_r, znl_j, znl_l, List.length_cons, List.length_nil, Option.some.injEq, Sum.inl.injEq, Sum.inr.injEq, Prod.mk.injEq, true_and, and_true, exists_eq_left', zK_sI, zA_sI, zL_sI, zK_sL, zA_sL, zI_sL, zK_fI, zA_fI, zL_fI, zK_fL, zA_fL, zI_fL, Nat.reduceAdd, Nat.reduceLeDiff, forall_eq', zl_lt, zl_gt, zl_eq, zl_le, zl_ge, zm_0, zaft_n, zaft_v, zb_eq, Decidable.not_not, zK_rH, zI_rH, zL_rH, zA_rH, zsI_rH, zsL_rH, zsA_rH, zcpI_rH, zn_b, zm_b, Int.toNat_natCast, Int.toNat_zero, Int.reduceToNat, O.K]
    refine Or.inl (zc_w (o_many (d := d + 1) O') ?_)
    simp (disch := omega) only [r382_0, r382_1, r382_3, r382_5, r382_8, r382_9, r382_10, r382_11, r382_12, r382_15, r382_18, r382_19, r382_20, r382_21, r382_23, r382_24, r382_29, r382_32, r382_33, r382_34, r382_39, r382_41, r382_43, r382_46, r382_49, r382_50, r382_52, r382_53, r382_54, r382_55, r382_56, r382_57, r382_60, r382_63, r382_66, r382_67, znl_i, znl_r, znl_j, znl_l, List.length_cons, List.length_nil, Option.some.injEq, Sum.inl.injEq, Sum.inr.injEq, Prod.mk.injEq, true_and, and_true, exists_eq_left', zK_sI, zA_sI, zL_sI, zK_sL, zA_sL, zI_sL, zK_fI, zA_fI, zL_fI, zK_fL, zA_fL, zI_fL, Nat.reduceAdd, Nat.reduceLeDiff, forall_eq', zl_lt, zl_gt, zl_eq, zl_le, zl_ge, zm_0, zaft_n, zaft_v, zb_eq, Decidable.not_not, zK_rH, zI_rH, zL_rH, zA_rH, zsI_rH, zsL_rH, zsA_rH, zcpI_rH, zn_b, zm_b, Int.toNat_natCast, Int.toNat_zero, Int.reduceToNat, O.K]
    refine ⟨fun _ => ⟨rfl, φ', rfl, q1, q2⟩, fun z => absurd z (by omega)⟩
  · have O' := O.of (h1 := h) (φ' := φ') (α' := α) (fun _ _ => rfl) (q1 _ (by omega)) (q1 _ (by omega)) rfl
    have b := ycnt_bd (fun k => decide (yrl T i k ≠ -1)) k
    have rl := V.rl hi hk
    have lb : -1 ≤ (if yrl T i k = -1 then 0 else yrl T i k) ∧ (if yrl T i k = -1 then 0 else yrl T i k) ≤ 12 := by split <;> omega
    rw [r382_22]
    simp (disch := omega) only [r382_0, r382_1, r382_3, r382_5, r382_8, r382_9, r382_10, r382_11, r382_12, r382_15, r382_18, r382_19, r382_20, r382_21, r382_23, r382_24, r382_29, r382_32, r382_33, r382_34, r382_39, r382_41, r382_43, r382_46, r382_49, r382_50, r382_52, r382_53, r382_54, r382_55, r382_56, r382_57, r382_60, r382_63, r382_66, r382_67, znl_i, znl_r, znl_j, znl_l, List.length_cons, List.length_nil, Option.some.injEq, Sum.inl.injEq, Sum.inr.injEq, Prod.mk.injEq, true_and, and_true, exists_eq_left', zK_sI, zA_sI, zL_sI, zK_sL, zA_sL, zI_sL, zK_fI, zA_fI, zL_fI, zK_fL, zA_fL, zI_fL, Nat.reduceAdd, Nat.reduceLeDiff, forall_eq', zl_lt, zl_gt, zl_eq, zl_le, zl_ge, zm_0, zaft_n, zaft_v, zb_eq, Decidable.not_not, zK_rH, zI_rH, zL_rH, zA_rH, zsI_rH, zsL_rH, zsA_rH, zcpI_rH, zn_b, zm_b, Int.toNat_natCast, Int.toNat_zero, Int.reduceToNat, O.K]
    refine Or.inl (zc_w (o_many (d := d + 1) O') ?_)
    simp (disch := omega) only [r382_0, r382_1, r382_3, r382_5, r382_8, r382_9, r382_10, r382_11, r382_12, r382_15, r382_18, r382_19, r382_20, r382_21, r382_23, r382_24, r382_29, r382_32, r382_33, r382_34, r382_39, r382_41, r382_43, r382_46, r382_49, r382_50, r382_52, r382_53, r382_54, r382_55, r382_56, r382_57, r382_60, r382_63, r382_66, r382_67, znl_i, znl_r, znl_j, znl_l, List.length_cons, List.length_nil, Option.some.injEq, Sum.inl.injEq, Sum.inr.injEq, Prod.mk.injEq, true_and, and_true, exists_eq_left', zK_sI, zA_sI, zL_sI, zK_sL, zA_sL, zI_sL, zK_fI, zA_fI, zL_fI, zK_fL, zA_fL, zI_fL, Nat.reduceAdd, Nat.reduceLeDiff, forall_eq', zl_lt, zl_gt, zl_eq, zl_le, zl_ge, zm_0, zaft_n, zaft_v, zb_eq, Decidable.not_not, zK_rH, zI_rH, zL_rH, zA_rH, zsI_rH, zsL_rH, zsA_rH, zcpI_rH, zn_b, zm_b, Int.toNat_natCast, Int.toNat_zero, Int.reduceToNat, O.K]
    refine ⟨fun z => absurd z (by omega), fun _ => ?_⟩
    refine Or.inl (zc_w (o_lengthFrom (d := d) V hi O' hk) ?_)
    have cs := ycnt_sb (fun k => decide (yrl T i k ≠ -1)) k
    have ns : ∀ l : Nat, yrn T i l (k + 1) = yrn T i l k + yb (decide (yrl T i k = (l : Int))) := fun l => ycnt_sb _ _
    by_cases q : yrl T i k = -1
    · rw [decide_eq_false (by omega)] at cs
      rw [if_pos q]
      simp (disch := omega) only [r382_0, r382_1, r382_3, r382_5, r382_8, r382_9, r382_10, r382_11, r382_12, r382_15, r382_18, r382_19, r382_20, r382_21, r382_23, r382_24, r382_29, r382_32, r382_33, r382_34, r382_39, r382_41, r382_43, r382_46, r382_49, r382_50, r382_52, r382_53, r382_54, r382_55, r382_56, r382_57, r382_60, r382_63, r382_66, r382_67, znl_i, znl_r, znl_j, znl_l, List.length_cons, List.length_nil, Option.some.injEq, Sum.inl.injEq, Sum.inr.injEq, Prod.mk.injEq, true_and, and_true, exists_eq_left', zK_sI, zA_sI, zL_sI, zK_sL, zA_sL, zI_sL, zK_fI, zA_fI, zL_fI, zK_fL, zA_fL, zI_fL, Nat.reduceAdd, Nat.reduceLeDiff, forall_eq', zl_lt, zl_gt, zl_eq, zl_le, zl_ge, zm_0, zaft_n, zaft_v, zb_eq, Decidable.not_not, zK_rH, zI_rH, zL_rH, zA_rH, zsI_rH, zsL_rH, zsA_rH, zcpI_rH, zn_b, zm_b, Int.toNat_natCast, Int.toNat_zero, Int.reduceToNat, O.K]
      refine ⟨fun z => absurd trivial z, fun _ => ?_⟩
      have g := ih φ' q1 (fun l l1 l2 => by rw [q2 l l1 l2, ns, decide_eq_false (by omega)]; show _ = _ + 0; omega) (zi 0)
      rw [cs, show yb false = 0 from rfl, Int.add_zero] at g
      exact g
    · obtain ⟨L, hL⟩ := Int.eq_ofNat_of_zero_le (a := yrl T i k) (by omega)
      rw [decide_eq_true (by omega)] at cs
      rw [if_neg q, hL]
      have nb : 0 ≤ yrn T i L k ∧ yrn T i L k ≤ k := ycnt_bd _ _
      have v := q2 L (by omega) (by omega)
      simp (disch := omega) only [r382_0, r382_1, r382_3, r382_5, r382_8, r382_9, r382_10, r382_11, r382_12, r382_15, r382_18, r382_19, r382_20, r382_21, r382_23, r382_24, r382_29, r382_32, r382_33, r382_34, r382_39, r382_41, r382_43, r382_46, r382_49, r382_50, r382_52, r382_53, r382_54, r382_55, r382_56, r382_57, r382_60, r382_63, r382_66, r382_67, znl_i, znl_r, znl_j, znl_l, List.length_cons, List.length_nil, Option.some.injEq, Sum.inl.injEq, Sum.inr.injEq, Prod.mk.injEq, true_and, and_true, exists_eq_left', zK_sI, zA_sI, zL_sI, zK_sL, zA_sL, zI_sL, zK_fI, zA_fI, zL_fI, zK_fL, zA_fL, zI_fL, Nat.reduceAdd, Nat.reduceLeDiff, forall_eq', zl_lt, zl_gt, zl_eq, zl_le, zl_ge, zm_0, zaft_n, zaft_v, zb_eq, Decidable.not_not, zK_rH, zI_rH, zL_rH, zA_rH, zsI_rH, zsL_rH, zsA_rH, zcpI_rH, zn_b, zm_b, Int.toNat_natCast, Int.toNat_zero, Int.reduceToNat, O.K, Kc, v]
      refine ⟨fun _ => ?_, fun z => absurd z (by omega)⟩
      repeat (refine And.intro (by omega) ?_)
      have g := ih (zu φ' c L (yrn T i L k + 1)) (fun j hj => by rw [zu_cell _ _ _ hj]; exact q1 j hj) (fun l l1 l2 => by
        by_cases c2 : l = L
        · subst c2; rw [zu_same, ns, decide_eq_true hL]; rfl
        · rw [zu_slot _ _ _ c2, q2 l l1 l2, ns, decide_eq_false (by omega)]; show _ = _ + 0; omega) (zi (L : Int))
      rw [cs, show yb true = 1 from rfl] at g
      exact g
/-- two maps, one behind the other, lie at b -/
structure bS (h : zH) (x : Nat) (φ : Nat → Nat → Int) (α : Nat → Nat → Option Nat) (b o r o' r' n : Nat) (π ρ : Nat → Nat) (sg sh : Int) : Prop where
  lb : b < 1134
  K : zK h (x + b) = some (Sum.inl 7)
  A0 : α b 0 = some (x + o)
  A1 : α b 1 = some (x + o')
  P : oS h x φ α o r n π sg
  Q : oS h x φ α o' r' n ρ sh
theorem b_to {o' r' : Nat} (B : bS h x φ α b o r o' r' n π ρ sg sh) {k : Nat} (hk : k < n) : zc e (d + 2) 452 [zr (some (x + b)), zi (k : Int)] (cH h x φ ψ α) (fun ov h' => ov = Sum.inl (some (zi (ρ (π k) : Int))) ∧ h' = cH h x φ ψ α) := by
  have hb := B.lb
  have h1 := B.P.lo
  have h2 := B.Q.lo
  have hn := B.P.ln
  have l1 := B.P.lt k hk
  have l2 := B.Q.lt _ l1
  simp (disch := omega) only [n452, r452_0, r452_1, r452_4, r452_5, r452_8, r452_9, r452_14, r452_19, znl_i, znl_r, znl_j, znl_l, List.length_cons, List.length_nil, Option.some.injEq, Sum.inl.injEq, Sum.inr.injEq, Prod.mk.injEq, true_and, and_true, exists_eq_left', zK_sI, zA_sI, zL_sI, zK_sL, zA_sL, zI_sL, zK_fI, zA_fI, zL_fI, zK_fL, zA_fL, zI_fL, Nat.reduceAdd, Nat.reduceLeDiff, forall_eq', zl_lt, zl_gt, zl_eq, zl_le, zl_ge, zm_0, zaft_n, zaft_v, zb_eq, Decidable.not_not, zK_rH, zI_rH, zL_rH, zA_rH, zsI_rH, zsL_rH, zsA_rH, zcpI_rH, zn_b, zm_b, Int.toNat_natCast, Int.toNat_zero, Int.reduceToNat, B.K, B.A0, B.A1, B.P.K, B.Q.K]
  refine Or.inl (zc_w (o_to (d := d) B.P hk) ?_)
  simp (disch := omega) only [r452_0, r452_1, r452_4, r452_5, r452_8, r452_9, r452_14, r452_19, znl_i, znl_r, znl_j, znl_l, List.length_cons, List.length_nil, Option.some.injEq, Sum.inl.injEq, Sum.inr.injEq, Prod.mk.injEq, true_and, and_true, exists_eq_left', zK_sI, zA_sI, zL_sI, zK_sL, zA_sL, zI_sL, zK_fI, zA_fI, zL_fI, zK_fL, zA_fL, zI_fL, Nat.reduceAdd, Nat.reduceLeDiff, forall_eq', zl_lt, zl_gt, zl_eq, zl_le, zl_ge, zm_0, zaft_n, zaft_v, zb_eq, Decidable.not_not, zK_rH, zI_rH, zL_rH, zA_rH, zsI_rH, zsL_rH, zsA_rH, zcpI_rH, zn_b, zm_b, Int.toNat_natCast, Int.toNat_zero, Int.reduceToNat, B.K, B.A0, B.A1, B.P.K, B.Q.K]
  refine Or.inl (zc_w (o_to (d := d) B.Q l1) ?_)
  simp (disch := omega) only [r452_0, r452_1, r452_4, r452_5, r452_8, r452_9, r452_14, r452_19, znl_i, znl_r, znl_j, znl_l, List.length_cons, List.length_nil, Option.some.injEq, Sum.inl.injEq, Sum.inr.injEq, Prod.mk.injEq, true_and, and_true, exists_eq_left', zK_sI, zA_sI, zL_sI, zK_sL, zA_sL, zI_sL, zK_fI, zA_fI, zL_fI, zK_fL, zA_fL, zI_fL, Nat.reduceAdd, Nat.reduceLeDiff, forall_eq', zl_lt, zl_gt, zl_eq, zl_le, zl_ge, zm_0, zaft_n, zaft_v, zb_eq, Decidable.not_not, zK_rH, zI_rH, zL_rH, zA_rH, zsI_rH, zsL_rH, zsA_rH, zcpI_rH, zn_b, zm_b, Int.toNat_natCast, Int.toNat_zero, Int.reduceToNat, B.K]
theorem b_hand {o' r' : Nat} (B : bS h x φ α b o r o' r' n π ρ sg sh) : zc e (d + 2) 453 [zr (some (x + b))] (cH h x φ ψ α) (fun ov h' => ov = Sum.inl (some (zi (sg * sh))) ∧ h' = cH h x φ ψ α) := by
  have hb := B.lb
  have h1 := B.P.lo
  have h2 := B.Q.lo
  have sb := ymul_b (x := sg) (y := sh) (A := 1) (B := 1) B.P.s1 B.Q.s1
  simp (disch := omega) only [n453, r453_0, r453_1, r453_4, r453_9, r453_10, r453_13, r453_18, r453_19, znl_i, znl_r, znl_j, znl_l, List.length_cons, List.length_nil, Option.some.injEq, Sum.inl.injEq, Sum.inr.injEq, Prod.mk.injEq, true_and, and_true, exists_eq_left', zK_sI, zA_sI, zL_sI, zK_sL, zA_sL, zI_sL, zK_fI, zA_fI, zL_fI, zK_fL, zA_fL, zI_fL, Nat.reduceAdd, Nat.reduceLeDiff, forall_eq', zl_lt, zl_gt, zl_eq, zl_le, zl_ge, zm_0, zaft_n, zaft_v, zb_eq, Decidable.not_not, zK_rH, zI_rH, zL_rH, zA_rH, zsI_rH, zsL_rH, zsA_rH, zcpI_rH, zn_b, zm_b, Int.toNat_natCast, Int.toNat_zero, Int.reduceToNat, B.K, B.A0, B.A1, B.P.K, B.Q.K]
  refine Or.inl (zc_w (o_hand (d := d) B.P) ?_)
  simp (disch := omega) only [r453_0, r453_1, r453_4, r453_9, r453_10, r453_13, r453_18, r453_19, znl_i, znl_r, znl_j, znl_l, List.length_cons, List.length_nil, Option.some.injEq, Sum.inl.injEq, Sum.inr.injEq, Prod.mk.injEq, true_and, and_true, exists_eq_left', zK_sI, zA_sI, zL_sI, zK_sL, zA_sL, zI_sL, zK_fI, zA_fI, zL_fI, zK_fL, zA_fL, zI_fL, Nat.reduceAdd, Nat.reduceLeDiff, forall_eq', zl_lt, zl_gt, zl_eq, zl_le, zl_ge, zm_0, zaft_n, zaft_v, zb_eq, Decidable.not_not, zK_rH, zI_rH, zL_rH, zA_rH, zsI_rH, zsL_rH, zsA_rH, zcpI_rH, zn_b, zm_b, Int.toNat_natCast, Int.toNat_zero, Int.reduceToNat, B.K, B.A0, B.A1, B.P.K, B.Q.K]
  refine Or.inl (zc_w (o_hand (d := d) B.Q) ?_)
  simp (disch := omega) only [r453_0, r453_1, r453_4, r453_9, r453_10, r453_13, r453_18, r453_19, znl_i, znl_r, znl_j, znl_l, List.length_cons, List.length_nil, Option.some.injEq, Sum.inl.injEq, Sum.inr.injEq, Prod.mk.injEq, true_and, and_true, exists_eq_left', zK_sI, zA_sI, zL_sI, zK_sL, zA_sL, zI_sL, zK_fI, zA_fI, zL_fI, zK_fL, zA_fL, zI_fL, Nat.reduceAdd, Nat.reduceLeDiff, forall_eq', zl_lt, zl_gt, zl_eq, zl_le, zl_ge, zm_0, zaft_n, zaft_v, zb_eq, Decidable.not_not, zK_rH, zI_rH, zL_rH, zA_rH, zsI_rH, zsL_rH, zsA_rH, zcpI_rH, zn_b, zm_b, Int.toNat_natCast, Int.toNat_zero, Int.reduceToNat, B.K]
theorem b_be {o' : Nat} (hb : b < 1134) (eb : e.1 ≤ x) (K : zK h (x + b) = some (Sum.inl 7)) : zc e (d + 1) 454 [zr (some (x + b)), zr (some (x + o)), zr (some (x + o'))] (cH h x φ ψ α) (fun ov h' => ov = Sum.inl (some (zr (some (x + b)))) ∧ h' = cH h x φ ψ (zu (zu α b 0 (some (x + o))) b 1 (some (x + o')))) := by
  simp (disch := omega) only [n454, r454_0, r454_1, r454_2, r454_5, r454_6, r454_7, r454_10, r454_11, znl_i, znl_r, znl_j, znl_l, List.length_cons, List.length_nil, Option.some.injEq, Sum.inl.injEq, Sum.inr.injEq, Prod.mk.injEq, true_and, and_true, exists_eq_left', zK_sI, zA_sI, zL_sI, zK_sL, zA_sL, zI_sL, zK_fI, zA_fI, zL_fI, zK_fL, zA_fL, zI_fL, Nat.reduceAdd, Nat.reduceLeDiff, forall_eq', zl_lt, zl_gt, zl_eq, zl_le, zl_ge, zm_0, zaft_n, zaft_v, zb_eq, Decidable.not_not, zK_rH, zI_rH, zL_rH, zA_rH, zsI_rH, zsL_rH, zsA_rH, zcpI_rH, zn_b, zm_b, Int.toNat_natCast, Int.toNat_zero, Int.reduceToNat, K]
  exact ⟨by omega, by omega⟩
theorem m_same {o' r' b1 b2 : Nat} {τ : Nat → Nat} {si : Int} (O : oS h x φ α o r n τ si) (B : bS h x φ α b b1 b2 o' r' n π ρ sg sh) : zc e (d + 3) 379 [zr (some (x + o)), zr (some (x + b))] (cH h x φ ψ α) (fun ov h' => ov = Sum.inl (some (zi (yb (decide (si = sg * sh) && yallb (fun k => decide (τ k = ρ (π k))) n)))) ∧ h' = cH h x φ ψ α) := by
  have hb := B.lb
  have ho := O.lo
  have hn := O.ln
  have sb := ymul_b (x := sg) (y := sh) (A := 1) (B := 1) B.P.s1 B.Q.s1
  have so := O.s1
  simp (disch := omega) only [n379, r379_0, r379_1, r379_6, r379_7, r379_12, r379_15, r379_16, r379_17, r379_18, r379_20, r379_21, r379_26, r379_29, r379_30, r379_31, r379_36, r379_37, r379_38, r379_43, r379_46, r379_47, r379_48, r379_51, r379_54, r379_55, znl_i, znl_r, znl_j, znl_l, List.length_cons, List.length_nil, Option.some.injEq, Sum.inl.injEq, Sum.inr.injEq, Prod.mk.injEq, true_and, and_true, exists_eq_left', zK_sI, zA_sI, zL_sI, zK_sL, zA_sL, zI_sL, zK_fI, zA_fI, zL_fI, zK_fL, zA_fL, zI_fL, Nat.reduceAdd, Nat.reduceLeDiff, forall_eq', zl_lt, zl_gt, zl_eq, zl_le, zl_ge, zm_0, zaft_n, zaft_v, zb_eq, Decidable.not_not, zK_rH, zI_rH, zL_rH, zA_rH, zsI_rH, zsL_rH, zsA_rH, zcpI_rH, zn_b, zm_b, Int.toNat_natCast, Int.toNat_zero, Int.reduceToNat, O.K, B.K]
  refine Or.inl (zc_w (o_hand (d := d + 1) O) ?_)
  simp (disch := omega) only [r379_0, r379_1, r379_6, r379_7, r379_12, r379_15, r379_16, r379_17, r379_18, r379_20, r379_21, r379_26, r379_29, r379_30, r379_31, r379_36, r379_37, r379_38, r379_43, r379_46, r379_47, r379_48, r379_51, r379_54, r379_55, znl_i, znl_r, znl_j, znl_l, List.length_cons, List.length_nil, Option.some.injEq, Sum.inl.injEq, Sum.inr.injEq, Prod.mk.injEq, true_and, and_true, exists_eq_left', zK_sI, zA_sI, zL_sI, zK_sL, zA_sL, zI_sL, zK_fI, zA_fI, zL_fI, zK_fL, zA_fL, zI_fL, Nat.reduceAdd, Nat.reduceLeDiff, forall_eq', zl_lt, zl_gt, zl_eq, zl_le, zl_ge, zm_0, zaft_n, zaft_v, zb_eq, Decidable.not_not, zK_rH, zI_rH, zL_rH, zA_rH, zsI_rH, zsL_rH, zsA_rH, zcpI_rH, zn_b, zm_b, Int.toNat_natCast, Int.toNat_zero, Int.reduceToNat, O.K, B.K]
  refine Or.inr (zc_w (b_hand (d := d) B) ?_)
  have loop := zdown0 (fun k => (∀ j, j < k → (!decide (τ j = ρ (π j))) = false) → si = sg * sh → zg e 379 (d + 2) 19 [zr (some (x + o)), zr (some (x + b)), zi (k : Int)] [] (cH h x φ ψ α) (fun ov h' => ov = Sum.inl (some (zi (yb (decide (si = sg * sh) && yallb (fun k => decide (τ k = ρ (π k))) n)))) ∧ h' = cH h x φ ψ α)) n (fun q es => ?_) (fun k hk ih q es => ?_)
  · simp (disch := omega) only [r379_0, r379_1, r379_6, r379_7, r379_12, r379_15, r379_16, r379_17, r379_18, r379_20, r379_21, r379_26, r379_29, r379_30, r379_31, r379_36, r379_37, r379_38, r379_43, r379_46, r379_47, r379_48, r379_51, r379_54, r379_55, znl_i, znl_r, znl_j, znl_l, List.length_cons, List.length_nil, Option.some.injEq, Sum.inl.injEq, Sum.inr.injEq, Prod.mk.injEq, true_and, and_true, exists_eq_left', zK_sI, zA_sI, zL_sI, zK_sL, zA_sL, zI_sL, zK_fI, zA_fI, zL_fI, zK_fL, zA_fL, zI_fL, Nat.reduceAdd, Nat.reduceLeDiff, forall_eq', zl_lt, zl_gt, zl_eq, zl_le, zl_ge, zm_0, zaft_n, zaft_v, zb_eq, Decidable.not_not, zK_rH, zI_rH, zL_rH, zA_rH, zsI_rH, zsL_rH, zsA_rH, zcpI_rH, zn_b, zm_b, Int.toNat_natCast, Int.toNat_zero, Int.reduceToNat, O.K, B.K]
    refine ⟨fun z => loop (fun j hj => absurd hj (by omega)) z, fun z => ⟨by decide, by decide, ?_⟩⟩
    rw [decide_eq_false z]; rfl
  · rw [r379_19]
    simp (disch := omega) only [r379_0, r379_1, r379_6, r379_7, r379_12, r379_15, r379_16, r379_17, r379_18, r379_20, r379_21, r379_26, r379_29, r379_30, r379_31, r379_36, r379_37, r379_38, r379_43, r379_46, r379_47, r379_48, r379_51, r379_54, r379_55, znl_i, znl_r, znl_j, znl_l, List.length_cons, List.length_nil, Option.some.injEq, Sum.inl.injEq, Sum.inr.injEq, Prod.mk.injEq, true_and, and_true, exists_eq_left', zK_sI, zA_sI, zL_sI, zK_sL, zA_sL, zI_sL, zK_fI, zA_fI, zL_fI, zK_fL, zA_fL, zI_fL, Nat.reduceAdd, Nat.reduceLeDiff, forall_eq', zl_lt, zl_gt, zl_eq, zl_le, zl_ge, zm_0, zaft_n, zaft_v, zb_eq, Decidable.not_not, zK_rH, zI_rH, zL_rH, zA_rH, zsI_rH, zsL_rH, zsA_rH, zcpI_rH, zn_b, zm_b, Int.toNat_natCast, Int.toNat_zero, Int.reduceToNat, O.K, B.K]
    refine Or.inl (zc_w (o_many (d := d + 1) O) ?_)
    simp (disch := omega) only [r379_0, r379_1, r379_6, r379_7, r379_12, r379_15, r379_16, r379_17, r379_18, r379_20, r379_21, r379_26, r379_29, r379_30, r379_31, r379_36, r379_37, r379_38, r379_43, r379_46, r379_47, r379_48, r379_51, r379_54, r379_55, znl_i, znl_r, znl_j, znl_l, List.length_cons, List.length_nil, Option.some.injEq, Sum.inl.injEq, Sum.inr.injEq, Prod.mk.injEq, true_and, and_true, exists_eq_left', zK_sI, zA_sI, zL_sI, zK_sL, zA_sL, zI_sL, zK_fI, zA_fI, zL_fI, zK_fL, zA_fL, zI_fL, Nat.reduceAdd, Nat.reduceLeDiff, forall_eq', zl_lt, zl_gt, zl_eq, zl_le, zl_ge, zm_0, zaft_n, zaft_v, zb_eq, Decidable.not_not, zK_rH, zI_rH, zL_rH, zA_rH, zsI_rH, zsL_rH, zsA_rH, zcpI_rH, zn_b, zm_b, Int.toNat_natCast, Int.toNat_zero, Int.reduceToNat, O.K, B.K]
    refine ⟨fun _ => ⟨by decide, by decide, ?_⟩, fun z => absurd z (by omega)⟩
    have : yallb (fun k => decide (τ k = ρ (π k))) n = true := decide_eq_true (yfind_no q)
    rw [this, decide_eq_true es]; rfl
  · have t1 := O.lt k hk
    have t2 := B.Q.lt _ (B.P.lt k hk)
    rw [r379_19]
    simp (disch := omega) only [r379_0, r379_1, r379_6, r379_7, r379_12, r379_15, r379_16, r379_17, r379_18, r379_20, r379_21, r379_26, r379_29, r379_30, r379_31, r379_36, r379_37, r379_38, r379_43, r379_46, r379_47, r379_48, r379_51, r379_54, r379_55, znl_i, znl_r, znl_j, znl_l, List.length_cons, List.length_nil, Option.some.injEq, Sum.inl.injEq, Sum.inr.injEq, Prod.mk.injEq, true_and, and_true, exists_eq_left', zK_sI, zA_sI, zL_sI, zK_sL, zA_sL, zI_sL, zK_fI, zA_fI, zL_fI, zK_fL, zA_fL, zI_fL, Nat.reduceAdd, Nat.reduceLeDiff, forall_eq', zl_lt, zl_gt, zl_eq, zl_le, zl_ge, zm_0, zaft_n, zaft_v, zb_eq, Decidable.not_not, zK_rH, zI_rH, zL_rH, zA_rH, zsI_rH, zsL_rH, zsA_rH, zcpI_rH, zn_b, zm_b, Int.toNat_natCast, Int.toNat_zero, Int.reduceToNat, O.K, B.K]
    refine Or.inl (zc_w (o_many (d := d + 1) O) ?_)
    simp (disch := omega) only [r379_0, r379_1, r379_6, r379_7, r379_12, r379_15, r379_16, r379_17, r379_18, r379_20, r379_21, r379_26, r379_29, r379_30, r379_31, r379_36, r379_37, r379_38, r379_43, r379_46, r379_47, r379_48, r379_51, r379_54, r379_55, znl_i, znl_r, znl_j, znl_l, List.length_cons, List.length_nil, Option.some.injEq, Sum.inl.injEq, Sum.inr.injEq, Prod.mk.injEq, true_and, and_true, exists_eq_left', zK_sI, zA_sI, zL_sI, zK_sL, zA_sL, zI_sL, zK_fI, zA_fI, zL_fI, zK_fL, zA_fL, zI_fL, Nat.reduceAdd, Nat.reduceLeDiff, forall_eq', zl_lt, zl_gt, zl_eq, zl_le, zl_ge, zm_0, zaft_n, zaft_v, zb_eq, Decidable.not_not, zK_rH, zI_rH, zL_rH, zA_rH, zsI_rH, zsL_rH, zsA_rH, zcpI_rH, zn_b, zm_b, Int.toNat_natCast, Int.toNat_zero, Int.reduceToNat, O.K, B.K]
    refine ⟨fun z => absurd z (by omega), fun _ => ?_⟩
    refine Or.inl (zc_w (o_to (d := d + 1) O hk) ?_)
    simp (disch := omega) only [r379_0, r379_1, r379_6, r379_7, r379_12, r379_15, r379_16, r379_17, r379_18, r379_20, r379_21, r379_26, r379_29, r379_30, r379_31, r379_36, r379_37, r379_38, r379_43, r379_46, r379_47, r379_48, r379_51, r379_54, r379_55, znl_i, znl_r, znl_j, znl_l, List.length_cons, List.length_nil, Option.some.injEq, Sum.inl.injEq, Sum.inr.injEq, Prod.mk.injEq, true_and, and_true, exists_eq_left', zK_sI, zA_sI, zL_sI, zK_sL, zA_sL, zI_sL, zK_fI, zA_fI, zL_fI, zK_fL, zA_fL, zI_fL, Nat.reduceAdd, Nat.reduceLeDiff, forall_eq', zl_lt, zl_gt, zl_eq, zl_le, zl_ge, zm_0, zaft_n, zaft_v, zb_eq, Decidable.not_not, zK_rH, zI_rH, zL_rH, zA_rH, zsI_rH, zsL_rH, zsA_rH, zcpI_rH, zn_b, zm_b, Int.toNat_natCast, Int.toNat_zero, Int.reduceToNat, O.K, B.K]
    refine Or.inr (zc_w (b_to (d := d) B hk) ?_)
    simp (disch := omega) only [r379_0, r379_1, r379_6, r379_7, r379_12, r379_15, r379_16, r379_17, r379_18, r379_20, r379_21, r379_26, r379_29, r379_30, r379_31, r379_36, r379_37, r379_38, r379_43, r379_46, r379_47, r379_48, r379_51, r379_54, r379_55, znl_i, znl_r, znl_j, znl_l, List.length_cons, List.length_nil, Option.some.injEq, Sum.inl.injEq, Sum.inr.injEq, Prod.mk.injEq, true_and, and_true, exists_eq_left', zK_sI, zA_sI, zL_sI, zK_sL, zA_sL, zI_sL, zK_fI, zA_fI, zL_fI, zK_fL, zA_fL, zI_fL, Nat.reduceAdd, Nat.reduceLeDiff, forall_eq', zl_lt, zl_gt, zl_eq, zl_le, zl_ge, zm_0, zaft_n, zaft_v, zb_eq, Decidable.not_not, zK_rH, zI_rH, zL_rH, zA_rH, zsI_rH, zsL_rH, zsA_rH, zcpI_rH, zn_b, zm_b, Int.toNat_natCast, Int.toNat_zero, Int.reduceToNat, O.K, B.K]
    refine ⟨fun z => ih (fun j hj => ?_) es, fun z => ⟨by decide, by decide, ?_⟩⟩
    · by_cases c2 : j = k
      · subst c2; rw [decide_eq_true (by omega)]; rfl
      · exact q j (by omega)
    · have : yallb (fun k => decide (τ k = ρ (π k))) n = false := decide_eq_false (by rw [yfind_hit hk q (by rw [decide_eq_false (by omega)]; rfl)]; omega)
      rw [this, Bool.and_false]; rfl
end
