section
variable {e : zEv} {d x f o : Nat} {h h1 h2 : zH} {φ φ' φ'' ψ : Nat → Nat → Int} {α α' α'' : Nat → Nat → Option Nat} {F : yF}
theorem f_atomAt (K : fK e h x f) (A : fA x f α) (S : fS F f φ) (X Y Z : Int) (hX : -1000 ≤ X ∧ X ≤ 1000) (hY : -1000 ≤ Y ∧ Y ≤ 1000) (hZ : -1000 ≤ Z ∧ Z ≤ 1000) : zc e (d + 1) 388 [zr (some (x + f)), zi X, zi Y, zi Z] (cH h x φ ψ α)
    (fun ov h' => ov = Sum.inl (some (zi (yatom F X Y Z))) ∧ h' = cH h x φ ψ α) := by
  have kn := K.n
  have kb := K.b
  have hm := S.w.1
  have hb := S.w.2.2.1
  have loop := zdown0 (fun k => (∀ i, i < k → yplc F X Y Z i = false) → zg e 388 d 3 [zr (some (x + f)), zi X, zi Y, zi Z, zi (k : Int)] [] (cH h x φ ψ α) (fun ov h' => ov = Sum.inl (some (zi (yatom F X Y Z))) ∧ h' = cH h x φ ψ α)) F.1 (fun q => ?_) (fun k hk ih q => ?_)
  · simp (disch := omega) only [n388, r388_0, r388_1, r388_5, r388_6, r388_9, r388_12, r388_13, r388_16, r388_17, r388_18, r388_20, r388_21, r388_22, r388_25, r388_26, r388_29, r388_30, r388_31, r388_33, r388_34, r388_35, r388_38, r388_39, r388_42, r388_43, r388_44, r388_46, r388_47, r388_48, r388_51, r388_53, r388_54, r388_57, r388_60, r388_61, znl_i, znl_r, znl_j, znl_l, List.length_cons, List.length_nil, Option.some.injEq, Sum.inl.injEq, Sum.inr.injEq, Prod.mk.injEq, true_and, and_true, exists_eq_left', zK_sI, zA_sI, zL_sI, zK_sL, zA_sL, zI_sL, zK_fI, zA_fI, zL_fI, zK_fL, zA_fL, zI_fL, Nat.reduceAdd, Nat.reduceLeDiff, forall_eq', zl_lt, zl_gt, zl_eq, zl_le, zl_ge, zm_0, zaft_n, zaft_v, zb_eq, Decidable.not_not, zK_rH, zI_rH, zL_rH, zA_rH, zsI_rH, zsL_rH, zsA_rH, zcpI_rH, zn_b, zm_b, Int.toNat_natCast, Int.toNat_zero, Int.reduceToNat, K.K0, K.K1, K.K2, K.K3, K.K6, K.K7, K.K8, K.K20, K.K21, K.K22, K.K23, K.K24, K.K25, A.A1, A.A2, A.A3, A.A4, A.A5, A.A6, A.A7, A.A8, A.A9, A.A10, A.R2, A.R7]
    exact loop (fun i hi => absurd hi (by omega))
  · rw [r388_3]
    simp (disch := omega) only [r388_0, r388_1, r388_5, r388_6, r388_9, r388_12, r388_13, r388_16, r388_17, r388_18, r388_20, r388_21, r388_22, r388_25, r388_26, r388_29, r388_30, r388_31, r388_33, r388_34, r388_35, r388_38, r388_39, r388_42, r388_43, r388_44, r388_46, r388_47, r388_48, r388_51, r388_53, r388_54, r388_57, r388_60, r388_61, znl_i, znl_r, znl_j, znl_l, List.length_cons, List.length_nil, Option.some.injEq, Sum.inl.injEq, Sum.inr.injEq, Prod.mk.injEq, true_and, and_true, exists_eq_left', zK_sI, zA_sI, zL_sI, zK_sL, zA_sL, zI_sL, zK_fI, zA_fI, zL_fI, zK_fL, zA_fL, zI_fL, Nat.reduceAdd, Nat.reduceLeDiff, forall_eq', zl_lt, zl_gt, zl_eq, zl_le, zl_ge, zm_0, zaft_n, zaft_v, zb_eq, Decidable.not_not, zK_rH, zI_rH, zL_rH, zA_rH, zsI_rH, zsL_rH, zsA_rH, zcpI_rH, zn_b, zm_b, Int.toNat_natCast, Int.toNat_zero, Int.reduceToNat, K.K0, K.K1, K.K2, K.K3, K.K6, K.K7, K.K8, K.K20, K.K21, K.K22, K.K23, K.K24, K.K25, A.A1, A.A2, A.A3, A.A4, A.A5, A.A6, A.A7, A.A8, A.A9, A.A10, A.R2, A.R7, S.m]
    refine ⟨fun _ => ?_, fun z => absurd z (by omega)⟩
    rw [yatom, yfind_no q]
  · have b1 := hb k hk 1 (by omega) (by omega)
    have b2 := hb k hk 2 (by omega) (by omega)
    have b3 := hb k hk 3 (by omega) (by omega)
    rw [r388_3]
    simp (disch := omega) only [r388_0, r388_1, r388_5, r388_6, r388_9, r388_12, r388_13, r388_16, r388_17, r388_18, r388_20, r388_21, r388_22, r388_25, r388_26, r388_29, r388_30, r388_31, r388_33, r388_34, r388_35, r388_38, r388_39, r388_42, r388_43, r388_44, r388_46, r388_47, r388_48, r388_51, r388_53, r388_54, r388_57, r388_60, r388_61, znl_i, znl_r, znl_j, znl_l, List.length_cons, List.length_nil, Option.some.injEq, Sum.inl.injEq, Sum.inr.injEq, Prod.mk.injEq, true_and, and_true, exists_eq_left', zK_sI, zA_sI, zL_sI, zK_sL, zA_sL, zI_sL, zK_fI, zA_fI, zL_fI, zK_fL, zA_fL, zI_fL, Nat.reduceAdd, Nat.reduceLeDiff, forall_eq', zl_lt, zl_gt, zl_eq, zl_le, zl_ge, zm_0, zaft_n, zaft_v, zb_eq, Decidable.not_not, zK_rH, zI_rH, zL_rH, zA_rH, zsI_rH, zsL_rH, zsA_rH, zcpI_rH, zn_b, zm_b, Int.toNat_natCast, Int.toNat_zero, Int.reduceToNat, K.K0, K.K1, K.K2, K.K3, K.K6, K.K7, K.K8, K.K20, K.K21, K.K22, K.K23, K.K24, K.K25, A.A1, A.A2, A.A3, A.A4, A.A5, A.A6, A.A7, A.A8, A.A9, A.A10, A.R2, A.R7, S.m, S.p]
    refine ⟨fun z => absurd z (by omega), fun _ => ?_⟩
    have nx : yplc F X Y Z k = false → zg e 388 d 3 [zr (some (x + f)), zi X, zi Y, zi Z, zi ((k : Int) + 1)] [] (cH h x φ ψ α) (fun ov h' => ov = Sum.inl (some (zi (yatom F X Y Z))) ∧ h' = cH h x φ ψ α) := fun z => ih fun i hi => by
      by_cases c : i = k
      · rw [c]; exact z
      · exact q i (by omega)
    refine ⟨by omega, by omega, by omega, by omega, fun q1 => nx (by simp [yplc, q1]), fun q1 => ⟨by omega, by omega, by omega, by omega, fun q2 => nx (by simp [yplc, q2]), fun q2 => ⟨by omega, by omega, by omega, by omega, fun q3 => nx (by simp [yplc, q3]), fun q3 => ?_⟩⟩⟩
    rw [yatom, yfind_hit hk q (by simp [yplc, q1, q2, q3])]
theorem f_places (K : fK e h x f) (A : fA x f α) (k : Nat) (hk : k < 12) (X Y Z : Int) : zc e (d + 2) 390 [zr (some (x + f)), zi (k : Int), zi X, zi Y, zi Z] (cH h x φ ψ α)
    (fun ov h' => ov = Sum.inl none ∧ h' = cH h x (zu (zu (zu φ (f + 3 + 0) k X) (f + 3 + 1) k Y) (f + 3 + 2) k Z) ψ (fcl f 12 α)) := by
  have kn := K.n
  have kb := K.b
  simp (disch := omega) only [n390, r390_0, r390_1, r390_4, r390_5, r390_6, r390_7, r390_8, r390_9, r390_10, r390_13, r390_14, r390_15, r390_16, r390_17, r390_18, r390_19, r390_22, r390_23, r390_24, r390_25, r390_27, r390_28, r390_29, r390_32, znl_i, znl_r, znl_j, znl_l, List.length_cons, List.length_nil, Option.some.injEq, Sum.inl.injEq, Sum.inr.injEq, Prod.mk.injEq, true_and, and_true, exists_eq_left', zK_sI, zA_sI, zL_sI, zK_sL, zA_sL, zI_sL, zK_fI, zA_fI, zL_fI, zK_fL, zA_fL, zI_fL, Nat.reduceAdd, Nat.reduceLeDiff, forall_eq', zl_lt, zl_gt, zl_eq, zl_le, zl_ge, zm_0, zaft_n, zaft_v, zb_eq, Decidable.not_not, zK_rH, zI_rH, zL_rH, zA_rH, zsI_rH, zsL_rH, zsA_rH, zcpI_rH, zn_b, zm_b, Int.toNat_natCast, Int.toNat_zero, Int.reduceToNat, K.K0, K.K1, K.K2, K.K3, K.K6, K.K7, K.K8, K.K20, K.K21, K.K22, K.K23, K.K24, K.K25, A.A1, A.A2, A.A3, A.A4, A.A5, A.A6, A.A7, A.A8, A.A9, A.A10, A.R2, A.R7]
  repeat (refine And.intro (by omega) ?_)
  refine zc_w (f_changes K A) ?_
  simp (disch := omega) only [r390_0, r390_1, r390_4, r390_5, r390_6, r390_7, r390_8, r390_9, r390_10, r390_13, r390_14, r390_15, r390_16, r390_17, r390_18, r390_19, r390_22, r390_23, r390_24, r390_25, r390_27, r390_28, r390_29, r390_32, znl_i, znl_r, znl_j, znl_l, List.length_cons, List.length_nil, Option.some.injEq, Sum.inl.injEq, Sum.inr.injEq, Prod.mk.injEq, true_and, and_true, exists_eq_left', zK_sI, zA_sI, zL_sI, zK_sL, zA_sL, zI_sL, zK_fI, zA_fI, zL_fI, zK_fL, zA_fL, zI_fL, Nat.reduceAdd, Nat.reduceLeDiff, forall_eq', zl_lt, zl_gt, zl_eq, zl_le, zl_ge, zm_0, zaft_n, zaft_v, zb_eq, Decidable.not_not, zK_rH, zI_rH, zL_rH, zA_rH, zsI_rH, zsL_rH, zsA_rH, zcpI_rH, zn_b, zm_b, Int.toNat_natCast, Int.toNat_zero, Int.reduceToNat, K.K0, K.K1, K.K2, K.K3, K.K6, K.K7, K.K8, K.K20, K.K21, K.K22, K.K23, K.K24, K.K25, A.A1, A.A2, A.A3, A.A4, A.A5, A.A6, A.A7, A.A8, A.A9, A.A10, A.R2, A.R7]
theorem f_adds (K : fK e h x f) (A : fA x f α) (S : fS F f φ) (c X Y Z : Int) (hw : yW (F.1 + 1, yset F.1 (yat c X Y Z) F.2)) : zc e (d + 3) 389 [zr (some (x + f)), zi c, zi X, zi Y, zi Z] (cH h x φ ψ α)
    (fun ov h' => ov = Sum.inl none ∧ ∃ φ', h' = cH h x φ' ψ (fcl f 12 α) ∧ fS (F.1 + 1, yset F.1 (yat c X Y Z) F.2) f φ' ∧ ∀ i, (i < f ∨ f + 6 ≤ i) → φ' i = φ i) := by
  have kn := K.n
  have kb := K.b
  have hm : F.1 + 1 ≤ 12 := hw.1
  simp (disch := omega) only [n389, r389_0, r389_1, r389_4, r389_5, r389_8, r389_9, r389_10, r389_11, r389_12, r389_15, r389_16, r389_17, r389_20, r389_21, r389_22, r389_25, r389_26, r389_27, r389_28, r389_29, r389_31, r389_34, znl_i, znl_r, znl_j, znl_l, List.length_cons, List.length_nil, Option.some.injEq, Sum.inl.injEq, Sum.inr.injEq, Prod.mk.injEq, true_and, and_true, exists_eq_left', zK_sI, zA_sI, zL_sI, zK_sL, zA_sL, zI_sL, zK_fI, zA_fI, zL_fI, zK_fL, zA_fL, zI_fL, Nat.reduceAdd, Nat.reduceLeDiff, forall_eq', zl_lt, zl_gt, zl_eq, zl_le, zl_ge, zm_0, zaft_n, zaft_v, zb_eq, Decidable.not_not, zK_rH, zI_rH, zL_rH, zA_rH, zsI_rH, zsL_rH, zsA_rH, zcpI_rH, zn_b, zm_b, Int.toNat_natCast, Int.toNat_zero, Int.reduceToNat, K.K0, K.K1, K.K2, K.K3, K.K6, K.K7, K.K8, K.K20, K.K21, K.K22, K.K23, K.K24, K.K25, A.A1, A.A2, A.A3, A.A4, A.A5, A.A6, A.A7, A.A8, A.A9, A.A10, A.R2, A.R7, S.m, zu_cell, zu_same]
  repeat (refine And.intro (by omega) ?_)
  rw [Int.add_sub_cancel]
  refine zc_w (f_places K A F.1 (by omega) X Y Z) ?_
  simp (disch := omega) only [r389_0, r389_1, r389_4, r389_5, r389_8, r389_9, r389_10, r389_11, r389_12, r389_15, r389_16, r389_17, r389_20, r389_21, r389_22, r389_25, r389_26, r389_27, r389_28, r389_29, r389_31, r389_34, znl_i, znl_r, znl_j, znl_l, List.length_cons, List.length_nil, Option.some.injEq, Sum.inl.injEq, Sum.inr.injEq, Prod.mk.injEq, true_and, and_true, exists_eq_left', zK_sI, zA_sI, zL_sI, zK_sL, zA_sL, zI_sL, zK_fI, zA_fI, zL_fI, zK_fL, zA_fL, zI_fL, Nat.reduceAdd, Nat.reduceLeDiff, forall_eq', zl_lt, zl_gt, zl_eq, zl_le, zl_ge, zm_0, zaft_n, zaft_v, zb_eq, Decidable.not_not, zK_rH, zI_rH, zL_rH, zA_rH, zsI_rH, zsL_rH, zsA_rH, zcpI_rH, zn_b, zm_b, Int.toNat_natCast, Int.toNat_zero, Int.reduceToNat, K.K0, K.K1, K.K2, K.K3, K.K6, K.K7, K.K8, K.K20, K.K21, K.K22, K.K23, K.K24, K.K25, A.A1, A.A2, A.A3, A.A4, A.A5, A.A6, A.A7, A.A8, A.A9, A.A10, A.R2, A.R7]
  refine ⟨_, rfl, ⟨hw, ?_, fun k hk => ?_, fun i hi k hk => ?_⟩, fun i hi => ?_⟩
  · simp (disch := omega) only [zu_cell, zu_same]; rfl
  · have hk : k < F.1 + 1 := hk
    by_cases c2 : k = F.1
    · subst c2
      simp (disch := omega) only [zu_cell, zu_same]
      simp only [yset, if_true, yat]
    · simp (disch := omega) only [zu_cell, zu_slot, S.k]
      simp only [yset, if_neg c2]
  · have hk : k < F.1 + 1 := hk
    by_cases c2 : k = F.1
    · subst c2
      obtain rfl | rfl | rfl : i = 0 ∨ i = 1 ∨ i = 2 := by omega
      all_goals
        simp (disch := omega) only [zu_cell, zu_same]
        simp only [yset, if_true, yat]
    · have := S.p i hi k (by omega)
      obtain rfl | rfl | rfl : i = 0 ∨ i = 1 ∨ i = 2 := by omega
      all_goals
        simp (disch := omega) only [zu_cell, zu_slot]
        simp only [yset, if_neg c2]
        exact this
  · simp (disch := omega) only [zu_cell]
theorem f_loses (K : fK e h x f) (A : fA x f α) (S : fS F f φ) (k : Nat) (hk : k < F.1) (hw : yW (F.1 - 1, ydrp k F.2)) : zc e (d + 2) 397 [zr (some (x + f)), zi (k : Int)] (cH h x φ ψ α)
    (fun ov h' => ov = Sum.inl none ∧ ∃ φ', h' = cH h x φ' ψ (fcl f 12 α) ∧ fS (F.1 - 1, ydrp k F.2) f φ' ∧ ∀ i, (i < f ∨ f + 6 ≤ i) → φ' i = φ i) := by
  have kn := K.n
  have kb := K.b
  have hm := S.w.1
  have e1 : ((F.1 : Int) - (k : Int) - 1) = ((F.1 - k - 1 : Nat) : Int) := by omega
  have e2 : ((k : Int) + 1) = ((k + 1 : Nat) : Int) := by omega
  have step : ∀ (φ1 : Nat → Nat → Int) (i : Nat) (P : zEt), i < 3 → zg e 397 (d + 1) 27 [zr (some (x + f)), zi (k : Int), zi ((F.1 - k - 1 : Nat) : Int), zi ((i + 1 : Nat) : Int)] [] (cH h x (zcpy φ1 (f + 3 + i) k (f + 3 + i) (k + 1) (F.1 - k - 1)) ψ α) P → zg e 397 (d + 1) 27 [zr (some (x + f)), zi (k : Int), zi ((F.1 - k - 1 : Nat) : Int), zi (i : Int)] [] (cH h x φ1 ψ α) P := by
    intro φ1 i P hi g
    rw [r397_27]
    simp (disch := omega) only [r397_0, r397_1, r397_4, r397_5, r397_6, r397_7, r397_8, r397_9, r397_10, r397_13, r397_14, r397_15, r397_16, r397_17, r397_20, r397_21, r397_22, r397_25, r397_26, r397_28, r397_29, r397_32, r397_33, r397_36, r397_37, r397_38, r397_39, r397_40, r397_41, r397_42, r397_45, r397_46, r397_47, r397_48, r397_49, r397_52, r397_55, r397_58, r397_59, r397_60, r397_63, r397_64, r397_65, r397_68, r397_69, r397_72, znl_i, znl_r, znl_j, znl_l, List.length_cons, List.length_nil, Option.some.injEq, Sum.inl.injEq, Sum.inr.injEq, Prod.mk.injEq, true_and, and_true, exists_eq_left', zK_sI, zA_sI, zL_sI, zK_sL, zA_sL, zI_sL, zK_fI, zA_fI, zL_fI, zK_fL, zA_fL, zI_fL, Nat.reduceAdd, Nat.reduceLeDiff, forall_eq', zl_lt, zl_gt, zl_eq, zl_le, zl_ge, zm_0, zaft_n, zaft_v, zb_eq, Decidable.not_not, zK_rH, zI_rH, zL_rH, zA_rH, zsI_rH, zsL_rH, zsA_rH, zcpI_rH, zn_b, zm_b, Int.toNat_natCast, Int.toNat_zero, Int.reduceToNat, K.K0, K.K1, K.K2, K.K3, K.K6, K.K7, K.K8, K.K20, K.K21, K.K22, K.K23, K.K24, K.K25, A.A1, A.A2, A.A3, A.A4, A.A5, A.A6, A.A7, A.A8, A.A9, A.A10, A.R2, A.R7, e2]
    refine ⟨fun z => absurd z (by omega), fun _ => ?_⟩
    exact ⟨by omega, by omega, by omega, by omega, 12, 12, rfl, rfl, by omega, by omega, by omega, by omega, by omega, by omega, g⟩
  simp (disch := omega) only [n397, r397_0, r397_1, r397_4, r397_5, r397_6, r397_7, r397_8, r397_9, r397_10, r397_13, r397_14, r397_15, r397_16, r397_17, r397_20, r397_21, r397_22, r397_25, r397_26, r397_28, r397_29, r397_32, r397_33, r397_36, r397_37, r397_38, r397_39, r397_40, r397_41, r397_42, r397_45, r397_46, r397_47, r397_48, r397_49, r397_52, r397_55, r397_58, r397_59, r397_60, r397_63, r397_64, r397_65, r397_68, r397_69, r397_72, znl_i, znl_r, znl_j, znl_l, List.length_cons, List.length_nil, Option.some.injEq, Sum.inl.injEq, Sum.inr.injEq, Prod.mk.injEq, true_and, and_true, exists_eq_left', zK_sI, zA_sI, zL_sI, zK_sL, zA_sL, zI_sL, zK_fI, zA_fI, zL_fI, zK_fL, zA_fL, zI_fL, Nat.reduceAdd, Nat.reduceLeDiff, forall_eq', zl_lt, zl_gt, zl_eq, zl_le, zl_ge, zm_0, zaft_n, zaft_v, zb_eq, Decidable.not_not, zK_rH, zI_rH, zL_rH, zA_rH, zsI_rH, zsL_rH, zsA_rH, zcpI_rH, zn_b, zm_b, Int.toNat_natCast, Int.toNat_zero, Int.reduceToNat, K.K0, K.K1, K.K2, K.K3, K.K6, K.K7, K.K8, K.K20, K.K21, K.K22, K.K23, K.K24, K.K25, A.A1, A.A2, A.A3, A.A4, A.A5, A.A6, A.A7, A.A8, A.A9, A.A10, A.R2, A.R7, S.m, e1, e2]
  refine ⟨12, 12, rfl, rfl, by omega, by omega, by omega, by omega, by omega, by omega, ?_⟩
  refine step _ 0 _ (by omega) (step _ 1 _ (by omega) (step _ 2 _ (by omega) ?_))
  rw [r397_27]
  simp (disch := omega) only [r397_0, r397_1, r397_4, r397_5, r397_6, r397_7, r397_8, r397_9, r397_10, r397_13, r397_14, r397_15, r397_16, r397_17, r397_20, r397_21, r397_22, r397_25, r397_26, r397_28, r397_29, r397_32, r397_33, r397_36, r397_37, r397_38, r397_39, r397_40, r397_41, r397_42, r397_45, r397_46, r397_47, r397_48, r397_49, r397_52, r397_55, r397_58, r397_59, r397_60, r397_63, r397_64, r397_65, r397_68, r397_69, r397_72, znl_i, znl_r, znl_j, znl_l, List.length_cons, List.length_nil, Option.some.injEq, Sum.inl.injEq, Sum.inr.injEq, Prod.mk.injEq, true_and, and_true, exists_eq_left', zK_sI, zA_sI, zL_sI, zK_sL, zA_sL, zI_sL, zK_fI, zA_fI, zL_fI, zK_fL, zA_fL, zI_fL, Nat.reduceAdd, Nat.reduceLeDiff, forall_eq', zl_lt, zl_gt, zl_eq, zl_le, zl_ge, zm_0, zaft_n, zaft_v, zb_eq, Decidable.not_not, zK_rH, zI_rH, zL_rH, zA_rH, zsI_rH, zsL_rH, zsA_rH, zcpI_rH, zn_b, zm_b, Int.toNat_natCast, Int.toNat_zero, Int.reduceToNat, K.K0, K.K1, K.K2, K.K3, K.K6, K.K7, K.K8, K.K20, K.K21, K.K22, K.K23, K.K24, K.K25, A.A1, A.A2, A.A3, A.A4, A.A5, A.A6, A.A7, A.A8, A.A9, A.A10, A.R2, A.R7, S.m, zcpy_n]
  refine ⟨fun _ => ?_, fun z => absurd z (by decide)⟩
  repeat (refine And.intro (by omega) ?_)
  refine zc_w (f_changes K A) ?_
  simp (disch := omega) only [r397_0, r397_1, r397_4, r397_5, r397_6, r397_7, r397_8, r397_9, r397_10, r397_13, r397_14, r397_15, r397_16, r397_17, r397_20, r397_21, r397_22, r397_25, r397_26, r397_28, r397_29, r397_32, r397_33, r397_36, r397_37, r397_38, r397_39, r397_40, r397_41, r397_42, r397_45, r397_46, r397_47, r397_48, r397_49, r397_52, r397_55, r397_58, r397_59, r397_60, r397_63, r397_64, r397_65, r397_68, r397_69, r397_72, znl_i, znl_r, znl_j, znl_l, List.length_cons, List.length_nil, Option.some.injEq, Sum.inl.injEq, Sum.inr.injEq, Prod.mk.injEq, true_and, and_true, exists_eq_left', zK_sI, zA_sI, zL_sI, zK_sL, zA_sL, zI_sL, zK_fI, zA_fI, zL_fI, zK_fL, zA_fL, zI_fL, Nat.reduceAdd, Nat.reduceLeDiff, forall_eq', zl_lt, zl_gt, zl_eq, zl_le, zl_ge, zm_0, zaft_n, zaft_v, zb_eq, Decidable.not_not, zK_rH, zI_rH, zL_rH, zA_rH, zsI_rH, zsL_rH, zsA_rH, zcpI_rH, zn_b, zm_b, Int.toNat_natCast, Int.toNat_zero, Int.reduceToNat, K.K0, K.K1, K.K2, K.K3, K.K6, K.K7, K.K8, K.K20, K.K21, K.K22, K.K23, K.K24, K.K25, A.A1, A.A2, A.A3, A.A4, A.A5, A.A6, A.A7, A.A8, A.A9, A.A10, A.R2, A.R7]
  have cp : ∀ (φ1 : Nat → Nat → Int) (c j : Nat) (u : Nat → Int), j < F.1 - 1 → (∀ j, j < F.1 → φ1 c j = u j) → zcpy φ1 c k c (k + 1) (F.1 - k - 1) c j = if j < k then u j else u (j + 1) := by
    intro φ1 c j u hj hu
    simp only [zcpy, true_and]
    by_cases q : j < k
    · rw [if_neg (by omega), if_pos q, hu j (by omega)]
    · rw [if_pos (by omega), if_neg q, hu _ (by omega), show k + 1 + (j - k) = j + 1 by omega]
  refine ⟨_, rfl, ⟨hw, ?_, fun j hj => ?_, fun i hi j hj => ?_⟩, fun i hi => ?_⟩
  · rw [zu_same]; show (F.1 : Int) - 1 = ((F.1 - 1 : Nat) : Int); omega
  · have hj : j < F.1 - 1 := hj
    simp (disch := omega) only [zu_cell, zcpy_n]
    rw [cp φ (f + 1) j (fun j => F.2 j 0) hj (fun j hj => S.k j hj)]
    simp only [ydrp]; split <;> rfl
  · have hj : j < F.1 - 1 := hj
    obtain rfl | rfl | rfl : i = 0 ∨ i = 1 ∨ i = 2 := by omega
    all_goals
      simp (disch := omega) only [zu_cell, zcpy_n]
      rw [cp _ _ j (fun j => F.2 j (_ + 1)) hj (fun j hj => by simp (disch := omega) only [zcpy_n]; exact S.p _ (by omega) j hj)]
      simp only [ydrp]; split <;> rfl
  · simp (disch := omega) only [zu_cell, zcpy_n]
end
