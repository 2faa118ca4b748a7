section
variable {e : zEv} {d x f o : Nat} {h h1 h2 : zH} {φ φ' φ'' ψ : Nat → Nat → Int} {α α' α'' : Nat → Nat → Option Nat} {F : yF}
theorem f_canShift (K : fK e h x f) (A : fA x f α) (S : fS F f φ) (i : Nat) (hi : i < 3) (c : Int) (hc : -100 ≤ c ∧ c ≤ 100) : zc e (d + 2) 395 [zr (some (x + f)), zi (i : Int), zi c] (cH h x φ ψ α)
    (fun ov h' => ov = Sum.inl (some (zi (yb (yinA F (i + 1) 1 c)))) ∧ h' = cH h x φ ψ α) := by
  have kn := K.n
  have hm := S.w.1
  have loop := zdown0 (fun k => (∀ j, j < k → (!yin F (i + 1) 1 c j) = false) → zg e 395 (d + 1) 2 [zr (some (x + f)), zi (i : Int), zi c, zi (k : Int)] [] (cH h x φ ψ α) (fun ov h' => ov = Sum.inl (some (zi (yb (yinA F (i + 1) 1 c)))) ∧ h' = cH h x φ ψ α)) F.1 (fun q => ?_) (fun k hk ih q => ?_)
  · simp (disch := omega) only [n395, r395_0, r395_1, r395_3, r395_4, r395_7, r395_10, r395_11, r395_14, r395_15, r395_16, r395_17, r395_18, r395_19, r395_20, r395_23, r395_25, r395_28, r395_29, r395_30, r395_33, r395_36, r395_37, znl_i, znl_r, znl_j, znl_l, List.length_cons, List.length_nil, Option.some.injEq, Sum.inl.injEq, Sum.inr.injEq, Prod.mk.injEq, true_and, and_true, exists_eq_left', zK_sI, zA_sI, zL_sI, zK_sL, zA_sL, zI_sL, zK_fI, zA_fI, zL_fI, zK_fL, zA_fL, zI_fL, Nat.reduceAdd, Nat.reduceLeDiff, forall_eq', zl_lt, zl_gt, zl_eq, zl_le, zl_ge, zm_0, zaft_n, zaft_v, zb_eq, Decidable.not_not, zK_rH, zI_rH, zL_rH, zA_rH, zsI_rH, zsL_rH, zsA_rH, zcpI_rH, zn_b, zm_b, Int.toNat_natCast, Int.toNat_zero, Int.reduceToNat, K.K0, K.K1, K.K2, K.K3, K.K6, K.K7, K.K8, K.K20, K.K21, K.K22, K.K23, K.K24, K.K25, A.A1, A.A2, A.A3, A.A4, A.A5, A.A6, A.A7, A.A8, A.A9, A.A10, A.R2, A.R7]
    exact loop (fun j hj => absurd hj (by omega))
  · rw [r395_2]
    simp (disch := omega) only [r395_0, r395_1, r395_3, r395_4, r395_7, r395_10, r395_11, r395_14, r395_15, r395_16, r395_17, r395_18, r395_19, r395_20, r395_23, r395_25, r395_28, r395_29, r395_30, r395_33, r395_36, r395_37, znl_i, znl_r, znl_j, znl_l, List.length_cons, List.length_nil, Option.some.injEq, Sum.inl.injEq, Sum.inr.injEq, Prod.mk.injEq, true_and, and_true, exists_eq_left', zK_sI, zA_sI, zL_sI, zK_sL, zA_sL, zI_sL, zK_fI, zA_fI, zL_fI, zK_fL, zA_fL, zI_fL, Nat.reduceAdd, Nat.reduceLeDiff, forall_eq', zl_lt, zl_gt, zl_eq, zl_le, zl_ge, zm_0, zaft_n, zaft_v, zb_eq, Decidable.not_not, zK_rH, zI_rH, zL_rH, zA_rH, zsI_rH, zsL_rH, zsA_rH, zcpI_rH, zn_b, zm_b, Int.toNat_natCast, Int.toNat_zero, Int.reduceToNat, K.K0, K.K1, K.K2, K.K3, K.K6, K.K7, K.K8, K.K20, K.K21, K.K22, K.K23, K.K24, K.K25, A.A1, A.A2, A.A3, A.A4, A.A5, A.A6, A.A7, A.A8, A.A9, A.A10, A.R2, A.R7, S.m]
    refine ⟨fun _ => ⟨by decide, by decide, ?_⟩, fun z => absurd z (by omega)⟩
    rw [show yinA F (i + 1) 1 c = true from decide_eq_true (yfind_no q)]; rfl
  · have b := S.w.2.2.1 k hk (i + 1) (by omega) (by omega)
    rw [r395_2]
    simp (disch := omega) only [r395_0, r395_1, r395_3, r395_4, r395_7, r395_10, r395_11, r395_14, r395_15, r395_16, r395_17, r395_18, r395_19, r395_20, r395_23, r395_25, r395_28, r395_29, r395_30, r395_33, r395_36, r395_37, znl_i, znl_r, znl_j, znl_l, List.length_cons, List.length_nil, Option.some.injEq, Sum.inl.injEq, Sum.inr.injEq, Prod.mk.injEq, true_and, and_true, exists_eq_left', zK_sI, zA_sI, zL_sI, zK_sL, zA_sL, zI_sL, zK_fI, zA_fI, zL_fI, zK_fL, zA_fL, zI_fL, Nat.reduceAdd, Nat.reduceLeDiff, forall_eq', zl_lt, zl_gt, zl_eq, zl_le, zl_ge, zm_0, zaft_n, zaft_v, zb_eq, Decidable.not_not, zK_rH, zI_rH, zL_rH, zA_rH, zsI_rH, zsL_rH, zsA_rH, zcpI_rH, zn_b, zm_b, Int.toNat_natCast, Int.toNat_zero, Int.reduceToNat, K.K0, K.K1, K.K2, K.K3, K.K6, K.K7, K.K8, K.K20, K.K21, K.K22, K.K23, K.K24, K.K25, A.A1, A.A2, A.A3, A.A4, A.A5, A.A6, A.A7, A.A8, A.A9, A.A10, A.R2, A.R7, S.m, S.p]
    refine ⟨fun z => absurd z (by omega), fun _ => ?_⟩
    repeat (refine And.intro (by omega) ?_)
    refine zc_w (j_abs _ (by omega) (by omega)) ?_
    have b2 : -1000 ≤ (if F.2 k (i + 1) + c < 0 then -(F.2 k (i + 1) + c) else F.2 k (i + 1) + c) ∧ (if F.2 k (i + 1) + c < 0 then -(F.2 k (i + 1) + c) else F.2 k (i + 1) + c) ≤ 1000 := by split <;> omega
    simp (disch := omega) only [r395_0, r395_1, r395_3, r395_4, r395_7, r395_10, r395_11, r395_14, r395_15, r395_16, r395_17, r395_18, r395_19, r395_20, r395_23, r395_25, r395_28, r395_29, r395_30, r395_33, r395_36, r395_37, znl_i, znl_r, znl_j, znl_l, List.length_cons, List.length_nil, Option.some.injEq, Sum.inl.injEq, Sum.inr.injEq, Prod.mk.injEq, true_and, and_true, exists_eq_left', zK_sI, zA_sI, zL_sI, zK_sL, zA_sL, zI_sL, zK_fI, zA_fI, zL_fI, zK_fL, zA_fL, zI_fL, Nat.reduceAdd, Nat.reduceLeDiff, forall_eq', zl_lt, zl_gt, zl_eq, zl_le, zl_ge, zm_0, zaft_n, zaft_v, zb_eq, Decidable.not_not, zK_rH, zI_rH, zL_rH, zA_rH, zsI_rH, zsL_rH, zsA_rH, zcpI_rH, zn_b, zm_b, Int.toNat_natCast, Int.toNat_zero, Int.reduceToNat, K.K0, K.K1, K.K2, K.K3, K.K6, K.K7, K.K8, K.K20, K.K21, K.K22, K.K23, K.K24, K.K25, A.A1, A.A2, A.A3, A.A4, A.A5, A.A6, A.A7, A.A8, A.A9, A.A10, A.R2, A.R7]
    refine ⟨fun z => ih fun j hj => ?_, fun z => ⟨by decide, by decide, ?_⟩⟩
    · by_cases w : j = k
      · subst w
        have : yin F (i + 1) 1 c j = true := decide_eq_true (by rw [Int.one_mul]; split at z <;> omega)
        rw [this]; rfl
      · exact q j (by omega)
    · have : yin F (i + 1) 1 c k = false := decide_eq_false (by rw [Int.one_mul]; split at z <;> omega)
      have n : yinA F (i + 1) 1 c = false := decide_eq_false (by rw [yfind_hit hk q (by rw [this]; rfl)]; omega)
      rw [n]; rfl
theorem f_shifts (K : fK e h x f) (A : fA x f α) (S : fS F f φ) (i : Nat) (hi : i < 3) (c : Int) (hw : yW (ychF (i + 1) 1 c F)) : zc e (d + 2) 396 [zr (some (x + f)), zi (i : Int), zi c] (cH h x φ ψ α)
    (fun ov h' => ov = Sum.inl none ∧ ∃ φ', h' = cH h x φ' ψ (fcl f 12 α) ∧ fS (ychF (i + 1) 1 c F) f φ' ∧ ∀ j, (j < f ∨ f + 6 ≤ j) → φ' j = φ j) := by
  have kn := K.n
  have kb := K.b
  have hm := S.w.1
  have loop := zdown0 (fun k => ∀ φ' : Nat → Nat → Int, (∀ j, j ≠ f + 3 + i → φ' j = φ j) → (∀ j, j < F.1 → φ' (f + 3 + i) j = if j < k then F.2 j (i + 1) + c else F.2 j (i + 1)) → zg e 396 (d + 1) 2 [zr (some (x + f)), zi (i : Int), zi c, zi (k : Int)] [] (cH h x φ' ψ α) (fun ov h' => ov = Sum.inl none ∧ ∃ φ', h' = cH h x φ' ψ (fcl f 12 α) ∧ fS (ychF (i + 1) 1 c F) f φ' ∧ ∀ j, (j < f ∨ f + 6 ≤ j) → φ' j = φ j)) F.1 (fun φ' q1 q2 => ?_) (fun k hk ih φ' q1 q2 => ?_)
  · simp (disch := omega) only [n396, r396_0, r396_1, r396_3, r396_4, r396_7, r396_10, r396_11, r396_14, r396_15, r396_16, r396_17, r396_18, r396_19, r396_20, r396_21, r396_22, r396_25, r396_28, r396_29, r396_32, znl_i, znl_r, znl_j, znl_l, List.length_cons, List.length_nil, Option.some.injEq, Sum.inl.injEq, Sum.inr.injEq, Prod.mk.injEq, true_and, and_true, exists_eq_left', zK_sI, zA_sI, zL_sI, zK_sL, zA_sL, zI_sL, zK_fI, zA_fI, zL_fI, zK_fL, zA_fL, zI_fL, Nat.reduceAdd, Nat.reduceLeDiff, forall_eq', zl_lt, zl_gt, zl_eq, zl_le, zl_ge, zm_0, zaft_n, zaft_v, zb_eq, Decidable.not_not, zK_rH, zI_rH, zL_rH, zA_rH, zsI_rH, zsL_rH, zsA_rH, zcpI_rH, zn_b, zm_b, Int.toNat_natCast, Int.toNat_zero, Int.reduceToNat, K.K0, K.K1, K.K2, K.K3, K.K6, K.K7, K.K8, K.K20, K.K21, K.K22, K.K23, K.K24, K.K25, A.A1, A.A2, A.A3, A.A4, A.A5, A.A6, A.A7, A.A8, A.A9, A.A10, A.R2, A.R7]
    exact loop φ (fun _ _ => rfl) (fun j hj => by rw [if_neg (by omega)]; exact S.p i hi j hj)
  · rw [r396_2]
    simp (disch := omega) only [r396_0, r396_1, r396_3, r396_4, r396_7, r396_10, r396_11, r396_14, r396_15, r396_16, r396_17, r396_18, r396_19, r396_20, r396_21, r396_22, r396_25, r396_28, r396_29, r396_32, znl_i, znl_r, znl_j, znl_l, List.length_cons, List.length_nil, Option.some.injEq, Sum.inl.injEq, Sum.inr.injEq, Prod.mk.injEq, true_and, and_true, exists_eq_left', zK_sI, zA_sI, zL_sI, zK_sL, zA_sL, zI_sL, zK_fI, zA_fI, zL_fI, zK_fL, zA_fL, zI_fL, Nat.reduceAdd, Nat.reduceLeDiff, forall_eq', zl_lt, zl_gt, zl_eq, zl_le, zl_ge, zm_0, zaft_n, zaft_v, zb_eq, Decidable.not_not, zK_rH, zI_rH, zL_rH, zA_rH, zsI_rH, zsL_rH, zsA_rH, zcpI_rH, zn_b, zm_b, Int.toNat_natCast, Int.toNat_zero, Int.reduceToNat, K.K0, K.K1, K.K2, K.K3, K.K6, K.K7, K.K8, K.K20, K.K21, K.K22, K.K23, K.K24, K.K25, A.A1, A.A2, A.A3, A.A4, A.A5, A.A6, A.A7, A.A8, A.A9, A.A10, A.R2, A.R7, q1, S.m]
    refine ⟨fun _ => ?_, fun z => absurd z (by omega)⟩
    refine zc_w (f_changes K A) ?_
    simp (disch := omega) only [r396_0, r396_1, r396_3, r396_4, r396_7, r396_10, r396_11, r396_14, r396_15, r396_16, r396_17, r396_18, r396_19, r396_20, r396_21, r396_22, r396_25, r396_28, r396_29, r396_32, znl_i, znl_r, znl_j, znl_l, List.length_cons, List.length_nil, Option.some.injEq, Sum.inl.injEq, Sum.inr.injEq, Prod.mk.injEq, true_and, and_true, exists_eq_left', zK_sI, zA_sI, zL_sI, zK_sL, zA_sL, zI_sL, zK_fI, zA_fI, zL_fI, zK_fL, zA_fL, zI_fL, Nat.reduceAdd, Nat.reduceLeDiff, forall_eq', zl_lt, zl_gt, zl_eq, zl_le, zl_ge, zm_0, zaft_n, zaft_v, zb_eq, Decidable.not_not, zK_rH, zI_rH, zL_rH, zA_rH, zsI_rH, zsL_rH, zsA_rH, zcpI_rH, zn_b, zm_b, Int.toNat_natCast, Int.toNat_zero, Int.reduceToNat, K.K0, K.K1, K.K2, K.K3, K.K6, K.K7, K.K8, K.K20, K.K21, K.K22, K.K23, K.K24, K.K25, A.A1, A.A2, A.A3, A.A4, A.A5, A.A6, A.A7, A.A8, A.A9, A.A10, A.R2, A.R7]
    refine ⟨φ', rfl, ⟨hw, ?_, fun j hj => ?_, fun i' hi' j hj => ?_⟩, fun j hj => q1 j (by omega)⟩
    · rw [q1 _ (by omega)]; exact S.m
    · rw [q1 _ (by omega), S.k j hj]; simp [ychF]
    · have hj : j < F.1 := hj
      by_cases w : i' = i
      · subst w; rw [q2 j (by assumption), if_pos (show j < F.1 from hj)]; simp [ychF]
      · rw [q1 _ (by omega), S.p i' hi' j hj]
        simp only [ychF]; rw [if_neg (by omega)]
  · rw [r396_2]
    simp (disch := omega) only [r396_0, r396_1, r396_3, r396_4, r396_7, r396_10, r396_11, r396_14, r396_15, r396_16, r396_17, r396_18, r396_19, r396_20, r396_21, r396_22, r396_25, r396_28, r396_29, r396_32, znl_i, znl_r, znl_j, znl_l, List.length_cons, List.length_nil, Option.some.injEq, Sum.inl.injEq, Sum.inr.injEq, Prod.mk.injEq, true_and, and_true, exists_eq_left', zK_sI, zA_sI, zL_sI, zK_sL, zA_sL, zI_sL, zK_fI, zA_fI, zL_fI, zK_fL, zA_fL, zI_fL, Nat.reduceAdd, Nat.reduceLeDiff, forall_eq', zl_lt, zl_gt, zl_eq, zl_le, zl_ge, zm_0, zaft_n, zaft_v, zb_eq, Decidable.not_not, zK_rH, zI_rH, zL_rH, zA_rH, zsI_rH, zsL_rH, zsA_rH, zcpI_rH, zn_b, zm_b, Int.toNat_natCast, Int.toNat_zero, Int.reduceToNat, K.K0, K.K1, K.K2, K.K3, K.K6, K.K7, K.K8, K.K20, K.K21, K.K22, K.K23, K.K24, K.K25, A.A1, A.A2, A.A3, A.A4, A.A5, A.A6, A.A7, A.A8, A.A9, A.A10, A.R2, A.R7, q1, S.m]
    refine ⟨fun z => absurd z (by omega), fun _ => ?_⟩
    repeat (refine And.intro (by omega) ?_)
    refine ih _ (fun j hj => ?_) (fun j hj => ?_)
    · rw [zu_cell _ _ _ hj]; exact q1 j hj
    · by_cases w : j = k
      · subst w; rw [zu_same, q2 j hj, if_neg (by omega), if_pos (by omega)]
      · rw [zu_slot _ _ _ w, q2 j hj]; by_cases w2 : j < k
        · rw [if_pos w2, if_pos (by omega)]
        · rw [if_neg w2, if_neg (by omega)]
end
