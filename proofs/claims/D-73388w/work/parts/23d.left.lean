/-! ===== numbers mod 97, as the component makes them ===== -/
theorem zlxor_neg {x : Int} (h1 : -9223372036854775808 ≤ x) (h2 : x < 9223372036854775808) : zlxor x 97 < 0 ↔ x < 0 := by
  unfold zlxor
  have e : ∀ X : Int64, X.toInt < 0 ↔ X.toBitVec.msb = true := fun X => by
    rw [← Int64.toInt_toBitVec, BitVec.msb_eq_toInt, decide_eq_true_iff]
  rw [e, Int64.toBitVec_xor, BitVec.msb_xor]
  have m97 : (Int64.ofInt 97).toBitVec.msb = false := by decide
  rw [m97, Bool.xor_false, ← e]
  have : (Int64.ofInt x).toInt = x := by
    rw [Int64.toInt_ofInt]
    exact zm_id h1 h2
  rw [this]
theorem ytm98 (x : Int) : (if x < 0 ∧ x.tmod 97 ≠ 0 then x.tmod 97 + 97 else x.tmod 97) = x % 97 := by
  by_cases c : x < 0
  · have e : x.tmod 97 = -((-x) % 97) := by
      have := Int.neg_tmod (-x) 97
      rw [Int.neg_neg] at this
      rw [this, Int.tmod_eq_emod_of_nonneg (by omega)]
    rw [e]
    by_cases z : -((-x) % 97) = 0
    · rw [if_neg (fun w => w.2 z)]; omega
    · rw [if_pos ⟨c, z⟩]; omega
  · rw [if_neg (fun w => c w.1), Int.tmod_eq_emod_of_nonneg (by omega)]
theorem yi97_pow : ∀ n : Nat, n < 97 → n ^ 95 % 97 = yi97 (n : Int) := by decide +kernel
section
variable {e : zEv} {d : Nat} {h : zH}
theorem j_floorMod {x : Int} (hx : -1000000000000000000 ≤ x ∧ x ≤ 1000000000000000000) : zc e (d + 1) 83 [zl x, zl 97] h (fun o h' => o = Sum.inl (some (zl (x % 97))) ∧ h' = h) := by
  have zx := zm_b hx.1 hx.2
  have n1 := zlxor_neg (x := x) (by omega) (by omega)
  have t := ytm98 x
  have tb : -97 < x.tmod 97 ∧ x.tmod 97 < 97 := by
    have a := Int.tmod_lt_of_pos x (b := 97) (by omega)
    have b := Int.tmod_lt_of_pos (-x) (b := 97) (by omega)
    rw [Int.neg_tmod] at b
    omega
  have xr : zm (zlxor x 97) = zlxor x 97 := zm_id (show -9223372036854775808 ≤ (Int64.ofInt x ^^^ Int64.ofInt 97).toInt from Int64.le_toInt _) (show (Int64.ofInt x ^^^ Int64.ofInt 97).toInt < 9223372036854775808 from Int64.toInt_lt _)
  have zt : (if x.tmod 97 < 0 then (-1 : Int) else if x.tmod 97 = 0 then 0 else 1) = 0 ↔ x.tmod 97 = 0 := zlq_eq
  simp (disch := omega) only [n83, r83_0, r83_1, r83_2, r83_3, r83_5, r83_6, r83_7, r83_8, r83_9, r83_10, r83_13, r83_15, r83_16, r83_17, r83_20, r83_22, r83_23, r83_24, r83_25, r83_27, znl_i, znl_r, znl_j, znl_l, List.length_cons, List.length_nil, Option.some.injEq, Sum.inl.injEq, Sum.inr.injEq, Prod.mk.injEq, true_and, and_true, exists_eq_left', zK_sI, zA_sI, zL_sI, zK_sL, zA_sL, zI_sL, zK_fI, zA_fI, zL_fI, zK_fL, zA_fL, zI_fL, Nat.reduceAdd, Nat.reduceLeDiff, forall_eq', zl_lt, zl_gt, zl_eq, zl_le, zl_ge, zm_0, zaft_n, zaft_v, zb_eq, Decidable.not_not, zK_rH, zI_rH, zL_rH, zA_rH, zsI_rH, zsL_rH, zsA_rH, zcpI_rH, zn_b, zm_b, Int.toNat_natCast, Int.toNat_zero, Int.reduceToNat, zx, xr, zt]
  refine ⟨by decide, fun z => ?_, fun z => ⟨fun z2 => ?_, fun z2 => ?_⟩⟩
  · have : ¬ x < 0 := fun w => by rw [if_pos (n1.mpr w)] at z; omega
    rw [if_neg (fun w => this w.1)] at t; exact t
  · rw [if_neg (fun w => w.2 z2)] at t; exact t
  · have : x < 0 := Classical.byContradiction fun w => by
      rw [if_neg (fun q => w (n1.mp q))] at z
      split at z <;> omega
    rw [if_pos ⟨this, z2⟩] at t; exact t
theorem x_left {x : Int} (hx : -1000000000000000000 ≤ x ∧ x ≤ 1000000000000000000) : zc e (d + 2) 182 [zl x] h (fun o h' => o = Sum.inl (some (zi (x % 97))) ∧ h' = h) := by
  simp (disch := omega) only [n182, r182_0, r182_1, r182_4, r182_7, r182_8, znl_i, znl_r, znl_j, znl_l, List.length_cons, List.length_nil, Option.some.injEq, Sum.inl.injEq, Sum.inr.injEq, Prod.mk.injEq, true_and, and_true, exists_eq_left', zK_sI, zA_sI, zL_sI, zK_sL, zA_sL, zI_sL, zK_fI, zA_fI, zL_fI, zK_fL, zA_fL, zI_fL, Nat.reduceAdd, Nat.reduceLeDiff, forall_eq', zl_lt, zl_gt, zl_eq, zl_le, zl_ge, zm_0, zaft_n, zaft_v, zb_eq, Decidable.not_not, zK_rH, zI_rH, zL_rH, zA_rH, zsI_rH, zsL_rH, zsA_rH, zcpI_rH, zn_b, zm_b, Int.toNat_natCast, Int.toNat_zero, Int.reduceToNat]
  refine zc_w (j_floorMod (d := d) hx) ?_
  simp (disch := omega) only [r182_0, r182_1, r182_4, r182_7, r182_8, znl_i, znl_r, znl_j, znl_l, List.length_cons, List.length_nil, Option.some.injEq, Sum.inl.injEq, Sum.inr.injEq, Prod.mk.injEq, true_and, and_true, exists_eq_left', zK_sI, zA_sI, zL_sI, zK_sL, zA_sL, zI_sL, zK_fI, zA_fI, zL_fI, zK_fL, zA_fL, zI_fL, Nat.reduceAdd, Nat.reduceLeDiff, forall_eq', zl_lt, zl_gt, zl_eq, zl_le, zl_ge, zm_0, zaft_n, zaft_v, zb_eq, Decidable.not_not, zK_rH, zI_rH, zL_rH, zA_rH, zsI_rH, zsL_rH, zsA_rH, zcpI_rH, zn_b, zm_b, Int.toNat_natCast, Int.toNat_zero, Int.reduceToNat]
theorem x_backBy {n : Nat} (hn : n < 97) : zc e (d + 1) 181 [zi (n : Int)] h (fun o h' => o = Sum.inl (some (zi (yi97 (n : Int) : Int))) ∧ h' = h) := by
  have loop := zdown0 (fun k => zg e 181 d 4 [zi (n : Int), zl ((n ^ k % 97 : Nat) : Int), zj, zi (k : Int)] [] h (fun o h' => o = Sum.inl (some (zi (yi97 (n : Int) : Int))) ∧ h' = h)) 95 ?_ (fun k hk ih => ?_)
  · simp (disch := omega) only [n181, r181_0, r181_1, r181_2, r181_3, r181_5, r181_7, r181_10, r181_11, r181_12, r181_13, r181_14, r181_17, r181_18, r181_19, r181_22, r181_25, r181_26, r181_27, znl_i, znl_r, znl_j, znl_l, List.length_cons, List.length_nil, Option.some.injEq, Sum.inl.injEq, Sum.inr.injEq, Prod.mk.injEq, true_and, and_true, exists_eq_left', zK_sI, zA_sI, zL_sI, zK_sL, zA_sL, zI_sL, zK_fI, zA_fI, zL_fI, zK_fL, zA_fL, zI_fL, Nat.reduceAdd, Nat.reduceLeDiff, forall_eq', zl_lt, zl_gt, zl_eq, zl_le, zl_ge, zm_0, zaft_n, zaft_v, zb_eq, Decidable.not_not, zK_rH, zI_rH, zL_rH, zA_rH, zsI_rH, zsL_rH, zsA_rH, zcpI_rH, zn_b, zm_b, Int.toNat_natCast, Int.toNat_zero, Int.reduceToNat]
    exact loop
  · have e1 := yi97_pow n hn
    have b : n ^ 95 % 97 < 97 := Nat.mod_lt _ (by omega)
    rw [e1] at b ⊢
    rw [r181_4]
    simp (disch := omega) only [r181_0, r181_1, r181_2, r181_3, r181_5, r181_7, r181_10, r181_11, r181_12, r181_13, r181_14, r181_17, r181_18, r181_19, r181_22, r181_25, r181_26, r181_27, znl_i, znl_r, znl_j, znl_l, List.length_cons, List.length_nil, Option.some.injEq, Sum.inl.injEq, Sum.inr.injEq, Prod.mk.injEq, true_and, and_true, exists_eq_left', zK_sI, zA_sI, zL_sI, zK_sL, zA_sL, zI_sL, zK_fI, zA_fI, zL_fI, zK_fL, zA_fL, zI_fL, Nat.reduceAdd, Nat.reduceLeDiff, forall_eq', zl_lt, zl_gt, zl_eq, zl_le, zl_ge, zm_0, zaft_n, zaft_v, zb_eq, Decidable.not_not, zK_rH, zI_rH, zL_rH, zA_rH, zsI_rH, zsL_rH, zsA_rH, zcpI_rH, zn_b, zm_b, Int.toNat_natCast, Int.toNat_zero, Int.reduceToNat]
    exact ⟨fun _ => trivial, fun z => absurd z (by omega)⟩
  · have b : n ^ k % 97 < 97 := Nat.mod_lt _ (by omega)
    have pb : (n ^ k % 97) * n ≤ 97 * 97 := Nat.mul_le_mul (by omega) (by omega)
    have c1 : ((n ^ k % 97 : Nat) : Int) * (n : Int) = (((n ^ k % 97) * n : Nat) : Int) := by push_cast; rfl
    have c2 : ((((n ^ k % 97) * n : Nat) : Int)).tmod 97 = ((n ^ (k + 1) % 97 : Nat) : Int) := by
      rw [Int.tmod_eq_emod_of_nonneg (by omega), Nat.pow_succ, Nat.mul_mod, Nat.mod_eq_of_lt hn]
      omega
    rw [r181_4]
    simp (disch := omega) only [r181_0, r181_1, r181_2, r181_3, r181_5, r181_7, r181_10, r181_11, r181_12, r181_13, r181_14, r181_17, r181_18, r181_19, r181_22, r181_25, r181_26, r181_27, znl_i, znl_r, znl_j, znl_l, List.length_cons, List.length_nil, Option.some.injEq, Sum.inl.injEq, Sum.inr.injEq, Prod.mk.injEq, true_and, and_true, exists_eq_left', zK_sI, zA_sI, zL_sI, zK_sL, zA_sL, zI_sL, zK_fI, zA_fI, zL_fI, zK_fL, zA_fL, zI_fL, Nat.reduceAdd, Nat.reduceLeDiff, forall_eq', zl_lt, zl_gt, zl_eq, zl_le, zl_ge, zm_0, zaft_n, zaft_v, zb_eq, Decidable.not_not, zK_rH, zI_rH, zL_rH, zA_rH, zsI_rH, zsL_rH, zsA_rH, zcpI_rH, zn_b, zm_b, Int.toNat_natCast, Int.toNat_zero, Int.reduceToNat, c1, c2]
    refine ⟨fun z => absurd z (by omega), fun _ => ⟨by decide, ih⟩⟩
end
