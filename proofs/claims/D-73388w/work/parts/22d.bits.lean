/-! ===== bits as the library counts them ===== -/
theorem yb_o32 (n : Nat) : (Int32.ofInt (n : Int)).toBitVec = BitVec.ofNat 32 n := BitVec.ofInt_natCast 32 n
theorem zxa_n {x t : Nat} (h : ylw9 (x % 2 ^ 32) t) (ht : t < 32) : zand (zxor (x : Int) (-1)) ((x : Int) - 1) = ((2 ^ t - 1 : Nat) : Int) := by
  have n0 : x % 2 ^ 32 ≠ 0 := fun z => by rw [z] at h; have := h.1; rw [Nat.zero_testBit] at this; cases this
  have hx : x ≠ 0 := fun z => n0 (by rw [z])
  have lt : x % 2 ^ 32 < 2 ^ 32 := Nat.mod_lt _ (by omega)
  have m := ylw9_mask lt h
  have p : 2 ^ t ≤ 2 ^ 31 := Nat.pow_le_pow_right (by omega) (by omega)
  unfold zand zxor
  rw [Int32.ofInt_toInt, show (x : Int) - 1 = ((x - 1 : Nat) : Int) by omega]
  have e : ((Int32.ofInt (x : Int) ^^^ Int32.ofInt (-1)) &&& Int32.ofInt ((x - 1 : Nat) : Int)).toBitVec.toNat = 2 ^ t - 1 := by
    rw [Int32.toBitVec_and, Int32.toBitVec_xor, yb_o32, yb_o32, Int32.toBitVec_ofInt, show BitVec.ofInt 32 (-1) = BitVec.allOnes 32 from by decide, BitVec.xor_allOnes, BitVec.toNat_and, BitVec.toNat_not, BitVec.toNat_ofNat, BitVec.toNat_ofNat, ← m]
    congr 1
    omega
  rw [← Int32.toInt_toBitVec, BitVec.toInt_eq_toNat_of_lt (by rw [e]; omega), e]
theorem zn_toInt (X : Int32) : zn X.toInt = X.toInt := zn_id (by have := Int32.le_toInt X; simpa using this) (by have := Int32.toInt_lt X; simpa using this)
theorem zn_ushr (a b : Int) : zn (zushr a b) = zushr a b := zn_toInt _
theorem zn_and (a b : Int) : zn (zand a b) = zand a b := zn_toInt _
/-- one step of the library's search -/
def yst9 (c s : Int) (p : Int × Int) : Int × Int := if c < p.2 then (p.1 + s, zushr p.2 s) else p
def ycs9 (v : Int) : Int := (yst9 4 2 (yst9 16 4 (yst9 256 8 (yst9 65536 16 (1, v))))).1 + zushr (yst9 4 2 (yst9 16 4 (yst9 256 8 (yst9 65536 16 (1, v))))).2 1
theorem ycs9_ok : ∀ t : Nat, t < 32 → 1 ≤ t → ycs9 ((2 ^ t - 1 : Nat) : Int) = (t : Int) := by decide +kernel
section
variable {e : zEv} {d : Nat} {h : zH}
theorem yst9_n {c s : Int} {p : Int × Int} (hi : zn p.2 = p.2) : zn (yst9 c s p).2 = (yst9 c s p).2 := by
  unfold yst9; split
  · exact zn_ushr _ _
  · exact hi
theorem yst9_b {c s : Int} {p : Int × Int} {B : Int} (hb : 0 ≤ p.1 ∧ p.1 ≤ B) (hs : 0 ≤ s) : 0 ≤ (yst9 c s p).1 ∧ (yst9 c s p).1 ≤ B + s := by
  unfold yst9
  by_cases c : c < p.2
  · rw [if_pos c]; show 0 ≤ p.1 + s ∧ p.1 + s ≤ B + s; omega
  · rw [if_neg c]; omega
theorem j_ntzI {x t : Nat} (h1 : ylw9 (x % 2 ^ 32) t) (ht : t < 32) : zc e (d + 1) 15 [zi (x : Int)] h (fun o h' => o = Sum.inl (some (zi (t : Int))) ∧ h' = h) := by
  have v := zxa_n h1 ht
  have p : 2 ^ t ≤ 2 ^ 31 := Nat.pow_le_pow_right (by omega) (by omega)
  have p1 : 1 ≤ 2 ^ t := Nat.one_le_two_pow
  have vn : zn ((2 ^ t - 1 : Nat) : Int) = ((2 ^ t - 1 : Nat) : Int) := zn_id (by omega) (by omega)
  have st1 : ∀ (q : Int × Int) (P : zEt), (0 ≤ q.1 ∧ q.1 ≤ 100) → zn q.2 = q.2 → zg e 15 d 34 [zi (yst9 65536 16 q).2, zi (yst9 65536 16 q).1] [] h P → zg e 15 d 19 [zi q.2, zi q.1] [] h P := by
    intro q P hb hn g
    simp (disch := omega) only [r15_0, r15_1, r15_2, r15_3, r15_4, r15_5, r15_6, r15_7, r15_8, r15_9, r15_12, r15_13, r15_15, r15_16, r15_17, r15_18, r15_19, r15_20, r15_23, r15_26, r15_29, r15_30, r15_32, r15_33, r15_35, r15_38, r15_41, r15_44, r15_45, r15_47, r15_48, r15_49, r15_50, r15_52, r15_55, r15_58, r15_59, r15_60, r15_61, r15_62, r15_63, r15_64, r15_67, r15_70, r15_71, r15_72, r15_73, r15_74, r15_75, r15_76, r15_77, r15_78, r15_79, znl_i, znl_r, znl_j, znl_l, List.length_cons, List.length_nil, Option.some.injEq, Sum.inl.injEq, Sum.inr.injEq, Prod.mk.injEq, true_and, and_true, exists_eq_left', zK_sI, zA_sI, zL_sI, zK_sL, zA_sL, zI_sL, zK_fI, zA_fI, zL_fI, zK_fL, zA_fL, zI_fL, Nat.reduceAdd, Nat.reduceLeDiff, forall_eq', zl_lt, zl_gt, zl_eq, zl_le, zl_ge, zm_0, zaft_n, zaft_v, zb_eq, Decidable.not_not, zK_rH, zI_rH, zL_rH, zA_rH, zsI_rH, zsL_rH, zsA_rH, zcpI_rH, zn_b, zm_b, Int.toNat_natCast, Int.toNat_zero, Int.reduceToNat, hn]
    unfold yst9 at g
    refine ⟨fun z => ?_, fun z => ?_⟩
    · rw [if_neg (by omega)] at g; exact g
    · rw [if_pos (by omega)] at g; exact g
  have st2 : ∀ (q : Int × Int) (P : zEt), (0 ≤ q.1 ∧ q.1 ≤ 100) → zn q.2 = q.2 → zg e 15 d 49 [zi (yst9 256 8 q).2, zi (yst9 256 8 q).1] [] h P → zg e 15 d 34 [zi q.2, zi q.1] [] h P := by
    intro q P hb hn g
    simp (disch := omega) only [r15_0, r15_1, r15_2, r15_3, r15_4, r15_5, r15_6, r15_7, r15_8, r15_9, r15_12, r15_13, r15_15, r15_16, r15_17, r15_18, r15_19, r15_20, r15_23, r15_26, r15_29, r15_30, r15_32, r15_33, r15_34, r15_35, r15_38, r15_41, r15_44, r15_45, r15_47, r15_48, r15_50, r15_52, r15_55, r15_58, r15_59, r15_60, r15_61, r15_62, r15_63, r15_64, r15_67, r15_70, r15_71, r15_72, r15_73, r15_74, r15_75, r15_76, r15_77, r15_78, r15_79, znl_i, znl_r, znl_j, znl_l, List.length_cons, List.length_nil, Option.some.injEq, Sum.inl.injEq, Sum.inr.injEq, Prod.mk.injEq, true_and, and_true, exists_eq_left', zK_sI, zA_sI, zL_sI, zK_sL, zA_sL, zI_sL, zK_fI, zA_fI, zL_fI, zK_fL, zA_fL, zI_fL, Nat.reduceAdd, Nat.reduceLeDiff, forall_eq', zl_lt, zl_gt, zl_eq, zl_le, zl_ge, zm_0, zaft_n, zaft_v, zb_eq, Decidable.not_not, zK_rH, zI_rH, zL_rH, zA_rH, zsI_rH, zsL_rH, zsA_rH, zcpI_rH, zn_b, zm_b, Int.toNat_natCast, Int.toNat_zero, Int.reduceToNat, hn]
    unfold yst9 at g
    refine ⟨fun z => ?_, fun z => ?_⟩
    · rw [if_neg (by omega)] at g; exact g
    · rw [if_pos (by omega)] at g; exact g
  have st3 : ∀ (q : Int × Int) (P : zEt), (0 ≤ q.1 ∧ q.1 ≤ 100) → zn q.2 = q.2 → zg e 15 d 62 [zi (yst9 16 4 q).2, zi (yst9 16 4 q).1] [] h P → zg e 15 d 49 [zi q.2, zi q.1] [] h P := by
    intro q P hb hn g
    simp (disch := omega) only [r15_0, r15_1, r15_2, r15_3, r15_4, r15_5, r15_6, r15_7, r15_8, r15_9, r15_12, r15_13, r15_15, r15_16, r15_17, r15_18, r15_19, r15_20, r15_23, r15_26, r15_29, r15_30, r15_32, r15_33, r15_34, r15_35, r15_38, r15_41, r15_44, r15_45, r15_47, r15_48, r15_49, r15_50, r15_52, r15_55, r15_58, r15_59, r15_60, r15_61, r15_63, r15_64, r15_67, r15_70, r15_71, r15_72, r15_73, r15_74, r15_75, r15_76, r15_77, r15_78, r15_79, znl_i, znl_r, znl_j, znl_l, List.length_cons, List.length_nil, Option.some.injEq, Sum.inl.injEq, Sum.inr.injEq, Prod.mk.injEq, true_and, and_true, exists_eq_left', zK_sI, zA_sI, zL_sI, zK_sL, zA_sL, zI_sL, zK_fI, zA_fI, zL_fI, zK_fL, zA_fL, zI_fL, Nat.reduceAdd, Nat.reduceLeDiff, forall_eq', zl_lt, zl_gt, zl_eq, zl_le, zl_ge, zm_0, zaft_n, zaft_v, zb_eq, Decidable.not_not, zK_rH, zI_rH, zL_rH, zA_rH, zsI_rH, zsL_rH, zsA_rH, zcpI_rH, zn_b, zm_b, Int.toNat_natCast, Int.toNat_zero, Int.reduceToNat, hn]
    unfold yst9 at g
    refine ⟨fun z => ?_, fun z => ?_⟩
    · rw [if_neg (by omega)] at g; exact g
    · rw [if_pos (by omega)] at g; exact g
  have st4 : ∀ (q : Int × Int) (P : zEt), (0 ≤ q.1 ∧ q.1 ≤ 100) → zn q.2 = q.2 → zg e 15 d 74 [zi (yst9 4 2 q).2, zi (yst9 4 2 q).1] [] h P → zg e 15 d 62 [zi q.2, zi q.1] [] h P := by
    intro q P hb hn g
    simp (disch := omega) only [r15_0, r15_1, r15_2, r15_3, r15_4, r15_5, r15_6, r15_7, r15_8, r15_9, r15_12, r15_13, r15_15, r15_16, r15_17, r15_18, r15_19, r15_20, r15_23, r15_26, r15_29, r15_30, r15_32, r15_33, r15_34, r15_35, r15_38, r15_41, r15_44, r15_45, r15_47, r15_48, r15_49, r15_50, r15_52, r15_55, r15_58, r15_59, r15_60, r15_61, r15_62, r15_63, r15_64, r15_67, r15_70, r15_71, r15_72, r15_73, r15_75, r15_76, r15_77, r15_78, r15_79, znl_i, znl_r, znl_j, znl_l, List.length_cons, List.length_nil, Option.some.injEq, Sum.inl.injEq, Sum.inr.injEq, Prod.mk.injEq, true_and, and_true, exists_eq_left', zK_sI, zA_sI, zL_sI, zK_sL, zA_sL, zI_sL, zK_fI, zA_fI, zL_fI, zK_fL, zA_fL, zI_fL, Nat.reduceAdd, Nat.reduceLeDiff, forall_eq', zl_lt, zl_gt, zl_eq, zl_le, zl_ge, zm_0, zaft_n, zaft_v, zb_eq, Decidable.not_not, zK_rH, zI_rH, zL_rH, zA_rH, zsI_rH, zsL_rH, zsA_rH, zcpI_rH, zn_b, zm_b, Int.toNat_natCast, Int.toNat_zero, Int.reduceToNat, hn]
    unfold yst9 at g
    refine ⟨fun z => ?_, fun z => ?_⟩
    · rw [if_neg (by omega)] at g; exact g
    · rw [if_pos (by omega)] at g; exact g
  simp (disch := omega) only [n15, r15_0, r15_1, r15_2, r15_3, r15_4, r15_5, r15_6, r15_7, r15_8, r15_9, r15_12, r15_13, r15_15, r15_16, r15_17, r15_18, r15_20, r15_23, r15_26, r15_29, r15_30, r15_32, r15_33, r15_34, r15_35, r15_38, r15_41, r15_44, r15_45, r15_47, r15_48, r15_49, r15_50, r15_52, r15_55, r15_58, r15_59, r15_60, r15_61, r15_62, r15_63, r15_64, r15_67, r15_70, r15_71, r15_72, r15_73, r15_74, r15_75, r15_76, r15_77, r15_78, r15_79, znl_i, znl_r, znl_j, znl_l, List.length_cons, List.length_nil, Option.some.injEq, Sum.inl.injEq, Sum.inr.injEq, Prod.mk.injEq, true_and, and_true, exists_eq_left', zK_sI, zA_sI, zL_sI, zK_sL, zA_sL, zI_sL, zK_fI, zA_fI, zL_fI, zK_fL, zA_fL, zI_fL, Nat.reduceAdd, Nat.reduceLeDiff, forall_eq', zl_lt, zl_gt, zl_eq, zl_le, zl_ge, zm_0, zaft_n, zaft_v, zb_eq, Decidable.not_not, zK_rH, zI_rH, zL_rH, zA_rH, zsI_rH, zsL_rH, zsA_rH, zcpI_rH, zn_b, zm_b, Int.toNat_natCast, Int.toNat_zero, Int.reduceToNat, v, vn]
  by_cases c : t = 0
  · subst c
    refine ⟨fun z => absurd z (by simp), fun z => ?_⟩
    decide
  · have hv : 2 ≤ 2 ^ t := by
      have := Nat.pow_le_pow_right (n := 2) (by omega) (show 1 ≤ t by omega)
      omega
    refine ⟨fun z => ?_, fun z => absurd z (by omega)⟩
    have b0 : (0 : Int) ≤ 1 ∧ (1 : Int) ≤ 1 := by omega
    refine st1 (1, ((2 ^ t - 1 : Nat) : Int)) _ (by simp) vn ?_
    have n1 := yst9_n (c := 65536) (s := 16) (p := (1, ((2 ^ t - 1 : Nat) : Int))) vn
    have c1 := yst9_b (c := 65536) (s := 16) (p := (1, ((2 ^ t - 1 : Nat) : Int))) (B := 1) (by simp) (by omega)
    refine st2 _ _ (by omega) n1 ?_
    have n2 := yst9_n (c := 256) (s := 8) n1
    have c2 := yst9_b (c := 256) (s := 8) c1 (by omega)
    refine st3 _ _ (by omega) n2 ?_
    have n3 := yst9_n (c := 16) (s := 4) n2
    have c3 := yst9_b (c := 16) (s := 4) c2 (by omega)
    refine st4 _ _ (by omega) n3 ?_
    have ok := ycs9_ok t ht (by omega)
    unfold ycs9 at ok
    simp (disch := omega) only [r15_0, r15_1, r15_2, r15_3, r15_4, r15_5, r15_6, r15_7, r15_8, r15_9, r15_12, r15_13, r15_15, r15_16, r15_17, r15_18, r15_19, r15_20, r15_23, r15_26, r15_29, r15_30, r15_32, r15_33, r15_34, r15_35, r15_38, r15_41, r15_44, r15_45, r15_47, r15_48, r15_49, r15_50, r15_52, r15_55, r15_58, r15_59, r15_60, r15_61, r15_62, r15_63, r15_64, r15_67, r15_70, r15_71, r15_72, r15_73, r15_74, r15_75, r15_76, r15_77, r15_78, r15_79, znl_i, znl_r, znl_j, znl_l, List.length_cons, List.length_nil, Option.some.injEq, Sum.inl.injEq, Sum.inr.injEq, Prod.mk.injEq, true_and, and_true, exists_eq_left', zK_sI, zA_sI, zL_sI, zK_sL, zA_sL, zI_sL, zK_fI, zA_fI, zL_fI, zK_fL, zA_fL, zI_fL, Nat.reduceAdd, Nat.reduceLeDiff, forall_eq', zl_lt, zl_gt, zl_eq, zl_le, zl_ge, zm_0, zaft_n, zaft_v, zb_eq, Decidable.not_not, zK_rH, zI_rH, zL_rH, zA_rH, zsI_rH, zsL_rH, zsA_rH, zcpI_rH, zn_b, zm_b, Int.toNat_natCast, Int.toNat_zero, Int.reduceToNat]
    exact ok
end
theorem zn_z (x : Nat) : zn (x : Int) = 0 ↔ x % 2 ^ 32 = 0 := by
  unfold zn
  rw [Int.bmod_def]
  split <;> omega
theorem zlushr_n {x : Nat} (hx : x < 2 ^ 63) {k : Nat} (hk : k = 1 ∨ k = 2 ∨ k = 4 ∨ k = 8 ∨ k = 16 ∨ k = 32) : zlushr (x : Int) (k : Int) = ((x / 2 ^ k : Nat) : Int) := by
  have hs : ((Int32.ofInt (k : Int)).toInt64.toUInt64 &&& Int64.toUInt64 63).toNat = k := by
    rcases hk with q | q | q | q | q | q <;> subst q <;> decide
  have le := Nat.div_le_self x (2 ^ k)
  unfold zlushr
  have e : (((Int64.ofInt (x : Int)).toUInt64 >>> ((Int32.ofInt (k : Int)).toInt64.toUInt64 &&& Int64.toUInt64 63)).toInt64).toBitVec.toNat = x / 2 ^ k := by
    show ((Int64.ofInt (x : Int)).toUInt64 >>> ((Int32.ofInt (k : Int)).toInt64.toUInt64 &&& Int64.toUInt64 63)).toNat = x / 2 ^ k
    rw [UInt64.toNat_shiftRight, hs]
    have xb : ((Int64.ofInt (x : Int)).toUInt64).toNat = x := by
      show ((Int64.ofInt (x : Int)).toBitVec).toNat = x
      rw [yb_of, wb_tn (by omega)]
    rw [xb, Nat.shiftRight_eq_div_pow]
    congr 2
    rcases hk with q | q | q | q | q | q <;> subst q <;> rfl
  rw [← Int64.toInt_toBitVec, BitVec.toInt_eq_toNat_of_lt (by rw [e]; omega), e]
section
variable {e : zEv} {d : Nat} {h : zH}
/-- the lowest bit of a set -/
theorem j_ntz {x t : Nat} (hx : x < 2 ^ 62) (h1 : ylw9 x t) : zc e (d + 2) 13 [zl (x : Int)] h (fun o h' => o = Sum.inl (some (zi (t : Int))) ∧ h' = h) := by
  have t62 : t < 62 := by
    refine Nat.lt_of_not_le fun z => ?_
    have := Nat.testBit_lt_two_pow (Nat.lt_of_lt_of_le hx (Nat.pow_le_pow_right (by omega) z))
    have h2 := h1.1
    rw [this] at h2; cases h2
  have lb : ∀ j, (x % 2 ^ 32).testBit j = (decide (j < 32) && x.testBit j) := fun j => Nat.testBit_mod_two_pow x 32 j
  have z := zn_z x
  have sh := zlushr_n (x := x) (by omega) (k := 32) (by omega)
  by_cases c : t < 32
  · have l : ylw9 (x % 2 ^ 32) t := ⟨by rw [lb, h1.1]; simp [c], fun j hj => by rw [lb, h1.2 j hj, Bool.and_false]⟩
    have n0 : x % 2 ^ 32 ≠ 0 := fun q => by have := l.1; rw [q, Nat.zero_testBit] at this; cases this
    simp (disch := omega) only [n13, r13_0, r13_1, r13_2, r13_3, r13_4, r13_7, r13_9, r13_10, r13_12, r13_13, r13_14, r13_17, r13_18, r13_21, r13_22, r13_25, znl_i, znl_r, znl_j, znl_l, List.length_cons, List.length_nil, Option.some.injEq, Sum.inl.injEq, Sum.inr.injEq, Prod.mk.injEq, true_and, and_true, exists_eq_left', zK_sI, zA_sI, zL_sI, zK_sL, zA_sL, zI_sL, zK_fI, zA_fI, zL_fI, zK_fL, zA_fL, zI_fL, Nat.reduceAdd, Nat.reduceLeDiff, forall_eq', zl_lt, zl_gt, zl_eq, zl_le, zl_ge, zm_0, zaft_n, zaft_v, zb_eq, Decidable.not_not, zK_rH, zI_rH, zL_rH, zA_rH, zsI_rH, zsL_rH, zsA_rH, zcpI_rH, zn_b, zm_b, Int.toNat_natCast, Int.toNat_zero, Int.reduceToNat]
    refine ⟨fun _ => ?_, fun q => absurd (z.mp q) n0⟩
    refine zc_w (j_ntzI (d := d) l c) ?_
    simp (disch := omega) only [r13_0, r13_1, r13_2, r13_3, r13_4, r13_7, r13_9, r13_10, r13_12, r13_13, r13_14, r13_17, r13_18, r13_21, r13_22, r13_25, znl_i, znl_r, znl_j, znl_l, List.length_cons, List.length_nil, Option.some.injEq, Sum.inl.injEq, Sum.inr.injEq, Prod.mk.injEq, true_and, and_true, exists_eq_left', zK_sI, zA_sI, zL_sI, zK_sL, zA_sL, zI_sL, zK_fI, zA_fI, zL_fI, zK_fL, zA_fL, zI_fL, Nat.reduceAdd, Nat.reduceLeDiff, forall_eq', zl_lt, zl_gt, zl_eq, zl_le, zl_ge, zm_0, zaft_n, zaft_v, zb_eq, Decidable.not_not, zK_rH, zI_rH, zL_rH, zA_rH, zsI_rH, zsL_rH, zsA_rH, zcpI_rH, zn_b, zm_b, Int.toNat_natCast, Int.toNat_zero, Int.reduceToNat]
  · have n0 : x % 2 ^ 32 = 0 := Nat.eq_of_testBit_eq fun j => by
      rw [lb, Nat.zero_testBit]
      by_cases q : j < 32
      · rw [h1.2 j (by omega), Bool.and_false]
      · simp [q]
    have hb : ∀ j, (x / 2 ^ 32).testBit j = x.testBit (j + 32) := fun j => Nat.testBit_div_two_pow x j
    have dl : x / 2 ^ 32 < 2 ^ 32 := by omega
    have l : ylw9 (x / 2 ^ 32 % 2 ^ 32) (t - 32) := by
      rw [Nat.mod_eq_of_lt dl]
      exact ⟨by rw [hb, show t - 32 + 32 = t by omega]; exact h1.1, fun j hj => by rw [hb]; exact h1.2 _ (by omega)⟩
    simp (disch := omega) only [n13, r13_0, r13_1, r13_2, r13_3, r13_4, r13_7, r13_9, r13_10, r13_12, r13_13, r13_14, r13_17, r13_18, r13_21, r13_22, r13_25, znl_i, znl_r, znl_j, znl_l, List.length_cons, List.length_nil, Option.some.injEq, Sum.inl.injEq, Sum.inr.injEq, Prod.mk.injEq, true_and, and_true, exists_eq_left', zK_sI, zA_sI, zL_sI, zK_sL, zA_sL, zI_sL, zK_fI, zA_fI, zL_fI, zK_fL, zA_fL, zI_fL, Nat.reduceAdd, Nat.reduceLeDiff, forall_eq', zl_lt, zl_gt, zl_eq, zl_le, zl_ge, zm_0, zaft_n, zaft_v, zb_eq, Decidable.not_not, zK_rH, zI_rH, zL_rH, zA_rH, zsI_rH, zsL_rH, zsA_rH, zcpI_rH, zn_b, zm_b, Int.toNat_natCast, Int.toNat_zero, Int.reduceToNat]
    refine ⟨fun q => absurd (z.mpr n0) q, fun _ => ?_⟩
    rw [show (32 : Int) = ((32 : Nat) : Int) from rfl, sh]
    refine zc_w (j_ntzI (d := d) l (by omega)) ?_
    simp (disch := omega) only [r13_0, r13_1, r13_2, r13_3, r13_4, r13_7, r13_9, r13_10, r13_12, r13_13, r13_14, r13_17, r13_18, r13_21, r13_22, r13_25, znl_i, znl_r, znl_j, znl_l, List.length_cons, List.length_nil, Option.some.injEq, Sum.inl.injEq, Sum.inr.injEq, Prod.mk.injEq, true_and, and_true, exists_eq_left', zK_sI, zA_sI, zL_sI, zK_sL, zA_sL, zI_sL, zK_fI, zA_fI, zL_fI, zK_fL, zA_fL, zI_fL, Nat.reduceAdd, Nat.reduceLeDiff, forall_eq', zl_lt, zl_gt, zl_eq, zl_le, zl_ge, zm_0, zaft_n, zaft_v, zb_eq, Decidable.not_not, zK_rH, zI_rH, zL_rH, zA_rH, zsI_rH, zsL_rH, zsA_rH, zcpI_rH, zn_b, zm_b, Int.toNat_natCast, Int.toNat_zero, Int.reduceToNat]
    omega
theorem zand_127 (x : Nat) : zand (x : Int) 127 = ((x % 128 : Nat) : Int) := by
  unfold zand
  have e : (Int32.ofInt (x : Int) &&& Int32.ofInt 127).toBitVec.toNat = x % 128 := by
    rw [Int32.toBitVec_and, yb_o32, show Int32.ofInt 127 = Int32.ofInt ((127 : Nat) : Int) from rfl, yb_o32, BitVec.toNat_and, BitVec.toNat_ofNat, BitVec.toNat_ofNat, show 127 % 2 ^ 32 = 2 ^ 7 - 1 from rfl, Nat.and_two_pow_sub_one_eq_mod]
    omega
  rw [← Int32.toInt_toBitVec, BitVec.toInt_eq_toNat_of_lt (by rw [e]; omega), e]
theorem j_bitCount {x : Nat} (hx : x < 2 ^ 48) : zc e (d + 1) 14 [zl (x : Int)] h (fun o h' => o = Sum.inl (some (zi (ypc x : Int))) ∧ h' = h) := by
  have y9 := (y9_all 8 x (by omega)).1
  have ps := yP9_sum hx
  have l1 : (x / 2 &&& yM 85 8) ≤ x / 2 := Nat.and_le_left
  have a1 : (x : Int) - ((x / 2 &&& yM 85 8 : Nat) : Int) = ((yA9 8 x : Nat) : Int) := by unfold yA9; omega
  have a2 : yA9 8 x ≤ x := Nat.sub_le _ _
  have b1 : (yA9 8 x &&& yM 51 8) ≤ yA9 8 x := Nat.and_le_left
  have b2 : (yA9 8 x / 4 &&& yM 51 8) ≤ yA9 8 x / 4 := Nat.and_le_left
  have b3 : ((yA9 8 x &&& yM 51 8 : Nat) : Int) + ((yA9 8 x / 4 &&& yM 51 8 : Nat) : Int) = ((yB9 8 (yA9 8 x) : Nat) : Int) := by unfold yB9; omega
  have b4 : yB9 8 (yA9 8 x) < 2 ^ 50 := by unfold yB9; omega
  have c1 : ((yB9 8 (yA9 8 x) : Nat) : Int) + ((yB9 8 (yA9 8 x) / 16 : Nat) : Int) = ((yB9 8 (yA9 8 x) + yB9 8 (yA9 8 x) / 16 : Nat) : Int) := by omega
  have c2 : (yB9 8 (yA9 8 x) + yB9 8 (yA9 8 x) / 16) &&& yM 15 8 = yP9 8 x := y9
  have m5 : (6148914691236517205 : Int) = ((yM 85 8 : Nat) : Int) := by rw [yM_85]; rfl
  have m3 : (3689348814741910323 : Int) = ((yM 51 8 : Nat) : Int) := by rw [yM_51]; rfl
  have m0 : (1085102592571150095 : Int) = ((yM 15 8 : Nat) : Int) := by rw [yM_15]; rfl
  have s5 := yM_85
  have s3 := yM_51
  have s0 := yM_15
  have us : ∀ (v : Nat) (k : Nat), v < 2 ^ 62 → (k = 1 ∨ k = 2 ∨ k = 4 ∨ k = 8 ∨ k = 16 ∨ k = 32) → zlushr (v : Int) (k : Int) = ((v / 2 ^ k : Nat) : Int) := fun v k hv hk => zlushr_n (by omega) hk
  have e1 : zland (zlushr (x : Int) 1) 6148914691236517205 = ((x / 2 &&& yM 85 8 : Nat) : Int) := by
    have u : zlushr (x : Int) 1 = ((x / 2 : Nat) : Int) := us x 1 (by omega) (by omega)
    rw [u, m5, zland_n (by omega) (by omega)]
  have e2 : zland ((yA9 8 x : Nat) : Int) 3689348814741910323 = ((yA9 8 x &&& yM 51 8 : Nat) : Int) := by rw [m3, zland_n (by omega) (by omega)]
  have e3 : zland (zlushr ((yA9 8 x : Nat) : Int) 2) 3689348814741910323 = ((yA9 8 x / 4 &&& yM 51 8 : Nat) : Int) := by
    have u : zlushr ((yA9 8 x : Nat) : Int) 2 = ((yA9 8 x / 4 : Nat) : Int) := us _ 2 (by omega) (by omega)
    rw [u, m3, zland_n (by omega) (by omega)]
  have e4 : zlushr ((yB9 8 (yA9 8 x) : Nat) : Int) 4 = ((yB9 8 (yA9 8 x) / 16 : Nat) : Int) := us _ 4 (by omega) (by omega)
  have e5 : zland ((yB9 8 (yA9 8 x) + yB9 8 (yA9 8 x) / 16 : Nat) : Int) 1085102592571150095 = ((yP9 8 x : Nat) : Int) := by rw [m0, zland_n (by omega) (by omega), c2]
  have e6 : zlushr ((yP9 8 x : Nat) : Int) 8 = ((yP9 8 x / 256 : Nat) : Int) := us _ 8 (by omega) (by omega)
  have f6 : ((yP9 8 x : Nat) : Int) + ((yP9 8 x / 256 : Nat) : Int) = ((yP9 8 x + yP9 8 x / 256 : Nat) : Int) := by omega
  have e7 : zlushr ((yP9 8 x + yP9 8 x / 256 : Nat) : Int) 16 = (((yP9 8 x + yP9 8 x / 256) / 65536 : Nat) : Int) := us _ 16 (by omega) (by omega)
  have f7 : ((yP9 8 x + yP9 8 x / 256 : Nat) : Int) + (((yP9 8 x + yP9 8 x / 256) / 65536 : Nat) : Int) = ((yP9 8 x + yP9 8 x / 256 + (yP9 8 x + yP9 8 x / 256) / 65536 : Nat) : Int) := by omega
  have e8 : zlushr ((yP9 8 x + yP9 8 x / 256 + (yP9 8 x + yP9 8 x / 256) / 65536 : Nat) : Int) 32 = (((yP9 8 x + yP9 8 x / 256 + (yP9 8 x + yP9 8 x / 256) / 65536) / 4294967296 : Nat) : Int) := us _ 32 (by omega) (by omega)
  have f8 : ((yP9 8 x + yP9 8 x / 256 + (yP9 8 x + yP9 8 x / 256) / 65536 : Nat) : Int) + (((yP9 8 x + yP9 8 x / 256 + (yP9 8 x + yP9 8 x / 256) / 65536) / 4294967296 : Nat) : Int) = ((yP9 8 x + yP9 8 x / 256 + (yP9 8 x + yP9 8 x / 256) / 65536 + (yP9 8 x + yP9 8 x / 256 + (yP9 8 x + yP9 8 x / 256) / 65536) / 4294967296 : Nat) : Int) := by omega
  simp (disch := omega) only [n14, r14_0, r14_1, r14_2, r14_3, r14_4, r14_7, r14_8, r14_9, r14_10, r14_11, r14_14, r14_15, r14_16, r14_17, r14_18, r14_21, r14_22, r14_23, r14_24, r14_25, r14_26, r14_27, r14_28, r14_29, r14_32, r14_33, r14_34, r14_35, r14_36, r14_38, r14_39, r14_40, r14_41, r14_42, r14_43, r14_45, r14_46, r14_47, r14_48, r14_49, r14_50, r14_52, r14_53, r14_54, r14_55, r14_56, r14_57, r14_59, r14_60, znl_i, znl_r, znl_j, znl_l, List.length_cons, List.length_nil, Option.some.injEq, Sum.inl.injEq, Sum.inr.injEq, Prod.mk.injEq, true_and, and_true, exists_eq_left', zK_sI, zA_sI, zL_sI, zK_sL, zA_sL, zI_sL, zK_fI, zA_fI, zL_fI, zK_fL, zA_fL, zI_fL, Nat.reduceAdd, Nat.reduceLeDiff, forall_eq', zl_lt, zl_gt, zl_eq, zl_le, zl_ge, zm_0, zaft_n, zaft_v, zb_eq, Decidable.not_not, zK_rH, zI_rH, zL_rH, zA_rH, zsI_rH, zsL_rH, zsA_rH, zcpI_rH, zn_b, zm_b, Int.toNat_natCast, Int.toNat_zero, Int.reduceToNat]
  rw [e1, a1, e2, e3, b3, e4, c1, e5, e6, f6, e7, f7, e8, f8, zand_127, ps.1]
end
