/-! ===== comparing longs; Math ===== -/
theorem zl_lt {x y : Int} : zn (if x < y then -1 else if x = y then 0 else 1) < 0 ↔ x < y := by
  by_cases h1 : x < y
  · simp only [h1, if_true, iff_true]; decide
  · by_cases h2 : x = y
    · simp only [h1, h2, if_true, if_false, iff_false]; simp [h2]; decide
    · simp only [h1, h2, if_false, iff_false]; decide
theorem zl_gt {x y : Int} : 0 < zn (if x < y then -1 else if x = y then 0 else 1) ↔ y < x := by
  by_cases h1 : x < y
  · rw [if_pos h1]; constructor
    · intro h; exact absurd h (by decide)
    · intro h; omega
  · rw [if_neg h1]
    by_cases h2 : x = y
    · rw [if_pos h2]; constructor
      · intro h; exact absurd h (by decide)
      · intro h; omega
    · rw [if_neg h2]; constructor
      · intro h; omega
      · intro h; decide
theorem zl_eq {x y : Int} : zn (if x < y then -1 else if x = y then 0 else 1) = 0 ↔ x = y := by
  by_cases h1 : x < y
  · rw [if_pos h1]; constructor
    · intro h; exact absurd h (by decide)
    · intro h; omega
  · rw [if_neg h1]
    by_cases h2 : x = y
    · rw [if_pos h2]; constructor
      · intro h; exact h2
      · intro h; decide
    · rw [if_neg h2]; constructor
      · intro h; exact absurd h (by decide)
      · intro h; omega
theorem zl_le {x y : Int} : zn (if x < y then -1 else if x = y then 0 else 1) ≤ 0 ↔ x ≤ y := by
  rw [← Int.not_lt, zl_gt, Int.not_lt]
theorem zl_ge {x y : Int} : 0 ≤ zn (if x < y then -1 else if x = y then 0 else 1) ↔ y ≤ x := by
  rw [← Int.not_lt, zl_lt, Int.not_lt]
theorem zn_b {x : Int} (h1 : -100000000 ≤ x) (h2 : x ≤ 100000000) : zn x = x := zn_id (by omega) (by omega)
theorem zm_b {x : Int} (h1 : -1000000000000000000 ≤ x) (h2 : x ≤ 1000000000000000000) : zm x = x := zm_id (by omega) (by omega)
theorem zc_w {e : zEv} {d m : Nat} {args : List zV} {h g : zH} {ov : zO} {Q : zEt} (c : zc e d m args h (fun o h' => o = ov ∧ h' = g)) (k : Q ov g) : zc e d m args h Q := zc_mono c (fun _ _ q => by rw [q.1, q.2]; exact k)
section
variable {e : zEv} {d : Nat} {h : zH}
theorem j_abs (x : Int) (h1 : -100000000 ≤ x) (h2 : x ≤ 100000000) : zc e (d + 1) 80 [zi x] h (fun o h' => o = Sum.inl (some (zi (if x < 0 then -x else x))) ∧ h' = h) := by
  simp only [n80, r80_0, r80_1, r80_4, r80_5, r80_6, r80_9, r80_10, znl_i, znl_r, znl_j, znl_l, List.length_cons, List.length_nil, Option.some.injEq, Sum.inl.injEq, Sum.inr.injEq, Prod.mk.injEq, true_and, and_true, exists_eq_left', zK_sI, zA_sI, zL_sI, zK_sL, zA_sL, zI_sL, zK_fI, zA_fI, zL_fI, zK_fL, zA_fL, zI_fL, Nat.reduceAdd, Nat.reduceLeDiff, forall_eq', zl_lt, zl_gt, zl_eq, zl_le, zl_ge, zm_0, zaft_n, zaft_v, zb_eq, Decidable.not_not]
  rw [zn_b h1 h2]
  refine ⟨fun q => ?_, fun q => ?_⟩
  · rw [if_neg (by omega)]
  · rw [if_pos (by omega)]
theorem j_absL (x : Int) (h1 : -1000000000000000000 ≤ x) (h2 : x ≤ 1000000000000000000) : zc e (d + 1) 82 [zl x] h (fun o h' => o = Sum.inl (some (zl (if x < 0 then -x else x))) ∧ h' = h) := by
  simp only [n82, r82_0, r82_1, r82_2, r82_3, r82_6, r82_7, r82_8, r82_11, r82_12, znl_i, znl_r, znl_j, znl_l, List.length_cons, List.length_nil, Option.some.injEq, Sum.inl.injEq, Sum.inr.injEq, Prod.mk.injEq, true_and, and_true, exists_eq_left', zK_sI, zA_sI, zL_sI, zK_sL, zA_sL, zI_sL, zK_fI, zA_fI, zL_fI, zK_fL, zA_fL, zI_fL, Nat.reduceAdd, Nat.reduceLeDiff, forall_eq', zl_lt, zl_gt, zl_eq, zl_le, zl_ge, zm_0, zaft_n, zaft_v, zb_eq, Decidable.not_not]
  rw [zm_b h1 h2]
  refine ⟨fun q => ?_, fun q => ?_⟩
  · rw [if_neg (by omega)]
  · rw [if_pos (by omega)]
theorem j_max (x y : Int) (h1 : -100000000 ≤ x) (h2 : x ≤ 100000000) (h3 : -100000000 ≤ y) (h4 : y ≤ 100000000) : zc e (d + 1) 78 [zi x, zi y] h (fun o h' => o = Sum.inl (some (zi (if x < y then y else x))) ∧ h' = h) := by
  simp only [n78, r78_0, r78_1, r78_2, r78_5, r78_6, r78_9, r78_10, znl_i, znl_r, znl_j, znl_l, List.length_cons, List.length_nil, Option.some.injEq, Sum.inl.injEq, Sum.inr.injEq, Prod.mk.injEq, true_and, and_true, exists_eq_left', zK_sI, zA_sI, zL_sI, zK_sL, zA_sL, zI_sL, zK_fI, zA_fI, zL_fI, zK_fL, zA_fL, zI_fL, Nat.reduceAdd, Nat.reduceLeDiff, forall_eq', zl_lt, zl_gt, zl_eq, zl_le, zl_ge, zm_0, zaft_n, zaft_v, zb_eq, Decidable.not_not]
  rw [zn_b h1 h2, zn_b h3 h4]
  refine ⟨fun q => ?_, fun q => ?_⟩
  · rw [if_pos (by omega)]
  · rw [if_neg (by omega)]
theorem j_min (x y : Int) (h1 : -100000000 ≤ x) (h2 : x ≤ 100000000) (h3 : -100000000 ≤ y) (h4 : y ≤ 100000000) : zc e (d + 1) 79 [zi x, zi y] h (fun o h' => o = Sum.inl (some (zi (if y < x then y else x))) ∧ h' = h) := by
  simp only [n79, r79_0, r79_1, r79_2, r79_5, r79_6, r79_9, r79_10, znl_i, znl_r, znl_j, znl_l, List.length_cons, List.length_nil, Option.some.injEq, Sum.inl.injEq, Sum.inr.injEq, Prod.mk.injEq, true_and, and_true, exists_eq_left', zK_sI, zA_sI, zL_sI, zK_sL, zA_sL, zI_sL, zK_fI, zA_fI, zL_fI, zK_fL, zA_fL, zI_fL, Nat.reduceAdd, Nat.reduceLeDiff, forall_eq', zl_lt, zl_gt, zl_eq, zl_le, zl_ge, zm_0, zaft_n, zaft_v, zb_eq, Decidable.not_not]
  rw [zn_b h1 h2, zn_b h3 h4]
  refine ⟨fun q => ?_, fun q => ?_⟩
  · rw [if_pos (by omega)]
  · rw [if_neg (by omega)]
end
