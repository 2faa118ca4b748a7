/-! ===== sets as bits ===== -/
theorem yb_of (n : Nat) : Int64.ofInt (n : Int) = lN n := by
  apply wb_inj
  rw [wb_tb]
  exact BitVec.ofInt_natCast 64 n
theorem yb_oi (n : Nat) : Int32.ofInt (n : Int) = nI n := by
  apply Int32.toBitVec_inj.mp
  exact BitVec.ofInt_natCast 32 n
theorem zland_n {x y : Nat} (hx : x < 2 ^ 63) (hy : y < 2 ^ 63) : zland (x : Int) (y : Int) = ((x &&& y : Nat) : Int) := by
  unfold zland
  have h := Nat.and_le_left (n := x) (m := y)
  rw [yb_of, yb_of, wb_and (by omega) (by omega), lN_ti (by omega), if_pos (by omega)]
theorem zlor_n {x y : Nat} (hx : x < 2 ^ 63) (hy : y < 2 ^ 63) : zlor (x : Int) (y : Int) = ((x ||| y : Nat) : Int) := by
  unfold zlor
  have h := Nat.or_lt_two_pow hx hy
  rw [yb_of, yb_of, wb_or (by omega) (by omega), lN_ti (by omega), if_pos h]
theorem zlshl_n {k : Nat} (hk : k < 63) : zlshl 1 (k : Int) = ((2 ^ k : Nat) : Int) := by
  have h : 2 ^ k < 2 ^ 63 := Nat.pow_lt_pow_right (by omega) hk
  unfold zlshl
  rw [show (1 : Int) = ((1 : Nat) : Int) from rfl, yb_of, yb_oi, wb_shl _ (by omega), Nat.one_mul, lN_ti (by omega), if_pos h]
theorem zlshr_n {x k : Nat} (hx : x < 2 ^ 62) (hk : k < 63) : zlshr (x : Int) (k : Int) = ((x / 2 ^ k : Nat) : Int) := by
  unfold zlshr
  have h := Nat.div_le_self x (2 ^ k)
  rw [yb_of, yb_oi, wb_c k (by omega), pf_shr (d := k) (by rw [wb_tb, wb_sm k (by omega), BitVec.toNat_ofNat, Nat.mod_eq_of_lt (by omega)]) hx, lN_ti (by omega), if_pos (by omega)]
section
variable {e : zEv} {a d : Nat} {h : zH}
theorem m_isIn (x k : Nat) (hx : x < 2 ^ 62) (hk : k < 63) : zc e (d + 1) 315 [zl x, zi k] h (fun o h' => o = Sum.inl (some (zi (yb (x.testBit k)))) ∧ h' = h) := by
  have e1 : zm 1 = 1 := by decide
  have hd := Nat.div_le_self x (2 ^ k)
  have ha : (x / 2 ^ k) &&& 1 = x / 2 ^ k % 2 := Nat.and_one_is_mod _
  simp only [n315, r315_0, r315_1, r315_2, r315_3, r315_4, r315_5, r315_6, r315_7, r315_10, r315_11, r315_14, r315_15, znl_i, znl_r, znl_j, znl_l, List.length_cons, List.length_nil, Option.some.injEq, Sum.inl.injEq, Sum.inr.injEq, Prod.mk.injEq, true_and, and_true, exists_eq_left', zK_sI, zA_sI, zL_sI, zK_sL, zA_sL, zI_sL, zK_fI, zA_fI, zL_fI, zK_fL, zA_fL, zI_fL, Nat.reduceAdd, Nat.reduceLeDiff, forall_eq', zl_lt, zl_gt, zl_eq, zl_le, zl_ge, zm_0, zaft_n, zaft_v, zb_eq, Decidable.not_not]
  rw [zlshr_n hx hk, show (1 : Int) = ((1 : Nat) : Int) from rfl, zland_n (by omega) (by omega), ha]
  have hb : x.testBit k = decide (x / 2 ^ k % 2 = 1) := Nat.testBit_eq_decide_div_mod_eq
  rw [hb]
  simp (disch := omega) only [zn_b, zm_b, Int.toNat_natCast, Int.toNat_zero, zt4, zt_4, zt6, zt_6, zt9, zt_9, zt12, zt_12, zt48, zt_48, zt97, zt_97, zt144, zt144b]
  refine ⟨fun q => ?_, fun q => ?_⟩
  · rw [decide_eq_false (by omega)]; (repeat' (first | rfl | exact True.intro | decide | omega | refine And.intro ?_ ?_))
  · rw [decide_eq_true (by omega)]; (repeat' (first | rfl | exact True.intro | decide | omega | refine And.intro ?_ ?_))
end
