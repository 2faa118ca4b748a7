/-! ===== how many bits ===== -/
theorem ycnt_front (q : Nat → Bool) (n : Nat) : ycnt q (n + 1) = (if q 0 then 1 else 0) + ycnt (fun i => q (i + 1)) n := by
  induction n with
  | zero => simp [ycnt]
  | succ n ih =>
    have e : ycnt q (n + 1 + 1) = ycnt q (n + 1) + (if q (n + 1) then 1 else 0) := rfl
    rw [e, ih]
    simp only [ycnt]
    omega
theorem ycnt_bits (x n : Nat) : ycnt x.testBit (n + 1) = (x % 2 : Nat) + ycnt (x / 2).testBit n := by
  rw [ycnt_front]
  have h1 : (if x.testBit 0 = true then (1 : Int) else 0) = ((x % 2 : Nat) : Int) := by
    rw [Nat.testBit_zero]
    by_cases c : x % 2 = 1
    · simp [c]
    · have : x % 2 = 0 := by omega
      simp [this]
  have h2 : (fun i => x.testBit (i + 1)) = (x / 2).testBit := by
    funext i; exact Nat.testBit_succ x i
  rw [h1, h2]
theorem yland_half (x y : Nat) : (x &&& y) / 2 = (x / 2 &&& y / 2) := by
  apply Nat.eq_of_testBit_eq
  intro i
  rw [← Nat.testBit_succ, Nat.testBit_and, Nat.testBit_and, Nat.testBit_succ, Nat.testBit_succ]
theorem yland_low (x y : Nat) : (x &&& y) % 2 = if x % 2 = 1 ∧ y % 2 = 1 then 1 else 0 := by
  have h := Nat.testBit_and x y 0
  rw [Nat.testBit_zero, Nat.testBit_zero, Nat.testBit_zero] at h
  by_cases c : x % 2 = 1 ∧ y % 2 = 1
  · rw [if_pos c]
    rw [decide_eq_true c.1, decide_eq_true c.2] at h
    exact of_decide_eq_true h
  · rw [if_neg c]
    have : decide ((x &&& y) % 2 = 1) = false := by
      rw [h]
      rw [Bool.and_eq_false_iff]
      by_cases c1 : x % 2 = 1
      · right; exact decide_eq_false (fun z => c ⟨c1, z⟩)
      · left; exact decide_eq_false c1
    have := of_decide_eq_false this
    omega
/-- the lowest bit is taken away -/
theorem ycnt_drop : ∀ (n x : Nat), x < 2 ^ n → x ≠ 0 → ycnt (x &&& (x - 1)).testBit n = ycnt x.testBit n - 1 := by
  intro n
  induction n with
  | zero => intro x h1 h2; simp at h1; omega
  | succ n ih =>
    intro x h1 h2
    rw [Nat.pow_succ] at h1
    rw [ycnt_bits, ycnt_bits, yland_half, yland_low]
    by_cases c : x % 2 = 1
    · rw [if_neg (by omega), show (x - 1) / 2 = x / 2 by omega, Nat.and_self, c]
      simp; omega
    · rw [if_neg (by omega), show (x - 1) / 2 = x / 2 - 1 by omega, ih (x / 2) (by omega) (by omega), show x % 2 = 0 by omega]
      simp
theorem ycnt_zero (n : Nat) : ycnt (Nat.testBit 0) n = 0 := ycnt_up (n := 0) _ (fun i _ => Nat.zero_testBit i)
theorem ycnt_pos : ∀ (n x : Nat), x < 2 ^ n → x ≠ 0 → 0 < ycnt x.testBit n := by
  intro n
  induction n with
  | zero => intro x h1 h2; simp at h1; omega
  | succ n ih =>
    intro x h1 h2
    rw [Nat.pow_succ] at h1
    rw [ycnt_bits]
    have b := ycnt_bd (x / 2).testBit n
    by_cases c : x % 2 = 1
    · omega
    · have := ih (x / 2) (by omega) (by omega); omega
section
variable {e : zEv} {a d : Nat} {h : zH} {φ ψ : Nat → Nat → Int}
theorem m_bits (x : Nat) (hx : x < 2 ^ 62) : zc e (d + 1) 318 [zl x] h (fun o h' => o = Sum.inl (some (zi (ypc x))) ∧ h' = h) := by
  have e0 : zm 0 = 0 := by decide
  have hb := ycnt_bd x.testBit 64
  have hp : (ypc x : Int) = ycnt x.testBit 64 := by unfold ypc; omega
  suffices hG : ∀ (c y n : Nat), y < 2 ^ 62 → ycnt y.testBit 64 = (c : Int) → (n : Int) + c = ypc x → zg e 318 d 4 [zl x, zj, zi n, zl y, zj] [] h (fun o h' => o = Sum.inl (some (zi (ypc x))) ∧ h' = h) by
    simp only [n318, r318_0, r318_1, r318_2, r318_3, r318_5, r318_6, r318_7, r318_10, r318_13, r318_14, r318_15, r318_16, r318_17, r318_18, r318_19, r318_22, r318_23, znl_i, znl_r, znl_j, znl_l, List.length_cons, List.length_nil, Option.some.injEq, Sum.inl.injEq, Sum.inr.injEq, Prod.mk.injEq, true_and, and_true, exists_eq_left', zK_sI, zA_sI, zL_sI, zK_sL, zA_sL, zI_sL, zK_fI, zA_fI, zL_fI, zK_fL, zA_fL, zI_fL, Nat.reduceAdd, Nat.reduceLeDiff, forall_eq', zl_lt, zl_gt, zl_eq, zl_le, zl_ge, zm_0, zaft_n, zaft_v, zb_eq, Decidable.not_not]
    exact hG (ypc x) x 0 hx hp.symm (by omega)
  intro c
  induction c with
  | zero =>
    intro y n hy hc hn
    have y0 : y = 0 := by
      by_cases z : y = 0
      · exact z
      · have := ycnt_pos 64 y (by omega) z; omega
    rw [r318_4]
    simp only [r318_0, r318_1, r318_2, r318_3, r318_5, r318_6, r318_7, r318_10, r318_13, r318_14, r318_15, r318_16, r318_17, r318_18, r318_19, r318_22, r318_23, znl_i, znl_r, znl_j, znl_l, List.length_cons, List.length_nil, Option.some.injEq, Sum.inl.injEq, Sum.inr.injEq, Prod.mk.injEq, true_and, and_true, exists_eq_left', zK_sI, zA_sI, zL_sI, zK_sL, zA_sL, zI_sL, zK_fI, zA_fI, zL_fI, zK_fL, zA_fL, zI_fL, Nat.reduceAdd, Nat.reduceLeDiff, forall_eq', zl_lt, zl_gt, zl_eq, zl_le, zl_ge, zm_0, zaft_n, zaft_v, zb_eq, Decidable.not_not, e0, y0]
    rw [show ((0 : Nat) : Int) = 0 from rfl, e0]
    refine ⟨fun _ => ?_, fun z => absurd rfl z⟩
    rw [← hn]; simp
  | succ c ih =>
    intro y n hy hc hn
    have y0 : y ≠ 0 := fun z => by rw [z, ycnt_zero] at hc; omega
    have hl := Nat.and_le_left (n := y) (m := y - 1)
    rw [r318_4]
    simp only [r318_0, r318_1, r318_2, r318_3, r318_5, r318_6, r318_7, r318_10, r318_13, r318_14, r318_15, r318_16, r318_17, r318_18, r318_19, r318_22, r318_23, znl_i, znl_r, znl_j, znl_l, List.length_cons, List.length_nil, Option.some.injEq, Sum.inl.injEq, Sum.inr.injEq, Prod.mk.injEq, true_and, and_true, exists_eq_left', zK_sI, zA_sI, zL_sI, zK_sL, zA_sL, zI_sL, zK_fI, zA_fI, zL_fI, zK_fL, zA_fL, zI_fL, Nat.reduceAdd, Nat.reduceLeDiff, forall_eq', zl_lt, zl_gt, zl_eq, zl_le, zl_ge, zm_0, zaft_n, zaft_v, zb_eq, Decidable.not_not, e0]
    rw [zm_id (x := (y : Int)) (by omega) (by omega), show (y : Int) - 1 = ((y - 1 : Nat) : Int) by omega, zland_n (by omega) (by omega)]
    refine ⟨fun z => by omega, fun _ => ?_⟩
    have := ih (y &&& (y - 1)) (n + 1) (by omega) (by rw [ycnt_drop 64 y (by omega) y0]; omega) (by omega)
    exact this
theorem m_findSet (H : zmo e a h) (n x : Nat) (f : Nat → Nat) (hn : n ≤ 160) (hx : x < 2 ^ 62) (f50 : φ 0 50 = (n : Int)) (hf : ∀ i, i < n → ψ 23 i = (f i : Int) ∧ f i < 2 ^ 62) : zc e (d + 1) 317 [zr (some a), zl x] (mH h a φ ψ) (fun o h' => o = Sum.inl (some (zi (yfind (fun i => decide (f i = x)) n 0))) ∧ h' = mH h a φ ψ) := by
  have loop := zdown0 (fun k => (∀ i, i < k → (fun i => decide (f i = x)) i = false) → zg e 317 d 2 [zr (some a), zl x, zj, zi k] [] (mH h a φ ψ) (fun o h' => o = Sum.inl (some (zi (yfind (fun i => decide (f i = x)) n 0))) ∧ h' = mH h a φ ψ)) n (fun hq => ?_) (fun k hk ih hq => ?_)
  · simp only [n317, r317_0, r317_1, r317_3, r317_4, r317_7, r317_10, r317_11, r317_14, r317_15, r317_16, r317_17, r317_18, r317_21, r317_22, r317_23, r317_26, r317_29, r317_30, znl_i, znl_r, znl_j, znl_l, List.length_cons, List.length_nil, Option.some.injEq, Sum.inl.injEq, Sum.inr.injEq, Prod.mk.injEq, true_and, and_true, exists_eq_left', zK_sI, zA_sI, zL_sI, zK_sL, zA_sL, zI_sL, zK_fI, zA_fI, zL_fI, zK_fL, zA_fL, zI_fL, Nat.reduceAdd, Nat.reduceLeDiff, forall_eq', zl_lt, zl_gt, zl_eq, zl_le, zl_ge, zm_0, zaft_n, zaft_v, zb_eq, Decidable.not_not, H.K, H.A43, H.K23, zK_mH, zA_mH, zI_mH0, zL_mH0, zsI_mH0, zsL_mH0, zI_mH1, zL_mH1, zsI_mH1, zsL_mH1, zI_mH2, zL_mH2, zsI_mH2, zsL_mH2, zI_mH3, zL_mH3, zsI_mH3, zsL_mH3, zI_mH4, zL_mH4, zsI_mH4, zsL_mH4, zI_mH5, zL_mH5, zsI_mH5, zsL_mH5, zI_mH6, zL_mH6, zsI_mH6, zsL_mH6, zI_mH7, zL_mH7, zsI_mH7, zsL_mH7, zI_mH8, zL_mH8, zsI_mH8, zsL_mH8, zI_mH9, zL_mH9, zsI_mH9, zsL_mH9, zI_mH10, zL_mH10, zsI_mH10, zsL_mH10, zI_mH11, zL_mH11, zsI_mH11, zsL_mH11, zI_mH12, zL_mH12, zsI_mH12, zsL_mH12, zI_mH13, zL_mH13, zsI_mH13, zsL_mH13, zI_mH14, zL_mH14, zsI_mH14, zsL_mH14, zI_mH15, zL_mH15, zsI_mH15, zsL_mH15, zI_mH16, zL_mH16, zsI_mH16, zsL_mH16, zI_mH17, zL_mH17, zsI_mH17, zsL_mH17, zI_mH18, zL_mH18, zsI_mH18, zsL_mH18, zI_mH19, zL_mH19, zsI_mH19, zsL_mH19, zI_mH20, zL_mH20, zsI_mH20, zsL_mH20, zI_mH21, zL_mH21, zsI_mH21, zsL_mH21, zI_mH22, zL_mH22, zsI_mH22, zsL_mH22, zI_mH23, zL_mH23, zsI_mH23, zsL_mH23, zI_mH24, zL_mH24, zsI_mH24, zsL_mH24, zI_mH25, zL_mH25, zsI_mH25, zsL_mH25, zI_mH26, zL_mH26, zsI_mH26, zsL_mH26, zI_mH27, zL_mH27, zsI_mH27, zsL_mH27, zI_mH28, zL_mH28, zsI_mH28, zsL_mH28, zI_mH29, zL_mH29, zsI_mH29, zsL_mH29, zI_mH30, zL_mH30, zsI_mH30, zsL_mH30, zI_mH31, zL_mH31, zsI_mH31, zsL_mH31, zI_mH32, zL_mH32, zsI_mH32, zsL_mH32, zI_mH33, zL_mH33, zsI_mH33, zsL_mH33, zI_mH34, zL_mH34, zsI_mH34, zsL_mH34, zI_mH35, zL_mH35, zsI_mH35, zsL_mH35, zI_mH36, zL_mH36, zsI_mH36, zsL_mH36, zI_mH37, zL_mH37, zsI_mH37, zsL_mH37, zI_mH38, zL_mH38, zsI_mH38, zsL_mH38, zI_mH39, zL_mH39, zsI_mH39, zsL_mH39, zI_mH40, zL_mH40, zsI_mH40, zsL_mH40, zI_mH41, zL_mH41, zsI_mH41, zsL_mH41]
    exact loop (fun i hi => absurd hi (Nat.not_lt_zero _))
  · rw [yfind_no hq, r317_2]
    simp only [r317_0, r317_1, r317_3, r317_4, r317_7, r317_10, r317_11, r317_14, r317_15, r317_16, r317_17, r317_18, r317_21, r317_22, r317_23, r317_26, r317_29, r317_30, znl_i, znl_r, znl_j, znl_l, List.length_cons, List.length_nil, Option.some.injEq, Sum.inl.injEq, Sum.inr.injEq, Prod.mk.injEq, true_and, and_true, exists_eq_left', zK_sI, zA_sI, zL_sI, zK_sL, zA_sL, zI_sL, zK_fI, zA_fI, zL_fI, zK_fL, zA_fL, zI_fL, Nat.reduceAdd, Nat.reduceLeDiff, forall_eq', zl_lt, zl_gt, zl_eq, zl_le, zl_ge, zm_0, zaft_n, zaft_v, zb_eq, Decidable.not_not, H.K, H.A43, H.K23, zK_mH, zA_mH, zI_mH0, zL_mH0, zsI_mH0, zsL_mH0, zI_mH1, zL_mH1, zsI_mH1, zsL_mH1, zI_mH2, zL_mH2, zsI_mH2, zsL_mH2, zI_mH3, zL_mH3, zsI_mH3, zsL_mH3, zI_mH4, zL_mH4, zsI_mH4, zsL_mH4, zI_mH5, zL_mH5, zsI_mH5, zsL_mH5, zI_mH6, zL_mH6, zsI_mH6, zsL_mH6, zI_mH7, zL_mH7, zsI_mH7, zsL_mH7, zI_mH8, zL_mH8, zsI_mH8, zsL_mH8, zI_mH9, zL_mH9, zsI_mH9, zsL_mH9, zI_mH10, zL_mH10, zsI_mH10, zsL_mH10, zI_mH11, zL_mH11, zsI_mH11, zsL_mH11, zI_mH12, zL_mH12, zsI_mH12, zsL_mH12, zI_mH13, zL_mH13, zsI_mH13, zsL_mH13, zI_mH14, zL_mH14, zsI_mH14, zsL_mH14, zI_mH15, zL_mH15, zsI_mH15, zsL_mH15, zI_mH16, zL_mH16, zsI_mH16, zsL_mH16, zI_mH17, zL_mH17, zsI_mH17, zsL_mH17, zI_mH18, zL_mH18, zsI_mH18, zsL_mH18, zI_mH19, zL_mH19, zsI_mH19, zsL_mH19, zI_mH20, zL_mH20, zsI_mH20, zsL_mH20, zI_mH21, zL_mH21, zsI_mH21, zsL_mH21, zI_mH22, zL_mH22, zsI_mH22, zsL_mH22, zI_mH23, zL_mH23, zsI_mH23, zsL_mH23, zI_mH24, zL_mH24, zsI_mH24, zsL_mH24, zI_mH25, zL_mH25, zsI_mH25, zsL_mH25, zI_mH26, zL_mH26, zsI_mH26, zsL_mH26, zI_mH27, zL_mH27, zsI_mH27, zsL_mH27, zI_mH28, zL_mH28, zsI_mH28, zsL_mH28, zI_mH29, zL_mH29, zsI_mH29, zsL_mH29, zI_mH30, zL_mH30, zsI_mH30, zsL_mH30, zI_mH31, zL_mH31, zsI_mH31, zsL_mH31, zI_mH32, zL_mH32, zsI_mH32, zsL_mH32, zI_mH33, zL_mH33, zsI_mH33, zsL_mH33, zI_mH34, zL_mH34, zsI_mH34, zsL_mH34, zI_mH35, zL_mH35, zsI_mH35, zsL_mH35, zI_mH36, zL_mH36, zsI_mH36, zsL_mH36, zI_mH37, zL_mH37, zsI_mH37, zsL_mH37, zI_mH38, zL_mH38, zsI_mH38, zsL_mH38, zI_mH39, zL_mH39, zsI_mH39, zsL_mH39, zI_mH40, zL_mH40, zsI_mH40, zsL_mH40, zI_mH41, zL_mH41, zsI_mH41, zsL_mH41]
    simp (disch := omega) only [zn_b, zm_b, Int.toNat_natCast, Int.toNat_zero, zt4, zt_4, zt6, zt_6, zt9, zt_9, zt12, zt_12, zt48, zt_48, zt97, zt_97, zt144, zt144b, f50]
    exact ⟨fun _ => by (repeat' (first | rfl | exact True.intro | decide | omega | refine And.intro ?_ ?_)), fun z => (by first | omega | exact absurd trivial z | exact absurd rfl z)⟩
  · obtain ⟨v1, v2⟩ := hf k hk
    rw [r317_2]
    simp only [r317_0, r317_1, r317_3, r317_4, r317_7, r317_10, r317_11, r317_14, r317_15, r317_16, r317_17, r317_18, r317_21, r317_22, r317_23, r317_26, r317_29, r317_30, znl_i, znl_r, znl_j, znl_l, List.length_cons, List.length_nil, Option.some.injEq, Sum.inl.injEq, Sum.inr.injEq, Prod.mk.injEq, true_and, and_true, exists_eq_left', zK_sI, zA_sI, zL_sI, zK_sL, zA_sL, zI_sL, zK_fI, zA_fI, zL_fI, zK_fL, zA_fL, zI_fL, Nat.reduceAdd, Nat.reduceLeDiff, forall_eq', zl_lt, zl_gt, zl_eq, zl_le, zl_ge, zm_0, zaft_n, zaft_v, zb_eq, Decidable.not_not, H.K, H.A43, H.K23, zK_mH, zA_mH, zI_mH0, zL_mH0, zsI_mH0, zsL_mH0, zI_mH1, zL_mH1, zsI_mH1, zsL_mH1, zI_mH2, zL_mH2, zsI_mH2, zsL_mH2, zI_mH3, zL_mH3, zsI_mH3, zsL_mH3, zI_mH4, zL_mH4, zsI_mH4, zsL_mH4, zI_mH5, zL_mH5, zsI_mH5, zsL_mH5, zI_mH6, zL_mH6, zsI_mH6, zsL_mH6, zI_mH7, zL_mH7, zsI_mH7, zsL_mH7, zI_mH8, zL_mH8, zsI_mH8, zsL_mH8, zI_mH9, zL_mH9, zsI_mH9, zsL_mH9, zI_mH10, zL_mH10, zsI_mH10, zsL_mH10, zI_mH11, zL_mH11, zsI_mH11, zsL_mH11, zI_mH12, zL_mH12, zsI_mH12, zsL_mH12, zI_mH13, zL_mH13, zsI_mH13, zsL_mH13, zI_mH14, zL_mH14, zsI_mH14, zsL_mH14, zI_mH15, zL_mH15, zsI_mH15, zsL_mH15, zI_mH16, zL_mH16, zsI_mH16, zsL_mH16, zI_mH17, zL_mH17, zsI_mH17, zsL_mH17, zI_mH18, zL_mH18, zsI_mH18, zsL_mH18, zI_mH19, zL_mH19, zsI_mH19, zsL_mH19, zI_mH20, zL_mH20, zsI_mH20, zsL_mH20, zI_mH21, zL_mH21, zsI_mH21, zsL_mH21, zI_mH22, zL_mH22, zsI_mH22, zsL_mH22, zI_mH23, zL_mH23, zsI_mH23, zsL_mH23, zI_mH24, zL_mH24, zsI_mH24, zsL_mH24, zI_mH25, zL_mH25, zsI_mH25, zsL_mH25, zI_mH26, zL_mH26, zsI_mH26, zsL_mH26, zI_mH27, zL_mH27, zsI_mH27, zsL_mH27, zI_mH28, zL_mH28, zsI_mH28, zsL_mH28, zI_mH29, zL_mH29, zsI_mH29, zsL_mH29, zI_mH30, zL_mH30, zsI_mH30, zsL_mH30, zI_mH31, zL_mH31, zsI_mH31, zsL_mH31, zI_mH32, zL_mH32, zsI_mH32, zsL_mH32, zI_mH33, zL_mH33, zsI_mH33, zsL_mH33, zI_mH34, zL_mH34, zsI_mH34, zsL_mH34, zI_mH35, zL_mH35, zsI_mH35, zsL_mH35, zI_mH36, zL_mH36, zsI_mH36, zsL_mH36, zI_mH37, zL_mH37, zsI_mH37, zsL_mH37, zI_mH38, zL_mH38, zsI_mH38, zsL_mH38, zI_mH39, zL_mH39, zsI_mH39, zsL_mH39, zI_mH40, zL_mH40, zsI_mH40, zsL_mH40, zI_mH41, zL_mH41, zsI_mH41, zsL_mH41]
    simp (disch := omega) only [zn_b, zm_b, Int.toNat_natCast, Int.toNat_zero, zt4, zt_4, zt6, zt_6, zt9, zt_9, zt12, zt_12, zt48, zt_48, zt97, zt_97, zt144, zt144b, f50, v1]
    rw [zm_id (x := (f k : Int)) (by omega) (by omega), zm_id (x := (x : Int)) (by omega) (by omega)]
    refine ⟨fun z => (by first | omega | exact absurd trivial z | exact absurd rfl z), fun _ => ⟨by omega, by omega, fun q => ?_, fun q => ?_⟩⟩
    · refine ih (fun i hi => ?_)
      by_cases c : i = k
      · rw [c]; exact decide_eq_false (by omega)
      · exact hq i (by omega)
    · rw [yfind_hit hk hq (by show decide _ = true; exact decide_eq_true (by omega))]
      (repeat' (first | rfl | exact True.intro | decide | omega | refine And.intro ?_ ?_))
end
