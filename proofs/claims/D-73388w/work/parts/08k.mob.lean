/-! ===== the reference: stretch, the tape, fractions ===== -/
def yab (x : Int) : Int := if x < 0 then -x else x
theorem yab_nat (x : Int) : yab x = (x.natAbs : Int) := by unfold yab; split <;> omega
/-- a fraction without a common divisor -/
def ytop (n m : Int) : Int := (if m < 0 then -n else n).tdiv (Int.gcd n m : Int)
def ybot (n m : Int) : Int := (yab m).tdiv (Int.gcd n m : Int)
section
variable {e : zEv} {a d : Nat} {h : zH} {s : yS}
theorem m_tellsBy (H : zmo e a h) (n m : Int) (hn1 : -100000000000000000 ≤ n) (hn2 : n ≤ 100000000000000000) (hm1 : -100000000000000000 ≤ m) (hm2 : m ≤ 100000000000000000) (hm0 : m ≠ 0) : zc e (d + 2) 261 [zr (some a), zl n, zl m] h (fun o h' => o = Sum.inl (some (zi 1)) ∧ h' = zsI (zsL (zsL h a 3 (ytop n m)) a 4 (ybot n m)) a 2 0) := by
  have hb := H.1
  have hg : (0 : Int) < (Int.gcd n m : Int) := by
    have := Int.gcd_pos_iff (a := n) (b := m) |>.mpr (Or.inr hm0)
    omega
  have hgl : (Int.gcd n m : Int) ≤ 100000000000000000 := by
    have := Int.gcd_le_natAbs_right n hm0
    omega
  have loop : ∀ (k x y : Nat) (w1 w2 : zV), y ≤ k → x ≤ 100000000000000000 → y ≤ 100000000000000000 → Nat.gcd x y = Int.gcd n m → zg e 261 (d + 1) 12 [zr (some a), zl n, zj, zl m, zj, zl x, zj, zl y, zj, w1, w2] [] h (fun o h' => o = Sum.inl (some (zi 1)) ∧ h' = zsI (zsL (zsL h a 3 (ytop n m)) a 4 (ybot n m)) a 2 0) := by
    intro k
    induction k with
    | zero =>
      intro x y w1 w2 hy hx hy2 hgcd
      obtain rfl : y = 0 := by omega
      rw [Nat.gcd_zero_right] at hgcd
      subst hgcd
      rw [r261_12]
      simp only [r261_0, r261_1, r261_4, r261_6, r261_7, r261_10, r261_14, r261_15, r261_16, r261_19, r261_21, r261_23, r261_24, r261_26, r261_28, r261_30, r261_32, r261_34, r261_37, r261_38, r261_39, r261_40, r261_41, r261_44, r261_45, r261_46, r261_49, r261_50, r261_52, r261_53, r261_56, r261_57, r261_58, r261_61, r261_63, r261_64, r261_67, r261_68, r261_69, r261_72, znl_i, znl_r, znl_j, znl_l, List.length_cons, List.length_nil, Option.some.injEq, Sum.inl.injEq, Sum.inr.injEq, Prod.mk.injEq, true_and, and_true, exists_eq_left', zK_sI, zA_sI, zL_sI, zK_sL, zA_sL, zI_sL, zK_fI, zA_fI, zL_fI, zK_fL, zA_fL, zI_fL, Nat.reduceAdd, Nat.reduceLeDiff, forall_eq', zl_lt, zl_gt, zl_eq, zl_le, zl_ge, zm_0, zaft_n, zaft_v, zb_eq, Decidable.not_not, H.1, H.K]
      simp (disch := omega) only [zm_b]
      refine ⟨fun _ => ?_, fun z => by omega⟩
      have t1 : ytop n m = (if m < 0 then -n else n).tdiv (Int.gcd n m : Int) := rfl
      have t2 : ybot n m = (yab m).tdiv (Int.gcd n m : Int) := rfl
      have fin : zc e (d + 1) 82 [zl m] (zsL h a 3 (ytop n m)) (fun o h1 => zaft 61 zh0 [zr (some a), zl n, zj, zl m, zj, zl (Int.gcd n m : Int), zj, zl ((0 : Nat) : Int), zj, w1, w2] [zr (some a)] o h1 (fun p L1 S1 h1 => zg e 261 (d + 1) p L1 S1 h1 (fun o h' => o = Sum.inl (some (zi 1)) ∧ h' = zsI (zsL (zsL h a 3 (ytop n m)) a 4 (ybot n m)) a 2 0)) (fun o h' => o = Sum.inl (some (zi 1)) ∧ h' = zsI (zsL (zsL h a 3 (ytop n m)) a 4 (ybot n m)) a 2 0)) := by
        refine zc_w (j_absL m (by omega) (by omega)) ?_
        have t3 : (if m < 0 then -m else m) = yab m := rfl
        have t4 := yab_nat m
        simp only [r261_0, r261_1, r261_4, r261_6, r261_7, r261_10, r261_14, r261_15, r261_16, r261_19, r261_21, r261_23, r261_24, r261_26, r261_28, r261_30, r261_32, r261_34, r261_37, r261_38, r261_39, r261_40, r261_41, r261_44, r261_45, r261_46, r261_49, r261_50, r261_52, r261_53, r261_56, r261_57, r261_58, r261_61, r261_63, r261_64, r261_67, r261_68, r261_69, r261_72, znl_i, znl_r, znl_j, znl_l, List.length_cons, List.length_nil, Option.some.injEq, Sum.inl.injEq, Sum.inr.injEq, Prod.mk.injEq, true_and, and_true, exists_eq_left', zK_sI, zA_sI, zL_sI, zK_sL, zA_sL, zI_sL, zK_fI, zA_fI, zL_fI, zK_fL, zA_fL, zI_fL, Nat.reduceAdd, Nat.reduceLeDiff, forall_eq', zl_lt, zl_gt, zl_eq, zl_le, zl_ge, zm_0, zaft_n, zaft_v, zb_eq, Decidable.not_not, H.1, H.K, t3]
        simp (disch := omega) only [zm_b]
        refine ⟨by omega, ?_⟩
        refine zc_w (m_is (h := zsL (zsL h a 3 (ytop n m)) a 4 (ybot n m)) H 0 (by omega) (by omega)) ?_
        simp only [r261_0, r261_1, r261_4, r261_6, r261_7, r261_10, r261_14, r261_15, r261_16, r261_19, r261_21, r261_23, r261_24, r261_26, r261_28, r261_30, r261_32, r261_34, r261_37, r261_38, r261_39, r261_40, r261_41, r261_44, r261_45, r261_46, r261_49, r261_50, r261_52, r261_53, r261_56, r261_57, r261_58, r261_61, r261_63, r261_64, r261_67, r261_68, r261_69, r261_72, znl_i, znl_r, znl_j, znl_l, List.length_cons, List.length_nil, Option.some.injEq, Sum.inl.injEq, Sum.inr.injEq, Prod.mk.injEq, true_and, and_true, exists_eq_left', zK_sI, zA_sI, zL_sI, zK_sL, zA_sL, zI_sL, zK_fI, zA_fI, zL_fI, zK_fL, zA_fL, zI_fL, Nat.reduceAdd, Nat.reduceLeDiff, forall_eq', zl_lt, zl_gt, zl_eq, zl_le, zl_ge, zm_0, zaft_n, zaft_v, zb_eq, Decidable.not_not, H.K]
        exact ⟨by decide, by decide, rfl⟩
      refine ⟨fun q => ⟨by omega, ?_⟩, fun q => ⟨by omega, ?_⟩⟩
      · rw [show n.tdiv (Int.gcd n m : Int) = ytop n m by rw [t1, if_neg (by omega)]]; exact fin
      · rw [show (-n).tdiv (Int.gcd n m : Int) = ytop n m by rw [t1, if_pos (by omega)]]; exact fin
    | succ k ih =>
      intro x y w1 w2 hy hx hy2 hgcd
      by_cases hy0 : y = 0
      · exact ih x y w1 w2 (by omega) hx hy2 hgcd
      · rw [r261_12]
        have e1 : (x : Int).tmod (y : Int) = ((x % y : Nat) : Int) := by
          rw [Int.tmod_eq_emod_of_nonneg (by omega)]; exact (Int.natCast_emod x y).symm
        have hlt := Nat.mod_lt x (show 0 < y by omega)
        simp only [r261_14, r261_15, r261_16, znl_i, znl_r, znl_j, znl_l, List.length_cons, List.length_nil, Option.some.injEq, Sum.inl.injEq, Sum.inr.injEq, Prod.mk.injEq, true_and, and_true, exists_eq_left', zK_sI, zA_sI, zL_sI, zK_sL, zA_sL, zI_sL, zK_fI, zA_fI, zL_fI, zK_fL, zA_fL, zI_fL, Nat.reduceAdd, Nat.reduceLeDiff, forall_eq', zl_lt, zl_gt, zl_eq, zl_le, zl_ge, zm_0, zaft_n, zaft_v, zb_eq, Decidable.not_not]
        simp (disch := omega) only [zm_b]
        refine ⟨fun z => by omega, fun _ => ?_⟩
        simp only [r261_0, r261_1, r261_4, r261_6, r261_7, r261_10, r261_14, r261_15, r261_16, r261_19, r261_21, r261_23, r261_24, r261_26, r261_28, r261_30, r261_32, r261_34, r261_37, r261_38, r261_39, r261_40, r261_41, r261_44, r261_45, r261_46, r261_49, r261_50, r261_52, r261_53, r261_56, r261_57, r261_58, r261_61, r261_63, r261_64, r261_67, r261_68, r261_69, r261_72, znl_i, znl_r, znl_j, znl_l, List.length_cons, List.length_nil, Option.some.injEq, Sum.inl.injEq, Sum.inr.injEq, Prod.mk.injEq, true_and, and_true, exists_eq_left', zK_sI, zA_sI, zL_sI, zK_sL, zA_sL, zI_sL, zK_fI, zA_fI, zL_fI, zK_fL, zA_fL, zI_fL, Nat.reduceAdd, Nat.reduceLeDiff, forall_eq', zl_lt, zl_gt, zl_eq, zl_le, zl_ge, zm_0, zaft_n, zaft_v, zb_eq, Decidable.not_not]
        simp (disch := omega) only [zm_b]
        refine ⟨by omega, ?_⟩
        rw [e1]
        exact ih y (x % y) _ _ (by omega) (by omega) (by omega) ((Nat.gcd_comm _ _).trans ((Nat.gcd_rec y x).symm.trans ((Nat.gcd_comm _ _).trans hgcd)))
  simp only [n261, r261_0, r261_1, r261_4, r261_6, r261_7, r261_10, r261_14, r261_15, r261_16, r261_19, r261_21, r261_23, r261_24, r261_26, r261_28, r261_30, r261_32, r261_34, r261_37, r261_38, r261_39, r261_40, r261_41, r261_44, r261_45, r261_46, r261_49, r261_50, r261_52, r261_53, r261_56, r261_57, r261_58, r261_61, r261_63, r261_64, r261_67, r261_68, r261_69, r261_72, znl_i, znl_r, znl_j, znl_l, List.length_cons, List.length_nil, Option.some.injEq, Sum.inl.injEq, Sum.inr.injEq, Prod.mk.injEq, true_and, and_true, exists_eq_left', zK_sI, zA_sI, zL_sI, zK_sL, zA_sL, zI_sL, zK_fI, zA_fI, zL_fI, zK_fL, zA_fL, zI_fL, Nat.reduceAdd, Nat.reduceLeDiff, forall_eq', zl_lt, zl_gt, zl_eq, zl_le, zl_ge, zm_0, zaft_n, zaft_v, zb_eq, Decidable.not_not]
  refine zc_w (j_absL n (by omega) (by omega)) ?_
  simp only [r261_0, r261_1, r261_4, r261_6, r261_7, r261_10, r261_14, r261_15, r261_16, r261_19, r261_21, r261_23, r261_24, r261_26, r261_28, r261_30, r261_32, r261_34, r261_37, r261_38, r261_39, r261_40, r261_41, r261_44, r261_45, r261_46, r261_49, r261_50, r261_52, r261_53, r261_56, r261_57, r261_58, r261_61, r261_63, r261_64, r261_67, r261_68, r261_69, r261_72, znl_i, znl_r, znl_j, znl_l, List.length_cons, List.length_nil, Option.some.injEq, Sum.inl.injEq, Sum.inr.injEq, Prod.mk.injEq, true_and, and_true, exists_eq_left', zK_sI, zA_sI, zL_sI, zK_sL, zA_sL, zI_sL, zK_fI, zA_fI, zL_fI, zK_fL, zA_fL, zI_fL, Nat.reduceAdd, Nat.reduceLeDiff, forall_eq', zl_lt, zl_gt, zl_eq, zl_le, zl_ge, zm_0, zaft_n, zaft_v, zb_eq, Decidable.not_not, H.K]
  refine zc_w (j_absL m (by omega) (by omega)) ?_
  simp only [r261_0, r261_1, r261_4, r261_6, r261_7, r261_10, r261_14, r261_15, r261_16, r261_19, r261_21, r261_23, r261_24, r261_26, r261_28, r261_30, r261_32, r261_34, r261_37, r261_38, r261_39, r261_40, r261_41, r261_44, r261_45, r261_46, r261_49, r261_50, r261_52, r261_53, r261_56, r261_57, r261_58, r261_61, r261_63, r261_64, r261_67, r261_68, r261_69, r261_72, znl_i, znl_r, znl_j, znl_l, List.length_cons, List.length_nil, Option.some.injEq, Sum.inl.injEq, Sum.inr.injEq, Prod.mk.injEq, true_and, and_true, exists_eq_left', zK_sI, zA_sI, zL_sI, zK_sL, zA_sL, zI_sL, zK_fI, zA_fI, zL_fI, zK_fL, zA_fL, zI_fL, Nat.reduceAdd, Nat.reduceLeDiff, forall_eq', zl_lt, zl_gt, zl_eq, zl_le, zl_ge, zm_0, zaft_n, zaft_v, zb_eq, Decidable.not_not, H.K]
  have t3 : (if n < 0 then -n else n) = yab n := rfl
  have t4 : (if m < 0 then -m else m) = yab m := rfl
  rw [t3, t4, yab_nat, yab_nat]
  exact loop m.natAbs n.natAbs m.natAbs _ _ (Nat.le_refl _) (by omega) (by omega) rfl
def s_centre (s : yS) (i : Int) : yS × Int :=
  if ¬ (0 ≤ i ∧ i ≤ 2) then (yst 1 s, 0) else if s.1.1 = 0 then (yst 3 s, 0) else (ytell (ytop (ysum (fun k => s.1.2 k (i.toNat + 1)) s.1.1) s.1.1) (ybot (ysum (fun k => s.1.2 k (i.toNat + 1)) s.1.1) s.1.1) s, 1)
theorem mB.tell (B : mB e a h s) (t b : Int) : mB e a (zsI (zsL (zsL h a 3 t) a 4 b) a 2 0) (ytell t b s) := by
  obtain ⟨H, hF, b1, b2, b3, b4, b5, b6, b7, b8, b9⟩ := B
  refine ⟨H, ?_, ?_, ?_, ?_, ?_, ?_, b6, fun j hj => ?_, ?_, ?_⟩
  · rw [zI_sI, zu_cell _ _ _ (by omega)]; exact hF
  · rw [zI_sI, zu_slot _ _ _ (by decide)]; exact b1
  · rw [zI_sI, zu_same]; rfl
  · rw [zL_sI, zL_sL, zu_slot _ _ _ (by decide), zL_sL, zu_same]; rfl
  · rw [zL_sI, zL_sL, zu_same]; rfl
  · rw [zI_sI, zu_slot _ _ _ (by decide)]; exact b5
  · rw [zI_sI, zu_cell _ _ _ (by omega)]; exact b7 j hj
  · rw [zI_sI, zu_slot _ _ _ (by decide)]; exact b8
  · rw [zI_sI, zu_slot _ _ _ (by decide)]; exact b9
theorem mQ0_tell (B : mB e a h s) (t b : Int) : mQ0 e a h (ytell t b s, 1) (Sum.inl (some (zi 1))) (zsI (zsL (zsL h a 3 t) a 4 b) a 2 0) := by
  refine ⟨rfl, B.tell t b, ((zonly.sL (Or.inl rfl)).trans (zonly.sL (Or.inl rfl))).trans (zonly.sI (Or.inl rfl)), fun j h2 _ => ?_, fun j h3 h4 => ?_⟩
  · rw [zI_sI, zu_slot _ _ _ h2]; rfl
  · rw [zL_sI, zL_sL, zu_slot _ _ _ h4, zL_sL, zu_slot _ _ _ h3]
theorem mQ0_ref (B : mB e a h s) (v w : Int) : mQ0 e a h (yst v s, w) (Sum.inl (some (zi w))) (zsI h a 2 v) :=
  ⟨rfl, B.st v, zonly.sI (Or.inl rfl), fun j h2 _ => by rw [zI_sI, zu_slot _ _ _ h2], fun _ _ _ => rfl⟩
theorem ysum_bd {f : Nat → Int} {n : Nat} (h : ∀ k, k < n → -50 ≤ f k ∧ f k ≤ 50) : -(50 * (n : Int)) ≤ ysum f n ∧ ysum f n ≤ 50 * n := by
  induction n with
  | zero => simp [ysum]
  | succ n ih =>
    have h1 := ih (fun k hk => h k (by omega))
    have h2 := h n (by omega)
    simp only [ysum]
    omega
theorem m_centre (B : mB e a h s) (i : Int) (hi : yi i) : zc e (d + 3) 260 [zr (some a), zi i] h (mQ0 e a h (s_centre s i)) := by
  have H := B.1
  have hF := B.2.1
  have hn := hF.1.1
  have e0 : zn 0 = 0 := by decide
  have e2 : zn 2 = 2 := by decide
  have a0 : zI h (a + 1) 0 = (s.1.1 : Int) := hF.2.1.1
  simp only [n260, r260_0, r260_1, r260_2, r260_3, r260_6, r260_9, r260_10, r260_11, r260_14, r260_15, r260_16, r260_19, r260_20, r260_21, r260_24, r260_25, r260_26, r260_29, r260_30, r260_31, r260_32, r260_33, r260_35, r260_36, r260_39, r260_40, r260_41, r260_44, r260_45, r260_46, r260_47, r260_48, r260_49, r260_50, r260_53, r260_54, r260_55, r260_58, r260_61, r260_62, r260_63, r260_64, r260_65, r260_68, r260_69, r260_70, r260_71, r260_74, znl_i, znl_r, znl_j, znl_l, List.length_cons, List.length_nil, Option.some.injEq, Sum.inl.injEq, Sum.inr.injEq, Prod.mk.injEq, true_and, and_true, exists_eq_left', zK_sI, zA_sI, zL_sI, zK_sL, zA_sL, zI_sL, zK_fI, zA_fI, zL_fI, zK_fL, zA_fL, zI_fL, Nat.reduceAdd, Nat.reduceLeDiff, forall_eq', zl_lt, zl_gt, zl_eq, zl_le, zl_ge, zm_0, zaft_n, zaft_v, zb_eq, Decidable.not_not, H.K, H.A0, H.K1]
  refine zc_w (m_isFrom i 0 2) ?_
  simp only [r260_0, r260_1, r260_2, r260_3, r260_6, r260_9, r260_10, r260_11, r260_14, r260_15, r260_16, r260_19, r260_20, r260_21, r260_24, r260_25, r260_26, r260_29, r260_30, r260_31, r260_32, r260_33, r260_35, r260_36, r260_39, r260_40, r260_41, r260_44, r260_45, r260_46, r260_47, r260_48, r260_49, r260_50, r260_53, r260_54, r260_55, r260_58, r260_61, r260_62, r260_63, r260_64, r260_65, r260_68, r260_69, r260_70, r260_71, r260_74, znl_i, znl_r, znl_j, znl_l, List.length_cons, List.length_nil, Option.some.injEq, Sum.inl.injEq, Sum.inr.injEq, Prod.mk.injEq, true_and, and_true, exists_eq_left', zK_sI, zA_sI, zL_sI, zK_sL, zA_sL, zI_sL, zK_fI, zA_fI, zL_fI, zK_fL, zA_fL, zI_fL, Nat.reduceAdd, Nat.reduceLeDiff, forall_eq', zl_lt, zl_gt, zl_eq, zl_le, zl_ge, zm_0, zaft_n, zaft_v, zb_eq, Decidable.not_not, H.K, H.A0, H.K1]
  rw [zn_i hi, e0, e2]
  refine ⟨fun q1 => ?_, fun q => ?_⟩
  case' refine_2 =>
    refine zc_w (m_is H 1 (by omega) (by omega)) ?_
    simp only [r260_0, r260_1, r260_2, r260_3, r260_6, r260_9, r260_10, r260_11, r260_14, r260_15, r260_16, r260_19, r260_20, r260_21, r260_24, r260_25, r260_26, r260_29, r260_30, r260_31, r260_32, r260_33, r260_35, r260_36, r260_39, r260_40, r260_41, r260_44, r260_45, r260_46, r260_47, r260_48, r260_49, r260_50, r260_53, r260_54, r260_55, r260_58, r260_61, r260_62, r260_63, r260_64, r260_65, r260_68, r260_69, r260_70, r260_71, r260_74, znl_i, znl_r, znl_j, znl_l, List.length_cons, List.length_nil, Option.some.injEq, Sum.inl.injEq, Sum.inr.injEq, Prod.mk.injEq, true_and, and_true, exists_eq_left', zK_sI, zA_sI, zL_sI, zK_sL, zA_sL, zI_sL, zK_fI, zA_fI, zL_fI, zK_fL, zA_fL, zI_fL, Nat.reduceAdd, Nat.reduceLeDiff, forall_eq', zl_lt, zl_gt, zl_eq, zl_le, zl_ge, zm_0, zaft_n, zaft_v, zb_eq, Decidable.not_not, H.K, H.A0, H.K1]
    rw [s_centre, if_pos q]
    exact ⟨by decide, by decide, mQ0_ref B 1 0⟩
  have hs0 : s_centre s i = _ := if_neg (fun z => z q1)
  rw [hs0]
  simp only [Int.toNat_zero, a0]
  rw [zn_b (x := (s.1.1 : Int)) (by omega) (by omega)]
  refine ⟨by omega, by omega, fun q2 => ?_, fun q2 => ?_⟩
  case' refine_2 =>
    refine zc_w (m_is H 3 (by omega) (by omega)) ?_
    simp only [r260_0, r260_1, r260_2, r260_3, r260_6, r260_9, r260_10, r260_11, r260_14, r260_15, r260_16, r260_19, r260_20, r260_21, r260_24, r260_25, r260_26, r260_29, r260_30, r260_31, r260_32, r260_33, r260_35, r260_36, r260_39, r260_40, r260_41, r260_44, r260_45, r260_46, r260_47, r260_48, r260_49, r260_50, r260_53, r260_54, r260_55, r260_58, r260_61, r260_62, r260_63, r260_64, r260_65, r260_68, r260_69, r260_70, r260_71, r260_74, znl_i, znl_r, znl_j, znl_l, List.length_cons, List.length_nil, Option.some.injEq, Sum.inl.injEq, Sum.inr.injEq, Prod.mk.injEq, true_and, and_true, exists_eq_left', zK_sI, zA_sI, zL_sI, zK_sL, zA_sL, zI_sL, zK_fI, zA_fI, zL_fI, zK_fL, zA_fL, zI_fL, Nat.reduceAdd, Nat.reduceLeDiff, forall_eq', zl_lt, zl_gt, zl_eq, zl_le, zl_ge, zm_0, zaft_n, zaft_v, zb_eq, Decidable.not_not, H.K, H.A0, H.K1]
    rw [if_pos (show s.1.1 = 0 by omega)]
    exact ⟨by decide, by decide, mQ0_ref B 3 0⟩
  rw [if_neg (by omega)]
  obtain ⟨i', rfl⟩ : ∃ n : Nat, i = (n : Int) := ⟨i.toNat, by omega⟩
  rw [Int.toNat_natCast]
  have pb : ∀ k, k < s.1.1 → -50 ≤ s.1.2 k (i' + 1) ∧ s.1.2 k (i' + 1) ≤ 50 := fun k hk => hF.1.2.2.1 k hk _ (by omega) (by omega)
  have loop : ∀ (j k : Nat), k + j = s.1.1 → zg e 260 (d + 2) 34 [zr (some a), zi i', zi (ysum (fun k => s.1.2 k (i' + 1)) k), zi k] [] h (mQ0 e a h (ytell (ytop (ysum (fun k => s.1.2 k (i' + 1)) s.1.1) s.1.1) (ybot (ysum (fun k => s.1.2 k (i' + 1)) s.1.1) s.1.1) s, 1)) := by
    intro j
    induction j with
    | zero =>
      intro k hk
      obtain rfl : k = s.1.1 := by omega
      have sb := ysum_bd pb
      rw [r260_34]
      simp only [r260_0, r260_1, r260_2, r260_3, r260_6, r260_9, r260_10, r260_11, r260_14, r260_15, r260_16, r260_19, r260_20, r260_21, r260_24, r260_25, r260_26, r260_29, r260_30, r260_31, r260_32, r260_33, r260_35, r260_36, r260_39, r260_40, r260_41, r260_44, r260_45, r260_46, r260_47, r260_48, r260_49, r260_50, r260_53, r260_54, r260_55, r260_58, r260_61, r260_62, r260_63, r260_64, r260_65, r260_68, r260_69, r260_70, r260_71, r260_74, znl_i, znl_r, znl_j, znl_l, List.length_cons, List.length_nil, Option.some.injEq, Sum.inl.injEq, Sum.inr.injEq, Prod.mk.injEq, true_and, and_true, exists_eq_left', zK_sI, zA_sI, zL_sI, zK_sL, zA_sL, zI_sL, zK_fI, zA_fI, zL_fI, zK_fL, zA_fL, zI_fL, Nat.reduceAdd, Nat.reduceLeDiff, forall_eq', zl_lt, zl_gt, zl_eq, zl_le, zl_ge, zm_0, zaft_n, zaft_v, zb_eq, Decidable.not_not, H.K, H.A0, H.K1]
      simp only [e0, Int.toNat_zero, a0]
      simp (disch := omega) only [zn_b, zm_b, Int.toNat_natCast]
      refine ⟨by omega, by omega, fun _ => ⟨by omega, by omega, ?_⟩, fun z => by omega⟩
      refine zc_w (m_tellsBy H (ysum (fun k => s.1.2 k (i' + 1)) s.1.1) (s.1.1 : Int) (by omega) (by omega) (by omega) (by omega) (by omega)) ?_
      simp only [r260_0, r260_1, r260_2, r260_3, r260_6, r260_9, r260_10, r260_11, r260_14, r260_15, r260_16, r260_19, r260_20, r260_21, r260_24, r260_25, r260_26, r260_29, r260_30, r260_31, r260_32, r260_33, r260_35, r260_36, r260_39, r260_40, r260_41, r260_44, r260_45, r260_46, r260_47, r260_48, r260_49, r260_50, r260_53, r260_54, r260_55, r260_58, r260_61, r260_62, r260_63, r260_64, r260_65, r260_68, r260_69, r260_70, r260_71, r260_74, znl_i, znl_r, znl_j, znl_l, List.length_cons, List.length_nil, Option.some.injEq, Sum.inl.injEq, Sum.inr.injEq, Prod.mk.injEq, true_and, and_true, exists_eq_left', zK_sI, zA_sI, zL_sI, zK_sL, zA_sL, zI_sL, zK_fI, zA_fI, zL_fI, zK_fL, zA_fL, zI_fL, Nat.reduceAdd, Nat.reduceLeDiff, forall_eq', zl_lt, zl_gt, zl_eq, zl_le, zl_ge, zm_0, zaft_n, zaft_v, zb_eq, Decidable.not_not, H.K, H.A0, H.K1]
      exact ⟨by decide, by decide, mQ0_tell B _ _⟩
    | succ j ih =>
      intro k hk
      rw [r260_34]
      simp only [r260_0, r260_1, r260_2, r260_3, r260_6, r260_9, r260_10, r260_11, r260_14, r260_15, r260_16, r260_19, r260_20, r260_21, r260_24, r260_25, r260_26, r260_29, r260_30, r260_31, r260_32, r260_33, r260_35, r260_36, r260_39, r260_40, r260_41, r260_44, r260_45, r260_46, r260_47, r260_48, r260_49, r260_50, r260_53, r260_54, r260_55, r260_58, r260_61, r260_62, r260_63, r260_64, r260_65, r260_68, r260_69, r260_70, r260_71, r260_74, znl_i, znl_r, znl_j, znl_l, List.length_cons, List.length_nil, Option.some.injEq, Sum.inl.injEq, Sum.inr.injEq, Prod.mk.injEq, true_and, and_true, exists_eq_left', zK_sI, zA_sI, zL_sI, zK_sL, zA_sL, zI_sL, zK_fI, zA_fI, zL_fI, zK_fL, zA_fL, zI_fL, Nat.reduceAdd, Nat.reduceLeDiff, forall_eq', zl_lt, zl_gt, zl_eq, zl_le, zl_ge, zm_0, zaft_n, zaft_v, zb_eq, Decidable.not_not, H.K, H.A0, H.K1]
      simp only [e0, Int.toNat_zero, a0]
      simp (disch := omega) only [zn_b, zm_b, Int.toNat_natCast]
      refine ⟨by omega, by omega, fun z => by omega, fun _ => ?_⟩
      refine zc_w (m_of H k ((i' : Int) + 1) (by omega) (by omega) (by omega) (by omega)) ?_
      simp only [r260_0, r260_1, r260_2, r260_3, r260_6, r260_9, r260_10, r260_11, r260_14, r260_15, r260_16, r260_19, r260_20, r260_21, r260_24, r260_25, r260_26, r260_29, r260_30, r260_31, r260_32, r260_33, r260_35, r260_36, r260_39, r260_40, r260_41, r260_44, r260_45, r260_46, r260_47, r260_48, r260_49, r260_50, r260_53, r260_54, r260_55, r260_58, r260_61, r260_62, r260_63, r260_64, r260_65, r260_68, r260_69, r260_70, r260_71, r260_74, znl_i, znl_r, znl_j, znl_l, List.length_cons, List.length_nil, Option.some.injEq, Sum.inl.injEq, Sum.inr.injEq, Prod.mk.injEq, true_and, and_true, exists_eq_left', zK_sI, zA_sI, zL_sI, zK_sL, zA_sL, zI_sL, zK_fI, zA_fI, zL_fI, zK_fL, zA_fL, zI_fL, Nat.reduceAdd, Nat.reduceLeDiff, forall_eq', zl_lt, zl_gt, zl_eq, zl_le, zl_ge, zm_0, zaft_n, zaft_v, zb_eq, Decidable.not_not, H.K, H.A0, H.K1]
      have v1 : zI h (a + 1) (4 + 4 * (k : Int) + ((i' : Int) + 1)).toNat = s.1.2 k (i' + 1) := by
        rw [← hF.2.1.2 k (by omega) (i' + 1) (by omega)]; congr 1 <;> omega
      rw [v1]
      exact ih (k + 1) (by omega)
  exact loop s.1.1 0 (by omega)
theorem m_stretch (B : mB e a h s) (n : Int) (hn : yi n) : zc e (d + 3) 251 [zr (some a), zi n] h (mQ e a h s (s_stretch s n)) := by
  have H := B.1
  have hb := H.1
  have hF := B.2.1
  have hN := hF.1.1
  have hni : zn n = n := zn_i hn
  obtain ⟨hn1, hn2⟩ := hn
  simp only [n251, r251_0, r251_1, r251_4, r251_5, r251_6, r251_9, r251_10, r251_11, r251_13, r251_14, r251_17, r251_18, r251_19, r251_20, r251_21, r251_22, r251_23, r251_26, r251_29, r251_30, r251_32, r251_35, r251_36, r251_39, r251_42, r251_43, r251_46, r251_47, r251_49, r251_50, r251_53, r251_54, r251_55, r251_56, r251_57, r251_58, r251_61, r251_64, r251_67, r251_68, r251_69, r251_72, znl_i, znl_r, znl_j, znl_l, List.length_cons, List.length_nil, Option.some.injEq, Sum.inl.injEq, Sum.inr.injEq, Prod.mk.injEq, true_and, and_true, exists_eq_left', zK_sI, zA_sI, zL_sI, zK_sL, zA_sL, zI_sL, zK_fI, zA_fI, zL_fI, zK_fL, zA_fL, zI_fL, Nat.reduceAdd, Nat.reduceLeDiff, forall_eq', zl_lt, zl_gt, zl_eq, zl_le, zl_ge, zm_0, zaft_n, zaft_v, zb_eq, Decidable.not_not, H.K]
  rw [hni]
  refine ⟨fun q0 => ?_, fun q => ?_⟩
  case' refine_2 =>
    refine zc_w (m_is H 1 (by omega) (by omega)) ?_
    simp only [r251_0, r251_1, r251_4, r251_5, r251_6, r251_9, r251_10, r251_11, r251_13, r251_14, r251_17, r251_18, r251_19, r251_20, r251_21, r251_22, r251_23, r251_26, r251_29, r251_30, r251_32, r251_35, r251_36, r251_39, r251_42, r251_43, r251_46, r251_47, r251_49, r251_50, r251_53, r251_54, r251_55, r251_56, r251_57, r251_58, r251_61, r251_64, r251_67, r251_68, r251_69, r251_72, znl_i, znl_r, znl_j, znl_l, List.length_cons, List.length_nil, Option.some.injEq, Sum.inl.injEq, Sum.inr.injEq, Prod.mk.injEq, true_and, and_true, exists_eq_left', zK_sI, zA_sI, zL_sI, zK_sL, zA_sL, zI_sL, zK_fI, zA_fI, zL_fI, zK_fL, zA_fL, zI_fL, Nat.reduceAdd, Nat.reduceLeDiff, forall_eq', zl_lt, zl_gt, zl_eq, zl_le, zl_ge, zm_0, zaft_n, zaft_v, zb_eq, Decidable.not_not, H.K]
    rw [s_stretch, if_pos q]
    exact ⟨by decide, by decide, mQ_ref B 1 0⟩
  have hs0 : s_stretch s n = _ := if_neg q0
  have step : ∀ (i : Nat), 1 ≤ i → i < 4 → (yinA s.1 i n 0 = false → s_stretch s n = (yst 6 s, 0)) → (yinA s.1 i n 0 = true → zg e 251 (d + 2) 12 [zr (some a), zi n, zi ((i + 1 : Nat) : Int)] [] h (mQ e a h s (s_stretch s n))) → zg e 251 (d + 2) 12 [zr (some a), zi n, zi i] [] h (mQ e a h s (s_stretch s n)) := by
    intro i i1 i4 hbad hgood
    rw [r251_12]
    simp only [r251_0, r251_1, r251_4, r251_5, r251_6, r251_9, r251_10, r251_11, r251_13, r251_14, r251_17, r251_18, r251_19, r251_20, r251_21, r251_22, r251_23, r251_26, r251_29, r251_30, r251_32, r251_35, r251_36, r251_39, r251_42, r251_43, r251_46, r251_47, r251_49, r251_50, r251_53, r251_54, r251_55, r251_56, r251_57, r251_58, r251_61, r251_64, r251_67, r251_68, r251_69, r251_72, znl_i, znl_r, znl_j, znl_l, List.length_cons, List.length_nil, Option.some.injEq, Sum.inl.injEq, Sum.inr.injEq, Prod.mk.injEq, true_and, and_true, exists_eq_left', zK_sI, zA_sI, zL_sI, zK_sL, zA_sL, zI_sL, zK_fI, zA_fI, zL_fI, zK_fL, zA_fL, zI_fL, Nat.reduceAdd, Nat.reduceLeDiff, forall_eq', zl_lt, zl_gt, zl_eq, zl_le, zl_ge, zm_0, zaft_n, zaft_v, zb_eq, Decidable.not_not, H.K]
    rw [hni, zn_b (x := (i : Int)) (by omega) (by omega), show zn 4 = 4 by decide]
    refine ⟨fun z => by omega, fun _ => ?_⟩
    refine zc_w (m_isInside H 0 i s.1 n 0 (by omega) i1 i4 hF.2.1 hN hF.1.2.2.1 hn1 (by omega) (by omega)) ?_
    simp only [r251_0, r251_1, r251_4, r251_5, r251_6, r251_9, r251_10, r251_11, r251_13, r251_14, r251_17, r251_18, r251_19, r251_20, r251_21, r251_22, r251_23, r251_26, r251_29, r251_30, r251_32, r251_35, r251_36, r251_39, r251_42, r251_43, r251_46, r251_47, r251_49, r251_50, r251_53, r251_54, r251_55, r251_56, r251_57, r251_58, r251_61, r251_64, r251_67, r251_68, r251_69, r251_72, znl_i, znl_r, znl_j, znl_l, List.length_cons, List.length_nil, Option.some.injEq, Sum.inl.injEq, Sum.inr.injEq, Prod.mk.injEq, true_and, and_true, exists_eq_left', zK_sI, zA_sI, zL_sI, zK_sL, zA_sL, zI_sL, zK_fI, zA_fI, zL_fI, zK_fL, zA_fL, zI_fL, Nat.reduceAdd, Nat.reduceLeDiff, forall_eq', zl_lt, zl_gt, zl_eq, zl_le, zl_ge, zm_0, zaft_n, zaft_v, zb_eq, Decidable.not_not, H.K]
    refine ⟨fun q => hgood (decide_eq_true q), fun q => ?_⟩
    refine zc_w (m_is H 6 (by omega) (by omega)) ?_
    simp only [r251_0, r251_1, r251_4, r251_5, r251_6, r251_9, r251_10, r251_11, r251_13, r251_14, r251_17, r251_18, r251_19, r251_20, r251_21, r251_22, r251_23, r251_26, r251_29, r251_30, r251_32, r251_35, r251_36, r251_39, r251_42, r251_43, r251_46, r251_47, r251_49, r251_50, r251_53, r251_54, r251_55, r251_56, r251_57, r251_58, r251_61, r251_64, r251_67, r251_68, r251_69, r251_72, znl_i, znl_r, znl_j, znl_l, List.length_cons, List.length_nil, Option.some.injEq, Sum.inl.injEq, Sum.inr.injEq, Prod.mk.injEq, true_and, and_true, exists_eq_left', zK_sI, zA_sI, zL_sI, zK_sL, zA_sL, zI_sL, zK_fI, zA_fI, zL_fI, zK_fL, zA_fL, zI_fL, Nat.reduceAdd, Nat.reduceLeDiff, forall_eq', zl_lt, zl_gt, zl_eq, zl_le, zl_ge, zm_0, zaft_n, zaft_v, zb_eq, Decidable.not_not, H.K]
    rw [hbad (decide_eq_false q)]
    exact ⟨by decide, by decide, mQ_ref B 6 0⟩
  have bad : ∀ b : Prop, (yinA s.1 1 n 0 = true ∧ yinA s.1 2 n 0 = true ∧ yinA s.1 3 n 0 = true → False) → s_stretch s n = (yst 6 s, 0) := fun _ z => by rw [hs0, if_pos z]
  refine step 1 (by omega) (by omega) (fun z => bad True (fun w => by rw [w.1] at z; cases z)) (fun h1 => ?_)
  refine step 2 (by omega) (by omega) (fun z => bad True (fun w => by rw [w.2.1] at z; cases z)) (fun h2 => ?_)
  refine step 3 (by omega) (by omega) (fun z => bad True (fun w => by rw [w.2.2] at z; cases z)) (fun h3 => ?_)
  rw [hs0, if_neg (fun z => z ⟨h1, h2, h3⟩), r251_12]
  simp only [r251_0, r251_1, r251_4, r251_5, r251_6, r251_9, r251_10, r251_11, r251_13, r251_14, r251_17, r251_18, r251_19, r251_20, r251_21, r251_22, r251_23, r251_26, r251_29, r251_30, r251_32, r251_35, r251_36, r251_39, r251_42, r251_43, r251_46, r251_47, r251_49, r251_50, r251_53, r251_54, r251_55, r251_56, r251_57, r251_58, r251_61, r251_64, r251_67, r251_68, r251_69, r251_72, znl_i, znl_r, znl_j, znl_l, List.length_cons, List.length_nil, Option.some.injEq, Sum.inl.injEq, Sum.inr.injEq, Prod.mk.injEq, true_and, and_true, exists_eq_left', zK_sI, zA_sI, zL_sI, zK_sL, zA_sL, zI_sL, zK_fI, zA_fI, zL_fI, zK_fL, zA_fL, zI_fL, Nat.reduceAdd, Nat.reduceLeDiff, forall_eq', zl_lt, zl_gt, zl_eq, zl_le, zl_ge, zm_0, zaft_n, zaft_v, zb_eq, Decidable.not_not, H.K]
  simp (disch := omega) only [zn_b, zm_b, Int.toNat_natCast]
  refine ⟨fun _ => ?_, fun z => by omega⟩
  refine zc_mono (m_done B) ?_
  rintro _ _ ⟨rfl, A, f, rfl, hA, f1, f17, f18, f19, fo, ho⟩
  simp only [r251_0, r251_1, r251_4, r251_5, r251_6, r251_9, r251_10, r251_11, r251_13, r251_14, r251_17, r251_18, r251_19, r251_20, r251_21, r251_22, r251_23, r251_26, r251_29, r251_30, r251_32, r251_35, r251_36, r251_39, r251_42, r251_43, r251_46, r251_47, r251_49, r251_50, r251_53, r251_54, r251_55, r251_56, r251_57, r251_58, r251_61, r251_64, r251_67, r251_68, r251_69, r251_72, znl_i, znl_r, znl_j, znl_l, List.length_cons, List.length_nil, Option.some.injEq, Sum.inl.injEq, Sum.inr.injEq, Prod.mk.injEq, true_and, and_true, exists_eq_left', zK_sI, zA_sI, zL_sI, zK_sL, zA_sL, zI_sL, zK_fI, zA_fI, zL_fI, zK_fL, zA_fL, zI_fL, Nat.reduceAdd, Nat.reduceLeDiff, forall_eq', zl_lt, zl_gt, zl_eq, zl_le, zl_ge, zm_0, zaft_n, zaft_v, zb_eq, Decidable.not_not, H.K]
  have chg : ∀ (i : Nat) (A9 : Nat → Int) (P : zEt), 1 ≤ i → i < 4 → A9 0 = (s.1.1 : Int) → zg e 251 (d + 2) 48 [zr (some a), zi n, zi ((i + 1 : Nat) : Int)] [] (zfI (zfI h a f) (a + 1) (ychg A9 0 i s.1.1 n 0)) P → zg e 251 (d + 2) 48 [zr (some a), zi n, zi i] [] (zfI (zfI h a f) (a + 1) A9) P := by
    intro i A9 P i1 i4 h9 nx
    rw [r251_48]
    simp only [r251_0, r251_1, r251_4, r251_5, r251_6, r251_9, r251_10, r251_11, r251_13, r251_14, r251_17, r251_18, r251_19, r251_20, r251_21, r251_22, r251_23, r251_26, r251_29, r251_30, r251_32, r251_35, r251_36, r251_39, r251_42, r251_43, r251_46, r251_47, r251_49, r251_50, r251_53, r251_54, r251_55, r251_56, r251_57, r251_58, r251_61, r251_64, r251_67, r251_68, r251_69, r251_72, znl_i, znl_r, znl_j, znl_l, List.length_cons, List.length_nil, Option.some.injEq, Sum.inl.injEq, Sum.inr.injEq, Prod.mk.injEq, true_and, and_true, exists_eq_left', zK_sI, zA_sI, zL_sI, zK_sL, zA_sL, zI_sL, zK_fI, zA_fI, zL_fI, zK_fL, zA_fL, zI_fL, Nat.reduceAdd, Nat.reduceLeDiff, forall_eq', zl_lt, zl_gt, zl_eq, zl_le, zl_ge, zm_0, zaft_n, zaft_v, zb_eq, Decidable.not_not, H.K]
    rw [zn_b (x := (i : Int)) (by omega) (by omega), show zn 4 = 4 by decide]
    refine ⟨fun z => by omega, fun _ => ?_⟩
    refine zc_w (m_changes (h := zfI (zfI h a f) (a + 1) A9) H 0 i s.1.1 n 0 (by omega) i1 i4 (by rw [zI_fI_s]; exact h9) hN) ?_
    simp only [r251_0, r251_1, r251_4, r251_5, r251_6, r251_9, r251_10, r251_11, r251_13, r251_14, r251_17, r251_18, r251_19, r251_20, r251_21, r251_22, r251_23, r251_26, r251_29, r251_30, r251_32, r251_35, r251_36, r251_39, r251_42, r251_43, r251_46, r251_47, r251_49, r251_50, r251_53, r251_54, r251_55, r251_56, r251_57, r251_58, r251_61, r251_64, r251_67, r251_68, r251_69, r251_72, znl_i, znl_r, znl_j, znl_l, List.length_cons, List.length_nil, Option.some.injEq, Sum.inl.injEq, Sum.inr.injEq, Prod.mk.injEq, true_and, and_true, exists_eq_left', zK_sI, zA_sI, zL_sI, zK_sL, zA_sL, zI_sL, zK_fI, zA_fI, zL_fI, zK_fL, zA_fL, zI_fL, Nat.reduceAdd, Nat.reduceLeDiff, forall_eq', zl_lt, zl_gt, zl_eq, zl_le, zl_ge, zm_0, zaft_n, zaft_v, zb_eq, Decidable.not_not, H.K]
    rw [zfI_fI, zI_fI_s]
    exact nx
  have m1 := mF_chF (t := n) (c := 0) (show 1 ≤ 1 by omega) (by omega) hA.2.1
  have m2 := mF_chF (t := n) (c := 0) (show 1 ≤ 2 by omega) (by omega) m1
  have m3 := mF_chF (t := n) (c := 0) (show 1 ≤ 3 by omega) (by omega) m2
  refine chg 1 A _ (by omega) (by omega) hA.2.1.1 (chg 2 _ _ (by omega) (by omega) m1.1 (chg 3 _ _ (by omega) (by omega) m2.1 ?_))
  rw [r251_48]
  simp only [r251_0, r251_1, r251_4, r251_5, r251_6, r251_9, r251_10, r251_11, r251_13, r251_14, r251_17, r251_18, r251_19, r251_20, r251_21, r251_22, r251_23, r251_26, r251_29, r251_30, r251_32, r251_35, r251_36, r251_39, r251_42, r251_43, r251_46, r251_47, r251_49, r251_50, r251_53, r251_54, r251_55, r251_56, r251_57, r251_58, r251_61, r251_64, r251_67, r251_68, r251_69, r251_72, znl_i, znl_r, znl_j, znl_l, List.length_cons, List.length_nil, Option.some.injEq, Sum.inl.injEq, Sum.inr.injEq, Prod.mk.injEq, true_and, and_true, exists_eq_left', zK_sI, zA_sI, zL_sI, zK_sL, zA_sL, zI_sL, zK_fI, zA_fI, zL_fI, zK_fL, zA_fL, zI_fL, Nat.reduceAdd, Nat.reduceLeDiff, forall_eq', zl_lt, zl_gt, zl_eq, zl_le, zl_ge, zm_0, zaft_n, zaft_v, zb_eq, Decidable.not_not, H.K]
  simp (disch := omega) only [zn_b, zm_b, Int.toNat_natCast]
  refine ⟨fun _ => ?_, fun z => by omega⟩
  refine zc_w (m_is (h := zfI (zfI h a f) (a + 1) _) H 0 (by omega) (by omega)) ?_
  simp only [r251_0, r251_1, r251_4, r251_5, r251_6, r251_9, r251_10, r251_11, r251_13, r251_14, r251_17, r251_18, r251_19, r251_20, r251_21, r251_22, r251_23, r251_26, r251_29, r251_30, r251_32, r251_35, r251_36, r251_39, r251_42, r251_43, r251_46, r251_47, r251_49, r251_50, r251_53, r251_54, r251_55, r251_56, r251_57, r251_58, r251_61, r251_64, r251_67, r251_68, r251_69, r251_72, znl_i, znl_r, znl_j, znl_l, List.length_cons, List.length_nil, Option.some.injEq, Sum.inl.injEq, Sum.inr.injEq, Prod.mk.injEq, true_and, and_true, exists_eq_left', zK_sI, zA_sI, zL_sI, zK_sL, zA_sL, zI_sL, zK_fI, zA_fI, zL_fI, zK_fL, zA_fL, zI_fL, Nat.reduceAdd, Nat.reduceLeDiff, forall_eq', zl_lt, zl_gt, zl_eq, zl_le, zl_ge, zm_0, zaft_n, zaft_v, zb_eq, Decidable.not_not, H.K]
  refine ⟨by decide, by decide, ?_⟩
  exact mQ_deed B (mFr_cur hA (fun j hj => by simp only [ychg]; rw [if_neg (by omega), if_neg (by omega), if_neg (by omega)]) (yW_ch3 hF.1 q0 h1 h2 h3) m3) f1 f17 f18 f19 fo
end
