/-! ===== cells: rounds of a partition ===== -/
abbrev yP : Type := Nat → Nat → Bool
def yfarq (F : yF) (S : yP) (k z : Nat) (v : Int) (w : Nat) : Bool := S z w && decide (ydist F k w = v)
def ylike (F : yF) (S : yP) (k o z : Nat) : Bool := decide (ycnt (yfarq F S k z (ydist F k z)) F.1 = ycnt (yfarq F S o z (ydist F k z)) F.1)
def yref (F : yF) (S : yP) : yP := fun k o => S k o && decide (yfind (fun z => !ylike F S k o z) F.1 0 = -1)
def yit (F : yF) : Nat → yP
  | 0 => fun k o => decide (F.2 k 0 = F.2 o 0)
  | t + 1 => yref F (yit F t)
/-- two atoms are of one cell -/
def yC (F : yF) (k o : Nat) : Prop := ∀ t, yit F t k o = true
/-- nothing is parted any more -/
def yfix (F : yF) (S : yP) : Prop := ∀ k o, k < F.1 → o < F.1 → yref F S k o = S k o
theorem ycnt_congr {p q : Nat → Bool} {n : Nat} (h : ∀ k, k < n → p k = q k) : ycnt p n = ycnt q n := by
  induction n with
  | zero => rfl
  | succ n ih => rw [ycnt_s, ycnt_s, ih (fun k hk => h k (by omega)), h n (by omega)]
theorem yfind_congr {p q : Nat → Bool} {j k : Nat} (h : ∀ i, k ≤ i → i < k + j → p i = q i) : yfind p j k = yfind q j k := by
  induction j generalizing k with
  | zero => rfl
  | succ j ih => simp only [yfind]; rw [h k (Nat.le_refl _) (by omega), ih (fun i h1 h2 => h i (by omega) (by omega))]
theorem yref_congr {F : yF} {S T : yP} (h : ∀ k o, k < F.1 → o < F.1 → S k o = T k o) (k o : Nat) (hk : k < F.1) (ho : o < F.1) : yref F S k o = yref F T k o := by
  have hl : ∀ z, z < F.1 → ylike F S k o z = ylike F T k o z := fun z hz => by
    simp only [ylike]
    rw [ycnt_congr (q := yfarq F T k z (ydist F k z)) (fun w hw => by simp only [yfarq]; rw [h z w hz hw]), ycnt_congr (p := yfarq F S o z (ydist F k z)) (q := yfarq F T o z (ydist F k z)) (fun w hw => by simp only [yfarq]; rw [h z w hz hw])]
  simp only [yref]
  rw [h k o hk ho, yfind_congr (q := fun z => !ylike F T k o z) (fun z _ hz => by rw [hl z (by omega)])]
theorem yit_le {F : yF} {k o : Nat} (t s : Nat) (h : yit F (t + s) k o = true) : yit F t k o = true := by
  induction s with
  | zero => exact h
  | succ s ih =>
    apply ih
    have h2 : yref F (yit F (t + s)) k o = true := h
    simp only [yref, Bool.and_eq_true] at h2
    exact h2.1
theorem yit_fix {F : yF} {t : Nat} (h : yfix F (yit F t)) (s : Nat) : ∀ k o, k < F.1 → o < F.1 → yit F (t + s) k o = yit F t k o := by
  induction s with
  | zero => intros; rfl
  | succ s ih =>
    intro k o hk ho
    show yref F (yit F (t + s)) k o = _
    rw [yref_congr ih k o hk ho]
    exact h k o hk ho
theorem yC_iff {F : yF} {t : Nat} (h : yfix F (yit F t)) {k o : Nat} (hk : k < F.1) (ho : o < F.1) : yit F t k o = true ↔ yC F k o := by
  constructor
  · intro q s
    by_cases hs : s ≤ t
    · obtain ⟨r, rfl⟩ := Nat.le.dest hs
      exact yit_le s r q
    · obtain ⟨r, rfl⟩ := Nat.le.dest (show t ≤ s by omega)
      rw [yit_fix h r k o hk ho]; exact q
  · intro q; exact q t
/-- how many pairs are of one cell -/
def ymeas (n : Nat) (S : yP) : Int := ysum (fun k => ycnt (S k) n) n
theorem ycnt_le {p q : Nat → Bool} {n : Nat} (h : ∀ k, k < n → p k = true → q k = true) : ycnt p n ≤ ycnt q n := by
  induction n with
  | zero => exact Int.le_refl _
  | succ n ih =>
    rw [ycnt_s, ycnt_s]
    have h1 := ih (fun k hk => h k (by omega))
    cases hp : p n with
    | true => rw [h n (by omega) hp]; omega
    | false => cases q n <;> simp <;> omega
theorem ycnt_lt {p q : Nat → Bool} {n i : Nat} (h : ∀ k, k < n → p k = true → q k = true) (hi : i < n) (h1 : p i = false) (h2 : q i = true) : ycnt p n < ycnt q n := by
  induction n with
  | zero => omega
  | succ n ih =>
    rw [ycnt_s, ycnt_s]
    by_cases hin : i = n
    · subst hin
      have := ycnt_le (fun k (hk : k < i) => h k (by omega))
      rw [h1, h2]; simp; omega
    · have := ih (fun k hk => h k (by omega)) (by omega)
      cases hp : p n with
      | true => rw [h n (by omega) hp]; omega
      | false => cases q n <;> simp <;> omega
theorem ysum_le {f g : Nat → Int} {n : Nat} (h : ∀ k, k < n → f k ≤ g k) : ysum f n ≤ ysum g n := by
  induction n with
  | zero => exact Int.le_refl _
  | succ n ih =>
    have h1 := ih (fun k hk => h k (by omega))
    have h2 := h n (by omega)
    simp only [ysum]; omega
theorem ysum_lt {f g : Nat → Int} {n i : Nat} (h : ∀ k, k < n → f k ≤ g k) (hi : i < n) (h1 : f i < g i) : ysum f n < ysum g n := by
  induction n with
  | zero => omega
  | succ n ih =>
    simp only [ysum]
    by_cases hin : i = n
    · subst hin
      have := ysum_le (fun k (hk : k < i) => h k (by omega))
      omega
    · have := ih (fun k hk => h k (by omega)) (by omega)
      have := h n (by omega)
      omega
theorem ymeas_lt {F : yF} {S : yP} (h : ¬ yfix F S) : ymeas F.1 (yref F S) < ymeas F.1 S := by
  have hle : ∀ k o, yref F S k o = true → S k o = true := fun k o q => by
    simp only [yref, Bool.and_eq_true] at q; exact q.1
  have : ∃ k o, k < F.1 ∧ o < F.1 ∧ yref F S k o = false ∧ S k o = true := by
    apply Classical.byContradiction
    intro hn
    apply h
    intro k o hk ho
    cases h1 : yref F S k o with
    | true => exact (hle k o h1).symm
    | false =>
      cases h2 : S k o with
      | true => exact absurd ⟨k, o, hk, ho, h1, h2⟩ hn
      | false => rfl
  obtain ⟨k, o, hk, ho, h1, h2⟩ := this
  exact ysum_lt (fun k _ => ycnt_le (fun o _ => hle k o)) hk (ycnt_lt (fun o _ => hle k o) ho h1 h2)
theorem ymeas_nn (n : Nat) (S : yP) : 0 ≤ ymeas n S := by
  have : ysum (fun _ => 0) n ≤ ymeas n S := ysum_le (fun k _ => (ycnt_bd (S k) n).1)
  have h0 : ysum (fun _ => (0 : Int)) n = 0 := by
    clear this
    induction n with
    | zero => rfl
    | succ n ih => simp [ysum, ih]
  omega
/-- a partition in an array of the reference -/
def yb : Bool → Int
  | true => 1
  | false => 0
def mP (n : Nat) (B : Nat → Int) (S : yP) : Prop := ∀ k o, k < n → o < n → B (12 * k + o) = yb (S k o)
section
variable {e : zEv} {a d : Nat} {h : zH}
theorem ydist_bd {F : yF} (hp : yplaced F) {k o : Nat} (hk : k < F.1) (ho : o < F.1) : 0 ≤ ydist F k o ∧ ydist F k o ≤ 30000 := by
  have h1 := ysub_bd hp hk ho (show 0 < 3 by omega)
  have h2 := ysub_bd hp hk ho (show 1 < 3 by omega)
  have h3 := ysub_bd hp hk ho (show 2 < 3 by omega)
  simp only [ysub] at h1 h2 h3
  have sq : ∀ x : Int, -100 ≤ x → x ≤ 100 → 0 ≤ x * x ∧ x * x ≤ 10000 := fun x q1 q2 => by
    have := ymul_b (x := x) (y := x) (A := 100) (B := 100) ⟨q1, q2⟩ ⟨q1, q2⟩
    refine ⟨?_, by omega⟩
    by_cases hx : 0 ≤ x
    · exact Int.mul_nonneg hx hx
    · have := Int.mul_nonneg (show 0 ≤ -x by omega) (show 0 ≤ -x by omega)
      rw [Int.neg_mul_neg] at this; exact this
  have s1 := sq _ h1.1 h1.2
  have s2 := sq _ h2.1 h2.2
  have s3 := sq _ h3.1 h3.2
  simp only [ydist]
  simp only [Nat.reduceAdd] at s1 s2 s3
  omega
theorem m_atFar (H : zmo e a h) (F : yF) (S : yP) (k z : Nat) (v : Int) (hF : mF (zI h (a + 1)) 0 F) (hn : F.1 ≤ 12) (hp : yplaced F) (hS : mP F.1 (zI h (a + 9)) S) (hk : k < F.1) (hz : z < F.1) (hv : 0 ≤ v ∧ v ≤ 30000) : zc e (d + 3) 264 [zr (some a), zi k, zi z, zi v] h (fun ov h' => ov = Sum.inl (some (zi (ycnt (yfarq F S k z v) F.1))) ∧ h' = h) := by
  have e0 : zn 0 = 0 := by decide
  have a0 : zI h (a + 1) 0 = (F.1 : Int) := hF.1
  have loop : ∀ (j w : Nat), w + j = F.1 → zg e 264 (d + 2) 6 [zr (some a), zi k, zi z, zi v, zi (ycnt (yfarq F S k z v) w), zi w] [] h (fun ov h' => ov = Sum.inl (some (zi (ycnt (yfarq F S k z v) F.1))) ∧ h' = h) := by
    intro j
    induction j with
    | zero =>
      intro w hw
      obtain rfl : w = F.1 := by omega
      rw [r264_6]
      simp only [r264_0, r264_1, r264_3, r264_4, r264_8, r264_9, r264_12, r264_13, r264_14, r264_17, r264_19, r264_20, r264_23, r264_25, r264_26, r264_27, r264_29, r264_30, r264_31, r264_34, r264_35, r264_36, r264_38, r264_41, r264_42, r264_45, r264_46, r264_49, r264_50, r264_51, r264_53, r264_56, r264_59, r264_61, znl_i, znl_r, znl_j, znl_l, List.length_cons, List.length_nil, Option.some.injEq, Sum.inl.injEq, Sum.inr.injEq, Prod.mk.injEq, true_and, and_true, exists_eq_left', zK_sI, zA_sI, zL_sI, zK_sL, zA_sL, zI_sL, zK_fI, zA_fI, zL_fI, zK_fL, zA_fL, zI_fL, Nat.reduceAdd, Nat.reduceLeDiff, forall_eq', zl_lt, zl_gt, zl_eq, zl_le, zl_ge, zm_0, zaft_n, zaft_v, zb_eq, Decidable.not_not, H.K, H.A0, H.K1, H.A26, H.K9]
      simp only [e0, Int.toNat_zero, a0]
      simp (disch := omega) only [zn_b, zm_b, Int.toNat_natCast]
      exact ⟨by omega, by omega, fun _ => trivial, fun z => by omega⟩
    | succ j ih =>
      intro w hw
      have nx := ih (w + 1) (by omega)
      rw [ycnt_s] at nx
      have hb := hS z w hz (by omega)
      rw [r264_6]
      simp only [r264_0, r264_1, r264_3, r264_4, r264_8, r264_9, r264_12, r264_13, r264_14, r264_17, r264_19, r264_20, r264_23, r264_25, r264_26, r264_27, r264_29, r264_30, r264_31, r264_34, r264_35, r264_36, r264_38, r264_41, r264_42, r264_45, r264_46, r264_49, r264_51, r264_53, r264_56, r264_59, r264_61, znl_i, znl_r, znl_j, znl_l, List.length_cons, List.length_nil, Option.some.injEq, Sum.inl.injEq, Sum.inr.injEq, Prod.mk.injEq, true_and, and_true, exists_eq_left', zK_sI, zA_sI, zL_sI, zK_sL, zA_sL, zI_sL, zK_fI, zA_fI, zL_fI, zK_fL, zA_fL, zI_fL, Nat.reduceAdd, Nat.reduceLeDiff, forall_eq', zl_lt, zl_gt, zl_eq, zl_le, zl_ge, zm_0, zaft_n, zaft_v, zb_eq, Decidable.not_not, H.K, H.A0, H.K1, H.A26, H.K9]
      simp only [e0, Int.toNat_zero, a0]
      have yb01 : 0 ≤ yb (S z w) ∧ yb (S z w) ≤ 1 := by cases S z w <;> decide
      simp (disch := omega) only [zn_b, show ((12 : Int) * z + w).toNat = 12 * z + w by omega, hb]
      refine ⟨by omega, by omega, fun q => by omega, fun _ => ⟨by omega, by omega, ?_⟩⟩
      cases hs : S z w with
      | false =>
        have hq : yfarq F S k z v w = false := by simp [yfarq, hs]
        rw [hq] at nx
        refine ⟨fun _ => ?_, fun q => absurd rfl q⟩
        simp only [r264_0, r264_1, r264_3, r264_4, r264_8, r264_9, r264_12, r264_13, r264_14, r264_17, r264_19, r264_20, r264_23, r264_25, r264_26, r264_27, r264_29, r264_30, r264_31, r264_34, r264_35, r264_36, r264_38, r264_41, r264_42, r264_45, r264_46, r264_49, r264_50, r264_51, r264_53, r264_56, r264_59, r264_61, znl_i, znl_r, znl_j, znl_l, List.length_cons, List.length_nil, Option.some.injEq, Sum.inl.injEq, Sum.inr.injEq, Prod.mk.injEq, true_and, and_true, exists_eq_left', zK_sI, zA_sI, zL_sI, zK_sL, zA_sL, zI_sL, zK_fI, zA_fI, zL_fI, zK_fL, zA_fL, zI_fL, Nat.reduceAdd, Nat.reduceLeDiff, forall_eq', zl_lt, zl_gt, zl_eq, zl_le, zl_ge, zm_0, zaft_n, zaft_v, zb_eq, Decidable.not_not, H.K, H.A0, H.K1, H.A26, H.K9]
        exact nx
      | true =>
        refine ⟨fun q => absurd q (by decide), fun _ => ?_⟩
        refine zc_w (m_farOf H F k w hF hn hk (by omega)) ?_
        have db := ydist_bd hp hk (show w < F.1 by omega)
        simp only [r264_0, r264_1, r264_3, r264_4, r264_8, r264_9, r264_12, r264_13, r264_14, r264_17, r264_19, r264_20, r264_23, r264_25, r264_26, r264_27, r264_29, r264_30, r264_31, r264_34, r264_35, r264_36, r264_38, r264_41, r264_42, r264_45, r264_46, r264_49, r264_51, r264_53, r264_56, r264_59, r264_61, znl_i, znl_r, znl_j, znl_l, List.length_cons, List.length_nil, Option.some.injEq, Sum.inl.injEq, Sum.inr.injEq, Prod.mk.injEq, true_and, and_true, exists_eq_left', zK_sI, zA_sI, zL_sI, zK_sL, zA_sL, zI_sL, zK_fI, zA_fI, zL_fI, zK_fL, zA_fL, zI_fL, Nat.reduceAdd, Nat.reduceLeDiff, forall_eq', zl_lt, zl_gt, zl_eq, zl_le, zl_ge, zm_0, zaft_n, zaft_v, zb_eq, Decidable.not_not, H.K, H.A0, H.K1, H.A26, H.K9]
        rw [zn_b (x := ydist F k w) (by omega) (by omega), zn_b (x := v) (by omega) (by omega)]
        refine ⟨fun q2 => ?_, fun q2 => ?_⟩
        · have hq : yfarq F S k z v w = false := by simp [yfarq, q2]
          rw [hq] at nx
          simp only [r264_0, r264_1, r264_3, r264_4, r264_8, r264_9, r264_12, r264_13, r264_14, r264_17, r264_19, r264_20, r264_23, r264_25, r264_26, r264_27, r264_29, r264_30, r264_31, r264_34, r264_35, r264_36, r264_38, r264_41, r264_42, r264_45, r264_46, r264_49, r264_50, r264_51, r264_53, r264_56, r264_59, r264_61, znl_i, znl_r, znl_j, znl_l, List.length_cons, List.length_nil, Option.some.injEq, Sum.inl.injEq, Sum.inr.injEq, Prod.mk.injEq, true_and, and_true, exists_eq_left', zK_sI, zA_sI, zL_sI, zK_sL, zA_sL, zI_sL, zK_fI, zA_fI, zL_fI, zK_fL, zA_fL, zI_fL, Nat.reduceAdd, Nat.reduceLeDiff, forall_eq', zl_lt, zl_gt, zl_eq, zl_le, zl_ge, zm_0, zaft_n, zaft_v, zb_eq, Decidable.not_not, H.K, H.A0, H.K1, H.A26, H.K9]
          exact nx
        · have hq : yfarq F S k z v w = true := by simp [yfarq, q2, hs]
          rw [hq] at nx
          simp only [r264_0, r264_1, r264_3, r264_4, r264_8, r264_9, r264_12, r264_13, r264_14, r264_17, r264_19, r264_20, r264_23, r264_25, r264_26, r264_27, r264_29, r264_30, r264_31, r264_34, r264_35, r264_36, r264_38, r264_41, r264_42, r264_45, r264_46, r264_49, r264_50, r264_51, r264_53, r264_56, r264_59, r264_61, znl_i, znl_r, znl_j, znl_l, List.length_cons, List.length_nil, Option.some.injEq, Sum.inl.injEq, Sum.inr.injEq, Prod.mk.injEq, true_and, and_true, exists_eq_left', zK_sI, zA_sI, zL_sI, zK_sL, zA_sL, zI_sL, zK_fI, zA_fI, zL_fI, zK_fL, zA_fL, zI_fL, Nat.reduceAdd, Nat.reduceLeDiff, forall_eq', zl_lt, zl_gt, zl_eq, zl_le, zl_ge, zm_0, zaft_n, zaft_v, zb_eq, Decidable.not_not, H.K, H.A0, H.K1, H.A26, H.K9]
          exact nx
  simp only [n264, r264_0, r264_1, r264_3, r264_4, r264_8, r264_9, r264_12, r264_13, r264_14, r264_17, r264_19, r264_20, r264_23, r264_25, r264_26, r264_27, r264_29, r264_30, r264_31, r264_34, r264_35, r264_36, r264_38, r264_41, r264_42, r264_45, r264_46, r264_49, r264_50, r264_51, r264_53, r264_56, r264_59, r264_61, znl_i, znl_r, znl_j, znl_l, List.length_cons, List.length_nil, Option.some.injEq, Sum.inl.injEq, Sum.inr.injEq, Prod.mk.injEq, true_and, and_true, exists_eq_left', zK_sI, zA_sI, zL_sI, zK_sL, zA_sL, zI_sL, zK_fI, zA_fI, zL_fI, zK_fL, zA_fL, zI_fL, Nat.reduceAdd, Nat.reduceLeDiff, forall_eq', zl_lt, zl_gt, zl_eq, zl_le, zl_ge, zm_0, zaft_n, zaft_v, zb_eq, Decidable.not_not]
  exact loop F.1 0 (by omega)
end
