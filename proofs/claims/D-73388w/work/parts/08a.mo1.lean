/-! ===== loops in numbers: the first, how many, the sum ===== -/
def yfind (q : Nat → Bool) : Nat → Nat → Int
  | 0, _ => -1
  | j + 1, k => if q k then (k : Int) else yfind q j (k + 1)
def ycnt (q : Nat → Bool) : Nat → Int
  | 0 => 0
  | n + 1 => ycnt q n + (if q n then 1 else 0)
def ysum (f : Nat → Int) : Nat → Int
  | 0 => 0
  | n + 1 => ysum f n + f n
theorem ycnt_bd (q : Nat → Bool) (n : Nat) : 0 ≤ ycnt q n ∧ ycnt q n ≤ n := by
  induction n with
  | zero => simp [ycnt]
  | succ n ih =>
    simp only [ycnt]
    split <;> omega
theorem yfind_bd (q : Nat → Bool) (j k : Nat) : -1 ≤ yfind q j k ∧ yfind q j k < (j + k : Nat) := by
  induction j generalizing k with
  | zero => simp only [yfind]; omega
  | succ j ih =>
    simp only [yfind]
    have := ih (k + 1)
    split <;> omega
theorem yfind_none {q : Nat → Bool} {j k : Nat} : yfind q j k = -1 ↔ ∀ i, k ≤ i → i < k + j → q i = false := by
  induction j generalizing k with
  | zero => simp only [yfind, true_iff]; intro i h1 h2; omega
  | succ j ih =>
    simp only [yfind]
    by_cases hq : q k = true
    · rw [if_pos hq]
      constructor
      · intro h; omega
      · intro h; rw [h k (Nat.le_refl _) (by omega)] at hq; cases hq
    · rw [if_neg hq, ih]
      constructor
      · intro h i h1 h2
        by_cases hik : i = k
        · subst hik; simpa using hq
        · exact h i (by omega) (by omega)
      · intro h i h1 h2
        exact h i (by omega) (by omega)
theorem yfind_some {q : Nat → Bool} {j k r : Nat} : yfind q j k = (r : Int) ↔ (k ≤ r ∧ r < k + j ∧ q r = true ∧ ∀ i, k ≤ i → i < r → q i = false) := by
  induction j generalizing k with
  | zero =>
    simp only [yfind]
    constructor
    · intro h; omega
    · intro h; omega
  | succ j ih =>
    simp only [yfind]
    by_cases hq : q k = true
    · rw [if_pos hq]
      constructor
      · intro h
        have : k = r := by omega
        subst this
        exact ⟨Nat.le_refl _, by omega, hq, fun i h1 h2 => by omega⟩
      · intro ⟨h1, h2, h3, h4⟩
        by_cases hr : r = k
        · rw [hr]
        · rw [h4 k (Nat.le_refl _) (by omega)] at hq; cases hq
    · rw [if_neg hq, ih]
      constructor
      · intro ⟨h1, h2, h3, h4⟩
        refine ⟨by omega, by omega, h3, fun i g1 g2 => ?_⟩
        by_cases hik : i = k
        · subst hik; simpa using hq
        · exact h4 i (by omega) g2
      · intro ⟨h1, h2, h3, h4⟩
        have hr : r ≠ k := fun z => hq (by rw [← z]; exact h3)
        exact ⟨by omega, by omega, h3, fun i g1 g2 => h4 i (by omega) g2⟩
/-! ===== frames ===== -/
/-- how many atoms; of each its kind (0), x, y, z -/
abbrev yF : Type := Nat × (Nat → Nat → Int)
def yat (k x y z : Int) : Nat → Int
  | 0 => k
  | 1 => x
  | 2 => y
  | _ => z
def yset (k : Nat) (q : Nat → Int) (p : Nat → Nat → Int) : Nat → Nat → Int := fun j => if j = k then q else p j
def ydrp (k : Nat) (p : Nat → Nat → Int) : Nat → Nat → Int := fun j => if j < k then p j else p (j + 1)
def yW (F : yF) : Prop := F.1 ≤ 12 ∧ (∀ k, k < F.1 → 1 ≤ F.2 k 0 ∧ F.2 k 0 ≤ 9) ∧ (∀ k, k < F.1 → ∀ i, 1 ≤ i → i < 4 → -50 ≤ F.2 k i ∧ F.2 k i ≤ 50) ∧ (∀ j k, j < F.1 → k < F.1 → F.2 j 1 = F.2 k 1 → F.2 j 2 = F.2 k 2 → F.2 j 3 = F.2 k 3 → j = k)
def yplc (F : yF) (x y z : Int) (k : Nat) : Bool := decide (F.2 k 1 = x ∧ F.2 k 2 = y ∧ F.2 k 3 = z)
/-- the atom at a place, -1: none -/
def yatom (F : yF) (x y z : Int) : Int := yfind (yplc F x y z) F.1 0
/-- a frame in the reference's array -/
def mF (A : Nat → Int) (s : Nat) (F : yF) : Prop := A s = (F.1 : Int) ∧ ∀ k, k < F.1 → ∀ i, i < 4 → A (s + 4 + 4 * k + i) = F.2 k i
section
variable {e : zEv} {a d : Nat} {h : zH}
theorem m_status (H : zmo e a h) : zc e (d + 1) 203 [zr (some a)] h (fun o h' => o = Sum.inl (some (zi (zI h a 2))) ∧ h' = h) := by
  simp only [n203, r203_0, r203_1, r203_4, znl_i, znl_r, znl_j, znl_l, List.length_cons, List.length_nil, Option.some.injEq, Sum.inl.injEq, Sum.inr.injEq, Prod.mk.injEq, true_and, and_true, exists_eq_left', zK_sI, zA_sI, zL_sI, zK_sL, zA_sL, zI_sL, zK_fI, zA_fI, zL_fI, zK_fL, zA_fL, zI_fL, Nat.reduceAdd, Nat.reduceLeDiff, forall_eq', zl_lt, zl_gt, zl_eq, zl_le, zl_ge, zm_0, zaft_n, zaft_v, zb_eq, Decidable.not_not, H.K]
theorem m_top (H : zmo e a h) : zc e (d + 1) 204 [zr (some a)] h (fun o h' => o = Sum.inl (some (zl (zL h a 3))) ∧ h' = h) := by
  simp only [n204, r204_0, r204_1, r204_4, znl_i, znl_r, znl_j, znl_l, List.length_cons, List.length_nil, Option.some.injEq, Sum.inl.injEq, Sum.inr.injEq, Prod.mk.injEq, true_and, and_true, exists_eq_left', zK_sI, zA_sI, zL_sI, zK_sL, zA_sL, zI_sL, zK_fI, zA_fI, zL_fI, zK_fL, zA_fL, zI_fL, Nat.reduceAdd, Nat.reduceLeDiff, forall_eq', zl_lt, zl_gt, zl_eq, zl_le, zl_ge, zm_0, zaft_n, zaft_v, zb_eq, Decidable.not_not, H.K]
theorem m_bottom (H : zmo e a h) : zc e (d + 1) 205 [zr (some a)] h (fun o h' => o = Sum.inl (some (zl (zL h a 4))) ∧ h' = h) := by
  simp only [n205, r205_0, r205_1, r205_4, znl_i, znl_r, znl_j, znl_l, List.length_cons, List.length_nil, Option.some.injEq, Sum.inl.injEq, Sum.inr.injEq, Prod.mk.injEq, true_and, and_true, exists_eq_left', zK_sI, zA_sI, zL_sI, zK_sL, zA_sL, zI_sL, zK_fI, zA_fI, zL_fI, zK_fL, zA_fL, zI_fL, Nat.reduceAdd, Nat.reduceLeDiff, forall_eq', zl_lt, zl_gt, zl_eq, zl_le, zl_ge, zm_0, zaft_n, zaft_v, zb_eq, Decidable.not_not, H.K]
theorem m_is (H : zmo e a h) (v : Int) (h1 : 0 ≤ v) (h2 : v ≤ 7) : zc e (d + 1) 247 [zr (some a), zi v] h (fun o h' => o = Sum.inl (some (zi (if v = 0 then 1 else 0))) ∧ h' = zsI h a 2 v) := by
  simp only [n247, r247_0, r247_1, r247_2, r247_5, r247_6, r247_9, r247_10, r247_13, r247_14, znl_i, znl_r, znl_j, znl_l, List.length_cons, List.length_nil, Option.some.injEq, Sum.inl.injEq, Sum.inr.injEq, Prod.mk.injEq, true_and, and_true, exists_eq_left', zK_sI, zA_sI, zL_sI, zK_sL, zA_sL, zI_sL, zK_fI, zA_fI, zL_fI, zK_fL, zA_fL, zI_fL, Nat.reduceAdd, Nat.reduceLeDiff, forall_eq', zl_lt, zl_gt, zl_eq, zl_le, zl_ge, zm_0, zaft_n, zaft_v, zb_eq, Decidable.not_not, H.K, H.1]
  rw [zn_b (by omega) (by omega)]
  refine ⟨fun hv => ?_, fun hv => ?_⟩ <;> simp [hv] <;> decide
theorem m_gives (H : zmo e a h) (v : Int) : zc e (d + 1) 237 [zr (some a), zi v] h (fun o h' => o = Sum.inl (some (zi v)) ∧ h' = zsI h a 2 0) := by
  simp only [n237, r237_0, r237_1, r237_2, r237_5, r237_6, znl_i, znl_r, znl_j, znl_l, List.length_cons, List.length_nil, Option.some.injEq, Sum.inl.injEq, Sum.inr.injEq, Prod.mk.injEq, true_and, and_true, exists_eq_left', zK_sI, zA_sI, zL_sI, zK_sL, zA_sL, zI_sL, zK_fI, zA_fI, zL_fI, zK_fL, zA_fL, zI_fL, Nat.reduceAdd, Nat.reduceLeDiff, forall_eq', zl_lt, zl_gt, zl_eq, zl_le, zl_ge, zm_0, zaft_n, zaft_v, zb_eq, Decidable.not_not, H.K, H.1]
theorem m_refuse (H : zmo e a h) (v : Int) : zc e (d + 1) 211 [zr (some a), zi v] h (fun o h' => o = Sum.inl (some (zi (-1))) ∧ h' = zsI h a 2 v) := by
  simp only [n211, r211_0, r211_1, r211_2, r211_5, r211_6, znl_i, znl_r, znl_j, znl_l, List.length_cons, List.length_nil, Option.some.injEq, Sum.inl.injEq, Sum.inr.injEq, Prod.mk.injEq, true_and, and_true, exists_eq_left', zK_sI, zA_sI, zL_sI, zK_sL, zA_sL, zI_sL, zK_fI, zA_fI, zL_fI, zK_fL, zA_fL, zI_fL, Nat.reduceAdd, Nat.reduceLeDiff, forall_eq', zl_lt, zl_gt, zl_eq, zl_le, zl_ge, zm_0, zaft_n, zaft_v, zb_eq, Decidable.not_not, H.K, H.1]
theorem m_isFrom (v lo hi : Int) : zc e (d + 1) 210 [zi v, zi lo, zi hi] h (fun o h' => o = Sum.inl (some (zi (if zn lo ≤ zn v ∧ zn v ≤ zn hi then 1 else 0))) ∧ h' = h) := by
  simp only [n210, r210_0, r210_1, r210_2, r210_5, r210_6, r210_7, r210_10, r210_11, r210_14, r210_15, znl_i, znl_r, znl_j, znl_l, List.length_cons, List.length_nil, Option.some.injEq, Sum.inl.injEq, Sum.inr.injEq, Prod.mk.injEq, true_and, and_true, exists_eq_left', zK_sI, zA_sI, zL_sI, zK_sL, zA_sL, zI_sL, zK_fI, zA_fI, zL_fI, zK_fL, zA_fL, zI_fL, Nat.reduceAdd, Nat.reduceLeDiff, forall_eq', zl_lt, zl_gt, zl_eq, zl_le, zl_ge, zm_0, zaft_n, zaft_v, zb_eq, Decidable.not_not]
  refine ⟨fun h1 => ?_, fun h1 => ⟨fun h2 => ?_, fun h2 => ?_⟩⟩
  · rw [if_neg (by omega)]; simp; decide
  · rw [if_neg (by omega)]; simp; decide
  · rw [if_pos (by omega)]; simp; decide
theorem m_of (H : zmo e a h) (k w : Int) (h1 : 0 ≤ k) (h2 : k ≤ 12) (h3 : 0 ≤ w) (h4 : w ≤ 3) : zc e (d + 1) 242 [zr (some a), zi k, zi w] h (fun o h' => o = Sum.inl (some (zi (zI h (a + 1) (4 + 4 * k + w).toNat))) ∧ h' = h) := by
  simp only [n242, r242_0, r242_1, r242_4, r242_5, r242_6, r242_7, r242_8, r242_9, r242_10, r242_11, r242_12, znl_i, znl_r, znl_j, znl_l, List.length_cons, List.length_nil, Option.some.injEq, Sum.inl.injEq, Sum.inr.injEq, Prod.mk.injEq, true_and, and_true, exists_eq_left', zK_sI, zA_sI, zL_sI, zK_sL, zA_sL, zI_sL, zK_fI, zA_fI, zL_fI, zK_fL, zA_fL, zI_fL, Nat.reduceAdd, Nat.reduceLeDiff, forall_eq', zl_lt, zl_gt, zl_eq, zl_le, zl_ge, zm_0, zaft_n, zaft_v, zb_eq, Decidable.not_not, H.K, H.A0, H.K1]
  rw [zn_b (by omega) (by omega)]
  refine ⟨by omega, by omega, ?_⟩
  simp
theorem m_atomAt (H : zmo e a h) (f : Nat) (F : yF) (x y z : Int) (hf : f ≤ 416) (hF : mF (zI h (a + 1)) f F) (hn : F.1 ≤ 12) (hb : ∀ k, k < F.1 → ∀ i, 1 ≤ i → i < 4 → -50 ≤ F.2 k i ∧ F.2 k i ≤ 50) (hx : -50 ≤ x ∧ x ≤ 50) (hy : -50 ≤ y ∧ y ≤ 50) (hz : -50 ≤ z ∧ z ≤ 50) : zc e (d + 1) 222 [zr (some a), zi f, zi x, zi y, zi z] h (fun o h' => o = Sum.inl (some (zi (yatom F x y z))) ∧ h' = h) := by
  have loop : ∀ (j k : Nat) (w : zV), k + j = F.1 → zg e 222 d 3 [zr (some a), zi f, zi x, zi y, zi z, zi k, w] [] h (fun o h' => o = Sum.inl (some (zi (yfind (yplc F x y z) j k))) ∧ h' = h) := by
    intro j
    induction j with
    | zero =>
      intro k w hk
      rw [r222_3]
      simp only [r222_0, r222_1, r222_5, r222_6, r222_9, r222_10, r222_11, r222_14, r222_15, r222_16, r222_17, r222_18, r222_20, r222_21, r222_22, r222_24, r222_25, r222_28, r222_30, r222_31, r222_32, r222_33, r222_34, r222_37, r222_38, r222_41, r222_43, r222_44, r222_45, r222_46, r222_47, r222_50, r222_51, r222_54, r222_56, r222_57, r222_58, r222_59, r222_61, r222_64, r222_66, r222_67, r222_70, r222_73, r222_74, znl_i, znl_r, znl_j, znl_l, List.length_cons, List.length_nil, Option.some.injEq, Sum.inl.injEq, Sum.inr.injEq, Prod.mk.injEq, true_and, and_true, exists_eq_left', zK_sI, zA_sI, zL_sI, zK_sL, zA_sL, zI_sL, zK_fI, zA_fI, zL_fI, zK_fL, zA_fL, zI_fL, Nat.reduceAdd, Nat.reduceLeDiff, forall_eq', zl_lt, zl_gt, zl_eq, zl_le, zl_ge, zm_0, zaft_n, zaft_v, zb_eq, Decidable.not_not, H.K, H.A0, H.K1]
      simp (disch := omega) only [zn_b, Int.toNat_natCast, hF.1]
      refine ⟨by omega, by omega, fun _ => ?_, fun h9 => by omega⟩
      simp [yfind]
    | succ j ih =>
      intro k w hk
      have e1 := hF.2 k (by omega) 1 (by omega)
      have e2 := hF.2 k (by omega) 2 (by omega)
      have e3 := hF.2 k (by omega) 3 (by omega)
      have b1 := hb k (by omega) 1 (by omega) (by omega)
      have b2 := hb k (by omega) 2 (by omega) (by omega)
      have b3 := hb k (by omega) 3 (by omega) (by omega)
      rw [r222_3]
      simp only [r222_0, r222_1, r222_5, r222_6, r222_9, r222_10, r222_11, r222_14, r222_15, r222_16, r222_17, r222_18, r222_20, r222_21, r222_22, r222_24, r222_25, r222_28, r222_30, r222_31, r222_32, r222_33, r222_34, r222_37, r222_38, r222_41, r222_43, r222_44, r222_45, r222_46, r222_47, r222_50, r222_51, r222_54, r222_56, r222_57, r222_58, r222_59, r222_61, r222_64, r222_66, r222_67, r222_70, r222_73, r222_74, znl_i, znl_r, znl_j, znl_l, List.length_cons, List.length_nil, Option.some.injEq, Sum.inl.injEq, Sum.inr.injEq, Prod.mk.injEq, true_and, and_true, exists_eq_left', zK_sI, zA_sI, zL_sI, zK_sL, zA_sL, zI_sL, zK_fI, zA_fI, zL_fI, zK_fL, zA_fL, zI_fL, Nat.reduceAdd, Nat.reduceLeDiff, forall_eq', zl_lt, zl_gt, zl_eq, zl_le, zl_ge, zm_0, zaft_n, zaft_v, zb_eq, Decidable.not_not, H.K, H.A0, H.K1]
      simp (disch := omega) only [zn_b, Int.toNat_natCast, hF.1, show ((f : Int) + 4 + 4 * k + 1).toNat = f + 4 + 4 * k + 1 by omega, show ((f : Int) + 4 + 4 * k + 2).toNat = f + 4 + 4 * k + 2 by omega, show ((f : Int) + 4 + 4 * k + 3).toNat = f + 4 + 4 * k + 3 by omega, e1, e2, e3]
      have nx : zg e 222 d 3 [zr (some a), zi f, zi x, zi y, zi z, zi ((k : Int) + 1), zi ((f : Int) + 4 + 4 * k)] [] h (fun o h' => o = Sum.inl (some (zi (yfind (yplc F x y z) j (k + 1)))) ∧ h' = h) := ih (k + 1) _ (by omega)
      have st : ∀ c, yplc F x y z k = c → (yfind (yplc F x y z) (j + 1) k) = if c then (k : Int) else yfind (yplc F x y z) j (k + 1) := fun c hc => by simp only [yfind, hc]
      refine ⟨by omega, by omega, fun h9 => by omega, fun _ => ⟨by omega, by omega, fun q1 => ?_, fun q1 => ⟨by omega, by omega, fun q2 => ?_, fun q2 => ⟨by omega, by omega, fun q3 => ?_, fun q3 => ?_⟩⟩⟩⟩
      · rw [st false (by simp [yplc, q1])]; exact nx
      · rw [st false (by simp [yplc, q2])]; exact nx
      · rw [st false (by simp [yplc, q3])]; exact nx
      · rw [st true (by simp [yplc, q1, q2, q3])]; simp
  simp only [n222, r222_0, r222_1, r222_5, r222_6, r222_9, r222_10, r222_11, r222_14, r222_15, r222_16, r222_17, r222_18, r222_20, r222_21, r222_22, r222_24, r222_25, r222_28, r222_30, r222_31, r222_32, r222_33, r222_34, r222_37, r222_38, r222_41, r222_43, r222_44, r222_45, r222_46, r222_47, r222_50, r222_51, r222_54, r222_56, r222_57, r222_58, r222_59, r222_61, r222_64, r222_66, r222_67, r222_70, r222_73, r222_74, znl_i, znl_r, znl_j, znl_l, List.length_cons, List.length_nil, Option.some.injEq, Sum.inl.injEq, Sum.inr.injEq, Prod.mk.injEq, true_and, and_true, exists_eq_left', zK_sI, zA_sI, zL_sI, zK_sL, zA_sL, zI_sL, zK_fI, zA_fI, zL_fI, zK_fL, zA_fL, zI_fL, Nat.reduceAdd, Nat.reduceLeDiff, forall_eq', zl_lt, zl_gt, zl_eq, zl_le, zl_ge, zm_0, zaft_n, zaft_v, zb_eq, Decidable.not_not]
  exact loop F.1 0 _ (by omega)
end
