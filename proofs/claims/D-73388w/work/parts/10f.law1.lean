/-! ===== numbers left by 97 ===== -/
theorem y97_inv {n : Int} (h : n % 97 ≠ 0) : ∃ x : Nat, 1 ≤ x ∧ x < 97 ∧ ((x : Int) * n) % 97 = 1 := by
  have key : ∀ r, r < 97 → r ≠ 0 → (yfind (fun x => decide ((x * r) % 97 = 1)) 96 1) ≠ -1 := by decide +kernel
  have hr : (n % 97).toNat < 97 := by omega
  have hk := key (n % 97).toNat hr (by omega)
  have b := yfind_bd (fun x => decide ((x * (n % 97).toNat) % 97 = 1)) 96 1
  obtain ⟨x, hx⟩ : ∃ x : Nat, yfind (fun x => decide ((x * (n % 97).toNat) % 97 = 1)) 96 1 = (x : Int) := ⟨(yfind (fun x => decide ((x * (n % 97).toNat) % 97 = 1)) 96 1).toNat, by omega⟩
  obtain ⟨h1, h2, h3, _⟩ := yfind_some.mp hx
  refine ⟨x, h1, by omega, ?_⟩
  have h3 := of_decide_eq_true h3
  rw [Int.mul_emod]
  have e : ((x * (n % 97).toNat : Nat) : Int) % 97 = 1 := by omega
  rw [Int.natCast_mul, show (((n % 97).toNat : Nat) : Int) = n % 97 by omega, Int.mul_emod] at e
  rw [Int.emod_emod_of_dvd _ (Int.dvd_refl 97)] at e
  exact e
theorem yi97_spec {n : Int} (h : n % 97 ≠ 0) : 1 ≤ yi97 n ∧ yi97 n < 97 ∧ ((yi97 n : Int) * n) % 97 = 1 ∧ ∀ x : Nat, 1 ≤ x → x < yi97 n → ¬ ((x : Int) * n) % 97 = 1 := by
  obtain ⟨x, x1, x2, x3⟩ := y97_inv h
  have hne : yfind (fun x => decide (((x : Int) * n) % 97 = 1)) 96 1 ≠ -1 := fun z => by
    have := yfind_none.mp z x x1 (by omega)
    rw [decide_eq_false_iff_not] at this
    exact this x3
  have b := yfind_bd (fun x => decide (((x : Int) * n) % 97 = 1)) 96 1
  have e : yfind (fun x => decide (((x : Int) * n) % 97 = 1)) 96 1 = (yi97 n : Int) := by unfold yi97; omega
  obtain ⟨h1, h2, h3, h4⟩ := yfind_some.mp e
  exact ⟨h1, by omega, of_decide_eq_true h3, fun y y1 y2 => of_decide_eq_false (h4 y y1 y2)⟩
theorem ytm97 (v : Int) : v.tmod 97 = v % 97 - if 0 ≤ v ∨ (97 : Int) ∣ v then 0 else 97 := by
  have := Int.tmod_eq_emod (a := v) (b := 97)
  rw [this]; split <;> rfl
theorem yrem97 (v : Int) : (v % 97 = if v.tmod 97 < 0 then v.tmod 97 + 97 else v.tmod 97) ∧ -97 < v.tmod 97 ∧ v.tmod 97 < 97 := by
  have := ytm97 v
  by_cases c : 0 ≤ v ∨ (97 : Int) ∣ v
  · rw [if_pos c] at this
    refine ⟨?_, by omega, by omega⟩
    rw [if_neg (by omega)]; omega
  · rw [if_neg c] at this
    have : ¬ v % 97 = 0 := fun z => c (Or.inr (Int.dvd_of_emod_eq_zero z))
    refine ⟨?_, by omega, by omega⟩
    rw [if_pos (by omega)]; omega
section
variable {e : zEv} {a d : Nat} {h : zH} {φ ψ : Nat → Nat → Int}
theorem m_left (v : Int) (h1 : -4000000000000 ≤ v) (h2 : v ≤ 4000000000000) : zc e (d + 1) 343 [zl v] h (fun o h' => o = Sum.inl (some (zi (v % 97))) ∧ h' = h) := by
  obtain ⟨em, hb⟩ := yrem97 v
  simp only [n343, r343_0, r343_1, r343_4, r343_5, r343_6, r343_7, r343_8, r343_11, r343_12, r343_14, r343_15, r343_18, r343_19, znl_i, znl_r, znl_j, znl_l, List.length_cons, List.length_nil, Option.some.injEq, Sum.inl.injEq, Sum.inr.injEq, Prod.mk.injEq, true_and, and_true, exists_eq_left', zK_sI, zA_sI, zL_sI, zK_sL, zA_sL, zI_sL, zK_fI, zA_fI, zL_fI, zK_fL, zA_fL, zI_fL, Nat.reduceAdd, Nat.reduceLeDiff, forall_eq', zl_lt, zl_gt, zl_eq, zl_le, zl_ge, zm_0, zaft_n, zaft_v, zb_eq, Decidable.not_not]
  rw [zm_id (x := v) (by omega) (by omega), zm_id (x := 97) (by omega) (by omega)]
  refine ⟨by omega, ?_⟩
  rw [em]
  simp (disch := omega) only [zn_b, zm_b, Int.toNat_natCast, Int.toNat_zero, zt4, zt_4, zt6, zt_6, zt9, zt_9, zt12, zt_12, zt48, zt_48, zt97, zt_97, zt144, zt144b]
  refine ⟨fun q => ?_, fun q => ?_⟩
  · rw [if_neg (by omega)]; (repeat' (first | rfl | exact True.intro | decide | omega | refine And.intro ?_ ?_))
  · rw [if_pos (by omega)]; (repeat' (first | rfl | exact True.intro | decide | omega | refine And.intro ?_ ?_))
theorem m_inverseLeft (v : Int) (hv : v % 97 ≠ 0) (h1 : -1000000 ≤ v) (h2 : v ≤ 1000000) : zc e (d + 2) 344 [zi v] h (fun o h' => o = Sum.inl (some (zi (yi97 v : Int))) ∧ h' = h) := by
  obtain ⟨a1, a2, a3, a4⟩ := yi97_spec hv
  have nb : ∀ k : Nat, k < 97 → -4000000000000 ≤ (k : Int) * v ∧ (k : Int) * v ≤ 4000000000000 := fun k hk => by
    have h1' : -((k : Int) * 1000000) ≤ (k : Int) * v := by
      have := Int.mul_le_mul_of_nonneg_left h1 (show (0 : Int) ≤ k by omega)
      rw [Int.mul_neg] at this; exact this
    have h2' : (k : Int) * v ≤ (k : Int) * 1000000 := Int.mul_le_mul_of_nonneg_left h2 (by omega)
    omega
  suffices hG : ∀ k, k ≤ yi97 v → 1 ≤ k → zg e 344 (d + 1) 2 [zi v, zi k] [] h (fun o h' => o = Sum.inl (some (zi (yi97 v : Int))) ∧ h' = h) by
    simp only [n344, r344_0, r344_1, r344_3, r344_4, r344_5, r344_6, r344_7, r344_10, r344_11, r344_14, r344_17, r344_20, r344_21, znl_i, znl_r, znl_j, znl_l, List.length_cons, List.length_nil, Option.some.injEq, Sum.inl.injEq, Sum.inr.injEq, Prod.mk.injEq, true_and, and_true, exists_eq_left', zK_sI, zA_sI, zL_sI, zK_sL, zA_sL, zI_sL, zK_fI, zA_fI, zL_fI, zK_fL, zA_fL, zI_fL, Nat.reduceAdd, Nat.reduceLeDiff, forall_eq', zl_lt, zl_gt, zl_eq, zl_le, zl_ge, zm_0, zaft_n, zaft_v, zb_eq, Decidable.not_not]
    exact hG 1 a1 (Nat.le_refl _)
  refine zdown _ (yi97 v) (fun _ => ?_) (fun k hk ih k1 => ?_)
  · have n1 := nb _ a2
    rw [r344_2]
    simp only [r344_0, r344_1, r344_3, r344_4, r344_5, r344_6, r344_7, r344_10, r344_11, r344_14, r344_17, r344_20, r344_21, znl_i, znl_r, znl_j, znl_l, List.length_cons, List.length_nil, Option.some.injEq, Sum.inl.injEq, Sum.inr.injEq, Prod.mk.injEq, true_and, and_true, exists_eq_left', zK_sI, zA_sI, zL_sI, zK_sL, zA_sL, zI_sL, zK_fI, zA_fI, zL_fI, zK_fL, zA_fL, zI_fL, Nat.reduceAdd, Nat.reduceLeDiff, forall_eq', zl_lt, zl_gt, zl_eq, zl_le, zl_ge, zm_0, zaft_n, zaft_v, zb_eq, Decidable.not_not]
    rw [zn_b (x := v) (by omega) (by omega), zn_b (x := (yi97 v : Int)) (by omega) (by omega)]
    refine zc_w (m_left _ n1.1 n1.2) ?_
    simp only [r344_0, r344_1, r344_3, r344_4, r344_5, r344_6, r344_7, r344_10, r344_11, r344_14, r344_17, r344_20, r344_21, znl_i, znl_r, znl_j, znl_l, List.length_cons, List.length_nil, Option.some.injEq, Sum.inl.injEq, Sum.inr.injEq, Prod.mk.injEq, true_and, and_true, exists_eq_left', zK_sI, zA_sI, zL_sI, zK_sL, zA_sL, zI_sL, zK_fI, zA_fI, zL_fI, zK_fL, zA_fL, zI_fL, Nat.reduceAdd, Nat.reduceLeDiff, forall_eq', zl_lt, zl_gt, zl_eq, zl_le, zl_ge, zm_0, zaft_n, zaft_v, zb_eq, Decidable.not_not]
    rw [a3]
    exact ⟨fun _ => by (repeat' (first | rfl | exact True.intro | decide | omega | refine And.intro ?_ ?_)), fun z => (by first | omega | exact absurd trivial z | exact absurd rfl z)⟩
  · have n1 := nb k (by omega)
    have := a4 k k1 hk
    rw [r344_2]
    simp only [r344_0, r344_1, r344_3, r344_4, r344_5, r344_6, r344_7, r344_10, r344_11, r344_14, r344_17, r344_20, r344_21, znl_i, znl_r, znl_j, znl_l, List.length_cons, List.length_nil, Option.some.injEq, Sum.inl.injEq, Sum.inr.injEq, Prod.mk.injEq, true_and, and_true, exists_eq_left', zK_sI, zA_sI, zL_sI, zK_sL, zA_sL, zI_sL, zK_fI, zA_fI, zL_fI, zK_fL, zA_fL, zI_fL, Nat.reduceAdd, Nat.reduceLeDiff, forall_eq', zl_lt, zl_gt, zl_eq, zl_le, zl_ge, zm_0, zaft_n, zaft_v, zb_eq, Decidable.not_not]
    rw [zn_b (x := v) (by omega) (by omega), zn_b (x := (k : Int)) (by omega) (by omega)]
    refine zc_w (m_left _ n1.1 n1.2) ?_
    simp only [r344_0, r344_1, r344_3, r344_4, r344_5, r344_6, r344_7, r344_10, r344_11, r344_14, r344_17, r344_20, r344_21, znl_i, znl_r, znl_j, znl_l, List.length_cons, List.length_nil, Option.some.injEq, Sum.inl.injEq, Sum.inr.injEq, Prod.mk.injEq, true_and, and_true, exists_eq_left', zK_sI, zA_sI, zL_sI, zK_sL, zA_sL, zI_sL, zK_fI, zA_fI, zL_fI, zK_fL, zA_fL, zI_fL, Nat.reduceAdd, Nat.reduceLeDiff, forall_eq', zl_lt, zl_gt, zl_eq, zl_le, zl_ge, zm_0, zaft_n, zaft_v, zb_eq, Decidable.not_not]
    simp (disch := omega) only [zn_b, zm_b, Int.toNat_natCast, Int.toNat_zero, zt4, zt_4, zt6, zt_6, zt9, zt_9, zt12, zt_12, zt48, zt_48, zt97, zt_97, zt144, zt144b]
    exact ⟨fun z => (by first | omega | exact absurd trivial z | exact absurd rfl z), fun _ => ih (by omega)⟩
theorem m_fromTo (i j : Nat) : zc e (d + 1) 342 [zi i, zi j] h (fun o h' => o = Sum.inl (some (zi ((12 : Int) * i + j))) ∧ h' = h) := by
  simp only [n342, r342_0, r342_2, r342_3, r342_4, r342_5, r342_6, znl_i, znl_r, znl_j, znl_l, List.length_cons, List.length_nil, Option.some.injEq, Sum.inl.injEq, Sum.inr.injEq, Prod.mk.injEq, true_and, and_true, exists_eq_left', zK_sI, zA_sI, zL_sI, zK_sL, zA_sL, zI_sL, zK_fI, zA_fI, zL_fI, zK_fL, zA_fL, zI_fL, Nat.reduceAdd, Nat.reduceLeDiff, forall_eq', zl_lt, zl_gt, zl_eq, zl_le, zl_ge, zm_0, zaft_n, zaft_v, zb_eq, Decidable.not_not]
  (repeat' (first | rfl | exact True.intro | decide | omega | refine And.intro ?_ ?_))
end
