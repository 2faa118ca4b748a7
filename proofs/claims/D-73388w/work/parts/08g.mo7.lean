/-! ===== the reference: more deeds ===== -/
def s_atoms (s : yS) : yS × Int := (yst 0 s, s.1.1)
def s_atom (s : yS) (k w : Int) : yS × Int :=
  if ¬ (0 ≤ w ∧ w ≤ 3) then (yst 1 s, -1) else if k < 0 then (yst 1 s, -1) else if ¬ k < (s.1.1 : Int) then (yst 3 s, -1) else (yst 0 s, s.1.2 k.toNat w.toNat)
def s_move (s : yS) (k x y z : Int) : yS × Int :=
  if ¬ ((-50 ≤ x ∧ x ≤ 50) ∧ (-50 ≤ y ∧ y ≤ 50) ∧ (-50 ≤ z ∧ z ≤ 50)) then (yst 1 s, 0) else if k < 0 then (yst 1 s, 0) else if ¬ k < (s.1.1 : Int) then (yst 3 s, 0) else
  if ¬ yatom s.1 x y z = -1 then (yst 5 s, 0) else (ydeed (s.1.1, yset k.toNat (yat (s.1.2 k.toNat 0) x y z) s.1.2) s, 1)
def s_swap (s : yS) (k c : Int) : yS × Int :=
  if ¬ (1 ≤ c ∧ c ≤ 9) then (yst 1 s, -1) else if k < 0 then (yst 1 s, -1) else if ¬ k < (s.1.1 : Int) then (yst 3 s, -1) else
  if s.1.2 k.toNat 0 = c then (yst 6 s, -1) else (ydeed (s.1.1, yset k.toNat (yat c (s.1.2 k.toNat 1) (s.1.2 k.toNat 2) (s.1.2 k.toNat 3)) s.1.2) s, s.1.2 k.toNat 0)
def ychF (i : Nat) (t c : Int) (F : yF) : yF := (F.1, fun k j => if j = i then t * F.2 k i + c else F.2 k j)
/-- all numbers are inside, times t and with c more -/
def yinA (F : yF) (i : Nat) (t c : Int) : Bool := decide (yfind (fun k => !yin F i t c k) F.1 0 = -1)
def s_shift (s : yS) (x y z : Int) : yS × Int :=
  if ¬ ((-100 ≤ x ∧ x ≤ 100) ∧ (-100 ≤ y ∧ y ≤ 100) ∧ (-100 ≤ z ∧ z ≤ 100)) then (yst 1 s, 0) else
  if ¬ (yinA s.1 1 1 x = true ∧ yinA s.1 2 1 y = true ∧ yinA s.1 3 1 z = true) then (yst 6 s, 0) else (ydeed (ychF 3 1 z (ychF 2 1 y (ychF 1 1 x s.1))) s, 1)
def s_stretch (s : yS) (n : Int) : yS × Int :=
  if n = 0 then (yst 1 s, 0) else if ¬ (yinA s.1 1 n 0 = true ∧ yinA s.1 2 n 0 = true ∧ yinA s.1 3 n 0 = true) then (yst 6 s, 0) else (ydeed (ychF 3 n 0 (ychF 2 n 0 (ychF 1 n 0 s.1))) s, 1)
def s_back (s : yS) : yS × Int := match s.2.1.getLast? with
  | none => (yst 3 s, -1)
  | some F => ((F, s.2.1.dropLast, (0, s.2.2.1.2), s.2.2.2), (s.2.1.length : Int) - 1)
theorem yW_set {F : yF} (hw : yW F) {k : Nat} (hk : k < F.1) {q : Nat → Int} (h0 : 1 ≤ q 0 ∧ q 0 ≤ 9) (hq : ∀ i, 1 ≤ i → i < 4 → -50 ≤ q i ∧ q i ≤ 50) (hd : ∀ j, j < F.1 → j ≠ k → ¬ (F.2 j 1 = q 1 ∧ F.2 j 2 = q 2 ∧ F.2 j 3 = q 3)) : yW (F.1, yset k q F.2) := by
  obtain ⟨w1, w2, w3, w4⟩ := hw
  refine ⟨w1, fun j hj => ?_, fun j hj i h1 h2 => ?_, fun i j hi hj e1 e2 e3 => ?_⟩
  · simp only [yset]
    split
    · exact h0
    · exact w2 j hj
  · simp only [yset]
    split
    · exact hq i h1 h2
    · exact w3 j hj i h1 h2
  · dsimp only at hi hj
    simp only [yset] at e1 e2 e3
    by_cases q1 : i = k <;> by_cases q2 : j = k
    · omega
    · simp only [q1, q2, if_true, if_false] at e1 e2 e3
      exact absurd ⟨e1.symm, e2.symm, e3.symm⟩ (hd j hj q2)
    · simp only [q1, q2, if_true, if_false] at e1 e2 e3
      exact absurd ⟨e1, e2, e3⟩ (hd i hi q1)
    · simp only [q1, q2, if_false] at e1 e2 e3
      exact w4 i j hi hj e1 e2 e3
theorem yinA_iff {F : yF} {i : Nat} {t c : Int} : yinA F i t c = true ↔ ∀ k, k < F.1 → -50 ≤ t * F.2 k i + c ∧ t * F.2 k i + c ≤ 50 := by
  rw [yinA, decide_eq_true_iff, yfind_none]
  constructor
  · intro h k hk
    have := h k (Nat.zero_le _) (by omega)
    simpa [yin] using this
  · intro h k _ hk
    have := h k (by omega)
    simpa [yin] using this
theorem yW_ch3 {F : yF} (hw : yW F) {t x y z : Int} (ht : t ≠ 0) (h1 : yinA F 1 t x = true) (h2 : yinA F 2 t y = true) (h3 : yinA F 3 t z = true) : yW (ychF 3 t z (ychF 2 t y (ychF 1 t x F))) := by
  obtain ⟨w1, w2, w3, w4⟩ := hw
  rw [yinA_iff] at h1 h2 h3
  refine ⟨w1, fun j hj => ?_, fun j hj i i1 i2 => ?_, fun i j hi hj e1 e2 e3 => ?_⟩
  · simp only [ychF] at hj ⊢
    simp only [show ((0 : Nat) = 3) = False by simp, show ((0 : Nat) = 2) = False by simp, show ((0 : Nat) = 1) = False by simp, if_false]
    exact w2 j hj
  · simp only [ychF] at hj ⊢
    have hi' : i = 1 ∨ i = 2 ∨ i = 3 := by omega
    rcases hi' with rfl | rfl | rfl
    · simpa using h1 j hj
    · simpa using h2 j hj
    · simpa using h3 j hj
  · simp only [ychF] at hi hj e1 e2 e3
    simp at e1 e2 e3
    refine w4 i j hi hj ?_ ?_ ?_
    · exact Int.eq_of_mul_eq_mul_left ht e1
    · exact Int.eq_of_mul_eq_mul_left ht e2
    · exact Int.eq_of_mul_eq_mul_left ht e3
section
variable {e : zEv} {a d : Nat} {h : zH} {s : yS}
theorem m_atoms (B : mB e a h s) : zc e (d + 2) 239 [zr (some a)] h (mQ e a h s (s_atoms s)) := by
  have H := B.1
  have e0 : zn 0 = 0 := by decide
  have a0 : zI h (a + 1) 0 = (s.1.1 : Int) := B.2.1.2.1.1
  simp only [n239, r239_0, r239_1, r239_2, r239_5, r239_6, r239_7, r239_10, znl_i, znl_r, znl_j, znl_l, List.length_cons, List.length_nil, Option.some.injEq, Sum.inl.injEq, Sum.inr.injEq, Prod.mk.injEq, true_and, and_true, exists_eq_left', zK_sI, zA_sI, zL_sI, zK_sL, zA_sL, zI_sL, zK_fI, zA_fI, zL_fI, zK_fL, zA_fL, zI_fL, Nat.reduceAdd, Nat.reduceLeDiff, forall_eq', zl_lt, zl_gt, zl_eq, zl_le, zl_ge, zm_0, zaft_n, zaft_v, zb_eq, Decidable.not_not, H.K, H.A0, H.K1]
  simp only [e0, Int.toNat_zero, a0]
  repeat (refine And.intro (by omega) ?_)
  refine zc_w (m_gives H _) ?_
  simp only [r239_0, r239_1, r239_2, r239_5, r239_6, r239_7, r239_10, znl_i, znl_r, znl_j, znl_l, List.length_cons, List.length_nil, Option.some.injEq, Sum.inl.injEq, Sum.inr.injEq, Prod.mk.injEq, true_and, and_true, exists_eq_left', zK_sI, zA_sI, zL_sI, zK_sL, zA_sL, zI_sL, zK_fI, zA_fI, zL_fI, zK_fL, zA_fL, zI_fL, Nat.reduceAdd, Nat.reduceLeDiff, forall_eq', zl_lt, zl_gt, zl_eq, zl_le, zl_ge, zm_0, zaft_n, zaft_v, zb_eq, Decidable.not_not, H.K, H.A0, H.K1]
  exact mQ_ref B 0 _
theorem m_atom (B : mB e a h s) (k w : Int) (hk : yi k) (hw : yi w) : zc e (d + 2) 240 [zr (some a), zi k, zi w] h (mQ e a h s (s_atom s k w)) := by
  have H := B.1
  have hF := B.2.1
  have hn := hF.1.1
  have e3 : zn 3 = 3 := by decide
  have fin : ∀ v, (v = 1 ∨ v = 3) → s_atom s k w = (yst v s, -1) → zg e 240 (d + 1) 18 [zr (some a), zi k, zi w, zj] [zi v] h (mQ e a h s (s_atom s k w)) := fun v hv hs => by
    simp only [r240_0, r240_1, r240_4, r240_5, r240_6, r240_9, r240_10, r240_13, r240_14, r240_15, r240_18, r240_19, r240_20, r240_23, r240_24, r240_25, r240_28, r240_31, r240_32, r240_33, r240_34, r240_35, r240_38, r240_41, znl_i, znl_r, znl_j, znl_l, List.length_cons, List.length_nil, Option.some.injEq, Sum.inl.injEq, Sum.inr.injEq, Prod.mk.injEq, true_and, and_true, exists_eq_left', zK_sI, zA_sI, zL_sI, zK_sL, zA_sL, zI_sL, zK_fI, zA_fI, zL_fI, zK_fL, zA_fL, zI_fL, Nat.reduceAdd, Nat.reduceLeDiff, forall_eq', zl_lt, zl_gt, zl_eq, zl_le, zl_ge, zm_0, zaft_n, zaft_v, zb_eq, Decidable.not_not, H.K]
    rw [hs]
    refine ⟨fun q => ?_, fun _ => ?_⟩
    · rw [zn_b (by omega) (by omega)] at q; omega
    · refine zc_w (m_refuse H v) ?_
      simp only [r240_0, r240_1, r240_4, r240_5, r240_6, r240_9, r240_10, r240_13, r240_14, r240_15, r240_18, r240_19, r240_20, r240_23, r240_24, r240_25, r240_28, r240_31, r240_32, r240_33, r240_34, r240_35, r240_38, r240_41, znl_i, znl_r, znl_j, znl_l, List.length_cons, List.length_nil, Option.some.injEq, Sum.inl.injEq, Sum.inr.injEq, Prod.mk.injEq, true_and, and_true, exists_eq_left', zK_sI, zA_sI, zL_sI, zK_sL, zA_sL, zI_sL, zK_fI, zA_fI, zL_fI, zK_fL, zA_fL, zI_fL, Nat.reduceAdd, Nat.reduceLeDiff, forall_eq', zl_lt, zl_gt, zl_eq, zl_le, zl_ge, zm_0, zaft_n, zaft_v, zb_eq, Decidable.not_not, H.K]
      exact mQ_ref B v (-1)
  simp only [n240, r240_0, r240_1, r240_4, r240_5, r240_6, r240_9, r240_10, r240_13, r240_14, r240_15, r240_19, r240_20, r240_23, r240_24, r240_25, r240_28, r240_31, r240_32, r240_33, r240_34, r240_35, r240_38, r240_41, znl_i, znl_r, znl_j, znl_l, List.length_cons, List.length_nil, Option.some.injEq, Sum.inl.injEq, Sum.inr.injEq, Prod.mk.injEq, true_and, and_true, exists_eq_left', zK_sI, zA_sI, zL_sI, zK_sL, zA_sL, zI_sL, zK_fI, zA_fI, zL_fI, zK_fL, zA_fL, zI_fL, Nat.reduceAdd, Nat.reduceLeDiff, forall_eq', zl_lt, zl_gt, zl_eq, zl_le, zl_ge, zm_0, zaft_n, zaft_v, zb_eq, Decidable.not_not, H.K]
  rw [zn_i hw, e3]
  refine ⟨fun q => fin 1 (Or.inl rfl) ?_, fun q1 => ⟨fun q2 => ?_, fun q => fin 1 (Or.inl rfl) ?_⟩⟩
  · rw [s_atom, if_pos (by omega)]
  · refine zc_w (m_wrongAtom H s.1 k hF.2.1 hn) ?_
    simp only [r240_0, r240_1, r240_4, r240_5, r240_6, r240_9, r240_10, r240_13, r240_14, r240_15, r240_19, r240_20, r240_23, r240_24, r240_25, r240_28, r240_31, r240_32, r240_33, r240_34, r240_35, r240_38, r240_41, znl_i, znl_r, znl_j, znl_l, List.length_cons, List.length_nil, Option.some.injEq, Sum.inl.injEq, Sum.inr.injEq, Prod.mk.injEq, true_and, and_true, exists_eq_left', zK_sI, zA_sI, zL_sI, zK_sL, zA_sL, zI_sL, zK_fI, zA_fI, zL_fI, zK_fL, zA_fL, zI_fL, Nat.reduceAdd, Nat.reduceLeDiff, forall_eq', zl_lt, zl_gt, zl_eq, zl_le, zl_ge, zm_0, zaft_n, zaft_v, zb_eq, Decidable.not_not, H.K]
    rw [zn_i hk]
    by_cases q3 : k < 0
    · rw [if_pos q3]; exact fin 1 (Or.inl rfl) (by rw [s_atom, if_neg (by omega), if_pos q3])
    · rw [if_neg q3]
      by_cases q4 : k < (s.1.1 : Int)
      · rw [if_pos q4]
        have hs : s_atom s k w = (yst 0 s, s.1.2 k.toNat w.toNat) := by rw [s_atom, if_neg (by omega), if_neg q3, if_neg (by omega)]
        have e0 : zn 0 = 0 := by decide
        simp only [r240_0, r240_1, r240_4, r240_5, r240_6, r240_9, r240_10, r240_13, r240_14, r240_15, r240_18, r240_19, r240_20, r240_23, r240_24, r240_25, r240_28, r240_31, r240_32, r240_33, r240_34, r240_35, r240_38, r240_41, znl_i, znl_r, znl_j, znl_l, List.length_cons, List.length_nil, Option.some.injEq, Sum.inl.injEq, Sum.inr.injEq, Prod.mk.injEq, true_and, and_true, exists_eq_left', zK_sI, zA_sI, zL_sI, zK_sL, zA_sL, zI_sL, zK_fI, zA_fI, zL_fI, zK_fL, zA_fL, zI_fL, Nat.reduceAdd, Nat.reduceLeDiff, forall_eq', zl_lt, zl_gt, zl_eq, zl_le, zl_ge, zm_0, zaft_n, zaft_v, zb_eq, Decidable.not_not, H.K]
        rw [hs, e0]
        refine ⟨fun _ => ?_, fun q => absurd q (by decide)⟩
        refine zc_w (m_of H k w (by omega) (by omega) q1 q2) ?_
        simp only [r240_0, r240_1, r240_4, r240_5, r240_6, r240_9, r240_10, r240_13, r240_14, r240_15, r240_18, r240_19, r240_20, r240_23, r240_24, r240_25, r240_28, r240_31, r240_32, r240_33, r240_34, r240_35, r240_38, r240_41, znl_i, znl_r, znl_j, znl_l, List.length_cons, List.length_nil, Option.some.injEq, Sum.inl.injEq, Sum.inr.injEq, Prod.mk.injEq, true_and, and_true, exists_eq_left', zK_sI, zA_sI, zL_sI, zK_sL, zA_sL, zI_sL, zK_fI, zA_fI, zL_fI, zK_fL, zA_fL, zI_fL, Nat.reduceAdd, Nat.reduceLeDiff, forall_eq', zl_lt, zl_gt, zl_eq, zl_le, zl_ge, zm_0, zaft_n, zaft_v, zb_eq, Decidable.not_not, H.K]
        have e9 : zI h (a + 1) (4 + 4 * k + w).toNat = s.1.2 k.toNat w.toNat := by
          have := hF.2.1.2 k.toNat (by omega) w.toNat (by omega)
          rw [← this]
          congr 1; omega
        rw [e9]
        refine zc_w (m_gives H _) ?_
        simp only [r240_0, r240_1, r240_4, r240_5, r240_6, r240_9, r240_10, r240_13, r240_14, r240_15, r240_18, r240_19, r240_20, r240_23, r240_24, r240_25, r240_28, r240_31, r240_32, r240_33, r240_34, r240_35, r240_38, r240_41, znl_i, znl_r, znl_j, znl_l, List.length_cons, List.length_nil, Option.some.injEq, Sum.inl.injEq, Sum.inr.injEq, Prod.mk.injEq, true_and, and_true, exists_eq_left', zK_sI, zA_sI, zL_sI, zK_sL, zA_sL, zI_sL, zK_fI, zA_fI, zL_fI, zK_fL, zA_fL, zI_fL, Nat.reduceAdd, Nat.reduceLeDiff, forall_eq', zl_lt, zl_gt, zl_eq, zl_le, zl_ge, zm_0, zaft_n, zaft_v, zb_eq, Decidable.not_not, H.K]
        exact mQ_ref B 0 _
      · rw [if_neg q4]; exact fin 3 (Or.inr rfl) (by rw [s_atom, if_neg (by omega), if_neg q3, if_pos q4])
  · rw [s_atom, if_pos (by omega)]
end
