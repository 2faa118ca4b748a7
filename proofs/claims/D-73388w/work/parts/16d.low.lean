/-! ===== maths: the lowest bit ===== -/
/-- t is the lowest bit of x -/
def ylw9 (x t : Nat) : Prop := x.testBit t = true ∧ ∀ j, j < t → x.testBit j = false
theorem ylw9_ex {x : Nat} (h : x ≠ 0) : ∃ t, ylw9 x t := by
  have ex : ∃ t, x.testBit t = true := Classical.byContradiction fun no => h (Nat.eq_of_testBit_eq fun j => by
    rw [Nat.zero_testBit]
    cases q : x.testBit j with
    | false => rfl
    | true => exact absurd ⟨j, q⟩ no)
  obtain ⟨t, ht⟩ := ex
  have := yfn_spec (q := x.testBit) (n := t + 1) ⟨t, by omega, ht⟩
  exact ⟨_, this.2.1, this.2.2.1⟩
theorem ylw9_dec {x t : Nat} (h : ylw9 x t) : ∃ q, x = 2 ^ (t + 1) * q + 2 ^ t := by
  have m0 : x % 2 ^ t = 0 := Nat.eq_of_testBit_eq fun j => by
    rw [Nat.testBit_mod_two_pow, Nat.zero_testBit]
    by_cases c : j < t
    · rw [h.2 j c, Bool.and_false]
    · simp [c]
  have o : x / 2 ^ t % 2 = 1 := by
    have := h.1
    rw [Nat.testBit_eq_decide_div_mod_eq, decide_eq_true_iff] at this
    exact this
  refine ⟨x / 2 ^ t / 2, ?_⟩
  have d := Nat.div_add_mod x (2 ^ t)
  rw [m0, Nat.add_zero] at d
  have e : x / 2 ^ t = 2 * (x / 2 ^ t / 2) + 1 := by omega
  have : 2 ^ t * (2 * (x / 2 ^ t / 2) + 1) = x := by rw [← e]; exact d
  rw [Nat.mul_add, Nat.mul_one] at this
  rw [Nat.pow_succ, Nat.mul_assoc]
  exact this.symm
theorem ylw9_pred {x t : Nat} (h : ylw9 x t) (j : Nat) : (x - 1).testBit j = if j < t then true else if j = t then false else x.testBit j := by
  obtain ⟨q, e⟩ := ylw9_dec h
  have p : 0 < 2 ^ t := Nat.two_pow_pos _
  have p2 : 2 ^ t < 2 ^ (t + 1) := Nat.pow_lt_pow_right (by omega) (by omega)
  have e1 : x - 1 = 2 ^ (t + 1) * q + (2 ^ t - 1) := by omega
  have b1 : (x - 1).testBit j = if j < t + 1 then (2 ^ t - 1).testBit j else q.testBit (j - (t + 1)) := by
    rw [e1]; exact Nat.testBit_two_pow_mul_add q (by omega) j
  have b2 : x.testBit j = if j < t + 1 then (2 ^ t).testBit j else q.testBit (j - (t + 1)) := by
    rw [e]; exact Nat.testBit_two_pow_mul_add q p2 j
  rw [b1, Nat.testBit_two_pow_sub_one]
  by_cases c : j < t
  · rw [if_pos (by omega), if_pos c]; simp [c]
  · rw [if_neg c]
    by_cases c2 : j = t
    · rw [if_pos (by omega), if_pos c2]; simp [c]
    · rw [if_neg (by omega), if_neg c2, b2, if_neg (by omega)]
theorem ylw9_drop {x t : Nat} (h : ylw9 x t) (j : Nat) : (x &&& (x - 1)).testBit j = (x.testBit j && !decide (j = t)) := by
  rw [Nat.testBit_and, ylw9_pred h]
  by_cases c : j < t
  · rw [if_pos c, h.2 j c]; rfl
  · rw [if_neg c]
    by_cases c2 : j = t
    · rw [if_pos c2]; simp [c2]
    · rw [if_neg c2]; simp [c2]
theorem ylw9_mask {w t n : Nat} (hw : w < 2 ^ n) (h : ylw9 w t) : (2 ^ n - 1 - w) &&& (w - 1) = 2 ^ t - 1 := by
  apply Nat.eq_of_testBit_eq
  intro j
  have tn : t < n := by
    refine Nat.lt_of_not_le fun z => ?_
    have := Nat.testBit_lt_two_pow (Nat.lt_of_lt_of_le hw (Nat.pow_le_pow_right (by omega) z))
    have h1 := h.1
    rw [this] at h1; cases h1
  rw [Nat.testBit_and, ylw9_pred h, show 2 ^ n - 1 - w = 2 ^ n - (w + 1) by omega, Nat.testBit_two_pow_sub_succ hw, Nat.testBit_two_pow_sub_one]
  by_cases c : j < t
  · rw [if_pos c, h.2 j c]; simp [c]; omega
  · rw [if_neg c]
    by_cases c2 : j = t
    · rw [if_pos c2]; simp [c2]
    · rw [if_neg c2]
      cases w.testBit j <;> simp [c]
