/-! ===== the reference: the least subgroup of some ===== -/
/-- y is the least subgroup with gen 0 .. gen gm -/
def ygd (T : yT) (gen : Nat → Nat) (gm y : Nat) : Prop := ysg T y = true ∧ (∀ g, g ≤ gm → y.testBit (gen g) = true) ∧ ∀ z, ysg T z = true → (∀ g, g ≤ gm → z.testBit (gen g) = true) → ysub1 y z
theorem ysg_iff {T : yT} {x : Nat} : ysg T x = true ↔ x.testBit 0 = true ∧ (∀ a b, a < Tm T → b < Tm T → x.testBit a = true → x.testBit b = true → x.testBit (yth T a b) = true) ∧ x < 2 ^ Tm T := by
  simp only [ysg, Bool.and_eq_true, yallb_iff, Bool.or_eq_true, decide_eq_true_iff, Bool.not_eq_true']
  constructor
  · rintro ⟨h1, h2, h3⟩
    refine ⟨h1, fun a b ha hb xa xb => ?_, h3⟩
    rcases h2 a ha with z | z
    · rw [z] at xa; cases xa
    · rcases z b hb with w | w
      · rw [w] at xb; cases xb
      · exact w
  · rintro ⟨h1, h2, h3⟩
    refine ⟨h1, fun a ha => ?_, h3⟩
    by_cases ca : x.testBit a = true
    · right
      intro b hb
      by_cases cb : x.testBit b = true
      · right; exact h2 a b ha hb ca cb
      · left; simpa using cb
    · left; simpa using ca
theorem ybit_lt {x m b : Nat} (h : x < 2 ^ m) (hb : x.testBit b = true) : b < m := by
  apply Nat.lt_of_not_le
  intro z
  have : x.testBit b = false := Nat.testBit_lt_two_pow (Nat.lt_of_lt_of_le h (Nat.pow_le_pow_right (by omega) z))
  rw [this] at hb; cases hb
def yq (T : yT) (gen : Nat → Nat) (gm n : Nat) (q : Nat → Nat) (y : Nat) : Prop := 1 ≤ n ∧ q 0 = 0 ∧ (∀ i, i < n → q i < Tm T) ∧ (∀ i j, i < n → j < n → q i = q j → i = j) ∧ (∀ b, y.testBit b = true ↔ ∃ i, i < n ∧ q i = b) ∧ (∀ i, 0 < i → i < n → ∃ j g, j < i ∧ g ≤ gm ∧ q i = yth T (q j) (gen g))
theorem yq_le {T : yT} {gen q : Nat → Nat} {gm n y : Nat} (h : yq T gen gm n q y) : n ≤ Tm T := by
  apply Nat.le_of_not_lt
  intro z
  obtain ⟨i, j, h1, h2, h3⟩ := ypigeon (Tm T) q (fun i hi => h.2.2.1 i (by omega))
  have := h.2.2.2.1 i j (by omega) (by omega) h3
  omega
theorem yq_lt {T : yT} {gen q : Nat → Nat} {gm n y : Nat} (h : yq T gen gm n q y) : y < 2 ^ Tm T := by
  apply Nat.lt_pow_two_of_testBit
  intro i hi
  by_cases c : y.testBit i = true
  · obtain ⟨j, h1, h2⟩ := (h.2.2.2.2.1 i).mp c
    have := h.2.2.1 j h1
    omega
  · simpa using c
/-- all is closed: it is the least subgroup -/
theorem yq_end {T : yT} (V : yV T) {gen q : Nat → Nat} {gm n y : Nat} (hg : ∀ g, g ≤ gm → gen g < Tm T) (h : yq T gen gm n q y) (hc : ∀ i g, i < n → g ≤ gm → y.testBit (yth T (q i) (gen g)) = true) : ygd T gen gm y := by
  have hl := yq_lt h
  obtain ⟨h1, h2, h3, h4, h5, h6⟩ := h
  have y0 : y.testBit 0 = true := (h5 0).mpr ⟨0, by omega, h2⟩
  have rg : ∀ x g, y.testBit x = true → g ≤ gm → y.testBit (yth T x (gen g)) = true := fun x g hx hgm => by
    obtain ⟨i, i1, i2⟩ := (h5 x).mp hx
    rw [← i2]; exact hc i g i1 hgm
  refine ⟨ysg_iff.mpr ⟨y0, fun a b ha hb xa xb => ?_, hl⟩, fun g hgm => ?_, fun z hz zg b hb => ?_⟩
  · obtain ⟨i, i1, i2⟩ := (h5 b).mp xb
    subst i2
    clear xb hb
    induction i using Nat.strongRecOn with
    | _ i ih =>
      by_cases c : i = 0
      · rw [c, h2, V.id2 ha]; exact xa
      · obtain ⟨j, g, j1, j2, j3⟩ := h6 i (by omega) i1
        rw [j3, ← V.as ha (h3 j (by omega)) (hg g j2)]
        exact rg _ g (ih j j1 (by omega)) j2
  · have := hc 0 g (by omega) hgm
    rw [h2, V.id1 (hg g hgm)] at this
    exact this
  · obtain ⟨z0, z1, z2⟩ := ysg_iff.mp hz
    obtain ⟨i, i1, i2⟩ := (h5 b).mp hb
    subst i2
    clear hb
    induction i using Nat.strongRecOn with
    | _ i ih =>
      by_cases c : i = 0
      · rw [c, h2]; exact z0
      · obtain ⟨j, g, j1, j2, j3⟩ := h6 i (by omega) i1
        rw [j3]
        exact z1 _ _ (h3 j (by omega)) (hg g j2) (ih j j1 (by omega)) (zg g j2)
theorem yq_add {T : yT} {gen q : Nat → Nat} {gm n y k g x : Nat} (h : yq T gen gm n q y) (hk : k < n) (hgm : g ≤ gm) (hx : x = yth T (q k) (gen g)) (hxm : x < Tm T) (hn : y.testBit x = false) : yq T gen gm (n + 1) (fun i => if i = n then x else q i) (y ||| 2 ^ x) := by
  obtain ⟨h1, h2, h3, h4, h5, h6⟩ := h
  have nx : ∀ i, i < n → q i ≠ x := fun i hi z => by
    have := (h5 x).mpr ⟨i, hi, z⟩; rw [this] at hn; cases hn
  refine ⟨by omega, ?_, fun i hi => ?_, fun i j hi hj he => ?_, fun b => ?_, fun i i0 hi => ?_⟩
  · dsimp only; rw [if_neg (by omega)]; exact h2
  · dsimp only
    by_cases c : i = n
    · rw [if_pos c]; exact hxm
    · rw [if_neg c]; exact h3 i (by omega)
  · dsimp only at he
    by_cases c : i = n <;> by_cases c2 : j = n
    · omega
    · rw [if_pos c, if_neg c2] at he; exact absurd he.symm (nx j (by omega))
    · rw [if_neg c, if_pos c2] at he; exact absurd he (nx i (by omega))
    · rw [if_neg c, if_neg c2] at he; exact h4 i j (by omega) (by omega) he
  · rw [Nat.testBit_or, Nat.testBit_two_pow, Bool.or_eq_true, decide_eq_true_iff, h5 b]
    constructor
    · rintro (⟨i, i1, i2⟩ | z)
      · exact ⟨i, by omega, by dsimp only; rw [if_neg (by omega)]; exact i2⟩
      · exact ⟨n, by omega, by dsimp only; rw [if_pos rfl]; exact z⟩
    · rintro ⟨i, i1, i2⟩
      dsimp only at i2
      by_cases c : i = n
      · rw [if_pos c] at i2; exact Or.inr i2
      · rw [if_neg c] at i2; exact Or.inl ⟨i, by omega, i2⟩
  · dsimp only
    by_cases c : i = n
    · exact ⟨k, g, by omega, hgm, by rw [if_pos c, if_neg (by omega)]; exact hx⟩
    · obtain ⟨j, g', j1, j2, j3⟩ := h6 i i0 (by omega)
      exact ⟨j, g', j1, j2, by rw [if_neg c, if_neg (by omega)]; exact j3⟩
