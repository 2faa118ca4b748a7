/-! ===== maths: sets that a set is turned to ===== -/
section
variable {T : yT}
theorem ytn_sg (V : yV T) {x c : Nat} (hx : ysg T x = true) (hc : c < Tm T) : ysg T (ytn T x c (Tm T)) = true := by
  have s := ysg_iff.mp hx
  have lt : ∀ b, x.testBit b = true → b < Tm T := fun b hb => by
    refine Nat.lt_of_not_le fun z => ?_
    rw [Nat.testBit_lt_two_pow (Nat.lt_of_lt_of_le s.2.2 (Nat.pow_le_pow_right (by omega) z))] at hb
    cases hb
  refine ysg_iff.mpr ⟨(ytn_bit _).mpr ⟨0, V.m0, s.1, ?_⟩, fun a b ha hb ta tb => ?_, ytn_lt V hc _ (Nat.le_refl _)⟩
  · unfold ycj; rw [V.id2 hc, V.ivr hc]
  · obtain ⟨y, hy, by1, e1⟩ := (ytn_bit _).mp ta
    obtain ⟨z, hz, bz, e2⟩ := (ytn_bit _).mp tb
    refine (ytn_bit _).mpr ⟨yth T y z, V.th hy hz, s.2.1 y z hy hz by1 bz, ?_⟩
    rw [V.cj_th hc hy hz, e1, e2]
theorem ytn_0 (V : yV T) {x : Nat} (hx : x < 2 ^ Tm T) : ytn T x 0 (Tm T) = x := by
  apply Nat.eq_of_testBit_eq
  intro b
  rw [Bool.eq_iff_iff, ytn_bit]
  constructor
  · rintro ⟨y, hy, t, e⟩
    rw [V.cj0 hy] at e; rw [← e]; exact t
  · intro t
    have hb : b < Tm T := by
      refine Nat.lt_of_not_le fun z => ?_
      rw [Nat.testBit_lt_two_pow (Nat.lt_of_lt_of_le hx (Nat.pow_le_pow_right (by omega) z))] at t
      cases t
    exact ⟨b, hb, t, V.cj0 hb⟩
/-- unlike ones, one behind the other -/
structure yUn (T : yT) (x c : Nat) (l : List Nat) : Prop where
  nd : l.Nodup
  mem : ∀ y, y ∈ l ↔ ∃ c', c' < c ∧ ytn T x c' (Tm T) = y
theorem yUn.start {x : Nat} : yUn T x 0 [] := ⟨List.nodup_nil, fun y => ⟨fun h => absurd h List.not_mem_nil, fun ⟨c, hc, _⟩ => absurd hc (Nat.not_lt_zero _)⟩⟩
theorem yUn.old {x c : Nat} {l : List Nat} (U : yUn T x c l) (h : ytn T x c (Tm T) ∈ l) : yUn T x (c + 1) l := by
  refine ⟨U.nd, fun y => ⟨fun hy => ?_, fun ⟨c', hc', e⟩ => ?_⟩⟩
  · obtain ⟨c', hc', e⟩ := (U.mem y).mp hy
    exact ⟨c', by omega, e⟩
  · by_cases q : c' = c
    · rw [← e, q]; exact h
    · exact (U.mem y).mpr ⟨c', by omega, e⟩
theorem yUn.new {x c : Nat} {l : List Nat} (U : yUn T x c l) (h : ytn T x c (Tm T) ∉ l) : yUn T x (c + 1) (l ++ [ytn T x c (Tm T)]) := by
  refine ⟨List.nodup_append.mpr ⟨U.nd, by simp, fun a ha b hb z => ?_⟩, fun y => ?_⟩
  · have : b = ytn T x c (Tm T) := by simpa using hb
    rw [this] at z; rw [z] at ha; exact h ha
  · rw [List.mem_append, List.mem_singleton]
    constructor
    · rintro (hy | hy)
      · obtain ⟨c', hc', e⟩ := (U.mem y).mp hy
        exact ⟨c', by omega, e⟩
      · exact ⟨c, by omega, hy.symm⟩
    · rintro ⟨c', hc', e⟩
      by_cases q : c' = c
      · right; rw [← e, q]
      · left; exact (U.mem y).mpr ⟨c', by omega, e⟩
theorem yUn.len {x c : Nat} {l : List Nat} (U : yUn T x c l) : l.length ≤ c := by
  have sub : l ⊆ (List.range c).map (fun c' => ytn T x c' (Tm T)) := fun y hy => by
    obtain ⟨c', hc', e⟩ := (U.mem y).mp hy
    exact List.mem_map.mpr ⟨c', List.mem_range.mpr hc', e⟩
  have := U.nd.length_le_of_subset sub
  rw [List.length_map, List.length_range] at this
  exact this
/-- as many as the model counts -/
theorem yUn.cnt (V : yV T) {x : Nat} {l : List Nat} (hx : ysg T x = true) (U : yUn T x (Tm T) l) : l.length = ylk T x := by
  have p : l.Perm ((ysl T).filter (ylkp T x)) := by
    refine (List.perm_ext_iff_of_nodup U.nd (List.Pairwise.filter _ (ysl_nodup T))).mpr fun y => ?_
    rw [U.mem, List.mem_filter]
    have k : ylkp T x y = true ↔ ∃ c', c' < Tm T ∧ ytn T x c' (Tm T) = y := by
      unfold ylkp
      rw [Bool.not_eq_true', ← Bool.not_eq_true, yallb_iff]
      constructor
      · intro h
        refine Classical.byContradiction fun no => h fun c hc => ?_
        rw [decide_eq_false (fun z => no ⟨c, hc, z⟩)]; rfl
      · rintro ⟨c, hc, e⟩ h
        have := h c hc
        rw [decide_eq_true e] at this; cases this
    rw [k]
    exact ⟨fun h => ⟨by obtain ⟨c, hc, e⟩ := h; rw [← e]; exact ymem_sl.mpr (ytn_sg V hx hc), h⟩, fun h => h.2⟩
  rw [p.length_eq]
  unfold ylk
  rw [List.countP_eq_length_filter]
theorem yUn.one (V : yV T) {x : Nat} {l : List Nat} (hx : ysg T x = true) (U : yUn T x (Tm T) l) : decide (l.length = 1) = ystl T x := by
  have x0 := ytn_0 V (ysg_iff.mp hx).2.2
  have xl : x ∈ l := (U.mem x).mpr ⟨0, V.m0, x0⟩
  unfold ystl
  rw [Bool.eq_iff_iff, decide_eq_true_iff, yallb_iff]
  constructor
  · intro h c hc
    obtain ⟨y, e⟩ := List.length_eq_one_iff.mp h
    have m := (U.mem (ytn T x c (Tm T))).mpr ⟨c, hc, rfl⟩
    rw [e] at m xl
    rw [decide_eq_true_iff, List.mem_singleton.mp m, List.mem_singleton.mp xl]
  · intro h
    have sub : l ⊆ [x] := fun y hy => by
      obtain ⟨c, hc, e⟩ := (U.mem y).mp hy
      rw [List.mem_singleton, ← e]; exact of_decide_eq_true (h c hc)
    have := U.nd.length_le_of_subset sub
    have p := List.length_pos_of_mem xl
    simp at this; omega
/-- while a set is turned: those that are left -/
def yTu (T : yT) (X c left other : Nat) : Prop := (∀ b, left.testBit b = true → X.testBit b = true) ∧ other < 2 ^ Tm T ∧ ∀ b, other.testBit b = true ↔ ∃ i, X.testBit i = true ∧ left.testBit i = false ∧ ycj T c i = b
theorem yTu.start {X c : Nat} : yTu T X c X 0 := ⟨fun _ h => h, Nat.two_pow_pos _, fun b => ⟨fun h => (by rw [Nat.zero_testBit] at h; cases h), fun ⟨i, h1, h2, _⟩ => (by rw [h1] at h2; cases h2)⟩⟩
theorem yTu.step (V : yV T) {X c left other t : Nat} (hX : X < 2 ^ Tm T) (hc : c < Tm T) (U : yTu T X c left other) (ht : ylw9 left t) : yTu T X c (left &&& (left - 1)) (other ||| 2 ^ ycj T c t) := by
  have d := ylw9_drop ht
  have tm : t < Tm T := by
    refine Nat.lt_of_not_le fun z => ?_
    have := U.1 t ht.1
    rw [Nat.testBit_lt_two_pow (Nat.lt_of_lt_of_le hX (Nat.pow_le_pow_right (by omega) z))] at this
    cases this
  refine ⟨fun b h => ?_, Nat.or_lt_two_pow U.2.1 (Nat.pow_lt_pow_right (by omega) (V.cj hc tm)), fun b => ?_⟩
  · rw [d, Bool.and_eq_true] at h; exact U.1 b h.1
  · rw [Nat.testBit_or, Nat.testBit_two_pow, Bool.or_eq_true, decide_eq_true_iff, U.2.2]
    constructor
    · rintro (⟨i, h1, h2, h3⟩ | h)
      · exact ⟨i, h1, by rw [d, h2]; rfl, h3⟩
      · exact ⟨t, U.1 t ht.1, by rw [d]; simp, h⟩
    · rintro ⟨i, h1, h2, h3⟩
      by_cases q : i = t
      · right; rw [← q]; exact h3
      · left
        rw [d] at h2
        exact ⟨i, h1, by simpa [q] using h2, h3⟩
theorem yTu.end {X c other : Nat} (hX : X < 2 ^ Tm T) (U : yTu T X c 0 other) : other = ytn T X c (Tm T) := by
  apply Nat.eq_of_testBit_eq
  intro b
  rw [Bool.eq_iff_iff, U.2.2, ytn_bit]
  constructor
  · rintro ⟨i, h1, _, h3⟩
    refine ⟨i, Nat.lt_of_not_le fun z => ?_, h1, h3⟩
    rw [Nat.testBit_lt_two_pow (Nat.lt_of_lt_of_le hX (Nat.pow_le_pow_right (by omega) z))] at h1
    cases h1
  · rintro ⟨i, _, h1, h3⟩
    exact ⟨i, h1, Nat.zero_testBit _, h3⟩
end
