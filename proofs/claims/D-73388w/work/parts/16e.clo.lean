/-! ===== maths: the least closed set, found as the component does ===== -/
section
variable {T : yT}
/-- y is a product of some of X -/
def yrch (T : yT) (X : Nat → Prop) (y : Nat) : Prop := ∀ P : Nat → Prop, P 0 → (∀ a b, P a → X b → P (yth T a b)) → P y
/-- what holds while a set is closed -/
structure yCl (T : yT) (X : Nat → Prop) (set fresh : Nat) : Prop where
  b0 : set.testBit 0 = true
  lt : set < 2 ^ Tm T
  fl : fresh < 2 ^ Tm T
  sub : ∀ b, fresh.testBit b = true → set.testBit b = true
  gen : ∀ y, set.testBit y = true → yrch T X y
  done : ∀ a, set.testBit a = true → fresh.testBit a = false → ∀ g, X g → set.testBit (yth T a g) = true
/-- and while one is joined with all -/
structure yCi (T : yT) (X : Nat → Prop) (a set fresh left : Nat) : Prop where
  b0 : set.testBit 0 = true
  lt : set < 2 ^ Tm T
  fl : fresh < 2 ^ Tm T
  sub : ∀ b, fresh.testBit b = true → set.testBit b = true
  gen : ∀ y, set.testBit y = true → yrch T X y
  as : set.testBit a = true
  af : fresh.testBit a = false
  ll : ∀ b, left.testBit b = true → X b
  done : ∀ c, set.testBit c = true → fresh.testBit c = false → ∀ g, X g → (c = a → left.testBit g = false) → set.testBit (yth T c g) = true
theorem yCl.end (V : yV T) {X : Nat → Prop} (hX : ∀ g, X g → g < Tm T) {set : Nat} (C : yCl T X set 0) : ylst T X set := by
  have lt : ∀ b, set.testBit b = true → b < Tm T := fun b hb => by
    refine Nat.lt_of_not_le fun z => ?_
    rw [Nat.testBit_lt_two_pow (Nat.lt_of_lt_of_le C.lt (Nat.pow_le_pow_right (by omega) z))] at hb
    cases hb
  have dn : ∀ a g, set.testBit a = true → X g → set.testBit (yth T a g) = true := fun a g ha hg => C.done a ha (Nat.zero_testBit _) g hg
  have sg : ysg T set = true := by
    refine ysg_iff.mpr ⟨C.b0, fun a b ha hb ta tb => ?_, C.lt⟩
    have := C.gen b tb (fun y => y < Tm T ∧ set.testBit (yth T a y) = true) ⟨V.m0, by rw [V.id2 ha]; exact ta⟩ (fun c g hc hg => ⟨V.th hc.1 (hX g hg), by rw [← V.as ha hc.1 (hX g hg)]; exact dn _ g hc.2 hg⟩)
    exact this.2
  refine ⟨sg, fun b hb hXb => ?_, fun z hz hzx y hy => ?_⟩
  · have := dn 0 b C.b0 hXb
    rw [V.id1 hb] at this; exact this
  · have zs := ysg_iff.mp hz
    have := C.gen y hy (fun y => y < Tm T ∧ z.testBit y = true) ⟨V.m0, zs.1⟩ (fun c g hc hg => ⟨V.th hc.1 (hX g hg), zs.2.1 c g hc.1 (hX g hg) hc.2 (hzx g (hX g hg) hg)⟩)
    exact this.2
theorem yCl.start (V : yV T) {X : Nat → Prop} : yCl T X 1 1 := by
  have t1 : ∀ b, Nat.testBit 1 b = decide (0 = b) := fun b => Nat.testBit_two_pow (n := 0) (m := b)
  have p : 1 < 2 ^ Tm T := Nat.one_lt_two_pow (by have := V.m; omega)
  refine ⟨rfl, p, p, fun _ h => h, fun y hy P p0 _ => ?_, fun a ha hf => ?_⟩
  · rw [t1, decide_eq_true_iff] at hy; rw [← hy]; exact p0
  · rw [ha] at hf; cases hf
theorem ylw9_lt {x t m : Nat} (hx : x < 2 ^ m) (h : ylw9 x t) : t < m := by
  refine Nat.lt_of_not_le fun z => ?_
  have h1 := h.1
  rw [Nat.testBit_lt_two_pow (Nat.lt_of_lt_of_le hx (Nat.pow_le_pow_right (by omega) z))] at h1
  cases h1
theorem yCl.open {X : Nat → Prop} {set fresh by' t : Nat} (C : yCl T X set fresh) (ht : ylw9 fresh t) (hb : ∀ g, X g ↔ by'.testBit g = true) : yCi T X t set (fresh &&& (fresh - 1)) by' := by
  have d := ylw9_drop ht
  refine ⟨C.b0, C.lt, Nat.lt_of_le_of_lt Nat.and_le_left C.fl, fun b h => ?_, C.gen, C.sub t ht.1, by rw [d]; simp, fun b h => (hb b).mpr h, fun c hc hf g hg hl => ?_⟩
  · rw [d, Bool.and_eq_true] at h; exact C.sub b h.1
  · by_cases q : c = t
    · have := hl q
      rw [(hb g).mp hg] at this; cases this
    · refine C.done c hc ?_ g hg
      rw [d] at hf
      simpa [q] using hf
theorem yCi.close {X : Nat → Prop} {a set fresh : Nat} (C : yCi T X a set fresh 0) : yCl T X set fresh :=
  ⟨C.b0, C.lt, C.fl, C.sub, C.gen, fun c hc hf g hg => C.done c hc hf g hg (fun _ => Nat.zero_testBit _)⟩
/-- the next generator: what it makes is there -/
theorem yCi.skip {X : Nat → Prop} {a set fresh left t : Nat} (C : yCi T X a set fresh left) (ht : ylw9 left t) (hs : set.testBit (yth T a t) = true) : yCi T X a set fresh (left &&& (left - 1)) := by
  have d := ylw9_drop ht
  refine ⟨C.b0, C.lt, C.fl, C.sub, C.gen, C.as, C.af, fun b h => ?_, fun c hc hf g hg hl => ?_⟩
  · rw [d, Bool.and_eq_true] at h; exact C.ll b h.1
  · by_cases q : c = a ∧ g = t
    · rw [q.1, q.2]; exact hs
    · refine C.done c hc hf g hg fun ca => ?_
      have := hl ca
      rw [d] at this
      have gt : g ≠ t := fun z => q ⟨ca, z⟩
      simpa [gt] using this
theorem yCi.add (V : yV T) {X : Nat → Prop} (hX : ∀ g, X g → g < Tm T) {a set fresh left t : Nat} (C : yCi T X a set fresh left) (ha : a < Tm T) (ht : ylw9 left t) (hs : set.testBit (yth T a t) = false) : yCi T X a (set ||| 2 ^ yth T a t) (fresh ||| 2 ^ yth T a t) (left &&& (left - 1)) := by
  have d := ylw9_drop ht
  have hXt := C.ll t ht.1
  have hb := V.th ha (hX t hXt)
  have bs : ∀ s b, (s ||| 2 ^ yth T a t).testBit b = (s.testBit b || decide (yth T a t = b)) := fun s b => by rw [Nat.testBit_or, Nat.testBit_two_pow]
  have p : 2 ^ yth T a t < 2 ^ Tm T := Nat.pow_lt_pow_right (by omega) hb
  have na : yth T a t ≠ a := fun z => by rw [z, C.as] at hs; cases hs
  refine ⟨by rw [bs, C.b0]; rfl, Nat.or_lt_two_pow C.lt p, Nat.or_lt_two_pow C.fl p, fun b h => ?_, fun y hy => ?_, by rw [bs, C.as]; rfl, by rw [bs, C.af]; simp [na], fun b h => ?_, fun c hc hf g hg hl => ?_⟩
  · rw [bs, Bool.or_eq_true] at h ⊢
    rcases h with h | h
    · exact Or.inl (C.sub b h)
    · exact Or.inr h
  · rw [bs, Bool.or_eq_true, decide_eq_true_iff] at hy
    rcases hy with h | h
    · exact C.gen y h
    · rw [← h]; intro P p0 ps; exact ps a t (C.gen a C.as P p0 ps) hXt
  · rw [d, Bool.and_eq_true] at h; exact C.ll b h.1
  · rw [bs, Bool.or_eq_false_iff, decide_eq_false_iff_not] at hf
    rw [bs, Bool.or_eq_true, decide_eq_true_iff] at hc
    have hc : set.testBit c = true := hc.resolve_right hf.2
    by_cases q : c = a ∧ g = t
    · rw [q.1, q.2, bs]; simp
    · rw [bs, C.done c hc hf.1 g hg (fun ca => ?_)]
      · rfl
      · have := hl ca
        rw [d] at this
        have gt : g ≠ t := fun z => q ⟨ca, z⟩
        simpa [gt] using this
/-- what is left to do -/
def yCm (set fresh : Nat) : Int := 2 * (64 - ycnt set.testBit 64) + ycnt fresh.testBit 64
theorem yCm_nn (set fresh : Nat) : 0 ≤ yCm set fresh := by
  have a := ycnt_bd set.testBit 64
  have b := ycnt_bd fresh.testBit 64
  unfold yCm; omega
theorem yCm_drop {set fresh : Nat} (hf : fresh < 2 ^ 64) (h0 : fresh ≠ 0) : yCm set (fresh &&& (fresh - 1)) = yCm set fresh - 1 := by
  unfold yCm; rw [ycnt_drop 64 fresh hf h0]; omega
theorem yCm_add {set fresh b : Nat} (hb : b < 64) (hs : set.testBit b = false) (hf : fresh.testBit b = false) : yCm (set ||| 2 ^ b) (fresh ||| 2 ^ b) = yCm set fresh - 1 := by
  have key : ∀ s : Nat, s.testBit b = false → ycnt (s ||| 2 ^ b).testBit 64 = ycnt s.testBit 64 + 1 := fun s h => by
    have := ycnt_add (q := s.testBit) (r := (s ||| 2 ^ b).testBit) (b := b) h (by rw [Nat.testBit_or, Nat.testBit_two_pow]; simp) (fun i hi => by rw [Nat.testBit_or, Nat.testBit_two_pow, decide_eq_false (fun z => hi z.symm), Bool.or_false]) 64
    rw [this, if_pos hb]
  unfold yCm; rw [key _ hs, key _ hf]; omega
end
