/-! ===== maths: all subgroups, found as the component does ===== -/
section
variable {T : yT}
noncomputable def ymskP (P : Nat → Prop) : Nat → Nat
  | 0 => 0
  | k + 1 => @ite _ (P k) (Classical.propDecidable _) (ymskP P k ||| 2 ^ k) (ymskP P k)
theorem ymskP_bit (P : Nat → Prop) (b : Nat) : ∀ k, (ymskP P k).testBit b = true ↔ b < k ∧ P b := by
  intro k
  induction k with
  | zero => exact ⟨fun h => by simp [ymskP] at h, fun h => absurd h.1 (Nat.not_lt_zero _)⟩
  | succ k ih =>
    unfold ymskP
    by_cases c : P k
    · rw [if_pos c, Nat.testBit_or, Nat.testBit_two_pow, Bool.or_eq_true, decide_eq_true_iff, ih]
      constructor
      · rintro (h | h)
        · exact ⟨by omega, h.2⟩
        · rw [← h]; exact ⟨by omega, c⟩
      · rintro ⟨h1, h2⟩
        by_cases q : k = b
        · exact Or.inr q
        · exact Or.inl ⟨by omega, h2⟩
    · rw [if_neg c, ih]
      constructor
      · rintro ⟨h1, h2⟩; exact ⟨by omega, h2⟩
      · rintro ⟨h1, h2⟩
        refine ⟨Nat.lt_of_le_of_ne (by omega) fun z => c (by rw [← z]; exact h2), h2⟩
theorem ymskP_lt (P : Nat → Prop) : ∀ k, ymskP P k < 2 ^ k := by
  intro k
  induction k with
  | zero => exact Nat.two_pow_pos _
  | succ k ih =>
    have p : 2 ^ k < 2 ^ (k + 1) := Nat.pow_lt_pow_right (by omega) (by omega)
    unfold ymskP
    split
    · exact Nat.or_lt_two_pow (by omega) p
    · omega
theorem ylst_ex (V : yV T) (X : Nat → Prop) (hX : ∀ g, X g → g < Tm T) : ∃ y, ylst T X y := by
  have lt : ∀ y, yrch T X y → y < Tm T := fun y h => h (fun y => y < Tm T) V.m0 (fun a b ha hb => V.th ha (hX b hb))
  refine ⟨ymskP (yrch T X) (Tm T), ?_, fun b hb hXb => ?_, fun z hz hzx b hb => ?_⟩
  · refine ysg_iff.mpr ⟨(ymskP_bit _ _ _).mpr ⟨V.m0, fun P p0 _ => p0⟩, fun a b ha hb ta tb => ?_, ymskP_lt _ _⟩
    have ra := ((ymskP_bit _ _ _).mp ta).2
    have rb := ((ymskP_bit _ _ _).mp tb).2
    refine (ymskP_bit _ _ _).mpr ⟨V.th ha hb, fun P p0 ps => ?_⟩
    have := rb (fun y => y < Tm T ∧ P (yth T a y)) ⟨V.m0, by rw [V.id2 ha]; exact ra P p0 ps⟩ (fun c g hc hg => ⟨V.th hc.1 (hX g hg), by rw [← V.as ha hc.1 (hX g hg)]; exact ps _ g hc.2 hg⟩)
    exact this.2
  · refine (ymskP_bit _ _ _).mpr ⟨hb, fun P p0 ps => ?_⟩
    have := ps 0 b p0 hXb
    rw [V.id1 hb] at this; exact this
  · have rb := ((ymskP_bit _ _ _).mp hb).2
    have zs := ysg_iff.mp hz
    have := rb (fun y => y < Tm T ∧ z.testBit y = true) ⟨V.m0, zs.1⟩ (fun c g hc hg => ⟨V.th hc.1 (hX g hg), zs.2.1 c g hc.1 (hX g hg) hc.2 (hzx g (hX g hg) hg)⟩)
    exact this.2
theorem ygn_sp (V : yV T) (X : Nat → Prop) (hX : ∀ g, X g → g < Tm T) : ylst T X (ygn T X) := by
  obtain ⟨y, hy⟩ := ylst_ex V X hX
  rw [ygn_eq hy]; exact hy
theorem ybl9 {x m b : Nat} (hx : x < 2 ^ m) (hb : x.testBit b = true) : b < m := by
  refine Nat.lt_of_not_le fun z => ?_
  rw [Nat.testBit_lt_two_pow (Nat.lt_of_lt_of_le hx (Nat.pow_le_pow_right (by omega) z))] at hb
  cases hb
/-- one more in a set: the least closed set -/
noncomputable def yad (T : yT) (x a : Nat) : Nat := ygn T (fun b => (x ||| 2 ^ a).testBit b = true)
theorem yad_sp (V : yV T) {x a : Nat} (hx : x < 2 ^ Tm T) (ha : a < Tm T) : ylst T (fun b => (x ||| 2 ^ a).testBit b = true) (yad T x a) :=
  ygn_sp V _ fun g hg => ybl9 (Nat.or_lt_two_pow hx (Nat.pow_lt_pow_right (by omega) ha)) hg
theorem yad_sub (V : yV T) {x a : Nat} (hx : x < 2 ^ Tm T) (ha : a < Tm T) : ysub1 x (yad T x a) ∧ (yad T x a).testBit a = true ∧ ∀ z, ysg T z = true → ysub1 x z → z.testBit a = true → ysub1 (yad T x a) z := by
  have s := yad_sp V hx ha
  have bs : ∀ b, (x ||| 2 ^ a).testBit b = (x.testBit b || decide (a = b)) := fun b => by rw [Nat.testBit_or, Nat.testBit_two_pow]
  refine ⟨fun b hb => s.2.1 b (ybl9 hx hb) (show (x ||| 2 ^ a).testBit b = true by rw [bs, hb]; rfl), s.2.1 a ha (show (x ||| 2 ^ a).testBit a = true by rw [bs]; simp), fun z hz h1 h2 => s.2.2 z hz fun b hb hq => ?_⟩
  have hq : (x ||| 2 ^ a).testBit b = true := hq
  rw [bs, Bool.or_eq_true, decide_eq_true_iff] at hq
  rcases hq with q | q
  · exact h1 b q
  · rw [← q]; exact h2
theorem ycnt_sub {x y a : Nat} (h : ysub1 x y) (hx : x.testBit a = false) (hy : y.testBit a = true) (ha : a < 64) : ycnt x.testBit 64 < ycnt y.testBit 64 :=
  ycnt_lt (fun k _ q => h k q) ha hx hy
/-- sets so far -/
structure yGs (T : yT) (L : List Nat) : Prop where
  sg : ∀ x, x ∈ L → ysg T x = true
  nd : L.Nodup
theorem yGs.le {L : List Nat} (G : yGs T L) : L.length ≤ (ysl T).length := G.nd.length_le_of_subset fun x hx => ymem_sl.mpr (G.sg x hx)
theorem yGs.full {L : List Nat} (G : yGs T L) (h : (ysl T).length ≤ L.length) {z : Nat} (hz : ysg T z = true) : z ∈ L := by
  refine Classical.byContradiction fun no => ?_
  have nd : (z :: L).Nodup := List.nodup_cons.mpr ⟨no, G.nd⟩
  have := nd.length_le_of_subset (l₂ := ysl T) fun x hx => by
    rcases List.mem_cons.mp hx with q | q
    · rw [q]; exact ymem_sl.mpr hz
    · exact ymem_sl.mpr (G.sg x q)
  rw [List.length_cons] at this; omega
theorem yGs.all (V : yV T) {L : List Nat} (G : yGs T L) (h1 : 1 ∈ L) (hc : ∀ x, x ∈ L → ∀ a, a < Tm T → x.testBit a = false → yad T x a ∈ L) {z : Nat} (hz : ysg T z = true) : z ∈ L := by
  have m := V.m
  have zs := ysg_iff.mp hz
  have key : ∀ (n : Nat) (x : Nat), x ∈ L → ysub1 x z → ycnt z.testBit 64 - ycnt x.testBit 64 ≤ (n : Int) → z ∈ L := by
    intro n
    induction n with
    | zero =>
      intro x hx hs hn
      by_cases e : ysub1 z x
      · rw [ysub1_eq e hs]; exact hx
      · exfalso
        have : ∃ a, z.testBit a = true ∧ x.testBit a = false := Classical.byContradiction fun no => e fun b hb => by
          cases q : x.testBit b with
          | true => rfl
          | false => exact absurd ⟨b, hb, q⟩ no
        obtain ⟨a, h1, h2⟩ := this
        have := ycnt_sub hs h2 h1 (by have := ybl9 zs.2.2 h1; omega)
        omega
    | succ n ih =>
      intro x hx hs hn
      by_cases e : ysub1 z x
      · rw [ysub1_eq e hs]; exact hx
      · have : ∃ a, z.testBit a = true ∧ x.testBit a = false := Classical.byContradiction fun no => e fun b hb => by
          cases q : x.testBit b with
          | true => rfl
          | false => exact absurd ⟨b, hb, q⟩ no
        obtain ⟨a, h1, h2⟩ := this
        have am := ybl9 zs.2.2 h1
        have xs := (ysg_iff.mp (G.sg x hx)).2.2
        have s := yad_sub V xs am
        have := ycnt_sub s.1 h2 s.2.1 (by omega)
        exact ih _ (hc x hx a am h2) (s.2.2 z hz hs h1) (by omega)
  have b := ycnt_bd z.testBit 64
  have b1 := ycnt_bd (Nat.testBit 1) 64
  refine key 64 1 h1 (fun b hb => ?_) (by omega)
  have t1 : Nat.testBit 1 b = decide (0 = b) := Nat.testBit_two_pow (n := 0) (m := b)
  rw [t1, decide_eq_true_iff] at hb
  rw [← hb]; exact zs.1
/-- a sorted list of all is the model's -/
theorem ysl_uniq {L : List Nat} (h : ∀ x, x ∈ L ↔ ysg T x = true) (s : L.Pairwise (fun x y => yslt x y = true)) : L = ysl T := by
  have ir : ∀ x, yslt x x = false := fun x => by
    cases q : yslt x x with
    | false => rfl
    | true => have := yslt_iff.mp q; omega
  have as : ∀ x y, yslt x y = true → yslt y x = false := fun x y q => by
    cases r : yslt y x with
    | false => rfl
    | true => have := yslt_iff.mp q; have := yslt_iff.mp r; omega
  have uniq : ∀ (a b : List Nat), a.Pairwise (fun x y => yslt x y = true) → b.Pairwise (fun x y => yslt x y = true) → (∀ x, x ∈ a ↔ x ∈ b) → a = b := by
    intro a
    induction a with
    | nil => intro b _ _ h; cases b with
      | nil => rfl
      | cons y b => exact absurd ((h y).mpr List.mem_cons_self) List.not_mem_nil
    | cons x a ih =>
      intro b pa pb h
      cases b with
      | nil => exact absurd ((h x).mp List.mem_cons_self) List.not_mem_nil
      | cons y b =>
        have pa := List.pairwise_cons.mp pa
        have pb := List.pairwise_cons.mp pb
        have xy : x = y := by
          rcases List.mem_cons.mp ((h x).mp List.mem_cons_self) with q | q
          · exact q
          · rcases List.mem_cons.mp ((h y).mpr List.mem_cons_self) with r | r
            · exact r.symm
            · have s1 := pb.1 x q
              have s2 := pa.1 y r
              rw [as _ _ s1] at s2; cases s2
        subst xy
        refine congrArg (x :: ·) (ih b pa.2 pb.2 fun z => ?_)
        have irr : ∀ {l : List Nat}, (∀ y ∈ l, yslt x y = true) → x ∉ l := fun hl hx => by
          have := hl x hx
          rw [ir] at this; cases this
        constructor
        · intro hz
          rcases List.mem_cons.mp ((h z).mp (List.mem_cons_of_mem _ hz)) with q | q
          · rw [q] at hz; exact absurd hz (irr pa.1)
          · exact q
        · intro hz
          rcases List.mem_cons.mp ((h z).mpr (List.mem_cons_of_mem _ hz)) with q | q
          · rw [q] at hz; exact absurd hz (irr pb.1)
          · exact q
  exact uniq _ _ s (ysl_sorted T) fun x => by rw [h, ymem_sl]
end
