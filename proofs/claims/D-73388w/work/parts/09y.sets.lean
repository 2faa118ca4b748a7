/-! ===== subgroups found one by one: in numbers ===== -/
theorem ycnt_inj {p q : Nat → Bool} {f : Nat → Nat} : ∀ (n m : Nat), (∀ i, i < n → p i = true → f i < m ∧ q (f i) = true) → (∀ i j, i < n → j < n → p i = true → p j = true → f i = f j → i = j) → ycnt p n ≤ ycnt q m := by
  intro n
  induction n generalizing q with
  | zero => intro m _ _; exact (ycnt_bd q m).1
  | succ n ih =>
    intro m h1 h2
    simp only [ycnt]
    by_cases c : p n = true
    · rw [if_pos c]
      obtain ⟨a1, a2⟩ := h1 n (by omega) c
      have := ih (q := fun b => q b && decide (b ≠ f n)) m (fun i hi hp => by
        obtain ⟨b1, b2⟩ := h1 i (by omega) hp
        refine ⟨b1, ?_⟩
        rw [b2, Bool.true_and, decide_eq_true_iff]
        intro z
        have := h2 i n (by omega) (by omega) hp c z
        omega) (fun i j hi hj => h2 i j (by omega) (by omega))
      have e := ycnt_add (q := fun b => q b && decide (b ≠ f n)) (r := q) (b := f n) (by simp) a2 (fun i hi => by simp [hi]) m
      rw [if_pos a1] at e
      omega
    · rw [if_neg c]
      have := ih (q := q) m (fun i hi hp => h1 i (by omega) hp) (fun i j hi hj => h2 i j (by omega) (by omega))
      omega
theorem ycnt_split (q r : Nat → Bool) (n : Nat) : ycnt q n = ycnt (fun b => q b && r b) n + ycnt (fun b => q b && !r b) n := by
  induction n with
  | zero => simp [ycnt]
  | succ n ih =>
    simp only [ycnt]
    rw [ih]
    by_cases hq : q n = true <;> by_cases hr : r n = true <;> simp [hq, hr] <;> omega
section
variable {T : yT}
theorem yV.sg_iv (V : yV T) {x i : Nat} (hx : ysg T x = true) (hi : x.testBit i = true) : x.testBit (yiv T i) = true := by
  obtain ⟨x0, x1, x2⟩ := ysg_iff.mp hx
  have him := ybit_lt x2 hi
  have pw : ∀ k, x.testBit (ypw T i k) = true := fun k => by
    induction k with
    | zero => exact x0
    | succ k ih => exact x1 _ _ (ybit_lt x2 ih) him ih hi
  obtain ⟨p, q, hpq, hq, he⟩ := ypigeon (Tm T) (ypw T i) (fun k _ => ybit_lt x2 (pw k))
  have pl : ∀ k j, yth T (ypw T i k) (ypw T i j) = ypw T i (k + j) := fun k j => by
    induction j with
    | zero => exact V.id2 (ybit_lt x2 (pw k))
    | succ j ih => show yth T _ (yth T _ i) = yth T _ i; rw [← V.as (ybit_lt x2 (pw k)) (ybit_lt x2 (pw j)) him, ih]; rfl
  have z : ypw T i (q - p) = 0 := by
    have e := pl p (q - p)
    rw [show p + (q - p) = q by omega, ← he] at e
    refine V.cancel (a := ypw T i p) (ybit_lt x2 (pw p)) (ybit_lt x2 (pw _)) V.m0 ?_
    rw [e, V.id2 (ybit_lt x2 (pw p))]
  have z1 : yth T i (ypw T i (q - p - 1)) = 0 := by
    have e := pl 1 (q - p - 1)
    have o1 : ypw T i 1 = i := V.id1 him
    rw [o1, show 1 + (q - p - 1) = q - p by omega, z] at e
    exact e
  rw [← V.iv_uniq him (ybit_lt x2 (pw _)) z1]
  exact pw _
/-- a subgroup with one more has twice as many at least -/
theorem yV.dbl (V : yV T) {x y a : Nat} (hx : ysg T x = true) (hy : ysg T y = true) (hxy : ysub1 x y) (ha : y.testBit a = true) (hna : x.testBit a = false) : 2 * ycnt x.testBit 64 ≤ ycnt y.testBit 64 := by
  obtain ⟨x0, x1, x2⟩ := ysg_iff.mp hx
  obtain ⟨y0, y1, y2⟩ := ysg_iff.mp hy
  have hm := V.m
  have ham := ybit_lt y2 ha
  have sp := ycnt_split y.testBit x.testBit 64
  have e1 : ycnt x.testBit 64 ≤ ycnt (fun b => y.testBit b && x.testBit b) 64 := ycnt_le (fun k _ hk => by simp [hk, hxy k hk])
  have e2 : ycnt x.testBit 64 ≤ ycnt (fun b => y.testBit b && !x.testBit b) 64 := by
    refine ycnt_inj (f := fun b => yth T b a) 64 64 (fun i _ hi => ?_) (fun i j _ _ hi hj he => ?_)
    · have him := ybit_lt x2 hi
      have ht := V.th him ham
      refine ⟨by omega, ?_⟩
      rw [y1 i a him ham (hxy i hi) ha, Bool.true_and]
      by_cases c : x.testBit (yth T i a) = true
      · exfalso
        -- a = i⁻¹ (i a)
        have hi' : x.testBit (yiv T i) = true := V.sg_iv hx hi
        have e : yth T (yiv T i) (yth T i a) = a := by
          rw [← V.as (V.iv him) him ham, V.ivl him, V.id1 ham]
        have := x1 _ _ (V.iv him) ht hi' c
        rw [e, hna] at this
        cases this
      · simpa using c
    · exact V.cancelr ham (ybit_lt x2 hi) (ybit_lt x2 hj) he
  omega
theorem ysg_one (V : yV T) : ysg T 1 = true := by
  have t1 : ∀ b, Nat.testBit 1 b = decide (0 = b) := fun b => Nat.testBit_two_pow (n := 0) (m := b)
  refine ysg_iff.mpr ⟨rfl, fun a b _ _ ha hb => ?_, ?_⟩
  · rw [t1, decide_eq_true_iff] at ha hb
    rw [← ha, ← hb, V.id1 V.m0]; rfl
  · have := Nat.pow_le_pow_right (n := 2) (by omega) V.m.1
    omega
theorem ymem_sl {x : Nat} : x ∈ ysl T ↔ ysg T x = true := by
  unfold ysl
  rw [List.mem_mergeSort, List.mem_filter, List.mem_range]
  exact ⟨fun h => h.2, fun h => ⟨(ysg_iff.mp h).2.2, h⟩⟩
/-- some subgroups, each but once: they are not too many -/
theorem ysl_le {n : Nat} {f : Nat → Nat} (h1 : ∀ i, i < n → ysg T (f i) = true) (h2 : ∀ i j, i < n → j < n → f i = f j → i = j) : n ≤ (ysl T).length := by
  apply Nat.le_of_not_lt
  intro z
  have ex : ∀ i, ∃ j, i < n → (ysl T)[j]? = some (f i) := fun i => by
    by_cases c : i < n
    · obtain ⟨j, hj⟩ := List.getElem?_of_mem (ymem_sl.mpr (h1 i c)); exact ⟨j, fun _ => hj⟩
    · exact ⟨0, fun q => absurd q c⟩
  obtain ⟨σ, hσ⟩ := Classical.axiomOfChoice ex
  obtain ⟨i, j, i1, i2, i3⟩ := ypigeon (ysl T).length σ (fun i hi => (List.getElem?_eq_some_iff.mp (hσ i (by omega))).1)
  have a := hσ i (by omega)
  have b := hσ j (by omega)
  rw [i3, b] at a
  have := h2 i j (by omega) (by omega) (Option.some.inj a).symm
  omega
/-- what is found so far: n sets f, each the least one with its growers -/
def yfd (T : yT) (n : Nat) (f gm : Nat → Nat) (gr : Nat → Nat → Nat) : Prop := 1 ≤ n ∧ f 0 = 1 ∧ gm 0 = 0 ∧ (∀ i, i < n → ysg T (f i) = true) ∧ (∀ i j, i < n → j < n → f i = f j → i = j) ∧
  (∀ i, i < n → (2 ^ gm i : Int) ≤ ycnt (f i).testBit 64 ∧ (∀ g, g < gm i → gr i g < Tm T) ∧ (∀ g, g < gm i → (f i).testBit (gr i g) = true) ∧ ∀ z, ysg T z = true → (∀ g, g < gm i → z.testBit (gr i g) = true) → ysub1 (f i) z)
theorem ycnt_hi {x m : Nat} (h : x < 2 ^ m) (hm : m ≤ 64) : ycnt x.testBit 64 ≤ m := by
  have := ycnt_inj (p := x.testBit) (q := fun b => decide (b < m)) (f := fun i => i) 64 m (fun i _ hi => by
    have := ybit_lt h hi
    exact ⟨this, by simpa using this⟩) (fun i j _ _ _ _ e => e)
  have b := (ycnt_bd (fun b => decide (b < m)) m).2
  omega
theorem yfd.gm5 (V : yV T) {n : Nat} {f gm : Nat → Nat} {gr : Nat → Nat → Nat} (h : yfd T n f gm gr) {i : Nat} (hi : i < n) : gm i ≤ 5 := by
  have h1 := (h.2.2.2.2.2 i hi).1
  have hm := V.m
  have h2 := ycnt_hi (ysg_iff.mp (h.2.2.2.1 i hi)).2.2 (by omega)
  apply Nat.le_of_not_lt
  intro z
  have : (2 : Nat) ^ 6 ≤ 2 ^ gm i := Nat.pow_le_pow_right (by omega) z
  have e : ((2 ^ gm i : Nat) : Int) = (2 ^ gm i : Int) := by simp
  omega
/-- the least with the growers and one more is the least with the set and one more -/
theorem yfd.grow {n : Nat} {f gm : Nat → Nat} {gr : Nat → Nat → Nat} (h : yfd T n f gm gr) {i op y : Nat} (hi : i < n) (hy : ygd T (fun g => if g = gm i then op else gr i g) (gm i) y) : yisg T (f i) op y := by
  obtain ⟨_, _, g3, g4⟩ := h.2.2.2.2.2 i hi
  obtain ⟨y1, y2, y3⟩ := hy
  refine ⟨y1, g4 y y1 (fun g hg => ?_), ?_, fun z hz hs ha => y3 z hz (fun g hg => ?_)⟩
  · have := y2 g (by omega); dsimp only at this; rw [if_neg (by omega)] at this; exact this
  · have := y2 (gm i) (by omega); dsimp only at this; rw [if_pos rfl] at this; exact this
  · dsimp only
    by_cases c : g = gm i
    · rw [if_pos c]; exact ha
    · rw [if_neg c]; exact hs _ (g3 g (by omega))
theorem yfd.add (V : yV T) {n : Nat} {f gm : Nat → Nat} {gr : Nat → Nat → Nat} (h : yfd T n f gm gr) {i op y : Nat} (hi : i < n) (hop : op < Tm T) (hno : (f i).testBit op = false) (hy : ygd T (fun g => if g = gm i then op else gr i g) (gm i) y) (hnew : ∀ j, j < n → f j ≠ y) :
    yfd T (n + 1) (fun j => if j = n then y else f j) (fun j => if j = n then gm i + 1 else gm j) (fun j g => if j = n then (if g = gm i then op else gr i g) else gr j g) := by
  have hg := h.grow hi hy
  obtain ⟨h1, h2, h3, h4, h5, h6⟩ := h
  obtain ⟨a1, a2, a3, a4⟩ := h6 i hi
  obtain ⟨y1, y2, y3⟩ := hy
  have dbl := V.dbl (h4 i hi) y1 hg.2.1 hg.2.2.1 hno
  refine ⟨by omega, ?_, ?_, fun j hj => ?_, fun j k hj hk he => ?_, fun j hj => ?_⟩
  · dsimp only; rw [if_neg (by omega)]; exact h2
  · dsimp only; rw [if_neg (by omega)]; exact h3
  · dsimp only
    by_cases c : j = n
    · rw [if_pos c]; exact y1
    · rw [if_neg c]; exact h4 j (by omega)
  · dsimp only at he
    by_cases c : j = n <;> by_cases c2 : k = n
    · omega
    · rw [if_pos c, if_neg c2] at he; exact absurd he.symm (hnew k (by omega))
    · rw [if_neg c, if_pos c2] at he; exact absurd he (hnew j (by omega))
    · rw [if_neg c, if_neg c2] at he; exact h5 j k (by omega) (by omega) he
  · dsimp only
    by_cases c : j = n
    · simp only [if_pos c]
      refine ⟨?_, fun g hgg => ?_, fun g hgg => y2 g (by omega), fun z hz hzg => y3 z hz (fun g hgg => hzg g (by omega))⟩
      · have e : (2 ^ (gm i + 1) : Int) = 2 ^ gm i * 2 := Int.pow_succ ..
        omega
      · by_cases c2 : g = gm i
        · rw [if_pos c2]; exact hop
        · rw [if_neg c2]; exact a2 g (by omega)
    · simp only [if_neg c]
      exact h6 j (by omega)
/-- all are found -/
theorem yfd.all (V : yV T) {n : Nat} {f gm : Nat → Nat} {gr : Nat → Nat → Nat} (h : yfd T n f gm gr) (hj : ∀ i op, i < n → op < Tm T → ∃ o, o < n ∧ yisg T (f i) op (f o)) {z : Nat} (hz : ysg T z = true) : ∃ i, i < n ∧ f i = z := by
  obtain ⟨h1, h2, h3, h4, h5, h6⟩ := h
  obtain ⟨z0, z1, z2⟩ := ysg_iff.mp hz
  have key : ∀ k, k ≤ Tm T → ∃ i, i < n ∧ ysub1 (f i) z ∧ ∀ b, b < k → z.testBit b = true → (f i).testBit b = true := by
    intro k
    induction k with
    | zero =>
      intro _
      refine ⟨0, by omega, fun b hb => ?_, fun b hb => absurd hb (Nat.not_lt_zero _)⟩
      rw [h2] at hb
      have t1 : Nat.testBit 1 b = decide (0 = b) := Nat.testBit_two_pow (n := 0) (m := b)
      rw [t1, decide_eq_true_iff] at hb
      rw [← hb]; exact z0
    | succ k ih =>
      intro hk
      obtain ⟨i, i1, i2, i3⟩ := ih (by omega)
      by_cases c : z.testBit k = true
      · obtain ⟨o, o1, o2, o3, o4, o5⟩ := hj i k i1 (by omega)
        refine ⟨o, o1, o5 z hz i2 c, fun b hb hzb => ?_⟩
        by_cases c2 : b = k
        · rw [c2]; exact o4
        · exact o3 b (i3 b (by omega) hzb)
      · refine ⟨i, i1, i2, fun b hb hzb => ?_⟩
        by_cases c2 : b = k
        · rw [c2] at hzb; exact absurd hzb c
        · exact i3 b (by omega) hzb
  obtain ⟨i, i1, i2, i3⟩ := key (Tm T) (Nat.le_refl _)
  refine ⟨i, i1, Nat.eq_of_testBit_eq fun b => ?_⟩
  by_cases c : z.testBit b = true
  · rw [c, i3 b (ybit_lt z2 c) c]
  · have c' : z.testBit b = false := by simpa using c
    rw [c']
    by_cases c2 : (f i).testBit b = true
    · exact absurd (i2 b c2) c
    · simpa using c2
end
def yslt (x y : Nat) : Bool := decide (ypc x < ypc y) || (decide (ypc x = ypc y) && decide (x < y))
theorem yslt_iff {x y : Nat} : yslt x y = true ↔ ypc x < ypc y ∨ (ypc x = ypc y ∧ x < y) := by simp [yslt]
theorem ysle_iff {x y : Nat} : ysle x y = true ↔ ypc x < ypc y ∨ (ypc x = ypc y ∧ x ≤ y) := by simp [ysle]
theorem ycnt_range (p : Nat → Bool) (n : Nat) : ycnt p n = (((List.range n).countP p : Nat) : Int) := by
  induction n with
  | zero => simp [ycnt]
  | succ n ih =>
    simp only [ycnt]
    rw [ih, List.range_succ, List.countP_append]
    by_cases c : p n = true
    · simp [c]
    · simp [c]
theorem ysl_sorted (T : yT) : (ysl T).Pairwise (fun x y => yslt x y = true) := by
  have h1 : (ysl T).Pairwise (fun x y => ysle x y = true) := List.pairwise_mergeSort (le := ysle) (fun a b c h1 h2 => by
    rw [ysle_iff] at *; omega) (fun a b => by
    rw [Bool.or_eq_true, ysle_iff, ysle_iff]; omega) _
  have h2 : (ysl T).Nodup := (List.mergeSort_perm _ _).nodup_iff.mpr (List.Pairwise.filter _ List.nodup_range)
  have := h1.and h2
  refine this.imp ?_
  intro a b ⟨q1, q2⟩
  rw [ysle_iff] at q1
  rw [yslt_iff]
  have : a ≠ b := q2
  omega
theorem ysl_nodup (T : yT) : (ysl T).Nodup := (List.mergeSort_perm _ _).nodup_iff.mpr (List.Pairwise.filter _ List.nodup_range)
theorem yrank {S : List Nat} (hS : S.Pairwise (fun x y => yslt x y = true)) {i x : Nat} (hi : S[i]? = some x) : S.countP (fun y => yslt y x) = i := by
  obtain ⟨hl, he⟩ := List.getElem?_eq_some_iff.mp hi
  have hs : S = S.take i ++ x :: S.drop (i + 1) := by
    rw [← he, ← List.drop_eq_getElem_cons hl, List.take_append_drop]
  have hS' := hS
  rw [hs, List.pairwise_append] at hS'
  obtain ⟨_, h2, h3⟩ := hS'
  rw [List.pairwise_cons] at h2
  have c1 : (S.take i).countP (fun y => yslt y x) = i := by
    rw [List.countP_eq_length.mpr (fun y hy => h3 y hy _ List.mem_cons_self), List.length_take]; omega
  have c2 : (S.drop (i + 1)).countP (fun y => yslt y x) = 0 := by
    rw [List.countP_eq_zero]
    intro y hy
    have := h2.1 y hy
    rw [yslt_iff] at this ⊢; omega
  have c3 : yslt x x = false := by
    have : ¬ yslt x x = true := by rw [yslt_iff]; omega
    simpa using this
  have : S.countP (fun y => yslt y x) = (S.take i ++ x :: S.drop (i + 1)).countP (fun y => yslt y x) := by rw [← hs]
  rw [this, List.countP_append, List.countP_cons, c1, c2, c3]
  simp
section
variable {T : yT}
theorem yfd.perm (V : yV T) {n : Nat} {f gm : Nat → Nat} {gr : Nat → Nat → Nat} (h : yfd T n f gm gr) (hj : ∀ i op, i < n → op < Tm T → ∃ o, o < n ∧ yisg T (f i) op (f o)) : ((List.range n).map f).Perm (ysl T) := by
  have nd : ((List.range n).map f).Nodup := by
    rw [List.nodup_iff_pairwise_ne, List.pairwise_map]
    refine List.Pairwise.imp_of_mem (R := fun a b => a ≠ b) (fun {a b} ha hb hab z => hab (h.2.2.2.2.1 a b (List.mem_range.mp ha) (List.mem_range.mp hb) z)) (List.nodup_iff_pairwise_ne.mp List.nodup_range)
  refine (List.perm_ext_iff_of_nodup nd (ysl_nodup T)).mpr (fun a => ?_)
  rw [ymem_sl, List.mem_map]
  constructor
  · rintro ⟨i, hi, rfl⟩; exact h.2.2.2.1 i (List.mem_range.mp hi)
  · intro ha
    obtain ⟨i, i1, i2⟩ := h.all V hj ha
    exact ⟨i, List.mem_range.mpr i1, i2⟩
theorem yfd.len (V : yV T) {n : Nat} {f gm : Nat → Nat} {gr : Nat → Nat → Nat} (h : yfd T n f gm gr) (hj : ∀ i op, i < n → op < Tm T → ∃ o, o < n ∧ yisg T (f i) op (f o)) : n = (ysl T).length := by
  have := (h.perm V hj).length_eq
  rw [List.length_map, List.length_range] at this
  exact this
/-- its rank -/
theorem yfd.rank (V : yV T) {n : Nat} {f gm : Nat → Nat} {gr : Nat → Nat → Nat} (h : yfd T n f gm gr) (hj : ∀ i op, i < n → op < Tm T → ∃ o, o < n ∧ yisg T (f i) op (f o)) {i : Nat} (hi : i < n) : ∃ r : Nat, ycnt (fun o => yslt (f o) (f i)) n = (r : Int) ∧ r < n ∧ (ysl T)[r]? = some (f i) := by
  have hp := h.perm V hj
  obtain ⟨r, hr⟩ := List.getElem?_of_mem (ymem_sl.mpr (h.2.2.2.1 i hi))
  refine ⟨r, ?_, ?_, hr⟩
  · rw [ycnt_range]
    have e := hp.countP_eq (fun y => yslt y (f i))
    rw [List.countP_map, yrank (ysl_sorted T) hr] at e
    have e2 : (List.range n).countP (fun o => yslt (f o) (f i)) = r := e
    rw [e2]
  · have := (List.getElem?_eq_some_iff.mp hr).1
    rw [← h.len V hj] at this; exact this
end
