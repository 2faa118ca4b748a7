/-! ===== powers, rounds, orbits: in numbers ===== -/
def ypw (T : yT) (x : Nat) : Nat → Nat
  | 0 => 0
  | k + 1 => yth T (ypw T x k) x
def yper (T : yT) (x : Nat) : Nat := (yfind (fun k => decide (ypw T x k = 0)) 48 1).toNat
def yfx1 (T : yT) (x : Nat) : Int := ycnt (fun k => decide (TR T x k = k)) (Tn T)
def yri (T : yT) (x k : Nat) : Nat → Nat
  | 0 => k
  | j + 1 => TR T x (yri T x k j)
def yrj (T : yT) (x k : Nat) : Nat := (yfind (fun j => decide (yri T x k j ≤ k)) 12 1).toNat
/-- how long the round of k is, if k is the least of it; -1 else -/
def yrl (T : yT) (x k : Nat) : Int := if yri T x k (yrj T x k) = k then (yrj T x k : Int) else -1
def ycy (T : yT) (x : Nat) : Int := ycnt (fun k => decide (yrl T x k ≠ -1)) (Tn T)
def yct (T : yT) (g t : Int) : Int := ycnt (fun x => decide (Tg T x = g ∧ Tt T x = t)) (Tm T)
/-- the least that k comes to by those of the first j that are in X -/
def ylb (T : yT) (X : Nat → Bool) (k : Nat) : Nat → Nat
  | 0 => k
  | j + 1 => if X j = true ∧ TR T j k < ylb T X k j then TR T j k else ylb T X k j
def ylo (T : yT) (k : Nat) : Nat := ylb T (fun _ => true) k (Tm T)
/-- a pair comes to no lesser one -/
def ylp (T : yT) (k o : Nat) : Bool := yallb (fun x => decide (¬ (12 * min (TR T x k) (TR T x o) + max (TR T x k) (TR T x o) < 12 * k + o))) (Tm T)
def ypo (T : yT) : Int := ysum (fun k => ycnt (fun o => decide (k < o) && ylp T k o) (Tn T)) (Tn T)
theorem ypigeon : ∀ (m : Nat) (f : Nat → Nat), (∀ i, i ≤ m → f i < m) → ∃ i j, i < j ∧ j ≤ m ∧ f i = f j := by
  intro m
  induction m with
  | zero => intro f h; exact absurd (h 0 (Nat.le_refl _)) (Nat.not_lt_zero _)
  | succ m ih =>
    intro f h
    by_cases hx : ∃ i, i < m + 1 ∧ f i = f (m + 1)
    · obtain ⟨i, hi, he⟩ := hx
      exact ⟨i, m + 1, hi, Nat.le_refl _, he⟩
    · have hne : ∀ i, i ≤ m → f i ≠ f (m + 1) := fun i hi z => hx ⟨i, by omega, z⟩
      have hl := h (m + 1) (Nat.le_refl _)
      obtain ⟨i, j, h1, h2, h3⟩ := ih (fun i => if f i = m then f (m + 1) else f i) (fun i hi => by
        have b := h i (by omega)
        have c := hne i hi
        split <;> omega)
      refine ⟨i, j, h1, by omega, ?_⟩
      have c1 := hne i (by omega)
      have c2 := hne j (by omega)
      split at h3 <;> split at h3 <;> omega
section
variable {T : yT}
theorem yV.R_inj (V : yV T) {x k o : Nat} (hx : x < Tm T) (hk : k < Tn T) (ho : o < Tn T) (h : TR T x k = TR T x o) : k = o := by
  have q := V.th_q hx (V.iv hx)
  rw [V.ivr hx] at q
  simp only [ythq, Bool.and_eq_true, decide_eq_true_iff, yallb_iff] at q
  have q1 := q.2 k hk
  have q2 := q.2 o ho
  rw [V.r0 hk] at q1
  rw [V.r0 ho] at q2
  rw [q1, q2, h]
theorem yV.R_th (V : yV T) {x y k : Nat} (hx : x < Tm T) (hy : y < Tm T) (hk : k < Tn T) : TR T (yth T x y) k = TR T y (TR T x k) := by
  have q := V.th_q hx hy
  simp only [ythq, Bool.and_eq_true, decide_eq_true_iff, yallb_iff] at q
  exact q.2 k hk
theorem yV.g_th (V : yV T) {x y : Nat} (hx : x < Tm T) (hy : y < Tm T) : Tg T (yth T x y) = Tg T x * Tg T y := by
  have q := V.th_q hx hy
  simp only [ythq, Bool.and_eq_true, decide_eq_true_iff] at q
  exact q.1
theorem yV.pw (V : yV T) {x : Nat} (hx : x < Tm T) (k : Nat) : ypw T x k < Tm T := by
  induction k with
  | zero => exact V.m0
  | succ k ih => exact V.th ih hx
theorem yV.pw1 (V : yV T) {x : Nat} (hx : x < Tm T) : ypw T x 1 = x := V.id1 hx
theorem yV.pw_add (V : yV T) {x : Nat} (hx : x < Tm T) (i j : Nat) : ypw T x (i + j) = yth T (ypw T x i) (ypw T x j) := by
  induction j with
  | zero => exact (V.id2 (V.pw hx i)).symm
  | succ j ih =>
    show yth T (ypw T x (i + j)) x = yth T (ypw T x i) (yth T (ypw T x j) x)
    rw [ih, V.as (V.pw hx i) (V.pw hx j) hx]
theorem yV.per (V : yV T) {x : Nat} (hx : x < Tm T) : 1 ≤ yper T x ∧ yper T x ≤ 48 ∧ ypw T x (yper T x) = 0 ∧ ∀ k, 1 ≤ k → k < yper T x → ypw T x k ≠ 0 := by
  have hm := V.m
  obtain ⟨i, j, h1, h2, h3⟩ := ypigeon (Tm T) (ypw T x) (fun i _ => V.pw hx i)
  have hz : ypw T x (j - i) = 0 := by
    have q := V.pw_add hx i (j - i)
    rw [show i + (j - i) = j by omega, ← h3] at q
    have q' := V.id2 (V.pw hx i)
    exact V.cancel (V.pw hx i) (V.pw hx _) V.m0 (by rw [← q, q'])
  have hne : yfind (fun k => decide (ypw T x k = 0)) 48 1 ≠ -1 := fun z => by
    have := yfind_none.mp z (j - i) (by omega) (by omega)
    simp only [decide_eq_false_iff_not] at this
    exact this hz
  have b := yfind_bd (fun k => decide (ypw T x k = 0)) 48 1
  have e : yfind (fun k => decide (ypw T x k = 0)) 48 1 = (yper T x : Int) := by unfold yper; omega
  obtain ⟨g1, g2, g3, g4⟩ := yfind_some.mp e
  refine ⟨g1, by omega, by simpa using g3, fun k k1 k2 => by simpa using g4 k k1 k2⟩
theorem yV.ri (V : yV T) {x k : Nat} (hx : x < Tm T) (hk : k < Tn T) (j : Nat) : yri T x k j < Tn T := by
  induction j with
  | zero => exact hk
  | succ j ih => exact V.R hx ih
theorem yV.ri_back (V : yV T) {x k : Nat} (hx : x < Tm T) (hk : k < Tn T) : ∀ i j, yri T x k i = yri T x k (i + j) → k = yri T x k j := by
  intro i
  induction i with
  | zero => intro j h; rw [Nat.zero_add] at h; exact h
  | succ i ih =>
    intro j h
    refine ih j (V.R_inj hx (V.ri hx hk i) (V.ri hx hk (i + j)) ?_)
    rw [show i + 1 + j = (i + j) + 1 by omega] at h
    exact h
theorem yV.rj (V : yV T) {x k : Nat} (hx : x < Tm T) (hk : k < Tn T) : 1 ≤ yrj T x k ∧ yrj T x k ≤ 12 ∧ yri T x k (yrj T x k) ≤ k ∧ ∀ j, 1 ≤ j → j < yrj T x k → k < yri T x k j := by
  have hn := V.n
  obtain ⟨i, j, h1, h2, h3⟩ := ypigeon (Tn T) (yri T x k) (fun i _ => V.ri hx hk i)
  have hz : yri T x k (j - i) = k := by
    have := V.ri_back hx hk i (j - i) (by rw [show i + (j - i) = j by omega]; exact h3)
    exact this.symm
  have hne : yfind (fun j => decide (yri T x k j ≤ k)) 12 1 ≠ -1 := fun z => by
    have := yfind_none.mp z (j - i) (by omega) (by omega)
    simp only [decide_eq_false_iff_not] at this
    exact this (by omega)
  have b := yfind_bd (fun j => decide (yri T x k j ≤ k)) 12 1
  have e : yfind (fun j => decide (yri T x k j ≤ k)) 12 1 = (yrj T x k : Int) := by unfold yrj; omega
  obtain ⟨g1, g2, g3, g4⟩ := yfind_some.mp e
  refine ⟨g1, by omega, by simpa using g3, fun k k1 k2 => by have := g4 k k1 k2; simpa using this⟩
theorem yV.rl (V : yV T) {x k : Nat} (hx : x < Tm T) (hk : k < Tn T) : -1 ≤ yrl T x k ∧ yrl T x k ≤ 12 ∧ yrl T x k ≠ 0 := by
  have := V.rj hx hk
  unfold yrl; split <;> omega
theorem yV.lb (V : yV T) {X : Nat → Bool} {k : Nat} (hk : k < Tn T) (j : Nat) (hj : j ≤ Tm T) : ylb T X k j < Tn T := by
  induction j with
  | zero => exact hk
  | succ j ih =>
    have := ih (by omega)
    have := V.R (show j < Tm T by omega) hk
    simp only [ylb]; split <;> omega
end
