/-! ===== rows of numbers left by 97: what is nought by them ===== -/
theorem ysum_mod {f g : Nat → Int} {n : Nat} (h : ∀ k, k < n → f k % 97 = g k % 97) : ysum f n % 97 = ysum g n % 97 := by
  induction n with
  | zero => rfl
  | succ n ih =>
    have h1 := ih (fun k hk => h k (by omega))
    have h2 := h n (by omega)
    rw [ysum_s, ysum_s, Int.add_emod, h1, h2, ← Int.add_emod]
theorem ysum_lin (f g : Nat → Int) (t : Int) (n : Nat) : ysum (fun k => f k - t * g k) n = ysum f n - t * ysum g n := by
  induction n with
  | zero => simp [ysum]
  | succ n ih =>
    rw [ysum_s, ysum_s, ysum_s, ih, Int.mul_add]
    omega
theorem y97_0 {x y : Int} (hx : x % 97 ≠ 0) (h : (x * y) % 97 = 0) : y % 97 = 0 := by
  obtain ⟨z, _, _, hz⟩ := y97_inv hx
  have e : ((z : Int) * x * y) % 97 = y % 97 := by rw [Int.mul_emod, hz, Int.one_mul, Int.emod_emod_of_dvd _ (Int.dvd_refl 97)]
  rw [← e, Int.mul_assoc, Int.mul_emod, h]; simp
theorem y97_sub {x y : Int} (h : x % 97 = 0) (t : Int) (g : y % 97 = 0) : (x - t * y) % 97 = 0 := by
  rw [Int.sub_emod, h, Int.mul_emod, g]; simp
/-- w is nought by all rows of Q -/
def ykr (Q : Nat → Nat → Int) (K : Nat) (w : Nat → Int) : Prop := ∀ j, j < K → ysum (fun k => Q j k * w k) K % 97 = 0
def yent (Q : Nat → Nat → Int) (K : Nat) : Prop := ∀ j k, j < K → k < K → 0 ≤ Q j k ∧ Q j k < 97
def ytri (Q : Nat → Nat → Int) (K c : Nat) : Prop := ∀ i, i < c → Q i i ≠ 0 ∧ ∀ j, i < j → j < K → Q j i = 0
def yswp (r c : Nat) (j : Nat) : Nat := if j = r then c else if j = c then r else j
theorem ykr.swap {Q : Nat → Nat → Int} {K r c : Nat} {w : Nat → Int} (h : ykr Q K w) (hr : r < K) (hc : c < K) : ykr (fun j k => Q (yswp r c j) k) K w := fun j hj => h (yswp r c j) (by unfold yswp; split; omega; split <;> omega)
/-- a row less t times the pivot's row -/
def yelm (Q : Nat → Nat → Int) (c : Nat) (b : Int) (n : Nat) (j k : Nat) : Int := if c < j ∧ j < n then (Q j k - (b * Q j c) % 97 * Q c k) % 97 else Q j k
theorem ykr.elm {Q : Nat → Nat → Int} {K c : Nat} {b : Int} {w : Nat → Int} (h : ykr Q K w) (hc : c < K) : ykr (yelm Q c b K) K w := by
  intro j hj
  by_cases q : c < j
  · have e : ysum (fun k => yelm Q c b K j k * w k) K % 97 = ysum (fun k => Q j k * w k - (b * Q j c) % 97 * (Q c k * w k)) K % 97 := by
      refine ysum_mod (fun k _ => ?_)
      unfold yelm; rw [if_pos ⟨q, hj⟩, Int.mul_emod, Int.emod_emod_of_dvd _ (Int.dvd_refl 97), ← Int.mul_emod, Int.sub_mul, Int.mul_assoc]
    rw [e, ysum_lin]
    exact y97_sub (h j hj) _ (h c hc)
  · have e : (fun k => yelm Q c b K j k * w k) = (fun k => Q j k * w k) := by
      funext k; unfold yelm; rw [if_neg (fun z => q z.1)]
    rw [e]; exact h j hj
theorem yent.elm {Q : Nat → Nat → Int} {K : Nat} (h : yent Q K) (c : Nat) (b : Int) (n : Nat) : yent (yelm Q c b n) K := by
  intro j k hj hk
  unfold yelm
  split
  · omega
  · exact h j k hj hk
theorem ytri.swap {Q : Nat → Nat → Int} {K r c : Nat} (h : ytri Q K c) (hr : r < K) (hc : c < K) (hcr : c ≤ r) : ytri (fun j k => Q (yswp r c j) k) K c := by
  intro i hi
  refine ⟨?_, fun j hj hjK => ?_⟩
  · dsimp only
    rw [show yswp r c i = i by unfold yswp; rw [if_neg (by omega), if_neg (by omega)]]
    exact (h i hi).1
  · exact (h i hi).2 _ (by unfold yswp; split; omega; split <;> omega) (by unfold yswp; split; omega; split <;> omega)
theorem ytri.elm {Q : Nat → Nat → Int} {K c : Nat} {b : Int} (h : ytri Q K c) (hc : c < K) (hp : Q c c ≠ 0) (hb : (b * Q c c) % 97 = 1) : ytri (yelm Q c b K) K (c + 1) := by
  intro i hi
  by_cases q : i = c
  · subst q
    refine ⟨?_, fun j hj hjK => ?_⟩
    · unfold yelm; rw [if_neg (by omega)]; exact hp
    · unfold yelm; rw [if_pos ⟨hj, hjK⟩]
      have e : (b * Q j i) % 97 * Q i i % 97 = Q j i % 97 := by
        rw [Int.mul_emod, Int.emod_emod_of_dvd _ (Int.dvd_refl 97), ← Int.mul_emod, Int.mul_assoc, Int.mul_comm (Q j i), ← Int.mul_assoc, Int.mul_emod, hb, Int.one_mul, Int.emod_emod_of_dvd _ (Int.dvd_refl 97)]
      rw [Int.sub_emod, e, Int.sub_self]; rfl
  · obtain ⟨h1, h2⟩ := h i (by omega)
    refine ⟨?_, fun j hj hjK => ?_⟩
    · unfold yelm; rw [if_neg (by omega)]; exact h1
    · unfold yelm
      rw [h2 j hj hjK, h2 c (by omega) hc, Int.mul_zero, Int.sub_zero]
      split <;> rfl
/-- pivots in all columns: nothing but nought is nought by them -/
theorem ytri.ker {Q : Nat → Nat → Int} {K : Nat} {w : Nat → Int} (h : ytri Q K K) (he : yent Q K) (hk : ykr Q K w) : ∀ k, k < K → w k % 97 = 0 := by
  have key : ∀ n, n ≤ K → ∀ k, K - n ≤ k → k < K → w k % 97 = 0 := by
    intro n
    induction n with
    | zero => intro _ k h1 h2; omega
    | succ n ih =>
      intro hn k h1 h2
      by_cases c : K - n ≤ k
      · exact ih (by omega) k c h2
      · obtain ⟨p1, p2⟩ := h k h2
        have bd := he k k h2 h2
        refine y97_0 (x := Q k k) (by omega) ?_
        have e : ysum (fun i => Q k i * w i) K % 97 = ysum (fun i => if i = k then Q k k * w k else 0) K % 97 := by
          refine ysum_mod (fun i hi => ?_)
          by_cases c1 : i = k
          · rw [if_pos c1, c1]
          · rw [if_neg c1]
            by_cases c2 : i < k
            · rw [(h i hi).2 k c2 h2]; simp
            · rw [Int.mul_emod, ih (by omega) i (by omega) hi]; simp
        have e2 : ∀ m, ysum (fun i => if i = k then Q k k * w k else 0) m = if k < m then Q k k * w k else 0 := by
          intro m
          induction m with
          | zero => rfl
          | succ m ihm =>
            rw [ysum_s, ihm]
            by_cases c1 : m = k
            · rw [if_pos c1, if_neg (by omega), if_pos (by omega), Int.zero_add]
            · rw [if_neg c1, Int.add_zero]
              by_cases c2 : k < m
              · rw [if_pos c2, if_pos (by omega)]
              · rw [if_neg c2, if_neg (by omega)]
        rw [hk k h2, e2, if_pos h2] at e
        exact e.symm
  intro k hk'
  exact key K (Nat.le_refl _) k (by omega) hk'
