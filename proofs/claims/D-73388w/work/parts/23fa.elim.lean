/-! ===== maths: elimination, step by step ===== -/
/-- rows w, their images i, in steps up to column c; m rows are done -/
structure yEl (K n m c : Nat) (A : (Nat → Int) → Nat → Int) (W : (Nat → Int) → Prop) (I Q : Nat → Nat → Int) : Prop where
  mn : m ≤ n
  B : yBs9 K n Q W
  rel : ∀ r, r < n → ∀ j, j < K → I r j % 97 = A (Q r) j % 97
  iv : ∀ r, r < n → ∀ j, j < K → 0 ≤ I r j ∧ I r j < 97
  qv : ∀ r, r < n → ∀ j, j < K → 0 ≤ Q r j ∧ Q r j < 97
  piv : ∃ p : Nat → Nat, ∀ r, r < m → p r < c ∧ p r < K ∧ I r (p r) ≠ 0 ∧ ∀ r', r < r' → r' < n → I r' (p r) = 0
  zer : ∀ r, m ≤ r → r < n → ∀ j, j < c → j < K → I r j = 0
/-- a map of rows that goes with sums -/
structure yLi (K : Nat) (A : (Nat → Int) → Nat → Int) : Prop where
  cg : ∀ u v : Nat → Int, (∀ c, c < K → u c % 97 = v c % 97) → ∀ j, j < K → A u j % 97 = A v j % 97
  sub : ∀ (u v : Nat → Int) (t : Int) (j : Nat), A (fun c => u c - t * v c) j = A u j - t * A v j
  lc : ∀ (d : Nat) (t : Nat → Int) (R : Nat → Nat → Int) (j : Nat), A (ylc d t R) j = ylc d t (fun r => A (R r)) j
section
variable {K n m c : Nat} {A : (Nat → Int) → Nat → Int} {W : (Nat → Int) → Prop} {I Q : Nat → Nat → Int}
theorem yEl.skip (E : yEl K n m c A W I Q) (h : ∀ r, m ≤ r → r < n → I r c = 0) : yEl K n m (c + 1) A W I Q := by
  refine ⟨E.mn, E.B, E.rel, E.iv, E.qv, ?_, fun r h1 h2 j h3 h4 => ?_⟩
  · obtain ⟨p, hp⟩ := E.piv
    exact ⟨p, fun r hr => ⟨by have := (hp r hr).1; omega, (hp r hr).2⟩⟩
  · by_cases q : j = c
    · rw [q]; exact h r h1 h2
    · exact E.zer r h1 h2 j (by omega) h4
theorem yEl.swap (E : yEl K n m c A W I Q) {a : Nat} (ha : m ≤ a) (hn : a < n) : yEl K n m c A W (fun r => I (yswp a m r)) (fun r => Q (yswp a m r)) := by
  have lt : ∀ r, r < n → yswp a m r < n := fun r hr => by unfold yswp; grind
  have ge : ∀ r, m ≤ r → m ≤ yswp a m r := fun r hr => by unfold yswp; grind
  have lo : ∀ r, r < m → yswp a m r = r := fun r hr => by unfold yswp; grind
  refine ⟨E.mn, E.B.swap hn (by omega), fun r hr => E.rel _ (lt r hr), fun r hr => E.iv _ (lt r hr), fun r hr => E.qv _ (lt r hr), ?_, fun r h1 h2 => E.zer _ (ge r h1) (lt r h2)⟩
  obtain ⟨p, hp⟩ := E.piv
  refine ⟨p, fun r hr => ⟨(hp r hr).1, (hp r hr).2.1, by rw [lo r hr]; exact (hp r hr).2.2.1, fun r' h1 h2 => ?_⟩⟩
  refine (hp r hr).2.2.2 _ ?_ (lt r' h2)
  by_cases q : r' < m
  · rw [lo r' q]; exact h1
  · have := ge r' (by omega); omega
theorem yEl.take (S : ySpc K W) (L : yLi K A) (E : yEl K n m c A W I Q) {r : Nat} (hr : m < r) (hn : r < n) (t : Int) {I' Q' : Nat → Nat → Int} (h1 : ∀ j, j < K → I' r j = (I r j - t * I m j) % 97) (h2 : ∀ j, j < K → Q' r j = (Q r j - t * Q m j) % 97) (o1 : ∀ s, s < n → s ≠ r → ∀ j, j < K → I' s j = I s j) (o2 : ∀ s, s < n → s ≠ r → ∀ j, j < K → Q' s j = Q s j) : yEl K n m c A W I' Q' := by
  have mn := E.mn
  refine ⟨E.mn, E.B.take S hn (show m < n by omega) (by omega) t (fun s hs j hj => ?_), fun s hs j hj => ?_, fun s hs j hj => ?_, fun s hs j hj => ?_, ?_, fun s h3 h4 j h5 h6 => ?_⟩
  · by_cases q : s = r
    · subst q; rw [if_pos rfl, h2 j hj, Int.emod_emod]
    · rw [if_neg q, o2 s hs q j hj]
  · by_cases q : s = r
    · subst q
      rw [h1 j hj, Int.emod_emod]
      have e1 : A (Q' s) j % 97 = A (fun c => Q s c - t * Q m c) j % 97 := L.cg _ _ (fun c hc => by rw [h2 c hc, Int.emod_emod]) j hj
      rw [e1, L.sub]
      have a := E.rel s hn j hj
      have b := ymul97 (a := t) rfl (E.rel m (by omega) j hj)
      omega
    · rw [o1 s hs q j hj, E.rel s hs j hj]
      exact L.cg _ _ (fun c hc => by rw [o2 s hs q c hc]) j hj
  · by_cases q : s = r
    · subst q; rw [h1 j hj]; omega
    · rw [o1 s hs q j hj]; exact E.iv s hs j hj
  · by_cases q : s = r
    · subst q; rw [h2 j hj]; omega
    · rw [o2 s hs q j hj]; exact E.qv s hs j hj
  · obtain ⟨p, hp⟩ := E.piv
    refine ⟨p, fun s hs => ⟨(hp s hs).1, (hp s hs).2.1, ?_, fun s' h3 h4 => ?_⟩⟩
    · rw [o1 s (by omega) (by omega) _ (hp s hs).2.1]; exact (hp s hs).2.2.1
    · by_cases q : s' = r
      · subst q
        rw [h1 _ (hp s hs).2.1, (hp s hs).2.2.2 s' h3 h4, (hp s hs).2.2.2 m hs (by omega)]
        simp
      · rw [o1 s' h4 q _ (hp s hs).2.1]; exact (hp s hs).2.2.2 s' h3 h4
  · by_cases q : s = r
    · subst q
      rw [h1 j h6, E.zer s h3 h4 j h5 h6, E.zer m (by omega) (by omega) j h5 h6]; simp
    · rw [o1 s h4 q j h6]; exact E.zer s h3 h4 j h5 h6
/-- a column more is done -/
theorem yEl.done (E : yEl K n m c A W I Q) (hm : m < n) (hc : c < K) (h0 : I m c ≠ 0) (hz : ∀ r, m < r → r < n → I r c = 0) : yEl K n (m + 1) (c + 1) A W I Q := by
  refine ⟨by omega, E.B, E.rel, E.iv, E.qv, ?_, fun r h1 h2 j h3 h4 => ?_⟩
  · obtain ⟨p, hp⟩ := E.piv
    refine ⟨fun r => if r = m then c else p r, fun r hr => ?_⟩
    dsimp only
    by_cases q : r = m
    · subst q
      rw [if_pos rfl]
      exact ⟨by omega, hc, h0, hz⟩
    · rw [if_neg q]
      have := hp r (by omega)
      exact ⟨by omega, this.2.1, this.2.2.1, this.2.2.2⟩
  · by_cases q : j = c
    · rw [q]; exact hz r (by omega) h2
    · exact E.zer r (by omega) h2 j (by omega) h4
/-- the number that takes an entry away -/
theorem ytake0 {a b : Int} (ha : 0 ≤ a ∧ a < 97) (hb : 0 ≤ b ∧ b < 97) (h0 : b ≠ 0) : (a - ((a * (yi97 b : Int)) % 97) * b) % 97 = 0 := by
  have s := (yi97_spec (n := b) (by omega)).2.2.1
  refine yeq97.mp ?_
  have e1 : ((a * (yi97 b : Int)) % 97 * b) % 97 = (a * (yi97 b : Int) * b) % 97 := ymul97 (Int.emod_emod _ _) rfl
  have e2 : (a * ((yi97 b : Int) * b)) % 97 = (a * 1) % 97 := ymul97 rfl (by rw [s]; rfl)
  rw [e1, Int.mul_assoc, e2, Int.mul_one]
/-- at the end: the rows whose image is nought -/
theorem yEl.fin (S : ySpc K W) (L : yLi K A) (E : yEl K n m c A W I Q) (h : K ≤ c ∨ m = n) : yBs9 K (n - m) (fun r => Q (m + r)) (fun u => W u ∧ ∀ j, j < K → A u j % 97 = 0) := by
  obtain ⟨p, hp⟩ := E.piv
  refine E.B.ker (I := I) S E.mn (fun u t hu j hj => ?_) p (fun r hr => ?_) (fun r h1 h2 j hj => ?_)
  · rw [L.cg u (ylc n t Q) hu j hj, L.lc]
    exact ylc_cgR fun r hr => (E.rel r hr j hj).symm
  · have q := hp r hr
    have mn := E.mn
    have b := E.iv r (by omega) _ q.2.1
    refine ⟨q.2.1, by have := q.2.2.1; omega, fun r' h1 h2 => by rw [q.2.2.2 r' h1 h2]; rfl⟩
  · rcases h with h | h
    · rw [E.zer r h1 h2 j (by omega) hj]; rfl
    · omega
end
section
variable {T : yT}
/-- a class less a number -/
def yAv (T : yT) (i : Nat) (v : Int) (u : Nat → Int) (j : Nat) : Int := yop T i u j - v * u j
theorem yAv_li (T : yT) (i : Nat) (v : Int) : yLi (yK T) (yAv T i v) := by
  refine ⟨fun u w h j hj => ?_, fun u w t j => ?_, fun d t R j => ?_⟩
  · unfold yAv
    have a := yop_cg (T := T) (i := i) (j := j) h
    have b := ymul97 (a := v) rfl (h j hj)
    omega
  · unfold yAv
    have e : (fun c => u c - t * w c) = fun c => u c + (-t) * w c := funext fun c => by grind
    rw [e, yop_add, yop_mul]; grind
  · unfold yAv
    rw [yop_lc]
    have : ylc d t (fun r j => yop T i (R r) j - v * R r j) j = ylc d t (fun r => yop T i (R r)) j - v * ylc d t R j := by
      unfold ylc
      rw [← ysum_lin]
      exact ysum_cg fun r _ => by grind
    exact this.symm
/-- the next space -/
theorem yVs_next (T : yT) (n : Nat) (la : Nat → Int) (hn : n < yK T) (v : Int) (u : Nat → Int) : (yVs T n la u ∧ ∀ j, j < yK T → yAv T n v u j % 97 = 0) ↔ yVs T (n + 1) (fun i => if i = n then v else la i) u := by
  constructor
  · rintro ⟨h1, h2⟩ i hi hk j hj
    dsimp only
    by_cases q : i = n
    · rw [q, if_pos rfl]; exact yeq97.mpr (h2 j hj)
    · rw [if_neg q]; exact h1 i (by omega) hk j hj
  · intro h
    refine ⟨fun i hi hk j hj => ?_, fun j hj => ?_⟩
    · have := h i (by omega) hk j hj
      dsimp only at this
      rw [if_neg (by omega)] at this; exact this
    · have := h n (by omega) hn j hj
      dsimp only at this
      rw [if_pos rfl] at this
      exact yeq97.mp this
end
