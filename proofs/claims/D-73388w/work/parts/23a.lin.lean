/-! ===== maths: rows mod 97: spans, independence, elimination ===== -/
/-- a sum of rows -/
def ylc (d : Nat) (t : Nat → Int) (R : Nat → Nat → Int) (c : Nat) : Int := ysum (fun r => t r * R r c) d
def yind9 (K d : Nat) (R : Nat → Nat → Int) : Prop := ∀ t : Nat → Int, (∀ c, c < K → ylc d t R c % 97 = 0) → ∀ r, r < d → t r % 97 = 0
/-- d rows are a basis of a space -/
structure yBs9 (K d : Nat) (R : Nat → Nat → Int) (W : (Nat → Int) → Prop) : Prop where
  mem : ∀ r, r < d → W (R r)
  span : ∀ u, W u → ∃ t : Nat → Int, ∀ c, c < K → u c % 97 = ylc d t R c % 97
  ind : yind9 K d R
/-- a space is closed -/
structure ySpc (K : Nat) (W : (Nat → Int) → Prop) : Prop where
  add : ∀ u v : Nat → Int, W u → W v → W (fun c => u c + v c)
  mul : ∀ (t : Int) (u : Nat → Int), W u → W (fun c => t * u c)
  cg : ∀ u v : Nat → Int, W u → (∀ c, c < K → u c % 97 = v c % 97) → W v
theorem ylc_cg {d : Nat} {t s : Nat → Int} {R : Nat → Nat → Int} {c : Nat} (h : ∀ r, r < d → t r % 97 = s r % 97) : ylc d t R c % 97 = ylc d s R c % 97 := ysum_mod fun r hr => ymul97 (h r hr) rfl
theorem ylc_cgR {d : Nat} {t : Nat → Int} {R Q : Nat → Nat → Int} {c : Nat} (h : ∀ r, r < d → R r c % 97 = Q r c % 97) : ylc d t R c % 97 = ylc d t Q c % 97 := ysum_mod fun r hr => ymul97 rfl (h r hr)
theorem ylc_add (d : Nat) (t s : Nat → Int) (R : Nat → Nat → Int) (c : Nat) : ylc d (fun r => t r + s r) R c = ylc d t R c + ylc d s R c := by
  unfold ylc; rw [← ysum_plus]; exact ysum_cg fun r _ => Int.add_mul _ _ _
theorem ylc_mul (d : Nat) (a : Int) (t : Nat → Int) (R : Nat → Nat → Int) (c : Nat) : ylc d (fun r => a * t r) R c = a * ylc d t R c := by
  unfold ylc; rw [← ysum_cmul]; exact ysum_cg fun r _ => by rw [Int.mul_assoc]
theorem ylc_one (d : Nat) (R : Nat → Nat → Int) (k c : Nat) (hk : k < d) : ylc d (fun r => if r = k then 1 else 0) R c = R k c := by
  unfold ylc
  have := ysum_del (fun r => R r c) k d
  rw [if_pos hk] at this
  refine Eq.trans (ysum_cg fun r _ => ?_) this
  dsimp only
  by_cases q : r = k
  · rw [if_pos q, if_pos q, Int.one_mul]
  · rw [if_neg q, if_neg q, Int.zero_mul]
/-- one row is taken from another: the same space -/
theorem yBs9.take {K d : Nat} {R : Nat → Nat → Int} {W : (Nat → Int) → Prop} (S : ySpc K W) (B : yBs9 K d R W) {a b : Nat} (ha : a < d) (hb : b < d) (hab : a ≠ b) (s : Int) {Q : Nat → Nat → Int} (hQ : ∀ r, r < d → ∀ c, c < K → Q r c % 97 = (if r = a then R a c - s * R b c else R r c) % 97) : yBs9 K d Q W := by
  have conv : ∀ (t : Nat → Int) c, c < K → ylc d t Q c % 97 = ylc d (fun r => if r = b then t b - s * t a else t r) R c % 97 := fun t c hc => by
    have e1 : ylc d t Q c % 97 = ylc d t (fun r c => if r = a then R a c - s * R b c else R r c) c % 97 := ylc_cgR fun r hr => hQ r hr c hc
    rw [e1]
    congr 1
    unfold ylc
    have p1 : ysum (fun r => t r * (if r = a then R a c - s * R b c else R r c)) d = ysum (fun r => t r * R r c) d - s * t a * R b c := by
      have d1 := ysum_del (fun r => t r * (s * R b c)) a d
      rw [if_pos ha] at d1
      have e2 : ysum (fun r => t r * (if r = a then R a c - s * R b c else R r c)) d = ysum (fun r => t r * R r c + (-1) * (if r = a then t r * (s * R b c) else 0)) d := ysum_cg fun r _ => by
        by_cases q : r = a
        · rw [if_pos q, if_pos q, q]; grind
        · rw [if_neg q, if_neg q]; grind
      rw [e2, ysum_plus, ysum_cmul, d1]; grind
    have p2 : ysum (fun r => (if r = b then t b - s * t a else t r) * R r c) d = ysum (fun r => t r * R r c) d - s * t a * R b c := by
      have d1 := ysum_del (fun r => s * t a * R r c) b d
      rw [if_pos hb] at d1
      have e2 : ysum (fun r => (if r = b then t b - s * t a else t r) * R r c) d = ysum (fun r => t r * R r c + (-1) * (if r = b then s * t a * R r c else 0)) d := ysum_cg fun r _ => by
        by_cases q : r = b
        · rw [if_pos q, if_pos q, q]; grind
        · rw [if_neg q, if_neg q]; grind
      rw [e2, ysum_plus, ysum_cmul, d1]; grind
    rw [p1, p2]
  refine ⟨fun r hr => ?_, fun u hu => ?_, fun t ht => ?_⟩
  · by_cases q : r = a
    · subst q
      have := S.add _ _ (B.mem r hr) (S.mul (-s) _ (B.mem b hb))
      refine S.cg _ _ this fun c hc => ?_
      rw [hQ r hr c hc, if_pos rfl]
      congr 1; grind
    · refine S.cg _ _ (B.mem r hr) fun c hc => ?_
      rw [hQ r hr c hc, if_neg q]
  · obtain ⟨t, ht⟩ := B.span u hu
    refine ⟨fun r => if r = b then t b + s * t a else t r, fun c hc => ?_⟩
    rw [conv _ c hc, ht c hc]
    congr 1
    unfold ylc
    refine ysum_cg fun r _ => ?_
    dsimp only
    by_cases q : r = b
    · rw [if_pos q, if_pos rfl, if_neg hab, q]; grind
    · rw [if_neg q, if_neg q]
  · have h := B.ind (fun r => if r = b then t b - s * t a else t r) (fun c hc => by rw [← conv t c hc]; exact ht c hc)
    have ta : t a % 97 = 0 := by have := h a ha; rw [if_neg hab] at this; exact this
    intro r hr
    by_cases q : r = b
    · have := h b hb
      rw [if_pos rfl] at this
      have z : (s * t a) % 97 = 0 := by rw [Int.mul_emod, ta]; simp
      rw [q]; omega
    · have := h r hr
      rw [if_neg q] at this; exact this
/-- two rows are changed about -/
theorem yBs9.swap {K d : Nat} {R : Nat → Nat → Int} {W : (Nat → Int) → Prop} (B : yBs9 K d R W) {a b : Nat} (ha : a < d) (hb : b < d) : yBs9 K d (fun r => R (yswp a b r)) W := by
  have inv : ∀ r, yswp a b (yswp a b r) = r := fun r => by unfold yswp; grind
  have lt : ∀ r, r < d → yswp a b r < d := fun r hr => by unfold yswp; grind
  have conv : ∀ (t : Nat → Int) c, ylc d t (fun r => R (yswp a b r)) c = ylc d (fun r => t (yswp a b r)) R c := fun t c => by
    unfold ylc
    have := ysum_perm (σ := yswp a b) lt (fun k j _ _ e => by rw [← inv k, e, inv]) (fun r => t (yswp a b r) * R r c)
    rw [← this]
    exact ysum_cg fun r _ => by rw [inv]
  refine ⟨fun r hr => B.mem _ (lt r hr), fun u hu => ?_, fun t ht r hr => ?_⟩
  · obtain ⟨t, ht⟩ := B.span u hu
    refine ⟨fun r => t (yswp a b r), fun c hc => ?_⟩
    rw [conv, ht c hc]
    congr 1
    unfold ylc
    exact ysum_cg fun r _ => by dsimp only; rw [inv]
  · have := B.ind (fun r => t (yswp a b r)) (fun c hc => by rw [← conv]; exact ht c hc) (yswp a b r) (lt r hr)
    rw [inv] at this; exact this
/-- those whose image is nought, out of rows in steps -/
theorem yBs9.ker {K d n : Nat} {R I : Nat → Nat → Int} {W : (Nat → Int) → Prop} {A : (Nat → Int) → Nat → Int} (S : ySpc K W) (B : yBs9 K d R W) (hn : n ≤ d)
    (lin : ∀ (u : Nat → Int) (t : Nat → Int), (∀ c, c < K → u c % 97 = ylc d t R c % 97) → ∀ c, c < K → A u c % 97 = ylc d t I c % 97)
    (p : Nat → Nat) (hp : ∀ r, r < n → p r < K ∧ I r (p r) % 97 ≠ 0 ∧ ∀ r', r < r' → r' < d → I r' (p r) % 97 = 0) (hz : ∀ r, n ≤ r → r < d → ∀ c, c < K → I r c % 97 = 0) :
    yBs9 K (d - n) (fun r => R (n + r)) (fun u => W u ∧ ∀ c, c < K → A u c % 97 = 0) := by
  have split : ∀ (t : Nat → Int) (Q : Nat → Nat → Int) c, (∀ r, r < n → t r % 97 = 0) → ylc d t Q c % 97 = ylc (d - n) (fun r => t (n + r)) (fun r => Q (n + r)) c % 97 := fun t Q c h0 => by
    have key : ∀ e, e ≤ d - n → ylc (n + e) t Q c % 97 = ylc e (fun r => t (n + r)) (fun r => Q (n + r)) c % 97 := by
      intro e
      induction e with
      | zero =>
        intro _
        show ysum (fun r => t r * Q r c) n % 97 = 0
        have : ysum (fun r => t r * Q r c) n % 97 = ysum (fun _ => 0) n % 97 := ysum_mod fun r hr => by rw [Int.mul_emod, h0 r hr]; simp
        rw [this, ysum_0]; rfl
      | succ e ih =>
        intro he
        show (ylc (n + e) t Q c + t (n + e) * Q (n + e) c) % 97 = (ylc e (fun r => t (n + r)) (fun r => Q (n + r)) c + t (n + e) * Q (n + e) c) % 97
        exact yadd97 (ih (by omega)) rfl
    have := key (d - n) (Nat.le_refl _)
    rw [show n + (d - n) = d by omega] at this
    exact this
  refine ⟨fun r hr => ⟨B.mem _ (by omega), fun c hc => ?_⟩, fun u hu => ?_, fun t ht r hr => ?_⟩
  · rw [lin (R (n + r)) (fun k => if k = n + r then 1 else 0) (fun c _ => by rw [ylc_one d R (n + r) c (by omega)]) c hc, ylc_one d I (n + r) c (by omega)]
    exact hz _ (by omega) (by omega) c hc
  · obtain ⟨t, ht⟩ := B.span u hu.1
    have im := lin u t ht
    have z : ∀ k, k ≤ n → ∀ r, r < k → t r % 97 = 0 := by
      intro k
      induction k with
      | zero => intro _ r hr; omega
      | succ k ih =>
        intro hk r hr
        have zk := ih (by omega)
        by_cases q : r = k
        · subst q
          obtain ⟨p1, p2, p3⟩ := hp r (by omega)
          have e1 := im (p r) p1
          rw [hu.2 _ p1] at e1
          have e2 : ylc d t I (p r) % 97 = (t r * I r (p r)) % 97 := by
            have dl := ysum_del (fun k => t k * I k (p r)) r d
            rw [if_pos (by omega)] at dl
            rw [← dl]
            unfold ylc
            refine ysum_mod fun k hk' => ?_
            by_cases w : k = r
            · rw [if_pos w]
            · rw [if_neg w]
              by_cases w2 : k < r
              · rw [Int.mul_emod, zk k w2]; simp
              · rw [Int.mul_emod, p3 k (by omega) hk']; simp
          rw [e2, Int.mul_comm] at e1
          exact ycan97 p2 e1.symm
        · exact zk r (by omega)
    refine ⟨fun r => t (n + r), fun c hc => ?_⟩
    rw [ht c hc]
    exact split t R c (z n (Nat.le_refl _))
  · have e : ∀ c, c < K → ylc d (fun r => if r < n then 0 else t (r - n)) R c % 97 = 0 := fun c hc => by
      refine (split _ R c (fun r hr => by rw [if_pos hr]; rfl)).trans (Eq.trans ?_ (ht c hc))
      congr 1
      unfold ylc
      exact ysum_cg fun r _ => by dsimp only; rw [if_neg (by omega), show n + r - n = r by omega]
    have := B.ind _ e (n + r) (by omega)
    rw [if_neg (by omega), show n + r - n = r by omega] at this
    exact this
