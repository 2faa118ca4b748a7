/-! ===== maths: groups that keep a line, as numbers ===== -/
def xmD (m x y : Nat) : Nat := 2 * ((x / 2 + (if x % 2 = 0 then y / 2 else m - y / 2)) % m) + (x % 2 + y % 2) % 2
theorem xng_ne {α : xV} (h0 : xdot α α ≠ 0) : α ≠ xng α := by
  intro z
  have d := congrArg (xdot α) z
  rw [xdot_ng] at d
  grind
theorem xG.embD {R : xM → Prop} (G : xG R) {α : xV} (h0 : xdot α α ≠ 0) (N : Nat → xM) (m : Nat) (hm : 0 < m) (S : Nat → Prop) (tr : Nat → Int)
    (hN : ∀ k j, k < m → j < m → S k → S j → xmul (N k) (N j) = N ((k + j) % m) ∧ S ((k + j) % m))
    (hI : ∀ k j, k < m → j < m → S k → S j → N k = N j → k = j)
    (hV : ∀ k, k < m → S k → S ((m - k) % m) ∧ ∀ b, R b → xap b α = xng α → xmul (xmul b (N k)) b = N ((m - k) % m))
    (hF : ∀ k, k < m → S k → xap (N k) α = α)
    (hK : ∀ s, R s → xap s α = α → ∃ k, k < m ∧ S k ∧ s = N k)
    (hT : ∀ k, k < m → S k → xtr (N k) = (tr (2 * k) : Rat)) (hT1 : ∀ k, k < m → tr (2 * k + 1) = -1)
    (hA : ∀ s, R s → xap s α = α ∨ xap s α = xng α) : ∃ Φ, xEmb R (2 * m) (xmD m) tr Φ := by
  obtain ⟨b, hb⟩ : ∃ b, (R b ∧ xap b α = xng α) ∨ ∀ s, R s → xap s α = α := by
    by_cases c : ∃ b, R b ∧ xap b α = xng α
    · obtain ⟨b, hb⟩ := c; exact ⟨b, Or.inl hb⟩
    · refine ⟨x1, Or.inr fun s hs => ?_⟩
      rcases hA s hs with q | q
      · exact q
      · exact absurd ⟨s, hs, q⟩ c
  have ne := xng_ne h0
  have bb : (R b ∧ xap b α = xng α) → xmul b b = x1 := fun ⟨q1, q2⟩ => by
    have f := ((G.rot q1).flip q2 h0).2
    have := (G.rot q1).rt
    rw [f] at this; exact this
  let E : Nat → xM := fun c => if c % 2 = 0 then N (c / 2) else xmul (N (c / 2)) b
  let W : Nat → Prop := fun c => c < 2 * m ∧ S (c / 2) ∧ (c % 2 = 1 → R b ∧ xap b α = xng α)
  have e0 : ∀ k, E (2 * k) = N k := fun k => by show (if _ then _ else _) = _; rw [if_pos (by omega), show 2 * k / 2 = k by omega]
  have e1 : ∀ k, E (2 * k + 1) = xmul (N k) b := fun k => by show (if _ then _ else _) = _; rw [if_neg (by omega), show (2 * k + 1) / 2 = k by omega]
  have ev : ∀ c, (∃ k, c = 2 * k) ∨ ∃ k, c = 2 * k + 1 := fun c => by
    by_cases h : c % 2 = 0
    · exact Or.inl ⟨c / 2, by omega⟩
    · exact Or.inr ⟨c / 2, by omega⟩
  have w0 : ∀ k, W (2 * k) ↔ k < m ∧ S k := fun k => by
    show (_ ∧ _ ∧ _) ↔ _
    rw [show 2 * k / 2 = k by omega]
    exact ⟨fun h => ⟨by omega, h.2.1⟩, fun h => ⟨by omega, h.2, fun z => by omega⟩⟩
  have w1 : ∀ k, W (2 * k + 1) ↔ k < m ∧ S k ∧ R b ∧ xap b α = xng α := fun k => by
    show (_ ∧ _ ∧ _) ↔ _
    rw [show (2 * k + 1) / 2 = k by omega]
    exact ⟨fun h => ⟨by omega, h.2.1, h.2.2 (by omega)⟩, fun h => ⟨by omega, h.2.1, fun _ => h.2.2⟩⟩
  have u : ∀ c c', W c → W c' → E c = E c' → c = c' := by
    intro c c' h h' q
    rcases ev c with ⟨k, rfl⟩ | ⟨k, rfl⟩ <;> rcases ev c' with ⟨j, rfl⟩ | ⟨j, rfl⟩
    · rw [e0, e0] at q
      rw [w0] at h h'
      rw [hI k j h.1 h'.1 h.2 h'.2 q]
    · rw [e0, e1] at q
      rw [w0] at h
      rw [w1] at h'
      have := congrArg (fun r => xap r α) q
      rw [xap_mul, h'.2.2.2, xap_ng, hF k h.1 h.2, hF j h'.1 h'.2.1] at this
      exact absurd this ne
    · rw [e0, e1] at q
      rw [w0] at h'
      rw [w1] at h
      have := congrArg (fun r => xap r α) q
      rw [xap_mul, h.2.2.2, xap_ng, hF k h.1 h.2.1, hF j h'.1 h'.2] at this
      exact absurd this.symm ne
    · rw [e1, e1] at q
      rw [w1] at h h'
      have := congrArg (fun r => xmul r b) q
      rw [xmul_as, xmul_as, bb h.2.2, xmul_1, xmul_1] at this
      rw [hI k j h.1 h'.1 h.2.1 h'.2.1 this]
  have neg : ∀ k, k < m → (m - k) % m < m := fun k hk => Nat.mod_lt _ hm
  have md : ∀ a c : Nat, (a + c % m) % m = (a + c) % m := fun a c => by rw [Nat.add_mod, Nat.mod_mod, ← Nat.add_mod]
  have p : ∀ c c', W c → W c' → E (xmD m c c') = xmul (E c) (E c') ∧ W (xmD m c c') := by
    intro c c' h h'
    rcases ev c with ⟨k, rfl⟩ | ⟨k, rfl⟩ <;> rcases ev c' with ⟨j, rfl⟩ | ⟨j, rfl⟩
    · have e : xmD m (2 * k) (2 * j) = 2 * ((k + j) % m) := by unfold xmD; rw [if_pos (by omega), show 2 * k / 2 = k by omega, show 2 * j / 2 = j by omega]; omega
      rw [w0] at h h'
      obtain ⟨n1, n2⟩ := hN k j h.1 h'.1 h.2 h'.2
      rw [e, e0, e0, e0, w0, n1]
      exact ⟨rfl, Nat.mod_lt _ hm, n2⟩
    · have e : xmD m (2 * k) (2 * j + 1) = 2 * ((k + j) % m) + 1 := by unfold xmD; rw [if_pos (by omega), show 2 * k / 2 = k by omega, show (2 * j + 1) / 2 = j by omega]; omega
      rw [w0] at h
      rw [w1] at h'
      obtain ⟨n1, n2⟩ := hN k j h.1 h'.1 h.2 h'.2.1
      rw [e, e1, e0, e1, w1, ← xmul_as, n1]
      exact ⟨rfl, Nat.mod_lt _ hm, n2, h'.2.2⟩
    · have e : xmD m (2 * k + 1) (2 * j) = 2 * ((k + (m - j)) % m) + 1 := by unfold xmD; rw [if_neg (by omega), show (2 * k + 1) / 2 = k by omega, show 2 * j / 2 = j by omega]; omega
      rw [w0] at h'
      rw [w1] at h
      obtain ⟨v1, v2⟩ := hV j h'.1 h'.2
      obtain ⟨n1, n2⟩ := hN k ((m - j) % m) h.1 (neg j h'.1) h.2.1 v1
      rw [md] at n1 n2
      have vb := v2 b h.2.2.1 h.2.2.2
      rw [e, e1, e1, e0, w1]
      refine ⟨?_, Nat.mod_lt _ hm, n2, h.2.2⟩
      rw [← n1, ← vb, xmul_as, xmul_as (xmul b (N j)) b b, bb h.2.2, xmul_1, xmul_as]
    · have e : xmD m (2 * k + 1) (2 * j + 1) = 2 * ((k + (m - j)) % m) := by unfold xmD; rw [if_neg (by omega), show (2 * k + 1) / 2 = k by omega, show (2 * j + 1) / 2 = j by omega]; omega
      rw [w1] at h h'
      obtain ⟨v1, v2⟩ := hV j h'.1 h'.2.1
      obtain ⟨n1, n2⟩ := hN k ((m - j) % m) h.1 (neg j h'.1) h.2.1 v1
      rw [md] at n1 n2
      have vb := v2 b h.2.2.1 h.2.2.2
      rw [e, e0, e1, e1, w0]
      refine ⟨?_, Nat.mod_lt _ hm, n2⟩
      rw [← n1, ← vb, xmul_as, xmul_as]
  have P : ∀ s, ∃ c, R s → W c ∧ s = E c := fun s => by
    by_cases hs : R s
    · rcases hA s hs with q | q
      · obtain ⟨k, k1, k2, k3⟩ := hK s hs q
        exact ⟨2 * k, fun _ => ⟨(w0 k).mpr ⟨k1, k2⟩, by rw [e0]; exact k3⟩⟩
      · have hb' : R b ∧ xap b α = xng α := by
          rcases hb with z | z
          · exact z
          · exact absurd ((z s hs).symm.trans q) ne
        obtain ⟨k, k1, k2, k3⟩ := hK (xmul s b) (G.mul hs hb'.1) (by rw [xap_mul, hb'.2, xap_ng, q, xng_ng])
        refine ⟨2 * k + 1, fun _ => ⟨(w1 k).mpr ⟨k1, k2, hb'⟩, ?_⟩⟩
        rw [e1, ← k3, xmul_as, bb hb', xmul_1]
    · exact ⟨0, fun z => absurd z hs⟩
  obtain ⟨Φ, S'⟩ := Classical.axiomOfChoice P
  have S' : ∀ s, R s → W (Φ s) ∧ s = E (Φ s) := S'
  refine ⟨Φ, fun hr => (S' _ hr).1.1, fun {r s} hr hs => ?_, fun {r s} hr hs e => ?_, fun {r} hr => ?_⟩
  · obtain ⟨a1, a2⟩ := S' _ hr
    obtain ⟨b1, b2⟩ := S' _ hs
    obtain ⟨c1, c2⟩ := S' _ (G.mul hr hs)
    obtain ⟨d1, d2⟩ := p _ _ a1 b1
    refine u _ _ c1 d2 ?_
    rw [← c2, d1, ← a2, ← b2]
  · rw [(S' _ hr).2, (S' _ hs).2, e]
  · obtain ⟨a1, a2⟩ := S' _ hr
    rcases ev (Φ r) with ⟨k, q⟩ | ⟨k, q⟩
    · rw [q] at a1 a2 ⊢
      rw [w0] at a1
      rw [a2, e0]; exact hT k a1.1 a1.2
    · rw [q] at a1 a2 ⊢
      rw [w1] at a1
      rw [hT1 k a1.1]
      have f : xap r α = xng α := by rw [a2, e1, xap_mul, a1.2.2.2, xap_ng, hF k a1.1 a1.2.1]
      rw [((G.rot hr).flip f h0).1]; rfl
