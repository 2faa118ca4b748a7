/-! ===== maths: every finite group of rational rotations, as numbers ===== -/
def xt6 (c : Nat) : Int := if c % 2 = 1 then -1 else match c / 2 with | 0 => 3 | 1 => 2 | 2 => 0 | 3 => -1 | 4 => 0 | _ => 2
def xt4 (c : Nat) : Int := if c % 2 = 1 then -1 else match c / 2 with | 0 => 3 | 1 => 1 | 2 => -1 | _ => 1
def xa6 (k : Nat) : Rat := match k with | 0 => 3 | 1 => 2 | 2 => 0 | 3 => -1 | 4 => 0 | _ => 2
def xb6 (k : Nat) : Rat := match k with | 0 => 0 | 1 => 1 | 2 => 1 | 3 => 0 | 4 => -1 | _ => -1
def xa4 (k : Nat) : Rat := match k with | 0 => 3 | 1 => 1 | 2 => -1 | _ => 1
def xb4 (k : Nat) : Rat := match k with | 0 => 0 | 1 => 1 | 2 => 0 | _ => -1
theorem xN_tp (α : xV) (m t y : Rat) : xtp (xN α m t y) = xN α m t (-y) := by
  apply xM.eq <;> simp only [xtp, xN] <;> grind
section
variable {R : xM → Prop}
/-- the rotations about a line are numbered: k, tells trace and turn -/
theorem xG.embL (G : xG R) {α : xV} {m : Rat} (hm : m * xdot α α = 1) (M : Nat) (hM : 0 < M) (ta tb : Nat → Rat) (Q : Nat → Prop) (tr : Nat → Int)
    (q1 : ∀ k j, k < M → j < M → Q k → Q j → Q ((k + j) % M) ∧ 1 + ((ta k - 1) * (ta j - 1) - xdot α α * tb k * tb j) / 2 = ta ((k + j) % M) ∧ ((ta k - 1) * tb j + (ta j - 1) * tb k) / 2 = tb ((k + j) % M))
    (q2 : ∀ k, k < M → Q k → Q ((M - k) % M) ∧ ta ((M - k) % M) = ta k ∧ tb ((M - k) % M) = - tb k)
    (q3 : ∀ k j, k < M → j < M → ta k = ta j → tb k = tb j → k = j)
    (q4 : ∀ k, k < M → ta k = (tr (2 * k) : Rat)) (q5 : ∀ k, k < M → tr (2 * k + 1) = -1)
    (hK : ∀ s y, R s → xap s α = α → s = xN α m (xtr s) y → y * y * xdot α α = (3 - xtr s) * (1 + xtr s) → ∃ k, k < M ∧ Q k ∧ xtr s = ta k ∧ y = tb k)
    (hA : ∀ s, R s → xap s α = α ∨ xap s α = xng α) : ∃ Φ, xEmb R (2 * M) (xmD M) tr Φ := by
  have h0 : xdot α α ≠ 0 := by intro z; rw [z] at hm; grind
  refine G.embD h0 (fun k => xN α m (ta k) (tb k)) M hM (fun k => R (xN α m (ta k) (tb k)) ∧ Q k) tr ?_ ?_ ?_ ?_ ?_ ?_ q5 hA
  · intro k j hk hj ⟨sk, qk⟩ ⟨sj, qj⟩
    obtain ⟨e1, e2, e3⟩ := q1 k j hk hj qk qj
    have e := xN_mul (t := ta k) (y := tb k) (t' := ta j) (y' := tb j) hm
    rw [e2, e3] at e
    refine ⟨e, ?_, e1⟩
    rw [← e]; exact G.mul sk sj
  · intro k j hk hj _ _ e
    refine q3 k j hk hj ?_ ?_
    · have := congrArg xtr e
      rw [xN_tr hm, xN_tr hm] at this; exact this
    · have := congrArg (fun r => xdot α (xax r)) e
      rw [xN_ax, xN_ax, xdot_sc, xdot_sc] at this
      generalize xdot α α = n at *
      grind
  · intro k hk ⟨sk, qk⟩
    obtain ⟨e1, e2, e3⟩ := q2 k hk qk
    refine ⟨⟨?_, e1⟩, fun b hb hf => ?_⟩
    · rw [e2, e3, ← xN_tp]; exact G.tp sk
    · rw [e2, e3]
      have := (G.rot hb).flipN hf h0 hm (G.rot sk) (xN_fix hm) (tb k) (by rw [xN_tr hm])
      rw [xN_tr hm] at this
      exact this
  · intro k _ _; exact xN_fix hm
  · intro s hs hf
    obtain ⟨y, y1, y2⟩ := (G.rot hs).nf hf hm
    obtain ⟨k, k1, k2, k3, k4⟩ := hK s y hs hf y1 y2
    have e : s = xN α m (ta k) (tb k) := by rw [← k3, ← k4]; exact y1
    exact ⟨k, k1, ⟨by rw [← e]; exact hs, k2⟩, e⟩
  · intro k hk _; rw [xN_tr hm]; exact q4 k hk
theorem xrot.t4t {r s : xM} (h : xrot r) (h0 : xtr r = 1) (g : xrot s) (g0 : xtr s = 1) : 16 * xtr (xmul r s) = xdot (xax r) (xax s) * xdot (xax r) (xax s) - 8 * xdot (xax r) (xax s) := by
  have key : ∀ r : xM, xrot r → xtr r = 1 → (4 * r.a = (xax r).x * (xax r).x ∧ 4 * r.e = (xax r).y * (xax r).y ∧ 4 * r.i = (xax r).z * (xax r).z) ∧ (2 * (r.b + r.d) = (xax r).x * (xax r).y ∧ 2 * (r.c + r.g) = (xax r).x * (xax r).z ∧ 2 * (r.f + r.h) = (xax r).y * (xax r).z) := by
    intro r h h0
    obtain ⟨⟨⟨h1, h2, h3, h4, h5, h6⟩, g1, g2, g3, g4, g5, g6⟩, f1, f2, f3, f4, f5, f6, f7, f8, f9⟩ := h
    simp only [xax, xtr] at *; grind
  obtain ⟨⟨a1, a2, a3⟩, a4, a5, a6⟩ := key r h h0
  obtain ⟨⟨b1, b2, b3⟩, b4, b5, b6⟩ := key s g g0
  have l1 := h.len
  have l2 := g.len
  simp only [xax, xtr, xmul, xdot] at *; grind
theorem xrot.t3' {r : xM} (h : xrot r) (h3 : xtr r = 3) : r = x1 := by
  have l := h.len
  rw [h3] at l
  have z := xdot0 (u := xax r) (by rw [l]; grind)
  have e1 := congrArg xV.x z
  have e2 := congrArg xV.y z
  have e3 := congrArg xV.z z
  obtain ⟨⟨⟨h1, h2, h3, h4, h5, h6⟩, g1, g2, g3, g4, g5, g6⟩, f1, f2, f3, f4, f5, f6, f7, f8, f9⟩ := h
  simp only [xax, x0, xtr] at *
  apply xM.eq <;> simp only [x1] <;> grind
theorem xsq1 {y : Rat} (h : y * y = 1) : y = 1 ∨ y = -1 := by grind
theorem xG.emb (G : xG R) : (∃ Φ, xEmb R 24 xmS xtS Φ) ∨ (∃ Φ, xEmb R 12 (xmD 6) xt6 Φ) ∨ (∃ Φ, xEmb R 8 (xmD 4) xt4 Φ) := by
  have k6 : ∀ k, k < 6 → ∀ j, j < 6 → 1 + ((xa6 k - 1) * (xa6 j - 1) - 3 * xb6 k * xb6 j) / 2 = xa6 ((k + j) % 6) ∧ ((xa6 k - 1) * xb6 j + (xa6 j - 1) * xb6 k) / 2 = xb6 ((k + j) % 6) := by decide +kernel
  have n6 : ∀ k, k < 6 → xa6 ((6 - k) % 6) = xa6 k ∧ xb6 ((6 - k) % 6) = - xb6 k := by decide +kernel
  have i6 : ∀ k, k < 6 → ∀ j, j < 6 → xa6 k = xa6 j → xb6 k = xb6 j → k = j := by decide +kernel
  have r6 : ∀ k, k < 6 → xa6 k = (xt6 (2 * k) : Rat) := by decide +kernel
  have s6 : ∀ k, k < 6 → xt6 (2 * k + 1) = -1 := by decide
  by_cases hX : ∃ u, xX R u
  · obtain ⟨u, hu⟩ := hX
    by_cases hA : ∃ v, xX R v ∧ v ≠ u ∧ v ≠ xng u
    · obtain ⟨v, hv, v1, v2⟩ := hA
      obtain ⟨T, t1, t2⟩ := G.tetra hu hv v1 v2
      exact Or.inl (G.embS t1 t2)
    · right; left
      have n3 := G.X_len hu
      refine G.embL (α := u) (m := 1 / 3) (by rw [n3]; grind) 6 (by omega) xa6 xb6 (fun _ => True) xt6 ?_ ?_ (fun k j hk hj => i6 k hk j hj) r6 s6 ?_ ?_
      · intro k j hk hj _ _; rw [n3]; exact ⟨trivial, k6 k hk j hj⟩
      · intro k hk _; exact ⟨trivial, n6 k hk⟩
      · intro s y hs hf e yy
        rw [n3] at yy
        have it := G.int hs
        obtain ⟨r, r1, r2, r3⟩ := id hu
        have rf : xap r u = u := by rw [← r3]; exact (G.rot r1).axis
        obtain ⟨z, z1, z2⟩ := (G.rot r1).nf (m := 1 / 3) rf (by rw [n3]; grind)
        have z1' : z = 1 := by
          have := congrArg (fun r => xdot u (xax r)) z1
          rw [xN_ax, xdot_sc, r3, n3] at this
          grind
        have pr := congrArg xtr (xN_mul (α := u) (m := 1 / 3) (t := xtr s) (y := y) (t' := xtr r) (y' := z) (by rw [n3]; grind))
        rw [xN_tr (by rw [n3]; grind), ← e, ← z1, n3, r2, z1'] at pr
        have it2 := G.int (G.mul hs r1)
        rw [pr] at it2
        generalize xtr s = t at *
        clear pr z1 z1' e
        unfold xint at it it2
        rcases it with q | q | q | q | q <;> subst q
        · exact ⟨3, by omega, trivial, rfl, by show y = 0; grind⟩
        · rcases xsq1 (y := y) (by grind) with w | w
          · exact ⟨2, by omega, trivial, rfl, w⟩
          · exact ⟨4, by omega, trivial, rfl, w⟩
        · exfalso
          rcases it2 with w | w | w | w | w <;> grind
        · rcases xsq1 (y := y) (by grind) with w | w
          · exact ⟨1, by omega, trivial, rfl, w⟩
          · exact ⟨5, by omega, trivial, rfl, w⟩
        · exact ⟨0, by omega, trivial, rfl, by show y = 0; grind⟩
      · intro s hs
        have := G.X_act hs hu
        by_cases c : xap s u = u
        · exact Or.inl c
        · right
          apply Classical.byContradiction
          intro c2
          exact hA ⟨_, this, c, c2⟩
  · right
    have no0 : ∀ s, R s → xtr s ≠ 0 := fun s hs z => hX ⟨_, s, hs, z, rfl⟩
    have no2 : ∀ s, R s → xtr s ≠ 2 := fun s hs z => by
      refine no0 _ (G.mul hs hs) ?_
      rw [(G.rot hs).sq, z]; grind
    have it : ∀ s, R s → xtr s = -1 ∨ xtr s = 1 ∨ xtr s = 3 := fun s hs => by
      rcases G.int hs with q | q | q | q | q
      · exact Or.inl q
      · exact absurd q (no0 s hs)
      · exact Or.inr (Or.inl q)
      · exact absurd q (no2 s hs)
      · exact Or.inr (Or.inr q)
    by_cases h4 : ∃ f, R f ∧ xtr f = 1
    · right
      obtain ⟨f, f1, f2⟩ := h4
      have k4 : ∀ k, k < 4 → ∀ j, j < 4 → 1 + ((xa4 k - 1) * (xa4 j - 1) - 4 * xb4 k * xb4 j) / 2 = xa4 ((k + j) % 4) ∧ ((xa4 k - 1) * xb4 j + (xa4 j - 1) * xb4 k) / 2 = xb4 ((k + j) % 4) := by decide +kernel
      have n4' : ∀ k, k < 4 → xa4 ((4 - k) % 4) = xa4 k ∧ xb4 ((4 - k) % 4) = - xb4 k := by decide +kernel
      have i4 : ∀ k, k < 4 → ∀ j, j < 4 → xa4 k = xa4 j → xb4 k = xb4 j → k = j := by decide +kernel
      have r4 : ∀ k, k < 4 → xa4 k = (xt4 (2 * k) : Rat) := by decide +kernel
      have s4 : ∀ k, k < 4 → xt4 (2 * k + 1) = -1 := by decide
      have n4 : xdot (xax f) (xax f) = 4 := by rw [(G.rot f1).len, f2]; grind
      refine G.embL (α := xax f) (m := 1 / 4) (by rw [n4]; grind) 4 (by omega) xa4 xb4 (fun _ => True) xt4 ?_ ?_ (fun k j hk hj => i4 k hk j hj) r4 s4 ?_ ?_
      · intro k j hk hj _ _; rw [n4]; exact ⟨trivial, k4 k hk j hj⟩
      · intro k hk _; exact ⟨trivial, n4' k hk⟩
      · intro s y hs hf e yy
        rw [n4] at yy
        have it := it s hs
        generalize xtr s = t at *
        clear e
        rcases it with q | q | q <;> subst q
        · exact ⟨2, by omega, trivial, rfl, by show y = 0; grind⟩
        · rcases xsq1 (y := y) (by grind) with w | w
          · exact ⟨1, by omega, trivial, rfl, w⟩
          · exact ⟨3, by omega, trivial, rfl, w⟩
        · exact ⟨0, by omega, trivial, rfl, by show y = 0; grind⟩
      · intro s hs
        have hc : R (xmul (xmul s f) (xtp s)) := G.mul (G.mul hs f1) (G.tp hs)
        have ct : xtr (xmul (xmul s f) (xtp s)) = 1 := by rw [(G.rot hs).ctr, f2]
        have ca := (G.rot hs).conj (r := f)
        have e1 := (G.rot f1).t4t f2 (G.rot hc) ct
        have e2 := (G.rot f1).t4t f2 (G.rot hc).tp (by rw [xtr_tp]; exact ct)
        have nc : xdot (xap s (xax f)) (xap s (xax f)) = 4 := by rw [(G.rot hs).dot, n4]
        rw [xax_tp, xdot_ng] at e2
        rw [ca] at e1 e2
        have i1 := it _ (G.mul f1 hc)
        have i2 := it _ (G.mul f1 (G.tp hc))
        have c3 : xdot (xax f) (xap s (xax f)) = 4 → xap s (xax f) = xax f := fun q => (xcs n4 nc q).symm
        have c4 : xdot (xax f) (xap s (xax f)) = -4 → xap s (xax f) = xng (xax f) := fun q => by
          have := xcs' n4 nc q
          rw [this, xng_ng, ← this]
        generalize xdot (xax f) (xap s (xax f)) = k at *
        generalize xtr (xmul f (xmul (xmul s f) (xtp s))) = t at *
        generalize xtr (xmul f (xtp (xmul (xmul s f) (xtp s)))) = t' at *
        have : k = 4 ∨ k = -4 := by
          have hk : k = t' - t := by grind
          rcases i1 with i | i | i <;> rcases i2 with j | j | j <;> subst i <;> subst j <;> grind
        rcases this with q | q
        · exact Or.inl (c3 q)
        · exact Or.inr (c4 q)
    · left
      have it : ∀ s, R s → xtr s = -1 ∨ xtr s = 3 := fun s hs => by
        rcases it s hs with q | q | q
        · exact Or.inl q
        · exact absurd ⟨s, hs, q⟩ h4
        · exact Or.inr q
      have sy : ∀ s, R s → xtp s = s := fun s hs => by
        rcases it s hs with q | q
        · have l := (G.rot hs).len
          rw [q] at l
          have z := xdot0 (u := xax s) (by rw [l]; grind)
          have e1 := congrArg xV.x z
          have e2 := congrArg xV.y z
          have e3 := congrArg xV.z z
          simp only [xax, x0] at e1 e2 e3
          apply xM.eq <;> simp only [xtp] <;> grind
        · rw [(G.rot hs).t3' q]; rfl
      have fin : ∀ (α : xV), xdot α α ≠ 0 → (∀ s, R s → xap s α = α ∨ xap s α = xng α) → ∃ Φ, xEmb R 12 (xmD 6) xt6 Φ := by
        intro α h0 hA
        refine G.embL (α := α) (m := 1 / xdot α α) (by grind) 6 (by omega) xa6 xb6 (fun k => k = 0 ∨ k = 3) xt6 ?_ ?_ (fun k j hk hj => i6 k hk j hj) r6 s6 ?_ hA
        · intro k j hk hj hk' hj'
          have := k6 k hk j hj
          have z : xb6 k = 0 := by rcases hk' with q | q <;> subst q <;> rfl
          rw [z] at this ⊢
          refine ⟨by omega, ?_, this.2⟩
          rw [← this.1]; grind
        · intro k hk hk'; exact ⟨by omega, n6 k hk⟩
        · intro s y hs hf e yy
          have it := it s hs
          have y0 : y = 0 := by
            generalize xtr s = t at *
            generalize xdot α α = n at *
            clear e
            have : y * y * n = 0 := by rcases it with q | q <;> subst q <;> grind
            have : y * y = 0 := by grind
            grind
          rcases it with q | q
          · exact ⟨3, by omega, Or.inr rfl, q, y0⟩
          · exact ⟨0, by omega, Or.inl rfl, q, y0⟩
      by_cases hh : ∃ h, R h ∧ xtr h = -1
      · obtain ⟨h, h1, h2⟩ := hh
        have hs := sy h h1
        have hr := (G.rot h1).rt
        rw [hs] at hr
        obtain ⟨α, a0, af⟩ : ∃ α, xdot α α ≠ 0 ∧ xap h α = α := by
          have key : ∀ v : xV, xap h (xadd v (xap h v)) = xadd v (xap h v) := fun v => by
            rw [xap_add, ← xap_mul, hr, xap_1]
            apply xV.eq <;> simp only [xadd] <;> grind
          have nz : ∀ v : xV, xdot v (xadd v (xap h v)) ≠ 0 → xdot (xadd v (xap h v)) (xadd v (xap h v)) ≠ 0 := fun v hv z => by
            rw [xdot0 z] at hv
            apply hv; simp only [xdot, x0]; grind
          by_cases c1 : xdot ⟨1, 0, 0⟩ (xadd ⟨1, 0, 0⟩ (xap h ⟨1, 0, 0⟩)) = 0
          · by_cases c2 : xdot ⟨0, 1, 0⟩ (xadd ⟨0, 1, 0⟩ (xap h ⟨0, 1, 0⟩)) = 0
            · refine ⟨_, nz ⟨0, 0, 1⟩ ?_, key _⟩
              simp only [xdot, xadd, xap, xtr] at *
              grind
            · exact ⟨_, nz _ c2, key _⟩
          · exact ⟨_, nz _ c1, key _⟩
        refine fin α a0 (fun s hs' => ?_)
        have ss := (G.rot hs').rt
        rw [sy s hs'] at ss
        have pp := (G.rot (G.mul h1 hs')).rt
        rw [sy _ (G.mul h1 hs')] at pp
        have cm : xmul h s = xmul s h := by
          have := congrArg (fun r => xmul (xmul s h) r) pp
          rw [xmul_1, ← xmul_as, xmul_as s h, ← xmul_as h h s, hr, x1_mul, ss, x1_mul] at this
          exact this
        have hf : xap h (xap s α) = xap s α := by rw [← xap_mul, cm, xap_mul, af]
        obtain ⟨y, y1, y2⟩ := (G.rot h1).nf (m := 1 / xdot α α) af (by grind)
        rw [h2] at y1 y2
        have y0 : y = 0 := by
          generalize xdot α α = n at *
          have : y * y * n = 0 := by grind
          have : y * y = 0 := by grind
          grind
        rw [y0] at y1
        have d := (G.rot hs').dot α α
        rw [y1] at hf
        generalize hv : xap s α = v at *
        have par : v = xsc ((1 / xdot α α) * xdot α v) α := by
          have e1 := congrArg xV.x hf
          have e2 := congrArg xV.y hf
          have e3 := congrArg xV.z hf
          clear hf y1 y2 hv d af cm pp ss
          generalize 1 / xdot α α = w at *
          simp only [xap, xN] at e1 e2 e3
          apply xV.eq <;> simp only [xsc, xdot] <;> grind
        rw [par, xdot_sc, xsc_dot] at d
        have sq : (1 / xdot α α * xdot α v) * (1 / xdot α α * xdot α v) = 1 := by
          generalize 1 / xdot α α * xdot α v = c at *
          generalize xdot α α = n at *
          grind
        rcases xsq1 sq with q | q
        · left; rw [par, q]; apply xV.eq <;> simp only [xsc] <;> grind
        · right; rw [par, q, xng_sc]
      · refine fin ⟨1, 0, 0⟩ (by simp only [xdot]; grind) (fun s hs => Or.inl ?_)
        rcases it s hs with q | q
        · exact absurd ⟨s, hs, q⟩ hh
        · rw [(G.rot hs).t3' q, xap_1]
end
