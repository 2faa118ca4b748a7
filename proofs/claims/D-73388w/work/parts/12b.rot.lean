theorem xsq (x : Rat) : 0 ≤ x * x := by
  rcases Rat.le_total (a := 0) (b := x) with h | h
  · exact Rat.mul_nonneg h h
  · have : 0 ≤ -x := by grind
    have := Rat.mul_nonneg this this
    grind
theorem xsq0 {x y z : Rat} (h : x * x + y * y + z * z = 0) : x = 0 ∧ y = 0 ∧ z = 0 := by
  have h1 := xsq x
  have h2 := xsq y
  have h3 := xsq z
  have e1 : x * x = 0 := by grind
  have e2 : y * y = 0 := by grind
  have e3 : z * z = 0 := by grind
  refine ⟨?_, ?_, ?_⟩ <;> grind
theorem xdot0 {u : xV} (h : xdot u u = 0) : u = x0 := by
  obtain ⟨h1, h2, h3⟩ := xsq0 h
  exact xV.eq h1 h2 h3
theorem xcs {u v : xV} {n : Rat} (hu : xdot u u = n) (hv : xdot v v = n) (h : xdot u v = n) : u = v := by
  have : xdot (xadd u (xng v)) (xadd u (xng v)) = 0 := by
    rw [xadd_dot, xdot_add, xdot_add, xdot_ng, xng_dot, xng_dot, xdot_ng, xdot_comm v u, hu, hv, h]; grind
  have := xdot0 this
  have e1 := congrArg xV.x this
  have e2 := congrArg xV.y this
  have e3 := congrArg xV.z this
  simp only [xadd, xng, x0] at e1 e2 e3
  apply xV.eq <;> grind
theorem xcs' {u v : xV} {n : Rat} (hu : xdot u u = n) (hv : xdot v v = n) (h : xdot u v = -n) : u = xng v := by
  refine xcs (n := n) hu ?_ ?_
  · rw [xdot_ng, xng_dot, hv]; grind
  · rw [xdot_ng, h]; grind
/-- a whole trace -/
def xint (t : Rat) : Prop := t = -1 ∨ t = 0 ∨ t = 1 ∨ t = 2 ∨ t = 3
section
variable {r s : xM}
/-- a third of a turn -/
theorem xrot.t3 (h : xrot r) (h0 : xtr r = 0) : (2 * r.a = (xax r).x * (xax r).x - 1 ∧ 2 * r.e = (xax r).y * (xax r).y - 1 ∧ 2 * r.i = (xax r).z * (xax r).z - 1) ∧ (r.b + r.d = (xax r).x * (xax r).y ∧ r.c + r.g = (xax r).x * (xax r).z ∧ r.f + r.h = (xax r).y * (xax r).z) := by
  obtain ⟨⟨⟨h1, h2, h3, h4, h5, h6⟩, g1, g2, g3, g4, g5, g6⟩, f1, f2, f3, f4, f5, f6, f7, f8, f9⟩ := h
  simp only [xax, xtr] at *; grind
theorem xrot.t3t (h : xrot r) (h0 : xtr r = 0) (g : xrot s) (g0 : xtr s = 0) : 4 * xtr (xmul r s) = xdot (xax r) (xax s) * xdot (xax r) (xax s) - 2 * xdot (xax r) (xax s) - 3 := by
  obtain ⟨⟨a1, a2, a3⟩, a4, a5, a6⟩ := h.t3 h0
  obtain ⟨⟨b1, b2, b3⟩, b4, b5, b6⟩ := g.t3 g0
  have l1 := h.len
  have l2 := g.len
  simp only [xax, xtr, xmul, xdot] at *; grind
theorem xax_tp (r : xM) : xax (xtp r) = xng (xax r) := by
  apply xV.eq <;> simp only [xax, xtp, xng] <;> grind
theorem xrot.t3l (h : xrot r) (h0 : xtr r = 0) : xdot (xax r) (xax r) = 3 := by rw [h.len, h0]; grind
theorem xrot.t3k (h : xrot r) (h0 : xtr r = 0) (g : xrot s) (g0 : xtr s = 0) (i1 : xint (xtr (xmul r s))) (i2 : xint (xtr (xmul r (xtp s)))) : xdot (xax r) (xax s) = 1 ∨ xdot (xax r) (xax s) = -1 ∨ xax s = xax r ∨ xax s = xng (xax r) := by
  have e1 := h.t3t h0 g g0
  have e2 := h.t3t h0 g.tp (by rw [xtr_tp]; exact g0)
  rw [xax_tp, xdot_ng] at e2
  have c3 : xdot (xax r) (xax s) = 3 → xax s = xax r := fun q => (xcs (h.t3l h0) (g.t3l g0) q).symm
  have c4 : xdot (xax r) (xax s) = -3 → xax s = xng (xax r) := fun q => by
    have := xcs' (h.t3l h0) (g.t3l g0) q
    rw [this, xng_ng]
  generalize xdot (xax r) (xax s) = k at *
  generalize xtr (xmul r s) = t at *
  generalize xtr (xmul r (xtp s)) = t' at *
  have : k = 1 ∨ k = -1 ∨ k = 3 ∨ k = -3 := by
    have hk : k = t' - t := by grind
    rcases i1 with i | i | i | i | i <;> rcases i2 with j | j | j | j | j <;> subst i <;> subst j <;> grind
  rcases this with q | q | q | q
  · exact Or.inl q
  · exact Or.inr (Or.inl q)
  · exact Or.inr (Or.inr (Or.inl (c3 q)))
  · exact Or.inr (Or.inr (Or.inr (c4 q)))
end
