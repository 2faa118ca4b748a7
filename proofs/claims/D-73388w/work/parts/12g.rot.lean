/-! ===== maths: rotations that keep a line ===== -/
def xN (α : xV) (m t y : Rat) : xM := ⟨((t - 1) + (3 - t) * m * (α.x * α.x)) / 2, ((3 - t) * m * (α.x * α.y) - y * α.z) / 2, ((3 - t) * m * (α.x * α.z) + y * α.y) / 2,
  ((3 - t) * m * (α.x * α.y) + y * α.z) / 2, ((t - 1) + (3 - t) * m * (α.y * α.y)) / 2, ((3 - t) * m * (α.y * α.z) - y * α.x) / 2,
  ((3 - t) * m * (α.x * α.z) - y * α.y) / 2, ((3 - t) * m * (α.y * α.z) + y * α.x) / 2, ((t - 1) + (3 - t) * m * (α.z * α.z)) / 2⟩
theorem xN_tr {α : xV} {m t y : Rat} (h : m * xdot α α = 1) : xtr (xN α m t y) = t := by
  simp only [xdot] at h
  simp only [xtr, xN]; grind
theorem xN_ax (α : xV) (m t y : Rat) : xax (xN α m t y) = xsc y α := by
  apply xV.eq <;> simp only [xax, xN, xsc] <;> grind
theorem xN_mul {α : xV} {m t y t' y' : Rat} (h : m * xdot α α = 1) : xmul (xN α m t y) (xN α m t' y') = xN α m (1 + ((t - 1) * (t' - 1) - xdot α α * y * y') / 2) (((t - 1) * y' + (t' - 1) * y) / 2) := by
  simp only [xdot] at h
  apply xM.eq <;> simp only [xmul, xN, xdot] <;> grind
theorem xN_fix {α : xV} {m t y : Rat} (h : m * xdot α α = 1) : xap (xN α m t y) α = α := by
  simp only [xdot] at h
  apply xV.eq <;> simp only [xap, xN] <;> grind
theorem xN_1 {α : xV} {m : Rat} : xN α m 3 0 = x1 := by
  apply xM.eq <;> simp only [x1, xN] <;> grind
theorem xrot_of {r : xM} (h1 : ∀ u v, xdot (xap r u) (xap r v) = xdot u v) (h2 : ∀ u v, xcr (xap r u) (xap r v) = xap r (xcr u v)) (h3 : ∀ u v, xdot (xap (xtp r) u) (xap (xtp r) v) = xdot u v) : xrot r := by
  have a1 := h1 ⟨1, 0, 0⟩ ⟨1, 0, 0⟩
  have a2 := h1 ⟨0, 1, 0⟩ ⟨0, 1, 0⟩
  have a3 := h1 ⟨0, 0, 1⟩ ⟨0, 0, 1⟩
  have a4 := h1 ⟨1, 0, 0⟩ ⟨0, 1, 0⟩
  have a5 := h1 ⟨1, 0, 0⟩ ⟨0, 0, 1⟩
  have a6 := h1 ⟨0, 1, 0⟩ ⟨0, 0, 1⟩
  have b1 := h3 ⟨1, 0, 0⟩ ⟨1, 0, 0⟩
  have b2 := h3 ⟨0, 1, 0⟩ ⟨0, 1, 0⟩
  have b3 := h3 ⟨0, 0, 1⟩ ⟨0, 0, 1⟩
  have b4 := h3 ⟨1, 0, 0⟩ ⟨0, 1, 0⟩
  have b5 := h3 ⟨1, 0, 0⟩ ⟨0, 0, 1⟩
  have b6 := h3 ⟨0, 1, 0⟩ ⟨0, 0, 1⟩
  have c1 := h2 ⟨1, 0, 0⟩ ⟨0, 1, 0⟩
  have c2 := h2 ⟨0, 1, 0⟩ ⟨0, 0, 1⟩
  have c3 := h2 ⟨0, 0, 1⟩ ⟨1, 0, 0⟩
  simp only [xdot, xap, xtp, xcr, xV.mk.injEq] at *
  refine ⟨⟨⟨?_, ?_, ?_, ?_, ?_, ?_⟩, ?_, ?_, ?_, ?_, ?_, ?_⟩, ?_, ?_, ?_, ?_, ?_, ?_, ?_, ?_, ?_⟩ <;> grind
theorem xrot.mul {r s : xM} (h : xrot r) (g : xrot s) : xrot (xmul r s) := by
  refine xrot_of (fun u v => ?_) (fun u v => ?_) (fun u v => ?_)
  · rw [xap_mul, xap_mul, h.dot, g.dot]
  · rw [xap_mul, xap_mul, xap_mul, h.cr, g.cr]
  · rw [xtp_mul, xap_mul, xap_mul, g.tp.dot, h.tp.dot]
section
variable {s : xM} {α : xV} {m : Rat}
theorem xrot.fixt (h : xrot s) (hf : xap s α = α) : xap (xtp s) α = α := by
  have := congrArg (xap (xtp s)) hf
  rw [← xap_mul, h.tr, xap_1] at this
  exact this.symm
theorem xcan {t A : Rat} (c : ¬ t = -1) (h : (1 + t) * A = 0) : A = 0 := by grind
theorem xcan2 {t m y A B p q : Rat} (c : ¬ t = -1) (yn : y * y = m * ((3 - t) * (1 + t))) (e : (1 + t) * A = B * (1 + t) + (y * p) * (y * q)) : A = B + (3 - t) * m * (p * q) := by
  have h1 : (1 + t) * (A - (B + (3 - t) * m * (p * q))) = (y * y) * (p * q) - m * ((3 - t) * (1 + t)) * (p * q) := by
    have : (1 + t) * (A - (B + (3 - t) * m * (p * q))) = (1 + t) * A - (1 + t) * (B + (3 - t) * m * (p * q)) := by grind
    rw [this, e]; grind
  rw [yn] at h1
  have h2 := xcan c (h1.trans (by grind))
  grind
theorem xrot.nf (h : xrot s) (hf : xap s α = α) (hm : m * xdot α α = 1) : ∃ y, s = xN α m (xtr s) y ∧ y * y * xdot α α = (3 - xtr s) * (1 + xtr s) := by
  have ht := h.fixt hf
  have len := h.len
  obtain ⟨⟨⟨h1, h2, h3, h4, h5, h6⟩, g1, g2, g3, g4, g5, g6⟩, f1, f2, f3, f4, f5, f6, f7, f8, f9⟩ := h
  have a1 := congrArg xV.x hf
  have a2 := congrArg xV.y hf
  have a3 := congrArg xV.z hf
  have b1 := congrArg xV.x ht
  have b2 := congrArg xV.y ht
  have b3 := congrArg xV.z ht
  clear hf ht
  -- the skew part is along the line
  obtain ⟨y, hy⟩ : ∃ y, xax s = xsc y α := by
    refine ⟨m * xdot (xax s) α, ?_⟩
    simp only [xap, xtp] at a1 a2 a3 b1 b2 b3
    have c1 : (s.h - s.f) * α.y = (s.c - s.g) * α.x := by grind
    have c2 : (s.h - s.f) * α.z = (s.d - s.b) * α.x := by grind
    have c3 : (s.c - s.g) * α.z = (s.d - s.b) * α.y := by grind
    simp only [xdot] at hm
    clear h1 h2 h3 h4 h5 h6 g1 g2 g3 g4 g5 g6 f1 f2 f3 f4 f5 f6 f7 f8 f9 a1 a2 a3 b1 b2 b3 len
    apply xV.eq <;> simp only [xax, xsc, xdot] <;> grind
  have y1 := congrArg xV.x hy
  have y2 := congrArg xV.y hy
  have y3 := congrArg xV.z hy
  have yy : y * y * xdot α α = (3 - xtr s) * (1 + xtr s) := by
    rw [← len, hy, xdot_sc, xsc_dot]; grind
  refine ⟨y, ?_, yy⟩
  clear hy len
  by_cases c : xtr s = -1
  · rw [c] at yy ⊢
    have hn : xdot α α ≠ 0 := by grind
    have y0 : y = 0 := by
      have : y * y * xdot α α = 0 := by rw [yy]; grind
      generalize xdot α α = n at *
      have : y * y = 0 := by grind
      grind
    subst y0
    simp only [xap, xtp, xax, xsc, xdot, xtr] at *
    have s1 : s.h = s.f := by grind
    have s2 : s.c = s.g := by grind
    have s3 : s.d = s.b := by grind
    -- the minors of 1 + s vanish
    have p1 : (1 + s.a) * (1 + s.e) = s.b * s.b := by grind
    have p2 : (1 + s.a) * (1 + s.i) = s.c * s.c := by grind
    have p3 : (1 + s.e) * (1 + s.i) = s.f * s.f := by grind
    have p4 : (1 + s.a) * s.f = s.b * s.c := by grind
    have p5 : (1 + s.e) * s.c = s.b * s.f := by grind
    have p6 : (1 + s.i) * s.b = s.c * s.f := by grind
    clear h1 h2 h3 h4 h5 h6 g1 g2 g3 g4 g5 g6 f1 f2 f3 f4 f5 f6 f7 f8 f9 b1 b2 b3 y1 y2 y3
    rw [s3] at a2
    rw [s1, ← s2] at a3
    have q1 : (1 + s.a) * (α.x * α.x + α.y * α.y + α.z * α.z) = 2 * (α.x * α.x) := by grind
    have q2 : (1 + s.e) * (α.x * α.x + α.y * α.y + α.z * α.z) = 2 * (α.y * α.y) := by grind
    have q3 : (1 + s.i) * (α.x * α.x + α.y * α.y + α.z * α.z) = 2 * (α.z * α.z) := by grind
    have q4 : s.b * (α.x * α.x + α.y * α.y + α.z * α.z) = 2 * (α.x * α.y) := by grind
    have q5 : s.c * (α.x * α.x + α.y * α.y + α.z * α.z) = 2 * (α.x * α.z) := by grind
    have q6 : s.f * (α.x * α.x + α.y * α.y + α.z * α.z) = 2 * (α.y * α.z) := by grind
    clear p1 p2 p3 p4 p5 p6 a1 a2 a3
    apply xM.eq <;> simp only [xN] <;> grind
  · simp only [xap, xtp, xax, xsc] at *
    have e1 : (1 + xtr s) * (2 * s.a) = xtr s * xtr s - 1 + (y * α.x) * (y * α.x) := by simp only [xtr] at *; grind
    have e2 : (1 + xtr s) * (2 * s.e) = xtr s * xtr s - 1 + (y * α.y) * (y * α.y) := by simp only [xtr] at *; grind
    have e3 : (1 + xtr s) * (2 * s.i) = xtr s * xtr s - 1 + (y * α.z) * (y * α.z) := by simp only [xtr] at *; grind
    have e4 : (1 + xtr s) * (s.b + s.d) = (y * α.x) * (y * α.y) := by simp only [xtr] at *; grind
    have e5 : (1 + xtr s) * (s.c + s.g) = (y * α.x) * (y * α.z) := by simp only [xtr] at *; grind
    have e6 : (1 + xtr s) * (s.f + s.h) = (y * α.y) * (y * α.z) := by simp only [xtr] at *; grind
    clear h1 h2 h3 h4 h5 h6 g1 g2 g3 g4 g5 g6 f1 f2 f3 f4 f5 f6 f7 f8 f9 b1 b2 b3 a1 a2 a3
    generalize xtr s = t at *
    have yn : y * y = m * ((3 - t) * (1 + t)) := by generalize xdot α α = n at *; grind
    clear yy hm
    have k1 := xcan2 (A := 2 * s.a) (B := t - 1) (p := α.x) (q := α.x) c yn (by rw [e1]; grind)
    have k2 := xcan2 (A := 2 * s.e) (B := t - 1) (p := α.y) (q := α.y) c yn (by rw [e2]; grind)
    have k3 := xcan2 (A := 2 * s.i) (B := t - 1) (p := α.z) (q := α.z) c yn (by rw [e3]; grind)
    have k4 := xcan2 (A := s.b + s.d) (B := 0) (p := α.x) (q := α.y) c yn (by rw [e4]; grind)
    have k5 := xcan2 (A := s.c + s.g) (B := 0) (p := α.x) (q := α.z) c yn (by rw [e5]; grind)
    have k6 := xcan2 (A := s.f + s.h) (B := 0) (p := α.y) (q := α.z) c yn (by rw [e6]; grind)
    clear e1 e2 e3 e4 e5 e6 yn c
    apply xM.eq <;> simp only [xN] <;> grind
/-- one that turns the line about is half a turn -/
theorem xrot.flip (h : xrot s) (hf : xap s α = xng α) (h0 : xdot α α ≠ 0) : xtr s = -1 ∧ xtp s = s := by
  have ht : xap (xtp s) α = xng α := by
    have := congrArg (xap (xtp s)) hf
    rw [← xap_mul, h.tr, xap_1, xap_ng] at this
    rw [← xng_ng (xap (xtp s) α), ← this]
  have len := h.len
  have t1 : xtr s = -1 := by
    obtain ⟨⟨⟨h1, h2, h3, h4, h5, h6⟩, g1, g2, g3, g4, g5, g6⟩, f1, f2, f3, f4, f5, f6, f7, f8, f9⟩ := h
    have a1 := congrArg xV.x hf
    have a2 := congrArg xV.y hf
    have a3 := congrArg xV.z hf
    have b1 := congrArg xV.x ht
    have b2 := congrArg xV.y ht
    have b3 := congrArg xV.z ht
    simp only [xap, xtp, xng] at a1 a2 a3 b1 b2 b3
    have z1 : (1 + xtr s) * α.x = 0 := by simp only [xtr]; grind
    have z2 : (1 + xtr s) * α.y = 0 := by simp only [xtr]; grind
    have z3 : (1 + xtr s) * α.z = 0 := by simp only [xtr]; grind
    apply Classical.byContradiction
    intro z
    apply h0
    simp only [xdot]
    clear h1 h2 h3 h4 h5 h6 g1 g2 g3 g4 g5 g6 f1 f2 f3 f4 f5 f6 f7 f8 f9 a1 a2 a3 b1 b2 b3 len
    generalize xtr s = t at *
    grind
  refine ⟨t1, ?_⟩
  rw [t1] at len
  have := xdot0 (u := xax s) (by rw [len]; grind)
  have e1 := congrArg xV.x this
  have e2 := congrArg xV.y this
  have e3 := congrArg xV.z this
  simp only [xax, x0] at e1 e2 e3
  apply xM.eq <;> simp only [xtp] <;> grind
/-- it turns a rotation about the line back -/
theorem xrot.flipN (h : xrot s) (hf : xap s α = xng α) (h0 : xdot α α ≠ 0) (hm : m * xdot α α = 1) {r : xM} (hr : xrot r) (hrf : xap r α = α) (y : Rat) (e : r = xN α m (xtr r) y) : xmul (xmul s r) s = xN α m (xtr r) (-y) := by
  obtain ⟨_, fl⟩ := h.flip hf h0
  have c : xrot (xmul (xmul s r) (xtp s)) := by
    exact (h.mul hr).mul h.tp
  have cf : xap (xmul (xmul s r) (xtp s)) α = α := by
    rw [xap_mul, xap_mul, fl, hf, xap_ng, hrf, xap_ng, hf, xng_ng]
  obtain ⟨y', e', _⟩ := c.nf cf hm
  have ax := h.conj (r := r)
  rw [e', xN_ax] at ax
  rw [show xax r = xsc y α by rw [e, xN_ax], xap_sc, hf] at ax
  rw [h.ctr] at e'
  rw [fl] at e'
  rw [e']
  have : y' = -y := by
    have d := congrArg (xdot α) ax
    rw [xdot_sc, xdot_sc, xdot_ng] at d
    generalize xdot α α = n at *
    grind
  rw [this]
end
