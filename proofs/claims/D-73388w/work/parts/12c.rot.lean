def xsc (k : Rat) (u : xV) : xV := ⟨k * u.x, k * u.y, k * u.z⟩
theorem xdot_sc (k : Rat) (u v : xV) : xdot u (xsc k v) = k * xdot u v := by simp only [xdot, xsc]; grind
theorem xsc_dot (k : Rat) (u v : xV) : xdot (xsc k u) v = k * xdot u v := by simp only [xdot, xsc]; grind
theorem xap_sc (r : xM) (k : Rat) (v : xV) : xap r (xsc k v) = xsc k (xap r v) := by apply xV.eq <;> simp only [xsc, xap] <;> grind
theorem xng_sc (v : xV) : xng v = xsc (-1) v := by apply xV.eq <;> simp only [xsc, xng] <;> grind
def xdet (u v w : xV) : Rat := xdot u (xcr v w)
theorem xdet_sum (u v w x : xV) : xsc (xdet u v w) x = xadd (xadd (xsc (xdot x u) (xcr v w)) (xsc (xdot x v) (xcr w u))) (xsc (xdot x w) (xcr u v)) := by
  apply xV.eq <;> simp only [xsc, xdet, xdot, xadd, xcr] <;> grind
theorem xdet_cr (u v w : xV) : xsc (xdet u v w) (xcr v w) = xadd (xadd (xsc (xdot v v * xdot w w - xdot v w * xdot v w) u) (xsc (xdot u w * xdot v w - xdot u v * xdot w w) v)) (xsc (xdot u v * xdot v w - xdot u w * xdot v v) w) := by
  apply xV.eq <;> simp only [xsc, xdet, xdot, xadd, xcr] <;> grind
theorem xdet_sq (u v w : xV) : xdet u v w * xdet u v w = xdot u u * (xdot v v * xdot w w - xdot v w * xdot v w) + xdot u v * (xdot u w * xdot v w - xdot u v * xdot w w) + xdot u w * (xdot u v * xdot v w - xdot u w * xdot v v) := by
  simp only [xdet, xdot, xcr]; grind
theorem xdet_rot (u v w : xV) : xdet u v w = xdet v w u := by simp only [xdet, xdot, xcr]; grind
/-- four ways of equal angles -/
structure xtet (T : Nat → xV) : Prop where
  n : ∀ i, i < 4 → xdot (T i) (T i) = 3
  d : ∀ i j, i < 4 → j < 4 → i ≠ j → xdot (T i) (T j) = -1
  s : T 3 = xng (xadd (xadd (T 0) (T 1)) (T 2))
theorem xtet.frame {T : Nat → xV} (h : xtet T) (x : xV) : xsc 4 x = xadd (xadd (xsc (xdot x (T 0)) (T 0)) (xsc (xdot x (T 1)) (T 1))) (xadd (xsc (xdot x (T 2)) (T 2)) (xsc (xdot x (T 3)) (T 3))) := by
  have n0 := h.n 0 (by omega)
  have n1 := h.n 1 (by omega)
  have n2 := h.n 2 (by omega)
  have d01 := h.d 0 1 (by omega) (by omega) (by omega)
  have d02 := h.d 0 2 (by omega) (by omega) (by omega)
  have d12 := h.d 1 2 (by omega) (by omega) (by omega)
  have d10 := h.d 1 0 (by omega) (by omega) (by omega)
  have d20 := h.d 2 0 (by omega) (by omega) (by omega)
  have d21 := h.d 2 1 (by omega) (by omega) (by omega)
  have e := xdet_sum (T 0) (T 1) (T 2) x
  have c0 := xdet_cr (T 0) (T 1) (T 2)
  have c1 := xdet_cr (T 1) (T 2) (T 0)
  have c2 := xdet_cr (T 2) (T 0) (T 1)
  have q := xdet_sq (T 0) (T 1) (T 2)
  rw [← xdet_rot] at c1
  rw [xdet_rot] at c2
  rw [h.s]
  simp only [n0, n1, n2, d01, d02, d12, d10, d20, d21] at c0 c1 c2 q
  generalize xdet (T 0) (T 1) (T 2) = D at *
  have q16 : D * D = 16 := by rw [q]; grind
  generalize xcr (T 1) (T 2) = p at *
  generalize xcr (T 2) (T 0) = p' at *
  generalize xcr (T 0) (T 1) = p'' at *
  have sm : xdot x (xng (xadd (xadd (T 0) (T 1)) (T 2))) = -(xdot x (T 0) + xdot x (T 1) + xdot x (T 2)) := by
    rw [xdot_ng, xdot_add, xdot_add]
  rw [sm]
  generalize xdot x (T 0) = k0 at *
  generalize xdot x (T 1) = k1 at *
  generalize xdot x (T 2) = k2 at *
  have ex := congrArg xV.x e
  have ey := congrArg xV.y e
  have ez := congrArg xV.z e
  have x0 := congrArg xV.x c0
  have y0 := congrArg xV.y c0
  have z0 := congrArg xV.z c0
  have x1 := congrArg xV.x c1
  have y1 := congrArg xV.y c1
  have z1 := congrArg xV.z c1
  have x2 := congrArg xV.x c2
  have y2 := congrArg xV.y c2
  have z2 := congrArg xV.z c2
  clear e c0 c1 c2 sm n0 n1 n2 d01 d02 d12 d10 d20 d21 q
  simp only [xsc, xadd] at ex ey ez x0 y0 z0 x1 y1 z1 x2 y2 z2
  apply xV.eq <;> simp only [xsc, xadd, xng]
  · clear ey ez y0 y1 y2 z0 z1 z2
    have : D * D * x.x = k0 * (D * p.x) + k1 * (D * p'.x) + k2 * (D * p''.x) := by grind
    rw [q16, x0, x1, x2] at this
    grind
  · clear ex ez x0 x1 x2 z0 z1 z2
    have : D * D * x.y = k0 * (D * p.y) + k1 * (D * p'.y) + k2 * (D * p''.y) := by grind
    rw [q16, y0, y1, y2] at this
    grind
  · clear ex ey x0 x1 x2 y0 y1 y2
    have : D * D * x.z = k0 * (D * p.z) + k1 * (D * p'.z) + k2 * (D * p''.z) := by grind
    rw [q16, z0, z1, z2] at this
    grind
theorem xtet.sq {T : Nat → xV} (h : xtet T) (x : xV) : 4 * xdot x x = xdot x (T 0) * xdot x (T 0) + xdot x (T 1) * xdot x (T 1) + xdot x (T 2) * xdot x (T 2) + xdot x (T 3) * xdot x (T 3) := by
  have := h.frame x
  have e := congrArg (xdot x) this
  rw [xdot_sc, xdot_add, xdot_add, xdot_add, xdot_sc, xdot_sc, xdot_sc, xdot_sc] at e
  rw [e]; grind
