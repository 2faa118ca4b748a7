/-! ===== maths: rotations of rational numbers ===== -/
structure xM where
  (a b c d e f g h i : Rat)
structure xV where
  (x y z : Rat)
theorem xM.eq {r s : xM} (h1 : r.a = s.a) (h2 : r.b = s.b) (h3 : r.c = s.c) (h4 : r.d = s.d) (h5 : r.e = s.e) (h6 : r.f = s.f) (h7 : r.g = s.g) (h8 : r.h = s.h) (h9 : r.i = s.i) : r = s := by
  cases r; cases s; simp_all
theorem xV.eq {r s : xV} (h1 : r.x = s.x) (h2 : r.y = s.y) (h3 : r.z = s.z) : r = s := by
  cases r; cases s; simp_all
def xmul (r s : xM) : xM := ⟨r.a*s.a+r.b*s.d+r.c*s.g, r.a*s.b+r.b*s.e+r.c*s.h, r.a*s.c+r.b*s.f+r.c*s.i, r.d*s.a+r.e*s.d+r.f*s.g, r.d*s.b+r.e*s.e+r.f*s.h, r.d*s.c+r.e*s.f+r.f*s.i, r.g*s.a+r.h*s.d+r.i*s.g, r.g*s.b+r.h*s.e+r.i*s.h, r.g*s.c+r.h*s.f+r.i*s.i⟩
def x1 : xM := ⟨1,0,0,0,1,0,0,0,1⟩
def xtp (r : xM) : xM := ⟨r.a, r.d, r.g, r.b, r.e, r.h, r.c, r.f, r.i⟩
def xtr (r : xM) : Rat := r.a + r.e + r.i
def xap (r : xM) (v : xV) : xV := ⟨r.a*v.x+r.b*v.y+r.c*v.z, r.d*v.x+r.e*v.y+r.f*v.z, r.g*v.x+r.h*v.y+r.i*v.z⟩
def xdot (u v : xV) : Rat := u.x*v.x+u.y*v.y+u.z*v.z
def xcr (u v : xV) : xV := ⟨u.y*v.z-u.z*v.y, u.z*v.x-u.x*v.z, u.x*v.y-u.y*v.x⟩
def xng (u : xV) : xV := ⟨-u.x, -u.y, -u.z⟩
def xadd (u v : xV) : xV := ⟨u.x+v.x, u.y+v.y, u.z+v.z⟩
def x0 : xV := ⟨0, 0, 0⟩
def xax (r : xM) : xV := ⟨r.h - r.f, r.c - r.g, r.d - r.b⟩
def xorth (r : xM) : Prop := (r.a*r.a+r.b*r.b+r.c*r.c = 1 ∧ r.d*r.d+r.e*r.e+r.f*r.f = 1 ∧ r.g*r.g+r.h*r.h+r.i*r.i = 1 ∧ r.a*r.d+r.b*r.e+r.c*r.f = 0 ∧ r.a*r.g+r.b*r.h+r.c*r.i = 0 ∧ r.d*r.g+r.e*r.h+r.f*r.i = 0) ∧
  (r.a*r.a+r.d*r.d+r.g*r.g = 1 ∧ r.b*r.b+r.e*r.e+r.h*r.h = 1 ∧ r.c*r.c+r.f*r.f+r.i*r.i = 1 ∧ r.a*r.b+r.d*r.e+r.g*r.h = 0 ∧ r.a*r.c+r.d*r.f+r.g*r.i = 0 ∧ r.b*r.c+r.e*r.f+r.h*r.i = 0)
def xcof (r : xM) : Prop := r.a = r.e*r.i-r.f*r.h ∧ r.b = r.f*r.g-r.d*r.i ∧ r.c = r.d*r.h-r.e*r.g ∧ r.d = r.c*r.h-r.b*r.i ∧ r.e = r.a*r.i-r.c*r.g ∧ r.f = r.b*r.g-r.a*r.h ∧ r.g = r.b*r.f-r.c*r.e ∧ r.h = r.c*r.d-r.a*r.f ∧ r.i = r.a*r.e-r.b*r.d
def xrot (r : xM) : Prop := xorth r ∧ xcof r
theorem xmul_as (r s t : xM) : xmul (xmul r s) t = xmul r (xmul s t) := by
  apply xM.eq <;> simp only [xmul] <;> grind
theorem xmul_1 (r : xM) : xmul r x1 = r := by apply xM.eq <;> simp only [xmul, x1] <;> grind
theorem x1_mul (r : xM) : xmul x1 r = r := by apply xM.eq <;> simp only [xmul, x1] <;> grind
theorem xtp_mul (r s : xM) : xtp (xmul r s) = xmul (xtp s) (xtp r) := by apply xM.eq <;> simp only [xmul, xtp] <;> grind
theorem xtp_tp (r : xM) : xtp (xtp r) = r := rfl
theorem xtr_tp (r : xM) : xtr (xtp r) = xtr r := rfl
theorem xtr_mul (r s : xM) : xtr (xmul r s) = xtr (xmul s r) := by simp only [xtr, xmul]; grind
theorem xap_mul (r s : xM) (v : xV) : xap (xmul r s) v = xap r (xap s v) := by apply xV.eq <;> simp only [xmul, xap] <;> grind
theorem xap_1 (v : xV) : xap x1 v = v := by apply xV.eq <;> simp only [x1, xap] <;> grind
theorem xap_ng (r : xM) (v : xV) : xap r (xng v) = xng (xap r v) := by apply xV.eq <;> simp only [xng, xap] <;> grind
theorem xap_add (r : xM) (u v : xV) : xap r (xadd u v) = xadd (xap r u) (xap r v) := by apply xV.eq <;> simp only [xadd, xap] <;> grind
theorem xng_ng (v : xV) : xng (xng v) = v := by apply xV.eq <;> simp only [xng] <;> grind
theorem xdot_comm (u v : xV) : xdot u v = xdot v u := by simp only [xdot]; grind
theorem xdot_ng (u v : xV) : xdot u (xng v) = - xdot u v := by simp only [xdot, xng]; grind
theorem xng_dot (u v : xV) : xdot (xng u) v = - xdot u v := by simp only [xdot, xng]; grind
theorem xdot_add (u v w : xV) : xdot u (xadd v w) = xdot u v + xdot u w := by simp only [xdot, xadd]; grind
theorem xadd_dot (u v w : xV) : xdot (xadd v w) u = xdot v u + xdot w u := by simp only [xdot, xadd]; grind
section
variable {r s : xM}
theorem xrot.tp (h : xrot r) : xrot (xtp r) := by
  obtain ⟨⟨⟨h1, h2, h3, h4, h5, h6⟩, g1, g2, g3, g4, g5, g6⟩, f1, f2, f3, f4, f5, f6, f7, f8, f9⟩ := h
  simp only [xrot, xorth, xcof, xtp]; grind
theorem xrot.rt (h : xrot r) : xmul r (xtp r) = x1 := by
  obtain ⟨⟨⟨h1, h2, h3, h4, h5, h6⟩, g1, g2, g3, g4, g5, g6⟩, f1, f2, f3, f4, f5, f6, f7, f8, f9⟩ := h
  apply xM.eq <;> simp only [xmul, xtp, x1] <;> grind
theorem xrot.tr (h : xrot r) : xmul (xtp r) r = x1 := by
  have := h.tp.rt; rw [xtp_tp] at this; exact this
theorem xrot.dot (h : xrot r) (u v : xV) : xdot (xap r u) (xap r v) = xdot u v := by
  obtain ⟨⟨⟨h1, h2, h3, h4, h5, h6⟩, g1, g2, g3, g4, g5, g6⟩, f1, f2, f3, f4, f5, f6, f7, f8, f9⟩ := h
  simp only [xdot, xap]; grind
theorem xrot.cr (h : xrot r) (u v : xV) : xcr (xap r u) (xap r v) = xap r (xcr u v) := by
  obtain ⟨⟨⟨h1, h2, h3, h4, h5, h6⟩, g1, g2, g3, g4, g5, g6⟩, f1, f2, f3, f4, f5, f6, f7, f8, f9⟩ := h
  apply xV.eq <;> simp only [xcr, xap] <;> grind
theorem xrot.len (h : xrot r) : xdot (xax r) (xax r) = (3 - xtr r) * (1 + xtr r) := by
  obtain ⟨⟨⟨h1, h2, h3, h4, h5, h6⟩, g1, g2, g3, g4, g5, g6⟩, f1, f2, f3, f4, f5, f6, f7, f8, f9⟩ := h
  simp only [xdot, xax, xtr]; grind
theorem xrot.sq (h : xrot r) : xtr (xmul r r) = xtr r * xtr r - 2 * xtr r := by
  obtain ⟨⟨⟨h1, h2, h3, h4, h5, h6⟩, g1, g2, g3, g4, g5, g6⟩, f1, f2, f3, f4, f5, f6, f7, f8, f9⟩ := h
  simp only [xmul, xtr]; grind
theorem xrot.axis (h : xrot r) : xap r (xax r) = xax r := by
  obtain ⟨⟨⟨h1, h2, h3, h4, h5, h6⟩, g1, g2, g3, g4, g5, g6⟩, f1, f2, f3, f4, f5, f6, f7, f8, f9⟩ := h
  apply xV.eq <;> simp only [xax, xap] <;> grind
theorem xrot.conj (h : xrot s) : xax (xmul (xmul s r) (xtp s)) = xap s (xax r) := by
  obtain ⟨_, f1, f2, f3, f4, f5, f6, f7, f8, f9⟩ := h
  apply xV.eq <;> simp only [xax, xap, xmul, xtp] <;> grind
theorem xrot.ctr (h : xrot s) : xtr (xmul (xmul s r) (xtp s)) = xtr r := by
  rw [xtr_mul, ← xmul_as, h.tr, x1_mul]
end
