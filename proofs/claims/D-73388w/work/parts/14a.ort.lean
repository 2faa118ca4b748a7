/-! ===== maths: orthogonal matrices ===== -/
def xsu (u v : xV) : xV := ⟨u.x - v.x, u.y - v.y, u.z - v.z⟩
def xcf (r : xM) : xM := ⟨r.e*r.i-r.f*r.h, r.f*r.g-r.d*r.i, r.d*r.h-r.e*r.g, r.c*r.h-r.b*r.i, r.a*r.i-r.c*r.g, r.b*r.g-r.a*r.h, r.b*r.f-r.c*r.e, r.c*r.d-r.a*r.f, r.a*r.e-r.b*r.d⟩
def xdt (r : xM) : Rat := r.a*(r.e*r.i-r.f*r.h) + r.b*(r.f*r.g-r.d*r.i) + r.c*(r.d*r.h-r.e*r.g)
def xsm (k : Rat) (r : xM) : xM := ⟨k*r.a, k*r.b, k*r.c, k*r.d, k*r.e, k*r.f, k*r.g, k*r.h, k*r.i⟩
theorem xcf_tp (r : xM) : xmul (xcf r) (xtp r) = xsm (xdt r) x1 := by
  apply xM.eq <;> simp only [xmul, xcf, xtp, xsm, xdt, x1] <;> grind
theorem xsm_mul (k : Rat) (r s : xM) : xmul (xsm k r) s = xsm k (xmul r s) := by
  apply xM.eq <;> simp only [xmul, xsm] <;> grind
theorem xmul_sm (k : Rat) (r s : xM) : xmul r (xsm k s) = xsm k (xmul r s) := by
  apply xM.eq <;> simp only [xmul, xsm] <;> grind
theorem xsm_sm (k l : Rat) (r : xM) : xsm k (xsm l r) = xsm (k * l) r := by
  apply xM.eq <;> simp only [xsm] <;> grind
theorem xsm_1 (r : xM) : xsm 1 r = r := by
  apply xM.eq <;> simp only [xsm] <;> grind
theorem xdt_mul (r s : xM) : xdt (xmul r s) = xdt r * xdt s := by
  simp only [xdt, xmul]; grind
theorem xdt_tp (r : xM) : xdt (xtp r) = xdt r := by
  simp only [xdt, xtp]; grind
theorem xdt_1 : xdt x1 = 1 := by
  simp only [xdt, x1]; grind
theorem xtp_sm (k : Rat) (r : xM) : xtp (xsm k r) = xsm k (xtp r) := rfl
/-- orthogonal -/
def xO (r : xM) : Prop := xmul (xtp r) r = x1
theorem xO.det {r : xM} (h : xO r) : xdt r = 1 ∨ xdt r = -1 := by
  have := congrArg xdt h
  rw [xdt_mul, xdt_tp, xdt_1] at this
  have : (xdt r - 1) * (xdt r + 1) = 0 := by grind
  rcases Rat.mul_eq_zero.mp this with q | q
  · left; grind
  · right; grind
theorem xO.cf {r : xM} (h : xO r) : xcf r = xsm (xdt r) r := by
  have e : xmul (xcf r) (xmul (xtp r) r) = xcf r := by rw [h, xmul_1]
  rw [← e, ← xmul_as, xcf_tp, xsm_mul, x1_mul]
theorem xO.rt {r : xM} (h : xO r) : xmul r (xtp r) = x1 := by
  have e := xcf_tp r
  rw [h.cf, xsm_mul] at e
  have := congrArg (xsm (xdt r)) e
  rw [xsm_sm, xsm_sm] at this
  have d : xdt r * xdt r = 1 := by rcases h.det with q | q <;> rw [q] <;> grind
  rw [d, xsm_1, xsm_1] at this
  exact this
theorem xO.rot {r : xM} (h : xO r) : xrot (xsm (xdt r) r) := by
  have h1 := h.rt
  have h2 : xmul (xtp r) r = x1 := h
  have h3 := h.cf
  have d : xdt r * xdt r = 1 := by rcases h.det with q | q <;> rw [q] <;> grind
  generalize xdt r = δ at *
  unfold xrot xorth xcof
  simp only [xM.mk.injEq, xmul, xtp, x1, xcf, xsm] at *
  grind
def xten (v x : xV) : xM := ⟨v.x*x.x, v.x*x.y, v.x*x.z, v.y*x.x, v.y*x.y, v.y*x.z, v.z*x.x, v.z*x.y, v.z*x.z⟩
def xma (r s : xM) : xM := ⟨r.a+s.a, r.b+s.b, r.c+s.c, r.d+s.d, r.e+s.e, r.f+s.f, r.g+s.g, r.h+s.h, r.i+s.i⟩
theorem xap_ten (v x p : xV) : xap (xten v x) p = xsc (xdot x p) v := by
  apply xV.eq <;> simp only [xap, xten, xsc, xdot] <;> grind
theorem xap_ma (r s : xM) (p : xV) : xap (xma r s) p = xadd (xap r p) (xap s p) := by
  apply xV.eq <;> simp only [xap, xma, xadd] <;> grind
theorem xap_sm (k : Rat) (r : xM) (p : xV) : xap (xsm k r) p = xsc k (xap r p) := by
  apply xV.eq <;> simp only [xap, xsm, xsc] <;> grind
theorem xsc_sc (k l : Rat) (p : xV) : xsc k (xsc l p) = xsc (k * l) p := by
  apply xV.eq <;> simp only [xsc] <;> grind
theorem xsc_1 (p : xV) : xsc 1 p = p := by
  apply xV.eq <;> simp only [xsc] <;> grind
/-- what takes the u to the v, times the volume of the u -/
def xAm (u1 u2 u3 v1 v2 v3 : xV) : xM := xma (xma (xten v1 (xcr u2 u3)) (xten v2 (xcr u3 u1))) (xten v3 (xcr u1 u2))
theorem xAm_ap (u1 u2 u3 v1 v2 v3 p : xV) : xap (xAm u1 u2 u3 v1 v2 v3) p = xadd (xadd (xsc (xdot (xcr u2 u3) p) v1) (xsc (xdot (xcr u3 u1) p) v2)) (xsc (xdot (xcr u1 u2) p) v3) := by
  unfold xAm; rw [xap_ma, xap_ma, xap_ten, xap_ten, xap_ten]
theorem xdet_exp (u1 u2 u3 p : xV) : xsc (xdet u1 u2 u3) p = xadd (xadd (xsc (xdot (xcr u2 u3) p) u1) (xsc (xdot (xcr u3 u1) p) u2)) (xsc (xdot (xcr u1 u2) p) u3) := by
  apply xV.eq <;> simp only [xdet, xsc, xadd, xdot, xcr] <;> grind
/-- all products are the same -/
structure xgr (u1 u2 u3 v1 v2 v3 : xV) : Prop where
  (h11 : xdot v1 v1 = xdot u1 u1) (h22 : xdot v2 v2 = xdot u2 u2) (h33 : xdot v3 v3 = xdot u3 u3)
  (h12 : xdot v1 v2 = xdot u1 u2) (h13 : xdot v1 v3 = xdot u1 u3) (h23 : xdot v2 v3 = xdot u2 u3)
theorem xgr.dot {u1 u2 u3 v1 v2 v3 : xV} (g : xgr u1 u2 u3 v1 v2 v3) (p q : xV) : xdot (xap (xAm u1 u2 u3 v1 v2 v3) p) (xap (xAm u1 u2 u3 v1 v2 v3) q) = xdet u1 u2 u3 * xdet u1 u2 u3 * xdot p q := by
  have e : xdet u1 u2 u3 * xdet u1 u2 u3 * xdot p q = xdot (xsc (xdet u1 u2 u3) p) (xsc (xdet u1 u2 u3) q) := by rw [xdot_sc, xsc_dot]; grind
  rw [e, xdet_exp, xdet_exp, xAm_ap, xAm_ap]
  obtain ⟨h11, h22, h33, h12, h13, h23⟩ := g
  have h21 := h12; have h31 := h13; have h32 := h23
  rw [xdot_comm, xdot_comm u1] at h21
  rw [xdot_comm, xdot_comm u1] at h31
  rw [xdot_comm, xdot_comm u2] at h32
  simp only [xdot_add, xadd_dot, xdot_sc, xsc_dot, h11, h22, h33, h12, h13, h23, h21, h31, h32]
theorem xO_of {r : xM} (h : ∀ p q, xdot (xap r p) (xap r q) = xdot p q) : xO r := by
  have h1 := h ⟨1,0,0⟩ ⟨1,0,0⟩
  have h2 := h ⟨0,1,0⟩ ⟨0,1,0⟩
  have h3 := h ⟨0,0,1⟩ ⟨0,0,1⟩
  have h4 := h ⟨1,0,0⟩ ⟨0,1,0⟩
  have h5 := h ⟨1,0,0⟩ ⟨0,0,1⟩
  have h6 := h ⟨0,1,0⟩ ⟨0,0,1⟩
  simp only [xdot, xap] at h1 h2 h3 h4 h5 h6
  unfold xO
  apply xM.eq <;> simp only [xmul, xtp, x1] <;> grind
theorem xO.dot {r : xM} (h : xO r) (p q : xV) : xdot (xap r p) (xap r q) = xdot p q := by
  have : xdot (xap r p) (xap r q) = xdot p (xap (xmul (xtp r) r) q) := by simp only [xdot, xap, xmul, xtp]; grind
  rw [this, h, xap_1]
theorem xgr.O {u1 u2 u3 v1 v2 v3 : xV} (g : xgr u1 u2 u3 v1 v2 v3) {w : Rat} (hw : w * xdet u1 u2 u3 = 1) : xO (xsm w (xAm u1 u2 u3 v1 v2 v3)) := by
  refine xO_of fun p q => ?_
  rw [xap_sm, xap_sm, xdot_sc, xsc_dot, g.dot]
  generalize xdet u1 u2 u3 = W at *
  have : w * (w * (W * W * xdot p q)) = (w * W) * (w * W) * xdot p q := by grind
  rw [this, hw]; grind
theorem xAm_1 (u1 u2 u3 v1 v2 v3 : xV) : xap (xAm u1 u2 u3 v1 v2 v3) u1 = xsc (xdet u1 u2 u3) v1 := by
  rw [xAm_ap]; apply xV.eq <;> simp only [xdet, xsc, xadd, xdot, xcr] <;> grind
theorem xAm_2 (u1 u2 u3 v1 v2 v3 : xV) : xap (xAm u1 u2 u3 v1 v2 v3) u2 = xsc (xdet u1 u2 u3) v2 := by
  rw [xAm_ap]; apply xV.eq <;> simp only [xdet, xsc, xadd, xdot, xcr] <;> grind
theorem xAm_3 (u1 u2 u3 v1 v2 v3 : xV) : xap (xAm u1 u2 u3 v1 v2 v3) u3 = xsc (xdet u1 u2 u3) v3 := by
  rw [xAm_ap]; apply xV.eq <;> simp only [xdet, xsc, xadd, xdot, xcr] <;> grind
theorem xdet_ap (r : xM) (u v w : xV) : xdet (xap r u) (xap r v) (xap r w) = xdt r * xdet u v w := by
  simp only [xdet, xdt, xdot, xcr, xap]; grind
theorem xdet_n0 {u v w e : xV} (h : xdet u v w ≠ 0) (h1 : xdot e u = 0) (h2 : xdot e v = 0) (h3 : xdot e w = 0) : e = x0 := by
  have := xdet_sum u v w e
  rw [h1, h2, h3] at this
  generalize xdet u v w = W at *
  have e1 := congrArg xV.x this; have e2 := congrArg xV.y this; have e3 := congrArg xV.z this
  simp only [xsc, xadd, xcr] at e1 e2 e3
  apply xV.eq <;> simp only [x0] <;> grind
/-- a vector with the same products comes to its like -/
theorem xO.det_eq {u1 u2 u3 : xV} {A : xM} (hA : xO A) (h : xdet u1 u2 u3 ≠ 0) {p q : xV} (h1 : xdot q (xap A u1) = xdot p u1) (h2 : xdot q (xap A u2) = xdot p u2) (h3 : xdot q (xap A u3) = xdot p u3) : xap A p = q := by
  have d : xdet (xap A u1) (xap A u2) (xap A u3) ≠ 0 := by
    rw [xdet_ap]
    rcases hA.det with c | c <;> rw [c] <;> grind
  have su : ∀ v, xdot (xsu (xap A p) q) v = xdot (xap A p) v - xdot q v := fun v => by simp only [xdot, xsu]; grind
  have := xdet_n0 (e := xsu (xap A p) q) d (by rw [su, hA.dot, h1]; grind) (by rw [su, hA.dot, h2]; grind) (by rw [su, hA.dot, h3]; grind)
  have e1 := congrArg xV.x this; have e2 := congrArg xV.y this; have e3 := congrArg xV.z this
  simp only [xsu, x0] at e1 e2 e3
  apply xV.eq <;> grind
