/-! ===== maths: a group of rotations; two thirds of turns about different ways ===== -/
structure xG (R : xM → Prop) : Prop where
  one : R x1
  mul : ∀ {r s}, R r → R s → R (xmul r s)
  tp : ∀ {r}, R r → R (xtp r)
  rot : ∀ {r}, R r → xrot r
  int : ∀ {r}, R r → xint (xtr r)
structure xEmb (R : xM → Prop) (N : Nat) (mul : Nat → Nat → Nat) (tr : Nat → Int) (Φ : xM → Nat) : Prop where
  lt : ∀ {r}, R r → Φ r < N
  mul : ∀ {r s}, R r → R s → Φ (xmul r s) = mul (Φ r) (Φ s)
  inj : ∀ {r s}, R r → R s → Φ r = Φ s → r = s
  tr : ∀ {r}, R r → xtr r = (tr (Φ r) : Rat)
def xX (R : xM → Prop) (v : xV) : Prop := ∃ r, R r ∧ xtr r = 0 ∧ xax r = v
section
variable {R : xM → Prop} (G : xG R)
theorem xG.X_act (G : xG R) {v : xV} {s : xM} (hs : R s) (hv : xX R v) : xX R (xap s v) := by
  obtain ⟨r, h1, h2, h3⟩ := hv
  refine ⟨xmul (xmul s r) (xtp s), G.mul (G.mul hs h1) (G.tp hs), ?_, ?_⟩
  · rw [(G.rot hs).ctr, h2]
  · rw [(G.rot hs).conj, h3]
theorem xG.X_ng (G : xG R) {v : xV} (hv : xX R v) : xX R (xng v) := by
  obtain ⟨r, h1, h2, h3⟩ := hv
  exact ⟨xtp r, G.tp h1, by rw [xtr_tp, h2], by rw [xax_tp, h3]⟩
theorem xG.X_len (G : xG R) {v : xV} (hv : xX R v) : xdot v v = 3 := by
  obtain ⟨r, h1, h2, h3⟩ := hv
  rw [← h3]; exact (G.rot h1).t3l h2
theorem xG.X_dot (G : xG R) {u v : xV} (hu : xX R u) (hv : xX R v) : xdot u v = 1 ∨ xdot u v = -1 ∨ v = u ∨ v = xng u := by
  obtain ⟨r, h1, h2, h3⟩ := hu
  obtain ⟨s, g1, g2, g3⟩ := hv
  rw [← h3, ← g3]
  exact (G.rot h1).t3k h2 (G.rot g1) g2 (G.int (G.mul h1 g1)) (G.int (G.mul h1 (G.tp g1)))
/-- the four ways -/
theorem xG.tetra (G : xG R) {u v : xV} (hu : xX R u) (hv : xX R v) (h : v ≠ u) (h' : v ≠ xng u) : ∃ T, xtet T ∧ ∀ i, i < 4 → xX R (T i) := by
  obtain ⟨w, hw, huw⟩ : ∃ w, xX R w ∧ xdot u w = -1 := by
    rcases G.X_dot hu hv with q | q | q | q
    · exact ⟨xng v, G.X_ng hv, by rw [xdot_ng, q]⟩
    · exact ⟨v, hv, q⟩
    · exact absurd q h
    · exact absurd q h'
  obtain ⟨r, h1, h2, h3⟩ := id hu
  have hr := G.rot h1
  have x2 := G.X_act h1 hw
  have x3 := G.X_act (G.tp h1) hw
  obtain ⟨⟨a1, a2, a3⟩, a4, a5, a6⟩ := hr.t3 h2
  rw [h3] at a1 a2 a3 a4 a5 a6
  have hax := hr.axis
  have hax' := hr.tp.axis
  rw [xax_tp, xap_ng] at hax'
  have hax'' : xap (xtp r) (xax r) = xax r := by rw [← xng_ng (xap (xtp r) (xax r)), hax', xng_ng]
  rw [h3] at hax hax''
  have s0 : xap (xtp r) w = xng (xadd (xadd u w) (xap r w)) := by
    simp only [xdot] at huw
    apply xV.eq <;> simp only [xap, xtp, xng, xadd] <;> grind
  have d02 : xdot u (xap r w) = -1 := by
    have := hr.dot u w; rw [hax, huw] at this; exact this
  have n0 := G.X_len hu
  have n1 := G.X_len hw
  have n2 := G.X_len x2
  have n3 := G.X_len x3
  have d03 : xdot u (xap (xtp r) w) = -1 := by
    have := hr.tp.dot u w; rw [hax'', huw] at this; exact this
  have d12 : xdot w (xap r w) = -1 := by
    rw [s0] at n3
    simp only [xdot_ng, xng_dot, xdot_add, xadd_dot] at n3
    rw [xdot_comm w u, xdot_comm (xap r w) u, xdot_comm (xap r w) w, n0, n1, n2, huw, d02] at n3
    grind
  have d13 : xdot w (xap (xtp r) w) = -1 := by
    rw [s0, xdot_ng, xdot_add, xdot_add, xdot_comm w u, n1, huw, d12]; grind
  have d23 : xdot (xap r w) (xap (xtp r) w) = -1 := by
    rw [s0, xdot_ng, xdot_add, xdot_add, xdot_comm (xap r w) u, xdot_comm (xap r w) w, n2, d02, d12]; grind
  refine ⟨fun i => match i with | 0 => u | 1 => w | 2 => xap r w | _ => xap (xtp r) w, ⟨fun i hi => ?_, fun i j hi hj hij => ?_, s0⟩, fun i hi => ?_⟩
  · match i, hi with
    | 0, _ => exact n0
    | 1, _ => exact n1
    | 2, _ => exact n2
    | 3, _ => exact n3
  · match i, j, hi, hj, hij with
    | 0, 1, _, _, _ => exact huw
    | 0, 2, _, _, _ => exact d02
    | 0, 3, _, _, _ => exact d03
    | 1, 2, _, _, _ => exact d12
    | 1, 3, _, _, _ => exact d13
    | 2, 3, _, _, _ => exact d23
    | 1, 0, _, _, _ => rw [xdot_comm]; exact huw
    | 2, 0, _, _, _ => rw [xdot_comm]; exact d02
    | 3, 0, _, _, _ => rw [xdot_comm]; exact d03
    | 2, 1, _, _, _ => rw [xdot_comm]; exact d12
    | 3, 1, _, _, _ => rw [xdot_comm]; exact d13
    | 3, 2, _, _, _ => rw [xdot_comm]; exact d23
    | 0, 0, _, _, h => exact absurd rfl h
    | 1, 1, _, _, h => exact absurd rfl h
    | 2, 2, _, _, h => exact absurd rfl h
    | 3, 3, _, _, h => exact absurd rfl h
  · match i, hi with
    | 0, _ => exact hu
    | 1, _ => exact hw
    | 2, _ => exact x2
    | 3, _ => exact x3
/-- there are no others -/
theorem xG.X_all (G : xG R) {T : Nat → xV} (h : xtet T) (hT : ∀ i, i < 4 → xX R (T i)) {w : xV} (hw : xX R w) : ∃ i e, i < 4 ∧ (e = 1 ∨ e = -1) ∧ w = xsc e (T i) := by
  have yes : ∀ i, i < 4 → (w = T i ∨ w = xng (T i)) → ∃ i e, i < 4 ∧ (e = 1 ∨ e = -1) ∧ w = xsc e (T i) := fun i hi q => by
    rcases q with q | q
    · refine ⟨i, 1, hi, Or.inl rfl, ?_⟩
      rw [q]; apply xV.eq <;> simp only [xsc] <;> grind
    · refine ⟨i, -1, hi, Or.inr rfl, ?_⟩
      rw [q, xng_sc]
  have sq := h.sq w
  rw [G.X_len hw] at sq
  have one : ∀ i, i < 4 → (∃ i e, i < 4 ∧ (e = 1 ∨ e = -1) ∧ w = xsc e (T i)) ∨ xdot w (T i) * xdot w (T i) = 1 := fun i hi => by
    rcases G.X_dot (hT i hi) hw with q | q | q | q
    · right; rw [xdot_comm, q]; grind
    · right; rw [xdot_comm, q]; grind
    · left; exact yes i hi (Or.inl q)
    · left; exact yes i hi (Or.inr q)
  rcases one 0 (by omega) with q0 | q0
  · exact q0
  rcases one 1 (by omega) with q1 | q1
  · exact q1
  rcases one 2 (by omega) with q2 | q2
  · exact q2
  rcases one 3 (by omega) with q3 | q3
  · exact q3
  grind
theorem xtet.ne {T : Nat → xV} (h : xtet T) {i j : Nat} (hi : i < 4) (hj : j < 4) {e e' : Rat} (he : e = 1 ∨ e = -1) (he' : e' = 1 ∨ e' = -1) (hq : xsc e (T i) = xsc e' (T j)) : i = j ∧ e = e' := by
  have a1 := h.n i hi
  have e1 := congrArg (xdot (T i)) hq
  rw [xdot_sc, xdot_sc, a1] at e1
  by_cases c : i = j
  · subst c; rw [a1] at e1
    exact ⟨rfl, by grind⟩
  · rw [h.d i j hi hj c] at e1
    rcases he with q | q <;> rcases he' with q' | q' <;> rw [q, q'] at e1 <;> grind
theorem xtet.sum {T : Nat → xV} (h : xtet T) : xadd (xadd (T 0) (T 1)) (xadd (T 2) (T 3)) = x0 := by
  rw [h.s]; apply xV.eq <;> simp only [xadd, xng, x0] <;> grind
/-- what a map does to the four ways -/
theorem xG.perm (G : xG R) {T : Nat → xV} (h : xtet T) (hT : ∀ i, i < 4 → xX R (T i)) {s : xM} (hs : R s) : ∃ p e, p < 24 ∧ (e = 1 ∨ e = -1) ∧ ∀ i, i < 4 → xap s (T i) = xsc e (T (xtab p i)) := by
  obtain ⟨p0, e0, l0, s0, q0⟩ := G.X_all h hT (G.X_act hs (hT 0 (by omega)))
  obtain ⟨p1, e1, l1, s1, q1⟩ := G.X_all h hT (G.X_act hs (hT 1 (by omega)))
  obtain ⟨p2, e2, l2, s2, q2⟩ := G.X_all h hT (G.X_act hs (hT 2 (by omega)))
  obtain ⟨p3, e3, l3, s3, q3⟩ := G.X_all h hT (G.X_act hs (hT 3 (by omega)))
  have ne : ∀ {i j p q : Nat} {e e' : Rat}, i < 4 → j < 4 → i ≠ j → (e = 1 ∨ e = -1) → (e' = 1 ∨ e' = -1) → xap s (T i) = xsc e (T p) → p < 4 → xap s (T j) = xsc e' (T q) → p ≠ q := by
    intro i j p q e e' hi hj hij he he' hp hp4 hq z
    subst z
    have d := (G.rot hs).dot (T i) (T j)
    rw [hp, hq, xdot_sc, xsc_dot, h.n p hp4, h.d i j hi hj hij] at d
    rcases he with w | w <;> rcases he' with w' | w' <;> rw [w, w'] at d <;> grind
  have n01 := ne (by omega) (by omega) (by omega) s0 s1 q0 l0 q1
  have n02 := ne (by omega) (by omega) (by omega) s0 s2 q0 l0 q2
  have n03 := ne (by omega) (by omega) (by omega) s0 s3 q0 l0 q3
  have n12 := ne (by omega) (by omega) (by omega) s1 s2 q1 l1 q2
  have n13 := ne (by omega) (by omega) (by omega) s1 s3 q1 l1 q3
  have n23 := ne (by omega) (by omega) (by omega) s2 s3 q2 l2 q3
  have sm := congrArg (xap s) h.sum
  rw [xap_add, xap_add, xap_add, q0, q1, q2, q3] at sm
  have sd := congrArg (xdot (T p0)) sm
  have z0 : xdot (T p0) (xap s x0) = 0 := by simp only [xdot, xap, x0]; grind
  rw [z0, xdot_add, xdot_add, xdot_add, xdot_sc, xdot_sc, xdot_sc, xdot_sc, h.n p0 l0, h.d p0 p1 l0 l1 n01, h.d p0 p2 l0 l2 n02, h.d p0 p3 l0 l3 n03] at sd
  obtain ⟨p, hp, t0, t1, t2, t3⟩ := xtab_ex l0 l1 l2 l3 ⟨n01, n02, n03, n12, n13, n23⟩
  have eq : e1 = e0 ∧ e2 = e0 ∧ e3 = e0 := by
    rcases s0 with w0 | w0 <;> rcases s1 with w1 | w1 <;> rcases s2 with w2 | w2 <;> rcases s3 with w3 | w3 <;> subst w0 <;> subst w1 <;> subst w2 <;> subst w3 <;> first | exact ⟨rfl, rfl, rfl⟩ | (exfalso; grind)
  obtain ⟨w1, w2, w3⟩ := eq
  subst w1 w2 w3
  refine ⟨p, _, hp, s0, fun i hi => ?_⟩
  match i, hi with
  | 0, _ => rw [t0]; exact q0
  | 1, _ => rw [t1]; exact q1
  | 2, _ => rw [t2]; exact q2
  | 3, _ => rw [t3]; exact q3
end
