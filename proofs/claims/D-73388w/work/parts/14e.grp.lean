/-! ===== maths: rigid maps are a group; their rotations ===== -/
theorem xM_ext {u1 u2 u3 : xV} (h : xdet u1 u2 u3 ≠ 0) {r s : xM} (h1 : xap r u1 = xap s u1) (h2 : xap r u2 = xap s u2) (h3 : xap r u3 = xap s u3) : r = s := by
  have key : ∀ p, xap r p = xap s p := fun p => by
    refine xsc_inj h ?_
    rw [← xap_sc, ← xap_sc, xdet_exp, xap_add, xap_add, xap_add, xap_add, xap_sc, xap_sc, xap_sc, xap_sc, xap_sc, xap_sc, h1, h2, h3]
  have a := key ⟨1, 0, 0⟩; have b := key ⟨0, 1, 0⟩; have c := key ⟨0, 0, 1⟩
  simp only [xap, xV.mk.injEq] at a b c
  apply xM.eq <;> grind
theorem xO.cr {r : xM} (h : xO r) (u v : xV) : xap r (xcr u v) = xsc (xdt r) (xcr (xap r u) (xap r v)) := by
  have d : xdt r * xdt r = 1 := by rcases h.det with q | q <;> rw [q] <;> grind
  have e := h.rot.cr u v
  rw [xap_sm, xap_sm, xap_sm] at e
  have e2 : xcr (xsc (xdt r) (xap r u)) (xsc (xdt r) (xap r v)) = xsc (xdt r * xdt r) (xcr (xap r u) (xap r v)) := by
    apply xV.eq <;> simp only [xcr, xsc] <;> grind
  rw [e2, d, xsc_1] at e
  rw [e, xsc_sc, d, xsc_1]
theorem xO.mul {r s : xM} (h : xO r) (g : xO s) : xO (xmul r s) := by
  unfold xO at *
  rw [xtp_mul, xmul_as, ← xmul_as (xtp r), h, x1_mul, g]
theorem xO.tp {r : xM} (h : xO r) : xO (xtp r) := by
  have := h.rt
  unfold xO
  rw [xtp_tp]; exact this
section
variable {F : yF}
/-- the matrix of a map -/
def xB (F : yF) (π : Nat → Nat) (sg : Int) : xM := xA F (yMo F π sg)
theorem yGo.O (h3 : y3 F ≠ -1) {π : Nat → Nat} {sg : Int} (g : yGo F π sg) : xO (xB F π sg) := (g.is.bk h3).O h3 g.s1
theorem yGo.ap (h3 : y3 F ≠ -1) {π : Nat → Nat} {sg : Int} (g : yGo F π sg) {a b : Nat} (ha : a < F.1) (hb : b < F.1) : xap (xB F π sg) (xd F a b) = xd F (π a) (π b) := by
  rw [xd_add F a b 0, xap_su, xB, g.is.A h3 g.s1 ha, g.is.A h3 g.s1 hb, ← xd_add]
theorem ysq {sg : Int} (h : sg = 1 ∨ sg = -1) : (sg : Rat) * (sg : Rat) = 1 := by
  have : sg * sg = 1 := by rcases h with q | q <;> rw [q] <;> decide
  exact_mod_cast this
theorem yGo.det (h3 : y3 F ≠ -1) {π : Nat → Nat} {sg : Int} (g : yGo F π sg) : xdt (xB F π sg) = (sg : Rat) := by
  have b3 := yQ3_bd h3
  have o := g.O h3
  have e1 := yMo_1 h3 π sg
  have e2 := yMo_2 h3 π sg
  have e3 := yMo_3 h3 π sg
  have d := xdet_ap (xB F π sg) (xu1 F) (xu2 F) (xu3 F)
  have w0 := yWF_ne h3
  unfold xB at *
  rw [e1, e2, e3, ← yWF_q] at d
  have f1 : yv (xv1 F π) = xd F (π 1) (π 0) := yv_sub _ _ _
  have f2 : yv (xv2 F π) = xd F (π (yQ3 F)) (π 0) := yv_sub _ _ _
  by_cases c : yQ4 F = -1
  · have gr := (g.is.bk h3).gr g.s1
    rw [yv_v3f c, f1, f2] at d
    have d' : xdet (xd F (π 1) (π 0)) (xd F (π (yQ3 F)) (π 0)) (xsc sg (xcr (xd F (π 1) (π 0)) (xd F (π (yQ3 F)) (π 0)))) = sg * xdot (xcr (xd F (π 1) (π 0)) (xd F (π (yQ3 F)) (π 0))) (xcr (xd F (π 1) (π 0)) (xd F (π (yQ3 F)) (π 0))) := by
      simp only [xdet, xdot, xcr, xsc]; grind
    rw [d', xlag, ← f1, ← f2, gr.h11, gr.h22, gr.h12, ← xlag] at d
    have ww : (yWF F : Rat) = xdot (xcr (xu1 F) (xu2 F)) (xcr (xu1 F) (xu2 F)) := by
      rw [yWF_q, xu3_flat c]; simp only [xdet, xdot, xcr]; grind
    rw [← ww] at d
    clear ww
    generalize xdt (xA F (yMo F π sg)) = t at *
    generalize (yWF F : Rat) = w at *
    generalize (sg : Rat) = s at *
    have : (s - t) * w = 0 := by grind
    rcases Rat.mul_eq_zero.mp this with q | q
    · grind
    · exact absurd q w0
  · have hd := g.hd c
    rw [yv_v3n c] at d
    unfold yhd at hd
    have q : ((ydot (ycrs (xv1 F π) (xv2 F π)) (ysub F (π (yQ4 F).toNat) (π 0)) : Int) : Rat) = xdet (xd F (π 1) (π 0)) (xd F (π (yQ3 F)) (π 0)) (xd F (π (yQ4 F).toNat) (π 0)) := by
      rw [ydot_q, yv_crs, yv_sub, f1, f2]; simp only [xdet, xdot, xcr]; grind
    rw [d] at q
    split at hd
    · rename_i z
      rw [z] at q
      rw [show (sg : Rat) = 1 from by rw [hd]; rfl]
      generalize xdt (xA F (yMo F π sg)) = t at *
      generalize (yWF F : Rat) = w at *
      have : (t - 1) * w = 0 := by grind
      rcases Rat.mul_eq_zero.mp this with q | q
      · grind
      · exact absurd q w0
    · rename_i z
      rw [show (sg : Rat) = -1 from by rw [hd]; rfl]
      rcases o.det with q' | q'
      · rw [q'] at q
        exact absurd (yqi.mp (by rw [q]; grind)) z
      · exact q'
theorem yIs.comp {π ρ : Nat → Nat} (h : yIs F π) (g : yIs F ρ) : yIs F (fun k => ρ (π k)) :=
  ⟨fun k hk => g.lt _ (h.lt k hk), fun k hk => (g.kd _ (h.lt k hk)).trans (h.kd k hk), fun k j hk hj => (g.ds _ _ (h.lt k hk) (h.lt j hj)).trans (h.ds k j hk hj)⟩
theorem ysgm {a b : Int} (ha : a = 1 ∨ a = -1) (hb : b = 1 ∨ b = -1) : a * b = 1 ∨ a * b = -1 := by
  rcases ha with q | q <;> rcases hb with r | r <;> rw [q, r] <;> decide
/-- the matrix of two, one behind the other -/
theorem yGo.comp_mat (h3 : y3 F ≠ -1) {π ρ : Nat → Nat} {sg sh : Int} (h : yGo F π sg) (g : yGo F ρ sh) : xB F (fun k => ρ (π k)) (sg * sh) = xmul (xB F ρ sh) (xB F π sg) := by
  have b3 := yQ3_bd h3
  refine xM_ext (by rw [← yWF_q]; exact yWF_ne h3) (u1 := xu1 F) (u2 := xu2 F) (u3 := xu3 F) ?_ ?_ ?_
  · rw [xB, yMo_1 h3, xap_mul, xB, xB, yMo_1 h3]
    exact (g.ap h3 (h.is.lt _ (by omega)) (h.is.lt _ (by omega))).symm
  · rw [xB, yMo_2 h3, xap_mul, xB, xB, yMo_2 h3]
    exact (g.ap h3 (h.is.lt _ (by omega)) (h.is.lt _ (by omega))).symm
  · rw [xB, yMo_3 h3, xap_mul, xB, xB, yMo_3 h3]
    by_cases c : yQ4 F = -1
    · rw [yv_v3f c, yv_v3f c]
      unfold xv1 xv2
      rw [yv_sub, yv_sub, yv_sub, yv_sub, xap_sc]
      have := (g.O h3).cr (xd F (π 1) (π 0)) (xd F (π (yQ3 F)) (π 0))
      rw [g.ap h3 (h.is.lt _ (by omega)) (h.is.lt _ (by omega)), g.ap h3 (h.is.lt _ (by omega)) (h.is.lt _ (by omega)), g.det h3] at this
      unfold xB at this
      rw [this, xsc_sc]
      push_cast; rfl
    · have b4 := yQ4_bd c
      rw [yv_v3n c, yv_v3n c]
      exact (g.ap h3 (h.is.lt _ (by omega)) (h.is.lt _ (by omega))).symm
/-- of a frame that is not flat the hand is the volume's sign -/
theorem yhd_det (h3 : y3 F ≠ -1) (c : yQ4 F ≠ -1) {π : Nat → Nat} (h : yIs F π) {sg : Int} (hs : sg = 1 ∨ sg = -1) : xdt (xB F π sg) = (yhd F π : Rat) := by
  have g : yGo F π (yhd F π) := ⟨h, yhd_s F π, fun _ => rfl⟩
  have e : xB F π sg = xB F π (yhd F π) := by unfold xB yMo xv3; rw [if_neg c, if_neg c]
  rw [e, g.det h3]
theorem yGo.comp (h3 : y3 F ≠ -1) {π ρ : Nat → Nat} {sg sh : Int} (h : yGo F π sg) (g : yGo F ρ sh) : yGo F (fun k => ρ (π k)) (sg * sh) := by
  have i := h.is.comp g.is
  refine ⟨i, ysgm h.s1 g.s1, fun c => yqi.mp ?_⟩
  rw [← yhd_det h3 c i (ysgm h.s1 g.s1), h.comp_mat h3 g, xdt_mul, g.det h3, h.det h3]
  push_cast; grind
theorem yIs.id : yIs F (fun k => k) := ⟨fun _ hk => hk, fun _ _ => rfl, fun _ _ _ _ => rfl⟩
theorem xB_id (h3 : y3 F ≠ -1) : xB F (fun k => k) 1 = x1 := by
  refine xM_ext (by rw [← yWF_q]; exact yWF_ne h3) (u1 := xu1 F) (u2 := xu2 F) (u3 := xu3 F) ?_ ?_ ?_
  · rw [xB, yMo_1 h3, xap_1]; rfl
  · rw [xB, yMo_2 h3, xap_1]; rfl
  · rw [xB, yMo_3 h3, xap_1]
    by_cases c : yQ4 F = -1
    · rw [yv_v3f c, xu3_flat c]
      unfold xv1 xv2
      rw [yv_sub, yv_sub]
      exact xsc_1 _
    · rw [yv_v3n c, xu3_full c]
theorem yGo.id (h3 : y3 F ≠ -1) : yGo F (fun k => k) 1 := by
  refine ⟨yIs.id, Or.inl rfl, fun c => yqi.mp ?_⟩
  rw [← yhd_det h3 c yIs.id (Or.inl rfl), xB_id h3, xdt_1]; rfl
theorem yIs.inj (hW : yW F) {π : Nat → Nat} (h : yIs F π) {k j : Nat} (hk : k < F.1) (hj : j < F.1) (e : π k = π j) : k = j := by
  have d := h.ds k j hk hj
  rw [e] at d
  have d := yqi.mpr d
  rw [ydist_q, ydist_q, xd_self] at d
  have z : xd F k j = x0 := xdot0 (by rw [← d]; simp only [xdot, x0]; grind)
  exact xd_inj hW hk hj (c := j) (by rw [z, xd_self])
theorem yinj_surj {n : Nat} {f : Nat → Nat} (h : ∀ k, k < n → f k < n) (hi : ∀ k j, k < n → j < n → f k = f j → k = j) {o : Nat} (ho : o < n) : ∃ k, k < n ∧ f k = o := by
  refine Classical.byContradiction fun no => ?_
  have a := ycnt_inj (p := fun _ => true) (q := fun x => !decide (x = o)) (f := f) n n (fun i hi' _ => ⟨h i hi', by simp; exact fun z => no ⟨i, hi', z⟩⟩) (fun i j hi' hj' _ _ e => hi i j hi' hj' e)
  have b : ∀ n, ycnt (fun _ => true) n = (n : Int) := fun n => by
    induction n with
    | zero => rfl
    | succ n ih => rw [ycnt_s, ih]; simp
  have c := ycnt_split (fun _ => true) (fun x => decide (x = o)) n
  simp only [Bool.true_and] at c
  rw [ycnt_eq, if_pos ho] at c
  rw [b] at a c
  omega
theorem yGo.inv (hW : yW F) (h3 : y3 F ≠ -1) {π : Nat → Nat} {sg : Int} (h : yGo F π sg) : ∃ ρ, yGo F ρ sg ∧ (∀ k, k < F.1 → ρ (π k) = k) ∧ (∀ k, k < F.1 → π (ρ k) = k) := by
  have sur := fun o ho => yinj_surj (f := π) h.is.lt (fun k j hk hj e => h.is.inj hW hk hj e) (o := o) ho
  let ρ : Nat → Nat := fun o => if ho : o < F.1 then Classical.choose (sur o ho) else 0
  have r : ∀ o, o < F.1 → ρ o < F.1 ∧ π (ρ o) = o := fun o ho => by
    show (if ho : o < F.1 then Classical.choose (sur o ho) else 0) < F.1 ∧ π (if ho : o < F.1 then Classical.choose (sur o ho) else 0) = o
    rw [dif_pos ho]; exact Classical.choose_spec (sur o ho)
  have l : ∀ k, k < F.1 → ρ (π k) = k := fun k hk => h.is.inj hW (r _ (h.is.lt k hk)).1 hk (r _ (h.is.lt k hk)).2
  have i : yIs F ρ := by
    refine ⟨fun k hk => (r k hk).1, fun k hk => ?_, fun k j hk hj => ?_⟩
    · have := h.is.kd _ (r k hk).1
      rw [(r k hk).2] at this; exact this.symm
    · have := h.is.ds _ _ (r k hk).1 (r j hj).1
      rw [(r k hk).2, (r j hj).2] at this; exact this.symm
  refine ⟨ρ, ⟨i, h.s1, fun c => ?_⟩, l, fun k hk => (r k hk).2⟩
  have g : yGo F ρ (yhd F ρ) := ⟨i, yhd_s F ρ, fun _ => rfl⟩
  have e := h.comp h3 g
  have e1 := e.hd c
  have e2 := (yGo.id h3).hd c
  have b3 := yQ3_bd h3
  have b4 := yQ4_bd c
  rw [yhd_congr (π := fun k => ρ (π k)) (ρ := fun k => k) (l 0 (by omega)) (l 1 (by omega)) (l (yQ3 F) (by omega)) (l (yQ4 F).toNat (by omega)), ← e2] at e1
  rcases h.s1 with q | q <;> rcases yhd_s F ρ with q' | q' <;> rw [q, q'] at e1 <;> first | (rw [q, q']; done) | exact absurd e1 (by decide)
/-- the rotations of a frame -/
def yRt (F : yF) (r : xM) : Prop := ∃ π sg, yGo F π sg ∧ r = xsm sg (xB F π sg)
end
theorem yqden (q : Rat) : q * (q.den : Rat) = (q.num : Rat) := by
  have e : (q.num : Rat) / ((q.den : Int) : Rat) = q := by rw [← Rat.divInt_eq_div, Rat.num_divInt_den]
  have n : ((q.den : Int) : Rat) ≠ 0 := fun z => q.den_nz (by exact_mod_cast z)
  have c : (((q.den : Int) : Rat)) = (q.den : Rat) := Rat.intCast_natCast _
  rw [c] at e n
  generalize (q.num : Rat) = a at *
  generalize (q.den : Rat) = b at *
  grind
theorem yden {q : Rat} {d k : Int} (h : (d : Rat) * q = (k : Rat)) : (q.den : Int) ∣ d := by
  have e : q * (q.den : Rat) = (q.num : Rat) := yqden q
  have e2 : (d : Rat) * (q.num : Rat) = (k : Rat) * ((q.den : Int) : Rat) := by
    rw [← e, ← h]
    have : (((q.den : Int) : Rat)) = (q.den : Rat) := Rat.intCast_natCast _
    rw [this]; grind
  have e3 : d * q.num = k * (q.den : Int) := by exact_mod_cast e2
  have dv : (q.den : Int) ∣ d * q.num := ⟨k, by rw [e3]; grind⟩
  have dv : q.den ∣ d.natAbs * q.num.natAbs := by
    have := Int.natAbs_dvd_natAbs.mpr dv
    rw [Int.natAbs_mul, Int.natAbs_natCast] at this; exact this
  have := Nat.Coprime.dvd_of_dvd_mul_right q.reduced.symm dv
  exact Int.natAbs_dvd_natAbs.mp (by rw [Int.natAbs_natCast]; exact this)
theorem yint_of {S : Rat → Prop} {W : Int} (hW : W ≠ 0) (h1 : ∀ x, S x → S (x * x - 2)) (h2 : ∀ x, S x → ∃ k : Int, (W : Rat) * x = (k : Rat)) {x : Rat} (hx : S x) : x.den = 1 := by
  refine Classical.byContradiction fun n1 => ?_
  have p1 := x.den_pos
  have grow : ∀ N : Nat, ∃ y, S y ∧ N + 2 ≤ y.den := by
    intro N
    induction N with
    | zero => exact ⟨x, hx, by omega⟩
    | succ N ih =>
      obtain ⟨y, sy, hy⟩ := ih
      refine ⟨_, h1 y sy, ?_⟩
      have e : ((y * y - 2).den : Rat) * (y * y) = (((y * y - 2).num + 2 * (y * y - 2).den : Int) : Rat) := by
        have : (y * y - 2) * ((y * y - 2).den : Rat) = ((y * y - 2).num : Rat) := yqden _
        push_cast
        generalize (y * y - 2).den = D at *
        generalize (y * y - 2).num = N' at *
        grind
      have dv := yden (d := ((y * y - 2).den : Int)) (k := (y * y - 2).num + 2 * (y * y - 2).den) (q := y ^ 2) (by rw [Rat.pow_succ, Rat.pow_succ, Rat.pow_zero, Rat.one_mul, Rat.intCast_natCast]; exact e)
      rw [Rat.den_pow] at dv
      have dv : y.den ^ 2 ∣ (y * y - 2).den := by exact_mod_cast dv
      have le := Nat.le_of_dvd (Rat.den_pos _) dv
      have : y.den * (N + 2) ≤ y.den ^ 2 := by rw [Nat.pow_succ, Nat.pow_one]; exact Nat.mul_le_mul_left _ hy
      have : 2 * (N + 2) ≤ y.den * (N + 2) := Nat.mul_le_mul_right _ (by omega)
      omega
  obtain ⟨y, sy, hy⟩ := grow W.natAbs
  obtain ⟨k, e⟩ := h2 y sy
  have := Int.natAbs_dvd_natAbs.mpr (yden e)
  have := Nat.le_of_dvd (by omega) this
  rw [Int.natAbs_natCast] at this
  omega
