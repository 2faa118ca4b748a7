/-! ===== maths: the matrix of a rigid map ===== -/
theorem ydist_comm (F : yF) (k o : Nat) : ydist F k o = ydist F o k := by unfold ydist; grind
structure yBk (F : yF) (π : Nat → Nat) : Prop where
  d1 : ydist F (π 0) (π 1) = ydist F 0 1
  d2 : ydist F (π 0) (π (yQ3 F)) = ydist F 0 (yQ3 F)
  d3 : ydist F (π 1) (π (yQ3 F)) = ydist F 1 (yQ3 F)
  d4 : yQ4 F ≠ -1 → ydist F (π (yQ4 F).toNat) (π 0) = ydist F (yQ4 F).toNat 0 ∧ ydist F (π (yQ4 F).toNat) (π 1) = ydist F (yQ4 F).toNat 1 ∧ ydist F (π (yQ4 F).toNat) (π (yQ3 F)) = ydist F (yQ4 F).toNat (yQ3 F)
theorem yIs.bk {F : yF} (h3 : y3 F ≠ -1) {π : Nat → Nat} (h : yIs F π) : yBk F π := by
  have b3 := yQ3_bd h3
  refine ⟨h.ds _ _ (by omega) (by omega), h.ds _ _ (by omega) (by omega), h.ds _ _ (by omega) (by omega), fun c => ?_⟩
  have b4 := yQ4_bd c
  exact ⟨h.ds _ _ (by omega) (by omega), h.ds _ _ (by omega) (by omega), h.ds _ _ (by omega) (by omega)⟩
theorem xd_pol {F : yF} {a b c a' b' c' : Nat} (h1 : ydist F a' c' = ydist F a c) (h2 : ydist F b' c' = ydist F b c) (h3 : ydist F a' b' = ydist F a b) : xdot (xd F a' c') (xd F b' c') = xdot (xd F a c) (xd F b c) := by
  have e := xd_dot F a b c
  have e' := xd_dot F a' b' c'
  rw [← ydist_q, ← ydist_q, ← ydist_q] at e e'
  rw [h1, h2, h3] at e'
  grind
theorem xd_len {F : yF} {a b a' b' : Nat} (h : ydist F a' b' = ydist F a b) : xdot (xd F a' b') (xd F a' b') = xdot (xd F a b) (xd F a b) := by
  rw [← ydist_q, ← ydist_q, h]
theorem xlag (u v : xV) : xdot (xcr u v) (xcr u v) = xdot u u * xdot v v - xdot u v * xdot u v := by simp only [xdot, xcr]; grind
theorem xcr_l (u v : xV) : xdot u (xcr u v) = 0 := by simp only [xdot, xcr]; grind
theorem xcr_r (u v : xV) : xdot v (xcr u v) = 0 := by simp only [xdot, xcr]; grind
theorem yv_v3f {F : yF} (c : yQ4 F = -1) (π : Nat → Nat) (sg : Int) : yv (xv3 F π sg) = xsc sg (xcr (yv (xv1 F π)) (yv (xv2 F π))) := by
  unfold xv3; rw [if_pos c, yv_sc, yv_crs]
theorem yv_v3n {F : yF} (c : yQ4 F ≠ -1) (π : Nat → Nat) (sg : Int) : yv (xv3 F π sg) = xd F (π (yQ4 F).toNat) (π 0) := by
  unfold xv3; rw [if_neg c, yv_sub]
theorem yBk.gr {F : yF} {π : Nat → Nat} (h : yBk F π) {sg : Int} (hs : sg = 1 ∨ sg = -1) : xgr (xu1 F) (xu2 F) (xu3 F) (yv (xv1 F π)) (yv (xv2 F π)) (yv (xv3 F π sg)) := by
  have e1 : yv (xv1 F π) = xd F (π 1) (π 0) := yv_sub _ _ _
  have e2 : yv (xv2 F π) = xd F (π (yQ3 F)) (π 0) := yv_sub _ _ _
  have c1 := h.d1; rw [ydist_comm, ydist_comm F 0] at c1
  have c2 := h.d2; rw [ydist_comm, ydist_comm F 0] at c2
  have h11 : xdot (yv (xv1 F π)) (yv (xv1 F π)) = xdot (xu1 F) (xu1 F) := by rw [e1]; exact xd_len c1
  have h22 : xdot (yv (xv2 F π)) (yv (xv2 F π)) = xdot (xu2 F) (xu2 F) := by rw [e2]; exact xd_len c2
  have h12 : xdot (yv (xv1 F π)) (yv (xv2 F π)) = xdot (xu1 F) (xu2 F) := by rw [e1, e2]; exact xd_pol c1 c2 h.d3
  have s1 : (sg : Rat) * (sg : Rat) = 1 := by
    have : sg * sg = 1 := by rcases hs with q | q <;> rw [q] <;> decide
    exact_mod_cast this
  by_cases c : yQ4 F = -1
  · rw [yv_v3f c, xu3_flat c]
    refine ⟨h11, h22, ?_, h12, ?_, ?_⟩
    · rw [xdot_sc, xsc_dot, xlag, xlag, h11, h22, h12]
      generalize (sg : Rat) = s at *
      generalize xdot (xu1 F) (xu1 F) * xdot (xu2 F) (xu2 F) - xdot (xu1 F) (xu2 F) * xdot (xu1 F) (xu2 F) = t
      grind
    · rw [xdot_sc, xcr_l, xcr_l]; grind
    · rw [xdot_sc, xcr_r, xcr_r]; grind
  · have d := h.d4 c
    rw [yv_v3n c, xu3_full c]
    refine ⟨h11, h22, xd_len d.1, h12, ?_, ?_⟩
    · rw [e1]; exact xd_pol c1 d.1 (by rw [ydist_comm, d.2.1, ydist_comm])
    · rw [e2]; exact xd_pol c2 d.1 (by rw [ydist_comm, d.2.2, ydist_comm])
/-- the matrix -/
def xA (F : yF) (M : Nat → Int) : xM := xsm (1 / (yWF F : Rat)) (xMm M)
theorem w1 {F : yF} (h3 : y3 F ≠ -1) : 1 / (yWF F : Rat) * (yWF F : Rat) = 1 := by
  have := yWF_ne h3
  generalize (yWF F : Rat) = w at *
  grind
theorem xA_ap {F : yF} (h3 : y3 F ≠ -1) {M : Nat → Int} {p q : xV} : xap (xMm M) p = xsc (yWF F) q ↔ xap (xA F M) p = q := by
  unfold xA
  rw [xap_sm]
  constructor
  · intro h; rw [h, xsc_sc, w1 h3, xsc_1]
  · intro h; rw [← h, xsc_sc, show (yWF F : Rat) * (1 / (yWF F : Rat)) = 1 from by rw [← w1 h3]; grind, xsc_1]
theorem yBk.O {F : yF} (h3 : y3 F ≠ -1) {π : Nat → Nat} (h : yBk F π) {sg : Int} (hs : sg = 1 ∨ sg = -1) : xO (xA F (yMo F π sg)) := by
  unfold xA yMo
  rw [yMm]
  exact (h.gr hs).O (by rw [← yWF_q]; exact w1 h3)
theorem yMo_1 {F : yF} (h3 : y3 F ≠ -1) (π : Nat → Nat) (sg : Int) : xap (xA F (yMo F π sg)) (xu1 F) = xd F (π 1) (π 0) := by
  rw [← xA_ap h3]; unfold yMo; rw [yMm, xAm_1, ← yWF_q]; unfold xv1; rw [yv_sub]
theorem yMo_2 {F : yF} (h3 : y3 F ≠ -1) (π : Nat → Nat) (sg : Int) : xap (xA F (yMo F π sg)) (xu2 F) = xd F (π (yQ3 F)) (π 0) := by
  rw [← xA_ap h3]; unfold yMo; rw [yMm, xAm_2, ← yWF_q]; unfold xv2; rw [yv_sub]
theorem yMo_3 {F : yF} (h3 : y3 F ≠ -1) (π : Nat → Nat) (sg : Int) : xap (xA F (yMo F π sg)) (xu3 F) = yv (xv3 F π sg) := by
  rw [← xA_ap h3]; unfold yMo; rw [yMm, xAm_3, ← yWF_q]
theorem flat_2 {F : yF} (h3 : y3 F ≠ -1) (c : yQ4 F = -1) {k o : Nat} (hk : k < F.1) (ho : o < F.1) : xdot (xcr (xu1 F) (xu2 F)) (xd F k o) = 0 := by
  rw [xdot_comm, xd_add F k o 0]
  have e1 := flat_all h3 c hk
  have e2 := flat_all h3 c ho
  generalize xcr (xu1 F) (xu2 F) = n at *
  generalize xd F k 0 = p at *
  generalize xd F o 0 = q at *
  simp only [xdot, xsu] at *; grind
/-- a rigid map's matrix takes each atom to its like -/
theorem yIs.A {F : yF} (h3 : y3 F ≠ -1) {π : Nat → Nat} (h : yIs F π) {sg : Int} (hs : sg = 1 ∨ sg = -1) {k : Nat} (hk : k < F.1) : xap (xA F (yMo F π sg)) (xd F k 0) = xd F (π k) (π 0) := by
  have b3 := yQ3_bd h3
  have hb := h.bk h3
  refine (hb.O h3 hs).det_eq (by rw [← yWF_q]; exact yWF_ne h3) ?_ ?_ ?_
  · rw [yMo_1 h3]
    exact xd_pol (h.ds _ _ hk (by omega)) (h.ds _ _ (by omega) (by omega)) (h.ds _ _ hk (by omega))
  · rw [yMo_2 h3]
    exact xd_pol (h.ds _ _ hk (by omega)) (h.ds _ _ (by omega) (by omega)) (h.ds _ _ hk (by omega))
  · rw [yMo_3 h3]
    by_cases c : yQ4 F = -1
    · rw [yv_v3f c, xu3_flat c, flat_all h3 c hk, xdot_sc]
      have e1 : yv (xv1 F π) = xd F (π 1) (π 0) := yv_sub _ _ _
      have e2 : yv (xv2 F π) = xd F (π (yQ3 F)) (π 0) := yv_sub _ _ _
      have z : xdet (xd F (π k) (π 0)) (yv (xv1 F π)) (yv (xv2 F π)) = 0 := by
        refine Classical.byContradiction fun n0 => xu12 h3 (xdet_n0 n0 ?_ ?_ ?_)
        · exact flat_2 h3 c (h.lt _ hk) (h.lt _ (by omega))
        · rw [e1]; exact flat_2 h3 c (h.lt _ (by omega)) (h.lt _ (by omega))
        · rw [e2]; exact flat_2 h3 c (h.lt _ (by omega)) (h.lt _ (by omega))
      unfold xdet at z
      rw [z]; grind
    · have b4 := yQ4_bd c
      rw [yv_v3n c, xu3_full c]
      exact xd_pol (h.ds _ _ hk (by omega)) (h.ds _ _ (by omega) (by omega)) (h.ds _ _ hk (by omega))
theorem ycm_eq {F : yF} (hW : yW F) (h3 : y3 F ≠ -1) {M : Nat → Int} {t k o : Nat} (ho : o < F.1) (hk : F.2 o 0 = F.2 k 0) (h : xap (xA F M) (xd F k 0) = xd F o t) : ycm F (yWF F) M t k = (o : Int) := by
  unfold ycm
  have g : ycq F (yWF F) M t k o = true := ycq_iff.mpr ⟨hk, (xA_ap h3).mpr h⟩
  refine yfind_hit ho (fun i hi => ?_) g
  cases q : ycq F (yWF F) M t k i with
  | false => rfl
  | true =>
    have := (xA_ap h3).mp (ycq_iff.mp q).2
    rw [h] at this
    have := xd_inj hW ho (by omega : i < F.1) this
    omega
theorem ycm_sp {F : yF} (h3 : y3 F ≠ -1) {M : Nat → Int} {t k : Nat} (h : ycm F (yWF F) M t k ≠ -1) : (ycm F (yWF F) M t k).toNat < F.1 ∧ ((ycm F (yWF F) M t k).toNat : Int) = ycm F (yWF F) M t k ∧ F.2 (ycm F (yWF F) M t k).toNat 0 = F.2 k 0 ∧ xap (xA F M) (xd F k 0) = xd F (ycm F (yWF F) M t k).toNat t := by
  have b := yfind_bd (ycq F (yWF F) M t k) F.1 0
  have e : ((ycm F (yWF F) M t k).toNat : Int) = ycm F (yWF F) M t k := by unfold ycm at *; omega
  have s := yfind_some.mp (show yfind (ycq F (yWF F) M t k) F.1 0 = ((ycm F (yWF F) M t k).toNat : Int) from e.symm)
  have c := ycq_iff.mp s.2.2.1
  exact ⟨by omega, e, c.1, (xA_ap h3).mp c.2⟩
/-- what the search finds is a rigid map -/
theorem yIs_of {F : yF} (hW : yW F) (h3 : y3 F ≠ -1) {M : Nat → Int} {x y z : Nat} (hx : x < F.1) (hy : y < F.1) (hz : z < F.1) (hO : xO (xA F M)) (h1 : xap (xA F M) (xu1 F) = xd F y x) (h2 : xap (xA F M) (xu2 F) = xd F z x) (hall : yall F (yWF F) M x) :
    yIs F (fun k => (ycm F (yWF F) M x k).toNat) ∧ (ycm F (yWF F) M x 0).toNat = x ∧ (ycm F (yWF F) M x 1).toNat = y ∧ (ycm F (yWF F) M x (yQ3 F)).toNat = z ∧ ∀ o, o < F.1 → yQ4 F ≠ -1 → xap (xA F M) (xd F (yQ4 F).toNat 0) = xd F o x → (ycm F (yWF F) M x (yQ4 F).toNat).toNat = o := by
  have b3 := yQ3_bd h3
  have sp := fun k hk => ycm_sp h3 (hall k hk)
  refine ⟨⟨fun k hk => (sp k hk).1, fun k hk => (sp k hk).2.2.1, fun k j hk hj => yqi.mp ?_⟩, ?_, ?_, ?_, fun o ho c e => ?_⟩
  · have e1 := (sp k hk).2.2.2
    have e2 := (sp j hj).2.2.2
    rw [ydist_q, ydist_q, xd_add F _ _ x, ← e1, ← e2, ← xap_su, ← xd_add F k j 0, hO.dot]
  · have e := (sp 0 (by omega)).2.2.2
    rw [xd_self, xap_0, ← xd_self F x] at e
    exact (xd_inj hW hx (sp 0 (by omega)).1 e).symm
  · have e := (sp 1 (by omega)).2.2.2
    exact (xd_inj hW hy (sp 1 (by omega)).1 (h1.symm.trans e)).symm
  · have e := (sp (yQ3 F) (by omega)).2.2.2
    exact (xd_inj hW hz (sp (yQ3 F) (by omega)).1 (h2.symm.trans e)).symm
  · have b4 := yQ4_bd c
    have e' := (sp (yQ4 F).toNat (by omega)).2.2.2
    exact (xd_inj hW ho (sp (yQ4 F).toNat (by omega)).1 (e.symm.trans e')).symm
