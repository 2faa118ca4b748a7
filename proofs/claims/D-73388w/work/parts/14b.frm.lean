/-! ===== maths: a frame's rigid maps ===== -/
def yv (u : Nat → Int) : xV := ⟨(u 0 : Rat), (u 1 : Rat), (u 2 : Rat)⟩
def xp (F : yF) (k : Nat) : xV := ⟨(F.2 k 1 : Rat), (F.2 k 2 : Rat), (F.2 k 3 : Rat)⟩
def xd (F : yF) (k o : Nat) : xV := xsu (xp F k) (xp F o)
def xMm (M : Nat → Int) : xM := ⟨(M 0 : Rat), (M 1 : Rat), (M 2 : Rat), (M 3 : Rat), (M 4 : Rat), (M 5 : Rat), (M 6 : Rat), (M 7 : Rat), (M 8 : Rat)⟩
theorem yv_sub (F : yF) (k o : Nat) : yv (ysub F k o) = xd F k o := by
  apply xV.eq <;> simp only [yv, ysub, xd, xsu, xp] <;> push_cast <;> rfl
theorem yv_crs (u v : Nat → Int) : yv (ycrs u v) = xcr (yv u) (yv v) := by
  apply xV.eq <;> simp [yv, ycrs, xcr]
theorem yv_sc (k : Int) (u : Nat → Int) : yv (fun i => k * u i) = xsc k (yv u) := by
  apply xV.eq <;> simp only [yv, xsc] <;> push_cast <;> rfl
theorem ydot_q (u v : Nat → Int) : ((ydot u v : Int) : Rat) = xdot (yv u) (yv v) := by
  simp only [ydot, xdot, yv]; push_cast; rfl
theorem ydist_q (F : yF) (k o : Nat) : ((ydist F k o : Int) : Rat) = xdot (xd F k o) (xd F k o) := by
  simp only [ydist, xdot, xd, xsu, xp]; push_cast; rfl
theorem yqi {a b : Int} : (a : Rat) = (b : Rat) ↔ a = b := ⟨fun h => by exact_mod_cast h, fun h => by rw [h]⟩
theorem xd_dot (F : yF) (a b c : Nat) : 2 * xdot (xd F a c) (xd F b c) = xdot (xd F a c) (xd F a c) + xdot (xd F b c) (xd F b c) - xdot (xd F a b) (xd F a b) := by
  simp only [xdot, xd, xsu]; grind
theorem xd_self (F : yF) (a : Nat) : xd F a a = x0 := by
  apply xV.eq <;> simp only [xd, xsu, x0] <;> grind
theorem xd_add (F : yF) (a b c : Nat) : xd F a b = xsu (xd F a c) (xd F b c) := by
  apply xV.eq <;> simp only [xd, xsu] <;> grind
theorem xap_su (r : xM) (u v : xV) : xap r (xsu u v) = xsu (xap r u) (xap r v) := by
  apply xV.eq <;> simp only [xap, xsu] <;> grind
theorem xap_0 (r : xM) : xap r x0 = x0 := by
  apply xV.eq <;> simp only [xap, x0] <;> grind
theorem xd_inj {F : yF} (hW : yW F) {a b c : Nat} (ha : a < F.1) (hb : b < F.1) (h : xd F a c = xd F b c) : a = b := by
  have e1 := congrArg xV.x h; have e2 := congrArg xV.y h; have e3 := congrArg xV.z h
  simp only [xd, xsu, xp] at e1 e2 e3
  exact hW.2.2.2 a b ha hb (yqi.mp (by grind)) (yqi.mp (by grind)) (yqi.mp (by grind))
theorem xsu_sc (k : Rat) (u v : xV) : xsc k (xsu u v) = xsu (xsc k u) (xsc k v) := by
  apply xV.eq <;> simp only [xsc, xsu] <;> grind
theorem xsc_inj {k : Rat} (hk : k ≠ 0) {u v : xV} (h : xsc k u = xsc k v) : u = v := by
  have e1 := congrArg xV.x h; have e2 := congrArg xV.y h; have e3 := congrArg xV.z h
  simp only [xsc] at e1 e2 e3
  apply xV.eq <;> grind
/-- the third base atom, the fourth one (-1: flat), the whole, the ways -/
def yQ3 (F : yF) : Nat := (y3 F).toNat
def yQ4 (F : yF) : Int := y4 F (yQ3 F)
def yWF (F : yF) : Int := yWh F (yQ3 F) (yQ4 F)
def xu1 (F : yF) : xV := xd F 1 0
def xu2 (F : yF) : xV := xd F (yQ3 F) 0
def xu3 (F : yF) : xV := yv (yw2 F (yQ3 F) (yQ4 F))
theorem xu3_flat {F : yF} (h : yQ4 F = -1) : xu3 F = xcr (xu1 F) (xu2 F) := by
  unfold xu3 yw2; rw [if_pos h, yv_crs, yv_sub, yv_sub]; rfl
theorem xu3_full {F : yF} (h : yQ4 F ≠ -1) : xu3 F = xd F (yQ4 F).toNat 0 := by
  unfold xu3 yw2; rw [if_neg h, yv_sub]
theorem yWF_q (F : yF) : (yWF F : Rat) = xdet (xu1 F) (xu2 F) (xu3 F) := by
  unfold yWF yWh xdet; rw [ydot_q, yv_crs, yv_sub, yv_sub]; rfl
theorem yQ3_bd {F : yF} (h : y3 F ≠ -1) : 2 ≤ yQ3 F ∧ yQ3 F < F.1 ∧ (yQ3 F : Int) = y3 F := by
  have := y3_bd F
  unfold yQ3; omega
theorem yQ4_bd {F : yF} (h : yQ4 F ≠ -1) : (yQ4 F).toNat < F.1 ∧ ((yQ4 F).toNat : Int) = yQ4 F := by
  have := y4_bd F (yQ3 F)
  unfold yQ4 at *; omega
theorem xcr_0 {u : xV} (h : u.x = 0 ∧ u.y = 0 ∧ u.z = 0) : u = x0 := by
  apply xV.eq <;> simp only [x0] <;> grind
theorem xu12 {F : yF} (h : y3 F ≠ -1) : xcr (xu1 F) (xu2 F) ≠ x0 := by
  obtain ⟨q1, q2, q3⟩ := yQ3_bd h
  have s := (yfind_some (q := y3q F) (j := F.1 - 2) (k := 2) (r := yQ3 F)).mp q3.symm
  have s := s.2.2.1
  unfold y3q at s
  rw [decide_eq_true_iff] at s
  intro z
  refine s ?_
  have e : yv (ycr F (yQ3 F)) = x0 := by unfold ycr; rw [yv_crs, yv_sub, yv_sub]; exact z
  have e1 := congrArg xV.x e; have e2 := congrArg xV.y e; have e3 := congrArg xV.z e
  simp only [yv, x0] at e1 e2 e3
  exact ⟨yqi.mp (by rw [e1]; rfl), yqi.mp (by rw [e2]; rfl), yqi.mp (by rw [e3]; rfl)⟩
theorem yWF_ne {F : yF} (h : y3 F ≠ -1) : (yWF F : Rat) ≠ 0 := by
  by_cases c : yQ4 F = -1
  · rw [yWF_q, xu3_flat c]
    intro z
    refine xu12 h (xdot0 ?_)
    rw [← z]; simp only [xdet, xdot, xcr]; grind
  · obtain ⟨q1, q2⟩ := yQ4_bd c
    have s := (yfind_some (q := y4q F (yQ3 F)) (j := F.1 - 2) (k := 2) (r := (yQ4 F).toNat)).mp q2.symm
    have s := s.2.2.1
    unfold y4q at s
    rw [decide_eq_true_iff] at s
    intro z
    refine s (yqi.mp ?_)
    rw [ydot_q]
    unfold ycr
    rw [yv_crs, yv_sub, yv_sub, yv_sub]
    rw [yWF_q, xu3_full c] at z
    rw [show ((0 : Int) : Rat) = 0 from rfl, ← z]
    simp only [xu1, xu2, xdet, xdot, xcr]; grind
/-- all atoms of a flat frame lie across from the product -/
theorem flat_all {F : yF} (h : y3 F ≠ -1) (c : yQ4 F = -1) {k : Nat} (hk : k < F.1) : xdot (xd F k 0) (xcr (xu1 F) (xu2 F)) = 0 := by
  by_cases k0 : k = 0
  · rw [k0, xd_self]; simp only [xdot, x0]; grind
  · by_cases k1 : k = 1
    · rw [k1]; show xdot (xu1 F) _ = 0; simp only [xdot, xcr]; grind
    · have s := (yfind_none (q := y4q F (yQ3 F)) (j := F.1 - 2) (k := 2)).mp c k (by omega) (by omega)
      unfold y4q at s
      rw [decide_eq_false_iff_not, Classical.not_not] at s
      have := yqi.mpr s
      rw [ydot_q] at this
      unfold ycr at this
      rw [yv_crs, yv_sub, yv_sub, yv_sub] at this
      exact this
/-- a map of atoms that keeps kinds and distances -/
structure yIs (F : yF) (π : Nat → Nat) : Prop where
  lt : ∀ k, k < F.1 → π k < F.1
  kd : ∀ k, k < F.1 → F.2 (π k) 0 = F.2 k 0
  ds : ∀ k j, k < F.1 → j < F.1 → ydist F (π k) (π j) = ydist F k j
def xv1 (F : yF) (π : Nat → Nat) : Nat → Int := ysub F (π 1) (π 0)
def xv2 (F : yF) (π : Nat → Nat) : Nat → Int := ysub F (π (yQ3 F)) (π 0)
def xv3 (F : yF) (π : Nat → Nat) (sg : Int) : Nat → Int := if yQ4 F = -1 then fun i => sg * ycrs (xv1 F π) (xv2 F π) i else ysub F (π (yQ4 F).toNat) (π 0)
def yMo (F : yF) (π : Nat → Nat) (sg : Int) : Nat → Int := ymt (yJ (xv1 F π) (xv2 F π) (xv3 F π sg)) (yXX F (yQ3 F) (yQ4 F))
theorem yMm (F : yF) (a b c : Nat → Int) : xMm (ymt (yJ a b c) (yXX F (yQ3 F) (yQ4 F))) = xAm (xu1 F) (xu2 F) (xu3 F) (yv a) (yv b) (yv c) := by
  have e1 : yv (ycrs (ysub F (yQ3 F) 0) (yw2 F (yQ3 F) (yQ4 F))) = xcr (xu2 F) (xu3 F) := by rw [yv_crs, yv_sub]; rfl
  have e2 : yv (ycrs (yw2 F (yQ3 F) (yQ4 F)) (ysub F 1 0)) = xcr (xu3 F) (xu1 F) := by rw [yv_crs, yv_sub]; rfl
  have e3 : yv (ycrs (ysub F 1 0) (ysub F (yQ3 F) 0)) = xcr (xu1 F) (xu2 F) := by rw [yv_crs, yv_sub, yv_sub]; rfl
  unfold xAm
  rw [← e1, ← e2, ← e3]
  unfold yXX
  generalize ycrs (ysub F (yQ3 F) 0) (yw2 F (yQ3 F) (yQ4 F)) = x
  generalize ycrs (yw2 F (yQ3 F) (yQ4 F)) (ysub F 1 0) = y
  generalize ycrs (ysub F 1 0) (ysub F (yQ3 F) 0) = z
  apply xM.eq <;> simp [xMm, ymt, yJ, xma, xten, yv]
theorem yln_q (F : yF) (M : Nat → Int) (k : Nat) : (⟨(yln F M k 0 : Rat), (yln F M k 1 : Rat), (yln F M k 2 : Rat)⟩ : xV) = xap (xMm M) (xd F k 0) := by
  rw [← yv_sub]
  apply xV.eq <;> simp [yln, xap, xMm, yv]
theorem ycq_iff {F : yF} {M : Nat → Int} {t k o : Nat} : ycq F (yWF F) M t k o = true ↔ F.2 o 0 = F.2 k 0 ∧ xap (xMm M) (xd F k 0) = xsc (yWF F) (xd F o t) := by
  unfold ycq yhit
  simp only [Bool.and_eq_true, decide_eq_true_iff]
  rw [← yln_q, ← yv_sub]
  refine and_congr Iff.rfl ⟨fun ⟨a, b, c⟩ => ?_, fun h => ?_⟩
  · rw [a, b, c]; apply xV.eq <;> simp only [xsc, yv] <;> push_cast <;> rfl
  · have e1 := congrArg xV.x h; have e2 := congrArg xV.y h; have e3 := congrArg xV.z h
    simp only [xsc, yv] at e1 e2 e3
    exact ⟨by exact_mod_cast e1, by exact_mod_cast e2, by exact_mod_cast e3⟩
