/-! ===== maths: the rotations of a frame are a group with whole traces ===== -/
section
variable {F : yF}
theorem ysq1 {sg : Int} (h : sg = 1 ∨ sg = -1) : sg * sg = 1 := by rcases h with q | q <;> rw [q] <;> decide
theorem yGo.inv_mat (hW : yW F) (h3 : y3 F ≠ -1) {π ρ : Nat → Nat} {sg : Int} (h : yGo F π sg) (g : yGo F ρ sg) (l : ∀ k, k < F.1 → ρ (π k) = k) : xB F ρ sg = xtp (xB F π sg) := by
  have b3 := yQ3_bd h3
  have e := h.comp_mat h3 g
  rw [ysq1 h.s1] at e
  have e1 : xB F (fun k => ρ (π k)) 1 = xB F (fun k => k) 1 := by
    unfold xB
    rw [yMo_congr (π := fun k => ρ (π k)) (ρ := fun k => k) (l 0 (by omega)) (l 1 (by omega)) (l _ (by omega)) (fun c => l _ (yQ4_bd c).1)]
  rw [e1, xB_id h3] at e
  have := congrArg (fun r => xmul r (xtp (xB F π sg))) e
  rw [x1_mul, xmul_as, (h.O h3).rt, xmul_1] at this
  exact this.symm
theorem xsm_inj {k : Rat} (hk : k ≠ 0) {r s : xM} (h : xsm k r = xsm k s) : r = s := by
  simp only [xsm, xM.mk.injEq] at h
  apply xM.eq <;> grind
theorem yRt.rot (h3 : y3 F ≠ -1) {r : xM} (h : yRt F r) : xrot r := by
  obtain ⟨π, sg, g, rfl⟩ := h
  rw [← g.det h3]; exact (g.O h3).rot
theorem yRt.mul (h3 : y3 F ≠ -1) {r s : xM} (h : yRt F r) (h' : yRt F s) : yRt F (xmul r s) := by
  obtain ⟨π, sg, g, rfl⟩ := h
  obtain ⟨ρ, sh, g', rfl⟩ := h'
  refine ⟨_, _, g'.comp h3 g, ?_⟩
  rw [g'.comp_mat h3 g, xsm_mul, xmul_sm, xsm_sm]
  congr 1
  push_cast; grind
theorem yRt.wh (h3 : y3 F ≠ -1) {r : xM} (h : yRt F r) : ∃ k : Int, (yWF F : Rat) * (xtr r - 1) = (k : Rat) := by
  obtain ⟨π, sg, g, rfl⟩ := h
  refine ⟨sg * (yMo F π sg 0 + yMo F π sg 4 + yMo F π sg 8) - yWF F, ?_⟩
  have w := w1 h3
  unfold xB xA
  simp only [xtr, xsm, xMm]
  push_cast
  generalize (yWF F : Rat) = W at *
  generalize (sg : Rat) = s at *
  generalize (yMo F π _ 0 : Rat) = a at *
  generalize (yMo F π _ 4 : Rat) = b at *
  generalize (yMo F π _ 8 : Rat) = c at *
  generalize 1 / W = v at *
  grind
theorem yRt.int (h3 : y3 F ≠ -1) {r : xM} (h : yRt F r) : xint (xtr r) := by
  have d := yint_of (S := fun x => ∃ r, yRt F r ∧ x = xtr r - 1) (W := yWF F) (fun z => yWF_ne h3 (by rw [z]; rfl)) (fun x hx => by
      obtain ⟨r, hr, rfl⟩ := hx
      refine ⟨xmul r r, yRt.mul h3 hr hr, ?_⟩
      rw [(yRt.rot h3 hr).sq]; grind) (fun x hx => by
      obtain ⟨r, hr, rfl⟩ := hx
      exact yRt.wh h3 hr) ⟨r, h, rfl⟩
  have e := yqden (xtr r - 1)
  rw [d] at e
  have e : xtr r = (((xtr r - 1).num + 1 : Int) : Rat) := by
    push_cast
    rw [← e]
    have : ((1 : Nat) : Rat) = 1 := rfl
    rw [this]; grind
  have l := (yRt.rot h3 h).len
  have p : 0 ≤ xdot (xax r) (xax r) := by
    have a := xsq (xax r).x; have b := xsq (xax r).y; have c := xsq (xax r).z
    simp only [xdot]; grind
  rw [l] at p
  generalize (xtr r - 1).num + 1 = k at *
  rw [e] at p ⊢
  have p : (0 : Int) ≤ (3 - k) * (1 + k) := by exact_mod_cast p
  have k1 : -1 ≤ k := by
    refine Classical.byContradiction fun n => ?_
    have : 0 < (3 - k) * (-(1 + k)) := Int.mul_pos (by omega) (by omega)
    rw [Int.mul_neg] at this; omega
  have k2 : k ≤ 3 := by
    refine Classical.byContradiction fun n => ?_
    have : 0 < (-(3 - k)) * (1 + k) := Int.mul_pos (by omega) (by omega)
    rw [Int.neg_mul] at this; omega
  unfold xint
  have : k = -1 ∨ k = 0 ∨ k = 1 ∨ k = 2 ∨ k = 3 := by omega
  rcases this with q | q | q | q | q <;> rw [q]
  · left; rfl
  · right; left; rfl
  · right; right; left; rfl
  · right; right; right; left; rfl
  · right; right; right; right; rfl
theorem yRt_G (hW : yW F) (h3 : y3 F ≠ -1) : xG (yRt F) where
  one := ⟨_, _, yGo.id h3, by rw [xB_id h3]; exact (xsm_1 _).symm⟩
  mul := yRt.mul h3
  tp := by
    rintro r ⟨π, sg, g, rfl⟩
    obtain ⟨ρ, g', l, _⟩ := g.inv hW h3
    exact ⟨ρ, sg, g', by rw [xtp_sm, g.inv_mat hW h3 g' l]⟩
  rot := yRt.rot h3
  int := yRt.int h3
/-- a matrix tells the map -/
theorem yGo.inj (hW : yW F) (h3 : y3 F ≠ -1) {π ρ : Nat → Nat} {sg : Int} (h : yGo F π sg) (g : yGo F ρ sg) (e : xB F π sg = xB F ρ sg) : ∀ k, k < F.1 → π k = ρ k := by
  have b3 := yQ3_bd h3
  have n0 : 0 < F.1 := by omega
  have sh : ∀ k, k < F.1 → xd F (π k) (π 0) = xd F (ρ k) (ρ 0) := fun k hk => by rw [← h.ap h3 hk n0, ← g.ap h3 hk n0, e]
  have shc : ∀ c, 1 ≤ c → c < 4 → ∀ k, k < F.1 → F.2 (π k) c - F.2 (π 0) c = F.2 (ρ k) c - F.2 (ρ 0) c := fun c c1 c4 k hk => by
    have s := sh k hk
    have s1 := congrArg xV.x s; have s2 := congrArg xV.y s; have s3 := congrArg xV.z s
    simp only [xd, xsu, xp] at s1 s2 s3
    have : c = 1 ∨ c = 2 ∨ c = 3 := by omega
    rcases this with q | q | q <;> rw [q]
    · exact_mod_cast s1
    · exact_mod_cast s2
    · exact_mod_cast s3
  have chain : ∀ {π ρ : Nat → Nat} {sg : Int}, yGo F π sg → yGo F ρ sg → ∀ c, 1 ≤ c → c < 4 → (∀ k, k < F.1 → F.2 (π k) c - F.2 (π 0) c = F.2 (ρ k) c - F.2 (ρ 0) c) → F.2 (π 0) c - F.2 (ρ 0) c ≤ 0 := by
    intro π ρ sg h g c c1 c4 hs
    refine Classical.byContradiction fun pos => ?_
    have up : ∀ m : Nat, ∃ j, j < F.1 ∧ (m : Int) - 50 ≤ F.2 j c := by
      intro m
      induction m with
      | zero => exact ⟨0, n0, by have := hW.2.2.1 0 n0 c c1 c4; omega⟩
      | succ m ih =>
        obtain ⟨j, hj, b⟩ := ih
        obtain ⟨k, hk, ek⟩ := yinj_surj (f := ρ) g.is.lt (fun k j hk hj e => g.is.inj hW hk hj e) hj
        refine ⟨π k, h.is.lt k hk, ?_⟩
        have := hs k hk
        rw [ek] at this
        omega
    obtain ⟨j, hj, b⟩ := up 101
    have := hW.2.2.1 j hj c c1 c4
    omega
  have z0 : ∀ c, 1 ≤ c → c < 4 → F.2 (π 0) c = F.2 (ρ 0) c := fun c c1 c4 => by
    have a := chain h g c c1 c4 (shc c c1 c4)
    have b := chain g h c c1 c4 (fun k hk => (shc c c1 c4 k hk).symm)
    omega
  intro k hk
  have q := fun c c1 c4 => shc c c1 c4 k hk
  refine hW.2.2.2 _ _ (h.is.lt k hk) (g.is.lt k hk) ?_ ?_ ?_
  · have := q 1 (by omega) (by omega); have := z0 1 (by omega) (by omega); omega
  · have := q 2 (by omega) (by omega); have := z0 2 (by omega) (by omega); omega
  · have := q 3 (by omega) (by omega); have := z0 3 (by omega) (by omega); omega
end
