/-! ===== maths: the list of maps is that of all rigid maps ===== -/
/-- the hand of a map of a frame that is not flat -/
def yhd (F : yF) (π : Nat → Nat) : Int := if ydot (ycrs (xv1 F π) (xv2 F π)) (ysub F (π (yQ4 F).toNat) (π 0)) = yWF F then 1 else -1
structure yGo (F : yF) (π : Nat → Nat) (sg : Int) : Prop where
  is : yIs F π
  s1 : sg = 1 ∨ sg = -1
  hd : yQ4 F ≠ -1 → sg = yhd F π
def yopOf (F : yF) (π : Nat → Nat) (sg : Int) : yO := (ycm F (yWF F) (yMo F π sg) (π 0), sg, yMo F π sg)
theorem yMo_congr {F : yF} {π ρ : Nat → Nat} (h0 : π 0 = ρ 0) (h1 : π 1 = ρ 1) (h2 : π (yQ3 F) = ρ (yQ3 F)) (h4 : yQ4 F ≠ -1 → π (yQ4 F).toNat = ρ (yQ4 F).toNat) (sg : Int) : yMo F π sg = yMo F ρ sg := by
  unfold yMo xv3 xv1 xv2
  by_cases c : yQ4 F = -1
  · rw [if_pos c, if_pos c, h0, h1, h2]
  · rw [if_neg c, if_neg c, h0, h1, h2, h4 c]
theorem yhd_congr {F : yF} {π ρ : Nat → Nat} (h0 : π 0 = ρ 0) (h1 : π 1 = ρ 1) (h2 : π (yQ3 F) = ρ (yQ3 F)) (h4 : π (yQ4 F).toNat = ρ (yQ4 F).toNat) : yhd F π = yhd F ρ := by
  unfold yhd xv1 xv2; rw [h0, h1, h2, h4]
theorem yopOf_row {F : yF} (hW : yW F) (h3 : y3 F ≠ -1) {π : Nat → Nat} {sg : Int} (h : yGo F π sg) {k : Nat} (hk : k < F.1) : (yopOf F π sg).1 k = (π k : Int) :=
  ycm_eq hW h3 (h.is.lt k hk) (h.is.kd k hk) (h.is.A h3 h.s1 hk)
theorem yQ4_ne {F : yF} (c : yQ4 F ≠ -1) : (yQ4 F).toNat ≠ 0 ∧ (yQ4 F).toNat ≠ 1 ∧ (yQ4 F).toNat ≠ yQ3 F := by
  obtain ⟨q1, q2⟩ := yQ4_bd c
  have s := (yfind_some (q := y4q F (yQ3 F)) (j := F.1 - 2) (k := 2) (r := (yQ4 F).toNat)).mp q2.symm
  refine ⟨by omega, by omega, fun z => ?_⟩
  have s := s.2.2.1
  unfold y4q at s
  rw [decide_eq_true_iff, z] at s
  refine s (yqi.mp ?_)
  rw [ydot_q]
  unfold ycr
  rw [yv_crs, yv_sub, yv_sub]
  simp only [xdot, xcr]; grind
/-- x, y, z, o as images of the base atoms -/
def yπ (F : yF) (x y z o : Nat) : Nat → Nat := fun k => if k = 0 then x else if k = 1 then y else if k = yQ3 F then z else o
theorem yπ0 (F : yF) (x y z o : Nat) : yπ F x y z o 0 = x := rfl
theorem yπ1 (F : yF) (x y z o : Nat) : yπ F x y z o 1 = y := rfl
theorem yπ3 {F : yF} (h3 : y3 F ≠ -1) (x y z o : Nat) : yπ F x y z o (yQ3 F) = z := by
  have := yQ3_bd h3
  unfold yπ; rw [if_neg (by omega), if_neg (by omega), if_pos rfl]
theorem yπ4 {F : yF} (c : yQ4 F ≠ -1) (x y z o : Nat) : yπ F x y z o (yQ4 F).toNat = o := by
  have := yQ4_ne c
  unfold yπ; rw [if_neg this.1, if_neg this.2.1, if_neg this.2.2]
/-- one that is found by the search -/
theorem yGo_of {F : yF} (hW : yW F) (h3 : y3 F ≠ -1) {x y z o : Nat} {sg : Int} (hx : x < F.1) (hy : y < F.1) (hz : z < F.1) (d1 : ydist F x y = ydist F 0 1) (d2 : ydist F x z = ydist F 0 (yQ3 F)) (d3 : ydist F y z = ydist F 1 (yQ3 F))
    (d4 : yQ4 F ≠ -1 → o < F.1 ∧ ydist F o x = ydist F (yQ4 F).toNat 0 ∧ ydist F o y = ydist F (yQ4 F).toNat 1 ∧ ydist F o z = ydist F (yQ4 F).toNat (yQ3 F)) (hs : sg = 1 ∨ sg = -1) (hd : yQ4 F ≠ -1 → sg = yhd F (yπ F x y z o))
    (hall : yall F (yWF F) (yMo F (yπ F x y z o) sg) x) : ∃ π, yGo F π sg ∧ π 0 = x ∧ π 1 = y ∧ π (yQ3 F) = z ∧ (yQ4 F ≠ -1 → π (yQ4 F).toNat = o) ∧ (ycm F (yWF F) (yMo F (yπ F x y z o) sg) x, sg, yMo F (yπ F x y z o) sg) = yopOf F π sg := by
  have bk : yBk F (yπ F x y z o) := ⟨d1, by rw [yπ3 h3]; exact d2, by rw [yπ3 h3]; exact d3, fun c => by rw [yπ3 h3, yπ4 c]; exact (d4 c).2⟩
  have e1 := yMo_1 h3 (yπ F x y z o) sg
  have e2 := yMo_2 h3 (yπ F x y z o) sg
  have e3 := yMo_3 h3 (yπ F x y z o) sg
  rw [yπ0, yπ1] at e1
  rw [yπ0, yπ3 h3] at e2
  obtain ⟨hI, i0, i1, i2, i4⟩ := yIs_of hW h3 hx hy hz (bk.O h3 hs) e1 e2 hall
  have j4 : yQ4 F ≠ -1 → (ycm F (yWF F) (yMo F (yπ F x y z o) sg) x (yQ4 F).toNat).toNat = o := fun c => by
    refine i4 o (d4 c).1 c ?_
    rw [xu3_full c, yv_v3n c, yπ4 c, yπ0] at e3
    exact e3
  have hM : yMo F (yπ F x y z o) sg = yMo F (fun k => (ycm F (yWF F) (yMo F (yπ F x y z o) sg) x k).toNat) sg := yMo_congr i0.symm i1.symm (by rw [yπ3 h3]; exact i2.symm) (fun c => by rw [yπ4 c]; exact (j4 c).symm) sg
  refine ⟨fun k => (ycm F (yWF F) (yMo F (yπ F x y z o) sg) x k).toNat, ⟨hI, hs, fun c => ?_⟩, i0, i1, i2, j4, ?_⟩
  · exact (hd c).trans (yhd_congr i0.symm i1.symm (by rw [yπ3 h3]; exact i2.symm) (by rw [yπ4 c]; exact (j4 c).symm))
  · unfold yopOf; rw [← hM]
    show _ = (ycm F (yWF F) (yMo F (yπ F x y z o) sg) ((ycm F (yWF F) (yMo F (yπ F x y z o) sg) x 0).toNat), sg, yMo F (yπ F x y z o) sg)
    rw [i0]
theorem ytr_mem {F : yF} {W : Int} {M : Nat → Int} {t : Nat} {sg : Int} {a : yO} : a ∈ ytr F W M t sg ↔ yall F W M t ∧ a = (ycm F W M t, sg, M) := by
  unfold ytr
  by_cases c : yall F W M t
  · rw [if_pos c, List.mem_singleton]; exact ⟨fun h => ⟨c, h⟩, fun h => h.2⟩
  · rw [if_neg c]; exact ⟨fun h => absurd h List.not_mem_nil, fun h => absurd h.1 c⟩
theorem yMo_f1 {F : yF} (h3 : y3 F ≠ -1) (c : yQ4 F = -1) (x y z o : Nat) : ymt (yJ (ysub F y x) (ysub F z x) (ycrs (ysub F y x) (ysub F z x))) (yXX F (yQ3 F) (yQ4 F)) = yMo F (yπ F x y z o) 1 := by
  unfold yMo xv3 xv1 xv2; rw [if_pos c, yπ0, yπ1, yπ3 h3]; simp only [Int.one_mul]
theorem yMo_f2 {F : yF} (h3 : y3 F ≠ -1) (c : yQ4 F = -1) (x y z o : Nat) : ymt (yJ (ysub F y x) (ysub F z x) (fun i => -ycrs (ysub F y x) (ysub F z x) i)) (yXX F (yQ3 F) (yQ4 F)) = yMo F (yπ F x y z o) (-1) := by
  unfold yMo xv3 xv1 xv2; rw [if_pos c, yπ0, yπ1, yπ3 h3]; simp only [Int.neg_mul, Int.one_mul]
theorem yMo_n {F : yF} (h3 : y3 F ≠ -1) (c : yQ4 F ≠ -1) (x y z o : Nat) (sg : Int) : ymt (yJ (ysub F y x) (ysub F z x) (ysub F o x)) (yXX F (yQ3 F) (yQ4 F)) = yMo F (yπ F x y z o) sg := by
  unfold yMo xv3 xv1 xv2; rw [if_neg c, yπ0, yπ1, yπ3 h3, yπ4 c]
theorem yhd_n {F : yF} (h3 : y3 F ≠ -1) (c : yQ4 F ≠ -1) (x y z o : Nat) : (if ydot (ycrs (ysub F y x) (ysub F z x)) (ysub F o x) = yWF F then (1 : Int) else -1) = yhd F (yπ F x y z o) := by
  unfold yhd xv1 xv2; rw [yπ0, yπ1, yπ3 h3, yπ4 c]
theorem yhd_s (F : yF) (π : Nat → Nat) : yhd F π = 1 ∨ yhd F π = -1 := by
  unfold yhd; split <;> simp

/-- what is found for three (four) images -/
noncomputable def yhits (F : yF) (x y z : Nat) : List yO := yfb F (yWF F) (yXX F (yQ3 F) (yQ4 F)) (yQ3 F) (yQ4 F) x y z
theorem yhits_sp {F : yF} (hW : yW F) (h3 : y3 F ≠ -1) {x y z : Nat} (hx : x < F.1) (hy : y < F.1) (hz : z < F.1) (d1 : ydist F x y = ydist F 0 1) (d2 : ydist F x z = ydist F 0 (yQ3 F)) (d3 : ydist F y z = ydist F 1 (yQ3 F)) :
    (∀ a ∈ yhits F x y z, ∃ π sg, yGo F π sg ∧ π 0 = x ∧ π 1 = y ∧ π (yQ3 F) = z ∧ a = yopOf F π sg) ∧ (yhits F x y z).Pairwise (fun a b => a ≠ b) := by
  unfold yhits yfb
  by_cases c : yQ4 F = -1
  · rw [if_pos c, yMo_f1 h3 c x y z 0, yMo_f2 h3 c x y z 0]
    have d4 : yQ4 F ≠ -1 → (0 : Nat) < F.1 ∧ ydist F 0 x = ydist F (yQ4 F).toNat 0 ∧ ydist F 0 y = ydist F (yQ4 F).toNat 1 ∧ ydist F 0 z = ydist F (yQ4 F).toNat (yQ3 F) := fun n => absurd c n
    constructor
    · intro a ha
      rcases List.mem_append.mp ha with q | q <;> obtain ⟨q1, q2⟩ := ytr_mem.mp q
      · obtain ⟨π, g, i0, i1, i2, _, e⟩ := yGo_of (sg := 1) hW h3 hx hy hz d1 d2 d3 d4 (Or.inl rfl) (fun n => absurd c n) q1
        exact ⟨π, 1, g, i0, i1, i2, q2.trans e⟩
      · obtain ⟨π, g, i0, i1, i2, _, e⟩ := yGo_of (sg := -1) hW h3 hx hy hz d1 d2 d3 d4 (Or.inr rfl) (fun n => absurd c n) q1
        exact ⟨π, -1, g, i0, i1, i2, q2.trans e⟩
    · have one : ∀ (W : Int) (M : Nat → Int) (t : Nat) (sg : Int), (ytr F W M t sg).Pairwise (fun a b => a ≠ b) := fun W M t sg => by
        unfold ytr
        by_cases h : yall F W M t
        · rw [if_pos h]; exact List.pairwise_singleton _ _
        · rw [if_neg h]; exact List.Pairwise.nil
      refine List.pairwise_append.mpr ⟨one _ _ _ _, one _ _ _ _, fun a ha b hb z => ?_⟩
      have e1 := (ytr_mem.mp ha).2
      have e2 := (ytr_mem.mp hb).2
      have : a.2.1 = b.2.1 := by rw [z]
      rw [e1, e2] at this
      exact absurd (show (1 : Int) = -1 from this) (by decide)
  · rw [if_neg c]
    have sp : ∀ o ∈ List.range F.1, ∀ a ∈ (if F.2 o 0 = F.2 (yQ4 F).toNat 0 ∧ ydist F o x = ydist F (yQ4 F).toNat 0 ∧ ydist F o y = ydist F (yQ4 F).toNat 1 ∧ ydist F o z = ydist F (yQ4 F).toNat (yQ3 F) then
        ytr F (yWF F) (ymt (yJ (ysub F y x) (ysub F z x) (ysub F o x)) (yXX F (yQ3 F) (yQ4 F))) x (if ydot (ycrs (ysub F y x) (ysub F z x)) (ysub F o x) = yWF F then 1 else -1) else []), ∃ π sg, yGo F π sg ∧ π 0 = x ∧ π 1 = y ∧ π (yQ3 F) = z ∧ π (yQ4 F).toNat = o ∧ a = yopOf F π sg := by
      intro o ho a ha
      have ho := List.mem_range.mp ho
      rw [yhd_n h3 c, yMo_n h3 c x y z o (yhd F (yπ F x y z o))] at ha
      split at ha
      · rename_i q
        obtain ⟨q1, q2⟩ := ytr_mem.mp ha
        obtain ⟨π, g, i0, i1, i2, i4, e⟩ := yGo_of hW h3 hx hy hz d1 d2 d3 (fun _ => ⟨ho, q.2⟩) (yhd_s F _) (fun _ => rfl) q1
        exact ⟨π, _, g, i0, i1, i2, i4 c, q2.trans e⟩
      · exact absurd ha List.not_mem_nil
    constructor
    · intro a ha
      obtain ⟨o, ho, ha⟩ := List.mem_flatMap.mp ha
      obtain ⟨π, sg, g, i0, i1, i2, _, e⟩ := sp o ho a ha
      exact ⟨π, sg, g, i0, i1, i2, e⟩
    · rw [List.pairwise_flatMap]
      refine ⟨fun o _ => ?_, ?_⟩
      · split
        · unfold ytr
          split
          · exact List.pairwise_singleton _ _
          · exact List.Pairwise.nil
        · exact List.Pairwise.nil
      · refine List.Pairwise.imp_of_mem (R := fun a b => a < b) (fun {o o'} ho ho' lt a ha b hb z => ?_) List.pairwise_lt_range
        obtain ⟨π, sg, g, _, _, _, i, e⟩ := sp o ho a ha
        obtain ⟨π', sg', g', _, _, _, i', e'⟩ := sp o' ho' b hb
        have r := yopOf_row hW h3 g (yQ4_bd c).1
        have r' := yopOf_row hW h3 g' (yQ4_bd c).1
        rw [← e, z, e', r', i, i'] at r
        omega
theorem yhits_mem {F : yF} (hW : yW F) (h3 : y3 F ≠ -1) {π : Nat → Nat} {sg : Int} (g : yGo F π sg) : yopOf F π sg ∈ yhits F (π 0) (π 1) (π (yQ3 F)) := by
  have b3 := yQ3_bd h3
  have al : yall F (yWF F) (yMo F π sg) (π 0) := fun k hk z => by
    have := yopOf_row hW h3 g hk
    unfold yopOf at this
    simp only [z] at this
    omega
  unfold yhits yfb
  by_cases c : yQ4 F = -1
  · rw [if_pos c, yMo_f1 h3 c _ _ _ 0, yMo_f2 h3 c _ _ _ 0, List.mem_append]
    have e : ∀ sg, yMo F (yπ F (π 0) (π 1) (π (yQ3 F)) 0) sg = yMo F π sg := yMo_congr rfl rfl (yπ3 h3 _ _ _ _) (fun n => absurd c n)
    rw [e, e]
    rcases g.s1 with q | q
    · left; rw [q] at al ⊢; exact ytr_mem.mpr ⟨al, rfl⟩
    · right; rw [q] at al ⊢; exact ytr_mem.mpr ⟨al, rfl⟩
  · rw [if_neg c]
    have b4 := yQ4_bd c
    refine List.mem_flatMap.mpr ⟨π (yQ4 F).toNat, List.mem_range.mpr (g.is.lt _ (by omega)), ?_⟩
    rw [if_pos ⟨g.is.kd _ (by omega), g.is.ds _ _ (by omega) (by omega), g.is.ds _ _ (by omega) (by omega), g.is.ds _ _ (by omega) (by omega)⟩, yhd_n h3 c, yMo_n h3 c _ _ _ _ (yhd F (yπ F (π 0) (π 1) (π (yQ3 F)) (π (yQ4 F).toNat)))]
    have e2 : yhd F (yπ F (π 0) (π 1) (π (yQ3 F)) (π (yQ4 F).toNat)) = yhd F π := yhd_congr rfl rfl (yπ3 h3 _ _ _ _) (yπ4 c _ _ _ _)
    have e : ∀ sg, yMo F (yπ F (π 0) (π 1) (π (yQ3 F)) (π (yQ4 F).toNat)) sg = yMo F π sg := yMo_congr rfl rfl (yπ3 h3 _ _ _ _) (fun _ => yπ4 c _ _ _ _)
    rw [e2, ← g.hd c, e]
    exact ytr_mem.mpr ⟨al, rfl⟩
theorem yops_nil {F : yF} (h3 : y3 F = -1) : yops F = [] := by unfold yops; rw [if_pos h3]
theorem yops_mem {F : yF} (hW : yW F) (h3 : y3 F ≠ -1) {a : yO} : a ∈ yops F ↔ ∃ π sg, yGo F π sg ∧ a = yopOf F π sg := by
  have b3 := yQ3_bd h3
  unfold yops
  rw [if_neg h3]
  constructor
  · intro h
    obtain ⟨x, hx, h⟩ := List.mem_flatMap.mp h
    unfold yfx at h
    split at h
    · obtain ⟨y, hy, h⟩ := List.mem_flatMap.mp h
      unfold yfy at h
      split at h
      · rename_i q1
        obtain ⟨z, hz, h⟩ := List.mem_flatMap.mp h
        unfold yfc at h
        split at h
        · rename_i q2
          obtain ⟨π, sg, g, _, _, _, e⟩ := (yhits_sp hW h3 (List.mem_range.mp hx) (List.mem_range.mp hy) (List.mem_range.mp hz) q1.2 q2.2.1 q2.2.2).1 a h
          exact ⟨π, sg, g, e⟩
        · exact absurd h List.not_mem_nil
      · exact absurd h List.not_mem_nil
    · exact absurd h List.not_mem_nil
  · rintro ⟨π, sg, g, rfl⟩
    refine List.mem_flatMap.mpr ⟨π 0, List.mem_range.mpr (g.is.lt _ (by omega)), ?_⟩
    unfold yfx
    rw [if_pos (g.is.kd _ (by omega))]
    refine List.mem_flatMap.mpr ⟨π 1, List.mem_range.mpr (g.is.lt _ (by omega)), ?_⟩
    unfold yfy
    rw [if_pos ⟨g.is.kd _ (by omega), g.is.ds _ _ (by omega) (by omega)⟩]
    refine List.mem_flatMap.mpr ⟨π (yQ3 F), List.mem_range.mpr (g.is.lt _ (by omega)), ?_⟩
    unfold yfc
    split
    · exact yhits_mem hW h3 g
    · rename_i q
      exact absurd ⟨g.is.kd (yQ3 F) (by omega), g.is.ds 0 (yQ3 F) (by omega) (by omega), g.is.ds 1 (yQ3 F) (by omega) (by omega)⟩ q
theorem yops_nd {F : yF} (hW : yW F) : (yops F).Pairwise (fun a b => a ≠ b) := by
  by_cases h3 : y3 F = -1
  · rw [yops_nil h3]; exact List.Pairwise.nil
  have b3 := yQ3_bd h3
  have sc : ∀ x y z a, x < F.1 → y < F.1 → z < F.1 → ydist F x y = ydist F 0 1 → a ∈ yfc F (yQ3 F) (yQ4 F) x y z → a.1 0 = (x : Int) ∧ a.1 1 = (y : Int) ∧ a.1 (yQ3 F) = (z : Int) := by
    intro x y z a hx hy hz d1 h
    unfold yfc at h
    split at h
    · rename_i q2
      obtain ⟨π, sg, g, i0, i1, i2, e⟩ := (yhits_sp hW h3 hx hy hz d1 q2.2.1 q2.2.2).1 a h
      rw [e, ← i0, ← i1, ← i2]
      exact ⟨yopOf_row hW h3 g (by omega), yopOf_row hW h3 g (by omega), yopOf_row hW h3 g (by omega)⟩
    · exact absurd h List.not_mem_nil
  have sy : ∀ x y a, x < F.1 → y < F.1 → a ∈ yfy F (yQ3 F) (yQ4 F) x y → a.1 0 = (x : Int) ∧ a.1 1 = (y : Int) := by
    intro x y a hx hy h
    unfold yfy at h
    split at h
    · rename_i q1
      obtain ⟨z, hz, h⟩ := List.mem_flatMap.mp h
      have := sc x y z a hx hy (List.mem_range.mp hz) q1.2 h
      exact ⟨this.1, this.2.1⟩
    · exact absurd h List.not_mem_nil
  have sx : ∀ x a, x < F.1 → a ∈ yfx F (yQ3 F) (yQ4 F) x → a.1 0 = (x : Int) := by
    intro x a hx h
    unfold yfx at h
    split at h
    · obtain ⟨y, hy, h⟩ := List.mem_flatMap.mp h
      exact (sy x y a hx (List.mem_range.mp hy) h).1
    · exact absurd h List.not_mem_nil
  unfold yops
  rw [if_neg h3, List.pairwise_flatMap]
  refine ⟨fun x hx => ?_, List.Pairwise.imp_of_mem (R := fun a b => a < b) (fun {o o'} ho ho' lt a ha b hb z => ?_) List.pairwise_lt_range⟩
  · have hx := List.mem_range.mp hx
    unfold yfx
    split
    · rw [List.pairwise_flatMap]
      refine ⟨fun y hy => ?_, List.Pairwise.imp_of_mem (R := fun a b => a < b) (fun {o o'} ho ho' lt a ha b hb z => ?_) List.pairwise_lt_range⟩
      · have hy := List.mem_range.mp hy
        unfold yfy
        split
        · rename_i q1
          rw [List.pairwise_flatMap]
          refine ⟨fun z hz => ?_, List.Pairwise.imp_of_mem (R := fun a b => a < b) (fun {o o'} ho ho' lt a ha b hb z => ?_) List.pairwise_lt_range⟩
          · have hz := List.mem_range.mp hz
            unfold yfc
            split
            · rename_i q2
              exact (yhits_sp hW h3 hx hy hz q1.2 q2.2.1 q2.2.2).2
            · exact List.Pairwise.nil
          · have e1 := (sc x y o a hx hy (List.mem_range.mp ho) q1.2 ha).2.2
            have e2 := (sc x y o' b hx hy (List.mem_range.mp ho') q1.2 hb).2.2
            rw [z, e2] at e1; omega
        · exact List.Pairwise.nil
      · have e1 := (sy x o a hx (List.mem_range.mp ho) ha).2
        have e2 := (sy x o' b hx (List.mem_range.mp ho') hb).2
        rw [z, e2] at e1; omega
    · exact List.Pairwise.nil
  · have e1 := sx o a (List.mem_range.mp ho) ha
    have e2 := sx o' b (List.mem_range.mp ho') hb
    rw [z, e2] at e1; omega
/-- rows and signs tell the map -/
theorem yopOf_key {F : yF} (h3 : y3 F ≠ -1) {π ρ : Nat → Nat} {sg sh : Int} (h : ∀ k, k < F.1 → π k = ρ k) (hs : sg = sh) : yopOf F π sg = yopOf F ρ sh := by
  have b3 := yQ3_bd h3
  have e := yMo_congr (F := F) (h 0 (by omega)) (h 1 (by omega)) (h (yQ3 F) (by omega)) (fun c => h _ (yQ4_bd c).1) sg
  unfold yopOf
  rw [e, hs, h 0 (by omega)]
theorem yahd_iff {n : Nat} {x y : yO} : yahd n x y = true ↔ (∃ k, k < n ∧ (∀ j, j < k → x.1 j = y.1 j) ∧ x.1 k < y.1 k) ∨ ((∀ j, j < n → x.1 j = y.1 j) ∧ y.2.1 < x.2.1) := by
  unfold yahd
  by_cases c : yfind (ydq x y) n 0 = -1
  · rw [if_pos c, decide_eq_true_iff]
    have al : ∀ j, j < n → x.1 j = y.1 j := fun j hj => by
      have := yfind_none.mp c j (by omega) (by omega)
      simpa [ydq] using this
    refine ⟨fun h => Or.inr ⟨al, h⟩, fun h => ?_⟩
    rcases h with ⟨k, hk, _, h⟩ | h
    · have := al k hk; omega
    · exact h.2
  · rw [if_neg c, decide_eq_true_iff]
    have ex : ∃ i, i < n ∧ ydq x y i = true := Classical.byContradiction fun no => c (yfind_no fun i hi => by
      cases q : ydq x y i with
      | false => rfl
      | true => exact absurd ⟨i, hi, q⟩ no)
    obtain ⟨s1, s2, s3, _⟩ := yfn_spec ex
    have s2 : x.1 (yfn (ydq x y) n) ≠ y.1 (yfn (ydq x y) n) := by simpa [ydq] using s2
    have s3 : ∀ j, j < yfn (ydq x y) n → x.1 j = y.1 j := fun j hj => by simpa [ydq] using s3 j hj
    refine ⟨fun h => Or.inl ⟨_, s1, s3, h⟩, fun h => ?_⟩
    rcases h with ⟨k, hk, h1, h2⟩ | h
    · by_cases lt : k < yfn (ydq x y) n
      · have := s3 k lt; omega
      · by_cases gt : yfn (ydq x y) n < k
        · exact absurd (h1 _ gt) s2
        · have : k = yfn (ydq x y) n := by omega
          rw [← this]; exact h2
    · exact absurd (h.1 _ s1) s2
def ysk (n : Nat) (x y : yO) : Prop := (∀ j, j < n → x.1 j = y.1 j) ∧ x.2.1 = y.2.1
theorem yahd_tri (n : Nat) (x y : yO) : yahd n x y = true ∨ yahd n y x = true ∨ ysk n x y := by
  by_cases h : ∀ j, j < n → x.1 j = y.1 j
  · by_cases l : y.2.1 < x.2.1
    · exact Or.inl (yahd_iff.mpr (Or.inr ⟨h, l⟩))
    · by_cases g : x.2.1 < y.2.1
      · exact Or.inr (Or.inl (yahd_iff.mpr (Or.inr ⟨fun j hj => (h j hj).symm, g⟩)))
      · exact Or.inr (Or.inr ⟨h, by omega⟩)
  · have ex : ∃ i, i < n ∧ ydq x y i = true := Classical.byContradiction fun no => h fun i hi => by
      cases q : ydq x y i with
      | false => simpa [ydq] using q
      | true => exact absurd ⟨i, hi, q⟩ no
    obtain ⟨s1, s2, s3, _⟩ := yfn_spec ex
    have s2 : x.1 (yfn (ydq x y) n) ≠ y.1 (yfn (ydq x y) n) := by simpa [ydq] using s2
    have s3 : ∀ j, j < yfn (ydq x y) n → x.1 j = y.1 j := fun j hj => by simpa [ydq] using s3 j hj
    by_cases l : x.1 (yfn (ydq x y) n) < y.1 (yfn (ydq x y) n)
    · exact Or.inl (yahd_iff.mpr (Or.inl ⟨_, s1, s3, l⟩))
    · exact Or.inr (Or.inl (yahd_iff.mpr (Or.inl ⟨_, s1, fun j hj => (s3 j hj).symm, by omega⟩)))
theorem yahd_trans {n : Nat} {x y z : yO} (h1 : yahd n x y = true) (h2 : yahd n y z = true) : yahd n x z = true := by
  rcases yahd_iff.mp h1 with ⟨k, hk, a, b⟩ | ⟨a, b⟩ <;> rcases yahd_iff.mp h2 with ⟨j, hj, c, d⟩ | ⟨c, d⟩
  · refine yahd_iff.mpr (Or.inl ?_)
    by_cases l : k < j
    · exact ⟨k, hk, fun i hi => (a i hi).trans (c i (by omega)), by rw [← c k l]; exact b⟩
    · by_cases g : j < k
      · exact ⟨j, hj, fun i hi => (a i (by omega)).trans (c i hi), by rw [a j g]; exact d⟩
      · have : j = k := by omega
        subst this
        exact ⟨j, hj, fun i hi => (a i hi).trans (c i hi), by omega⟩
  · exact yahd_iff.mpr (Or.inl ⟨k, hk, fun i hi => (a i hi).trans (c i (by omega)), by rw [← c k hk]; exact b⟩)
  · exact yahd_iff.mpr (Or.inl ⟨j, hj, fun i hi => (a i (by omega)).trans (c i hi), by rw [a j hj]; exact d⟩)
  · exact yahd_iff.mpr (Or.inr ⟨fun i hi => (a i hi).trans (c i hi), by omega⟩)
theorem yahd_skl {n : Nat} {x y z : yO} (h1 : ysk n x y) : yahd n x z = yahd n y z := by
  rw [Bool.eq_iff_iff, yahd_iff, yahd_iff]
  constructor
  · rintro (⟨k, hk, a, b⟩ | ⟨a, b⟩)
    · exact Or.inl ⟨k, hk, fun j hj => (h1.1 j (by omega)).symm.trans (a j hj), by rw [← h1.1 k hk]; exact b⟩
    · exact Or.inr ⟨fun j hj => (h1.1 j hj).symm.trans (a j hj), by rw [← h1.2]; exact b⟩
  · rintro (⟨k, hk, a, b⟩ | ⟨a, b⟩)
    · exact Or.inl ⟨k, hk, fun j hj => (h1.1 j (by omega)).trans (a j hj), by rw [h1.1 k hk]; exact b⟩
    · exact Or.inr ⟨fun j hj => (h1.1 j hj).trans (a j hj), by rw [h1.2]; exact b⟩
theorem yord_le (F : yF) : (yord F).Pairwise (fun x y => yahd F.1 y x = false) := by
  have := List.pairwise_mergeSort (le := fun x y => !yahd F.1 y x) (l := yops F) (fun a b c h1 h2 => by
    simp only [Bool.not_eq_true'] at *
    cases q : yahd F.1 c a with
    | false => rfl
    | true =>
      rcases yahd_tri F.1 a b with t | t | t
      · have := yahd_trans q t; rw [this] at h2; cases h2
      · rw [t] at h1; cases h1
      · have : yahd F.1 b c = false := by rw [← yahd_skl t]; exact yahd_asymm q
        rcases yahd_tri F.1 b c with u | u | u
        · rw [u] at this; cases this
        · rw [u] at h2; cases h2
        · have w : ysk F.1 a c := ⟨fun j hj => (t.1 j hj).trans (u.1 j hj), t.2.trans u.2⟩
          rw [← yahd_skl w, yahd_irrefl] at q
          cases q) (fun a b => by
    cases q : yahd F.1 b a with
    | false => rfl
    | true => rw [yahd_asymm q]; rfl)
  exact this.imp (fun h => by simpa using h)
theorem yops_key {F : yF} (hW : yW F) (h3 : y3 F ≠ -1) {a b : yO} (ha : a ∈ yops F) (hb : b ∈ yops F) (h : ysk F.1 a b) : a = b := by
  obtain ⟨π, sg, g, rfl⟩ := (yops_mem hW h3).mp ha
  obtain ⟨ρ, sh, g', rfl⟩ := (yops_mem hW h3).mp hb
  refine yopOf_key h3 (fun k hk => ?_) h.2
  have := h.1 k hk
  rw [yopOf_row hW h3 g hk, yopOf_row hW h3 g' hk] at this
  omega
/-- the maps in their order -/
theorem yord_lt {F : yF} (hW : yW F) : (yord F).Pairwise (fun x y => yahd F.1 x y = true) := by
  by_cases h3 : y3 F = -1
  · have := (yord_perm F).length_eq
    rw [yops_nil h3] at this
    have : yord F = [] := List.eq_nil_of_length_eq_zero this
    rw [this]; exact List.Pairwise.nil
  have nd : (yord F).Pairwise (fun a b => a ≠ b) := (yord_perm F).symm.pairwise (yops_nd hW) (fun h => h.symm)
  refine List.Pairwise.imp_of_mem (fun {a b} ha hb h => ?_) ((yord_le F).and nd)
  have ha := (yord_perm F).mem_iff.mp ha
  have hb := (yord_perm F).mem_iff.mp hb
  rcases yahd_tri F.1 a b with t | t | t
  · exact t
  · rw [t] at h; cases h.1
  · exact absurd (yops_key hW h3 ha hb t) h.2
