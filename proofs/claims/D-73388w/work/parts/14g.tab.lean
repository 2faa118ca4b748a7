/-! ===== maths: the table of a frame's maps is a group ===== -/
section
variable {F : yF}
theorem ysub_b (hW : yW F) {k o : Nat} (hk : k < F.1) (ho : o < F.1) : ∀ i, i < 3 → -100 ≤ ysub F k o i ∧ ysub F k o i ≤ 100 := fun _ hi => ysub_bd hW.2.2.1 hk ho hi
theorem yw2_b (hW : yW F) (h3 : y3 F ≠ -1) : ∀ i, i < 3 → -20000 ≤ yw2 F (yQ3 F) (yQ4 F) i ∧ yw2 F (yQ3 F) (yQ4 F) i ≤ 20000 := by
  have b3 := yQ3_bd h3
  intro i hi
  unfold yw2
  split
  · have := ycrs_bd (ysub_b hW (k := 1) (o := 0) (by omega) (by omega)) (ysub_b hW (k := yQ3 F) (o := 0) (by omega) (by omega)) i
    omega
  · rename_i c
    have := ysub_b hW (yQ4_bd c).1 (o := 0) (by omega) i hi
    omega
theorem v3_b (hW : yW F) (h3 : y3 F ≠ -1) {π : Nat → Nat} {sg : Int} (g : yGo F π sg) : ∀ i, i < 3 → -20000 ≤ xv3 F π sg i ∧ xv3 F π sg i ≤ 20000 := by
  have b3 := yQ3_bd h3
  intro i hi
  unfold xv3
  split
  · have := ycrs_bd (ysub_b hW (g.is.lt 1 (by omega)) (g.is.lt 0 (by omega))) (ysub_b hW (g.is.lt (yQ3 F) (by omega)) (g.is.lt 0 (by omega))) i
    unfold xv1 xv2
    rcases g.s1 with q | q <;> simp only [q] <;> omega
  · rename_i c
    have := ysub_b hW (g.is.lt _ (yQ4_bd c).1) (g.is.lt 0 (by omega)) i hi
    omega
theorem yWF_b (hW : yW F) (h3 : y3 F ≠ -1) : -1000000000000 ≤ yWF F ∧ yWF F ≤ 1000000000000 ∧ yWF F ≠ 0 := by
  have b3 := yQ3_bd h3
  have a := ysub_b hW (k := 1) (o := 0) (by omega) (by omega)
  have b := ysub_b hW (k := yQ3 F) (o := 0) (by omega) (by omega)
  have c := fun i (_ : i < 3) => ycrs_bd b (yw2_b hW h3) i
  have d := ydot_bd a c
  unfold yWF yWh
  refine ⟨by omega, by omega, fun z => yWF_ne h3 ?_⟩
  unfold yWF yWh; rw [z]; rfl
theorem yMo_b (hW : yW F) (h3 : y3 F ≠ -1) {π : Nat → Nat} {sg : Int} (g : yGo F π sg) {r : Nat} (hr : r < 9) : -1000000000000 ≤ yMo F π sg r ∧ yMo F π sg r ≤ 1000000000000 := by
  have b3 := yQ3_bd h3
  have a := ysub_b hW (k := 1) (o := 0) (by omega) (by omega)
  have b := ysub_b hW (k := yQ3 F) (o := 0) (by omega) (by omega)
  have c1 := ycrs_bd b (yw2_b hW h3) (r % 3)
  have c2 := ycrs_bd (yw2_b hW h3) a (r % 3)
  have c3 := ycrs_bd a b (r % 3)
  have d1 := ysub_b hW (g.is.lt 1 (by omega)) (g.is.lt 0 (by omega)) (r / 3) (by omega)
  have d2 := ysub_b hW (g.is.lt (yQ3 F) (by omega)) (g.is.lt 0 (by omega)) (r / 3) (by omega)
  have d3 := v3_b hW h3 g (r / 3) (by omega)
  have p1 := ymul_b d1 c1
  have p2 := ymul_b d2 c2
  have p3 := ymul_b d3 c3
  unfold yMo ymt yXX yJ xv1 xv2
  rw [if_pos (by omega), if_pos (by omega), if_neg (by omega), if_pos (by omega), if_neg (by omega), if_pos (by omega), if_neg (by omega), if_neg (by omega), if_neg (by omega), if_neg (by omega)]
  rw [show 3 + r / 3 - 3 = r / 3 by omega, show 3 + r % 3 - 3 = r % 3 by omega, show 6 + r / 3 - 6 = r / 3 by omega, show 6 + r % 3 - 6 = r % 3 by omega]
  omega
theorem yops_ok (hW : yW F) (h3 : y3 F ≠ -1) : ∀ x ∈ yops F, yOk F.1 x := by
  intro x hx
  obtain ⟨π, sg, g, rfl⟩ := (yops_mem hW h3).mp hx
  refine ⟨fun k hk => ?_, g.s1, fun r hr => yMo_b hW h3 g hr⟩
  rw [yopOf_row hW h3 g hk]
  have := g.is.lt k hk
  omega
/-- map i of the table -/
structure yAt (F : yF) (i : Nat) (π : Nat → Nat) (sg : Int) : Prop where
  lt : i < (yord F).length
  go : yGo F π sg
  eq : ylg (yord F) i = yopOf F π sg
theorem at_ex (hW : yW F) (h3 : y3 F ≠ -1) {i : Nat} (hi : i < Tm (yTF F)) : ∃ π sg, yAt F i π sg := by
  obtain ⟨π, sg, g, e⟩ := (yops_mem hW h3).mp ((yord_perm F).mem_iff.mp (ylg_mem hi))
  exact ⟨π, sg, hi, g, e⟩
theorem at_of (hW : yW F) (h3 : y3 F ≠ -1) {π : Nat → Nat} {sg : Int} (g : yGo F π sg) : ∃ i, yAt F i π sg := by
  have := (yord_perm F).mem_iff.mpr ((yops_mem hW h3).mpr ⟨π, sg, g, rfl⟩)
  obtain ⟨i, hi, e⟩ := List.mem_iff_getElem.mp this
  refine ⟨i, hi, g, ?_⟩
  rw [← e]; unfold ylg; rw [List.getElem?_eq_getElem hi]; rfl
theorem at_inj (hW : yW F) (h3 : y3 F ≠ -1) {i j : Nat} {π ρ : Nat → Nat} {sg sh : Int} (h : yAt F i π sg) (g : yAt F j ρ sh) (e : ∀ k, k < F.1 → π k = ρ k) (es : sg = sh) : i = j := by
  have q : ylg (yord F) i = ylg (yord F) j := by rw [h.eq, g.eq]; exact yopOf_key h3 e es
  rw [← yrk_sorted (yord_lt hW) h.lt, ← yrk_sorted (yord_lt hW) g.lt, q]
theorem yAt.R (hW : yW F) (h3 : y3 F ≠ -1) {i : Nat} {π : Nat → Nat} {sg : Int} (h : yAt F i π sg) {k : Nat} (hk : k < F.1) : TR (yTF F) i k = π k := by
  show ((ylg (yord F) i).1 k).toNat = π k
  rw [h.eq, yopOf_row hW h3 h.go hk, Int.toNat_natCast]
theorem yAt.g {i : Nat} {π : Nat → Nat} {sg : Int} (h : yAt F i π sg) : Tg (yTF F) i = sg := by
  show (ylg (yord F) i).2.1 = sg
  rw [h.eq]; rfl
theorem yAt.uniq (hW : yW F) (h3 : y3 F ≠ -1) {i : Nat} {π ρ : Nat → Nat} {sg sh : Int} (h : yAt F i π sg) (g : yAt F i ρ sh) : (∀ k, k < F.1 → π k = ρ k) ∧ sg = sh :=
  ⟨fun k hk => by rw [← h.R hW h3 hk, ← g.R hW h3 hk], by rw [← h.g, ← g.g]⟩
theorem at_thq (hW : yW F) (h3 : y3 F ≠ -1) {a b c : Nat} {π ρ σ : Nat → Nat} {sg sh si : Int} (ha : yAt F a π sg) (hb : yAt F b ρ sh) (hc : yAt F c σ si) : ythq (yTF F) a b c = true ↔ (∀ k, k < F.1 → σ k = ρ (π k)) ∧ si = sg * sh := by
  unfold ythq
  rw [Bool.and_eq_true, decide_eq_true_iff, yallb_iff, hc.g, ha.g, hb.g]
  constructor
  · rintro ⟨q1, q2⟩
    refine ⟨fun k hk => ?_, q1⟩
    have := of_decide_eq_true (q2 k hk)
    rw [hc.R hW h3 hk, ha.R hW h3 hk, hb.R hW h3 (ha.go.is.lt k hk)] at this
    exact this
  · rintro ⟨q1, q2⟩
    refine ⟨q2, fun k hk => ?_⟩
    rw [decide_eq_true_iff, hc.R hW h3 hk, ha.R hW h3 hk, hb.R hW h3 (ha.go.is.lt k hk)]
    exact q1 k hk
theorem at_cl (hW : yW F) (h3 : y3 F ≠ -1) {a b : Nat} (ha : a < Tm (yTF F)) (hb : b < Tm (yTF F)) : ∃ c, c < Tm (yTF F) ∧ ythq (yTF F) a b c = true := by
  obtain ⟨π, sg, pa⟩ := at_ex hW h3 ha
  obtain ⟨ρ, sh, pb⟩ := at_ex hW h3 hb
  obtain ⟨c, pc⟩ := at_of hW h3 (pa.go.comp h3 pb.go)
  exact ⟨c, pc.lt, (at_thq hW h3 pa pb pc).mpr ⟨fun _ _ => rfl, rfl⟩⟩
theorem at_th (hW : yW F) (h3 : y3 F ≠ -1) {a b : Nat} {π ρ : Nat → Nat} {sg sh : Int} (pa : yAt F a π sg) (pb : yAt F b ρ sh) : yAt F (yth (yTF F) a b) (fun k => ρ (π k)) (sg * sh) := by
  obtain ⟨l, q, _, _⟩ := yfn_spec (at_cl hW h3 pa.lt pb.lt)
  obtain ⟨σ, si, pc⟩ := at_ex hW h3 l
  have e := (at_thq hW h3 pa pb pc).mp q
  obtain ⟨c, pd⟩ := at_of hW h3 (pa.go.comp h3 pb.go)
  have := at_inj hW h3 pc pd e.1 e.2
  unfold yth
  rw [this]; exact pd
theorem at_0 (hW : yW F) (h3 : y3 F ≠ -1) : yAt F 0 (fun k => k) 1 := by
  obtain ⟨i, p⟩ := at_of hW h3 (yGo.id h3)
  by_cases z : i = 0
  · rw [z] at p; exact p
  have l0 : 0 < (yord F).length := by have := p.lt; omega
  obtain ⟨π, sg, p0⟩ := at_ex hW h3 (i := 0) l0
  have s := List.pairwise_iff_getElem.mp (yord_lt hW) 0 i l0 p.lt (by omega)
  have g0 : ∀ j (h : j < (yord F).length), (yord F)[j] = ylg (yord F) j := fun j h => by unfold ylg; rw [List.getElem?_eq_getElem h]; rfl
  rw [g0, g0, p.eq, p0.eq] at s
  rcases yahd_iff.mp s with ⟨k, hk, a, b⟩ | ⟨a, b⟩
  · rw [yopOf_row hW h3 p0.go hk, yopOf_row hW h3 p.go hk] at b
    have b : π k < k := by omega
    have a := a (π k) b
    rw [yopOf_row hW h3 p0.go (by omega), yopOf_row hW h3 p.go (by omega)] at a
    have := p0.go.is.inj hW (k := π k) (j := k) (by omega) hk (by omega)
    omega
  · have b : (1 : Int) < sg := b
    rcases p0.go.s1 with q | q <;> omega
theorem yTF_n (h3 : y3 F ≠ -1) : 3 ≤ F.1 := by have := yQ3_bd h3; omega
/-- the rotation of a map of the table; its trace -/
theorem at_tr (h3 : y3 F ≠ -1) {i : Nat} {π : Nat → Nat} {sg : Int} (h : yAt F i π sg) : ∃ z : Int, xtr (xsm sg (xB F π sg)) = (z : Rat) ∧ (-1 ≤ z ∧ z ≤ 3) ∧ Tt (yTF F) i = sg * z := by
  have it := yRt.int h3 ⟨π, sg, h.go, rfl⟩
  obtain ⟨z, e, b⟩ : ∃ z : Int, xtr (xsm sg (xB F π sg)) = (z : Rat) ∧ (-1 ≤ z ∧ z ≤ 3) := by
    rcases it with q | q | q | q | q <;> rw [q]
    · exact ⟨-1, rfl, by omega⟩
    · exact ⟨0, rfl, by omega⟩
    · exact ⟨1, rfl, by omega⟩
    · exact ⟨2, rfl, by omega⟩
    · exact ⟨3, rfl, by omega⟩
  refine ⟨z, e, b, ?_⟩
  show ((ylg (yord F) i).2.2 0 + (ylg (yord F) i).2.2 4 + (ylg (yord F) i).2.2 8).tdiv (yWF F) = sg * z
  rw [h.eq]
  show (yMo F π sg 0 + yMo F π sg 4 + yMo F π sg 8).tdiv (yWF F) = sg * z
  have w := w1 h3
  have w0 := yWF_ne h3
  have s2 := ysq h.go.s1
  unfold xB xA at e
  simp only [xtr, xsm, xMm] at e
  have q : ((yMo F π sg 0 + yMo F π sg 4 + yMo F π sg 8 : Int) : Rat) = ((sg * z * yWF F : Int) : Rat) := by
    push_cast
    rw [← e]
    generalize (yMo F π sg 0 : Rat) = a at *
    generalize (yMo F π sg 4 : Rat) = b at *
    generalize (yMo F π sg 8 : Rat) = c at *
    generalize (sg : Rat) = s at *
    generalize (yWF F : Rat) = W at *
    generalize 1 / W = v at *
    have : s * (s * (v * a) + s * (v * b) + s * (v * c)) * W = (s * s) * (v * W) * (a + b + c) := by grind
    rw [this, s2, w]; grind
  rw [yqi.mp q]
  exact Int.mul_tdiv_cancel _ (fun z => w0 (by rw [z]; rfl))
/-- all of what the tables need but the bounds of sizes -/
theorem yV_of (hW : yW F) (h3 : y3 F ≠ -1) (h48 : (yops F).length ≤ 48) (hK : yK (yTF F) ≤ 12) : yV (yTF F) := by
  have m := (yord_perm F).length_eq
  have a0 := at_0 hW h3
  refine ⟨⟨yTF_n h3, hW.1⟩, ⟨a0.lt, by rw [← m] at h48; exact h48⟩, fun i hi k hk => ?_, fun i hi => ?_, fun i hi => ?_, fun i hi r hr => ?_, yWF_b hW h3, fun a b ha hb => at_cl hW h3 ha hb, fun a ha => ?_, fun a b c ha hb hc => ?_, fun a ha => ?_, hK, fun k hk => ?_⟩
  · obtain ⟨π, sg, p⟩ := at_ex hW h3 hi
    rw [p.R hW h3 hk]; exact p.go.is.lt k hk
  · obtain ⟨π, sg, p⟩ := at_ex hW h3 hi
    rw [p.g]; exact p.go.s1
  · obtain ⟨π, sg, p⟩ := at_ex hW h3 hi
    obtain ⟨z, _, b, e⟩ := at_tr h3 p
    rw [e]
    rcases p.go.s1 with q | q <;> rw [q] <;> omega
  · obtain ⟨π, sg, p⟩ := at_ex hW h3 hi
    show -1000000000000 ≤ (ylg (yord F) i).2.2 r ∧ (ylg (yord F) i).2.2 r ≤ 1000000000000
    rw [p.eq]
    exact yMo_b hW h3 p.go hr
  · obtain ⟨π, sg, p⟩ := at_ex hW h3 ha
    exact ⟨at_inj hW h3 (at_th hW h3 a0 p) p (fun _ _ => rfl) (Int.one_mul _), at_inj hW h3 (at_th hW h3 p a0) p (fun _ _ => rfl) (Int.mul_one _)⟩
  · obtain ⟨π, sg, p⟩ := at_ex hW h3 ha
    obtain ⟨ρ, sh, q⟩ := at_ex hW h3 hb
    obtain ⟨σ, si, r⟩ := at_ex hW h3 hc
    exact at_inj hW h3 (at_th hW h3 (at_th hW h3 p q) r) (at_th hW h3 p (at_th hW h3 q r)) (fun _ _ => rfl) (Int.mul_assoc _ _ _)
  · obtain ⟨π, sg, p⟩ := at_ex hW h3 ha
    obtain ⟨ρ, g, l, r⟩ := p.go.inv hW h3
    obtain ⟨b, q⟩ := at_of hW h3 g
    exact ⟨b, q.lt, at_inj hW h3 (at_th hW h3 p q) a0 l (ysq1 p.go.s1), at_inj hW h3 (at_th hW h3 q p) a0 r (ysq1 p.go.s1)⟩
  · exact a0.R hW h3 hk
end
