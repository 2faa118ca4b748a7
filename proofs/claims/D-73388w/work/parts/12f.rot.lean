section
variable {R : xM → Prop} {T : Nat → xV}
theorem xtet.mat (h : xtet T) : ∀ s : xM, 4 * xtr s = xdot (T 0) (xap s (T 0)) + xdot (T 1) (xap s (T 1)) + xdot (T 2) (xap s (T 2)) + xdot (T 3) (xap s (T 3)) := by
  intro s
  have f1 := h.frame ⟨1, 0, 0⟩
  have f2 := h.frame ⟨0, 1, 0⟩
  have f3 := h.frame ⟨0, 0, 1⟩
  have a1 := congrArg xV.x f1
  have a2 := congrArg xV.y f1
  have a3 := congrArg xV.z f1
  have b1 := congrArg xV.x f2
  have b2 := congrArg xV.y f2
  have b3 := congrArg xV.z f2
  have c1 := congrArg xV.x f3
  have c2 := congrArg xV.y f3
  have c3 := congrArg xV.z f3
  clear f1 f2 f3
  generalize T 0 = u at *
  generalize T 1 = v at *
  generalize T 2 = w at *
  generalize T 3 = x at *
  simp only [xsc, xadd, xdot, xap, xtr] at *
  grind
/-- the map is told by what it does to the four ways -/
theorem xtet.inj (h : xtet T) {r s : xM} (hq : ∀ i, i < 4 → xap r (T i) = xap s (T i)) : r = s := by
  have key : ∀ x : xV, xap r x = xap s x := fun x => by
    have e := h.frame x
    have e1 := congrArg (xap r) e
    have e2 := congrArg (xap s) e
    simp only [xap_add, xap_sc] at e1 e2
    rw [hq 0 (by omega), hq 1 (by omega), hq 2 (by omega), hq 3 (by omega), ← e2] at e1
    have a1 := congrArg xV.x e1
    have a2 := congrArg xV.y e1
    have a3 := congrArg xV.z e1
    simp only [xsc] at a1 a2 a3
    apply xV.eq <;> grind
  have k1 := key ⟨1, 0, 0⟩
  have k2 := key ⟨0, 1, 0⟩
  have k3 := key ⟨0, 0, 1⟩
  simp only [xap, xV.mk.injEq] at k1 k2 k3
  apply xM.eq <;> grind
theorem xdet_sc (e : Rat) (u v w : xV) : xdet (xsc e u) (xsc e v) (xsc e w) = e * e * e * xdet u v w := by simp only [xdet, xdot, xcr, xsc]; grind
theorem xrot.det {r : xM} (h : xrot r) (u v w : xV) : xdet (xap r u) (xap r v) (xap r w) = xdet u v w := by
  unfold xdet; rw [h.cr, h.dot]
theorem xtet.D (h : xtet T) : xdet (T 0) (T 1) (T 2) ≠ 0 := by
  intro z
  have q := xdet_sq (T 0) (T 1) (T 2)
  rw [z, h.n 0 (by omega), h.n 1 (by omega), h.n 2 (by omega), h.d 0 1 (by omega) (by omega) (by omega), h.d 0 2 (by omega) (by omega) (by omega), h.d 1 2 (by omega) (by omega) (by omega)] at q
  grind
theorem xtet.sg (h : xtet T) : ∀ p, p < 24 → xdet (T (xtab p 0)) (T (xtab p 1)) (T (xtab p 2)) = ((xsS p : Int) : Rat) * xdet (T 0) (T 1) (T 2) := by
  have hs := h.s
  refine xtab_all (C := fun a b c _ s _ => xdet (T a) (T b) (T c) = ((s : Int) : Rat) * xdet (T 0) (T 1) (T 2)) ?_ ?_ ?_ ?_ ?_ ?_ ?_ ?_ ?_ ?_ ?_ ?_ ?_ ?_ ?_ ?_ ?_ ?_ ?_ ?_ ?_ ?_ ?_ ?_ <;> (try rw [hs]) <;> simp only [xdet, xdot, xcr, xadd, xng] <;> grind
theorem xtet.fx (h : xtet T) : ∀ p, p < 24 → xdot (T 0) (T (xtab p 0)) + xdot (T 1) (T (xtab p 1)) + xdot (T 2) (T (xtab p 2)) + xdot (T 3) (T (xtab p 3)) = 4 * (((xfS p : Int) : Rat) - 1) := by
  have n := h.n
  have d := h.d
  refine xtab_all (C := fun a b c e _ f => xdot (T 0) (T a) + xdot (T 1) (T b) + xdot (T 2) (T c) + xdot (T 3) (T e) = 4 * (((f : Int) : Rat) - 1)) ?_ ?_ ?_ ?_ ?_ ?_ ?_ ?_ ?_ ?_ ?_ ?_ ?_ ?_ ?_ ?_ ?_ ?_ ?_ ?_ ?_ ?_ ?_ ?_ <;> simp (disch := decide) only [n, d] <;> grind
def xtS (p : Nat) : Int := xsS p * (xfS p - 1)
theorem xsS_pm (p : Nat) : xsS p = 1 ∨ xsS p = -1 := by unfold xsS; split <;> omega
theorem xG.embS (G : xG R) (h : xtet T) (hT : ∀ i, i < 4 → xX R (T i)) : ∃ Φ, xEmb R 24 xmS xtS Φ := by
  have P : ∀ s, ∃ p, R s → p < 24 ∧ ∀ i, i < 4 → xap s (T i) = xsc ((xsS p : Int) : Rat) (T (xtab p i)) := fun s => by
    by_cases hs : R s
    · obtain ⟨p, e, hp, he, q⟩ := G.perm h hT hs
      refine ⟨p, fun _ => ⟨hp, ?_⟩⟩
      have d := (G.rot hs).det (T 0) (T 1) (T 2)
      rw [q 0 (by omega), q 1 (by omega), q 2 (by omega), xdet_sc, h.sg p hp] at d
      have D := h.D
      generalize xdet (T 0) (T 1) (T 2) = D' at *
      have : e = ((xsS p : Int) : Rat) := by
        have : e * e * e * ((xsS p : Int) : Rat) = 1 := by grind
        rcases he with w | w <;> rcases xsS_pm p with v | v <;> rw [w, v] at this <;> rw [w, v] <;> grind
      rw [← this]; exact q
    · exact ⟨0, fun z => absurd z hs⟩
  obtain ⟨Φ, S⟩ := Classical.axiomOfChoice P
  refine ⟨Φ, ?_⟩
  have S : ∀ s, R s → Φ s < 24 ∧ ∀ i, i < 4 → xap s (T i) = xsc ((xsS (Φ s) : Int) : Rat) (T (xtab (Φ s) i)) := S
  have pm : ∀ p, ((xsS p : Int) : Rat) = 1 ∨ ((xsS p : Int) : Rat) = -1 := fun p => by rcases xsS_pm p with v | v <;> rw [v] <;> grind
  refine ⟨fun hr => (S _ hr).1, fun {r s} hr hs => ?_, fun {r s} hr hs e => ?_, fun {r} hr => ?_⟩
  · obtain ⟨l1, q1⟩ := S _ hr
    obtain ⟨l2, q2⟩ := S _ hs
    obtain ⟨l3, q3⟩ := S _ (G.mul hr hs)
    obtain ⟨l4, q4⟩ := xtab_mul _ l1 _ l2
    have key : ∀ i, i < 4 → xtab (Φ (xmul r s)) i = xtab (xmS (Φ r) (Φ s)) i := fun i hi => by
      have e := q3 i hi
      rw [xap_mul, q2 i hi, xap_sc, q1 _ (xtab_lt _ _)] at e
      have e' : xsc ((xsS (Φ s) : Int) : Rat) (xsc ((xsS (Φ r) : Int) : Rat) (T (xtab (Φ r) (xtab (Φ s) i)))) = xsc (((xsS (Φ s) : Int) : Rat) * ((xsS (Φ r) : Int) : Rat)) (T (xtab (Φ r) (xtab (Φ s) i))) := by
        apply xV.eq <;> simp only [xsc] <;> grind
      rw [e'] at e
      rw [q4 i hi]
      refine (h.ne (xtab_lt _ _) (xtab_lt _ _) ?_ (pm _) e).1.symm
      rcases pm (Φ s) with v | v <;> rcases pm (Φ r) with w | w <;> rw [v, w] <;> grind
    exact xtab_inj _ l3 _ l4 ⟨key 0 (by omega), key 1 (by omega), key 2 (by omega), key 3 (by omega)⟩
  · refine h.inj (fun i hi => ?_)
    rw [(S _ hr).2 i hi, (S _ hs).2 i hi, e]
  · have m := h.mat r
    obtain ⟨l1, q1⟩ := S _ hr
    rw [q1 0 (by omega), q1 1 (by omega), q1 2 (by omega), q1 3 (by omega), xdot_sc, xdot_sc, xdot_sc, xdot_sc] at m
    have f := h.fx _ l1
    unfold xtS
    have : ((xsS (Φ r) * (xfS (Φ r) - 1) : Int) : Rat) = ((xsS (Φ r) : Int) : Rat) * (((xfS (Φ r) : Int) : Rat) - 1) := by
      rw [Rat.intCast_mul, Rat.intCast_sub]; rfl
    rw [this]
    grind
end
