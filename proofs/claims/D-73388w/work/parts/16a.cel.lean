/-! ===== maths: cells: each step is an equivalence; rigid maps keep cells ===== -/
structure yEq (n : Nat) (S : yP) : Prop where
  r : ∀ k, k < n → S k k = true
  s : ∀ k o, k < n → o < n → S k o = true → S o k = true
  t : ∀ k o p, k < n → o < n → p < n → S k o = true → S o p = true → S k p = true
section
variable {F : yF} {S : yP}
def yat9 (F : yF) (S : yP) (k z : Nat) (v : Int) : Int := ycnt (yfarq F S k z v) F.1
theorem yat9_sum (hp : yplaced F) {k z : Nat} (hk : k < F.1) : ysum (fun v => yat9 F S k z (v : Int)) 30001 = ycnt (S z) F.1 := by
  have e : ysum (fun v => yat9 F S k z (v : Int)) 30001 = ysum (fun v => ysum (fun w => if yfarq F S k z (v : Int) w = true then 1 else 0) F.1) 30001 := ysum_cg fun v _ => ycnt_sum _ _
  rw [e, ysum_swap, ycnt_sum]
  refine ysum_cg fun w hw => ?_
  have b := ydist_bd hp hk hw
  obtain ⟨d, hd⟩ := Int.eq_ofNat_of_zero_le b.1
  have := ysum_del (fun _ => if S z w = true then 1 else 0) d 30001
  rw [if_pos (show d < 30001 by omega)] at this
  refine Eq.trans ?_ this
  refine ysum_cg fun v _ => ?_
  unfold yfarq
  by_cases c : v = d
  · rw [if_pos c, c, hd]; simp
  · rw [if_neg c, if_neg]
    rw [Bool.and_eq_true, decide_eq_true_iff, hd]
    intro z; have := z.2; omega
/-- as many at each distance -/
theorem ylike_all (hp : yplaced F) (E : yEq F.1 S) {k o : Nat} (hk : k < F.1) (ho : o < F.1) : (∀ z, z < F.1 → ylike F S k o z = true) ↔ ∀ z, z < F.1 → ∀ v : Nat, yat9 F S k z (v : Int) = yat9 F S o z (v : Int) := by
  constructor
  · intro h z hz v
    have cl : ∀ w, w < F.1 → S z w = true → ∀ a v, yat9 F S a w v = yat9 F S a z v := fun w hw q a v => ycnt_congr fun u hu => by
      unfold yfarq
      congr 1
      rw [Bool.eq_iff_iff]
      exact ⟨fun g => E.t z w u hz hw hu q g, fun g => E.t w z u hw hz hu (E.s z w hz hw q) g⟩
    have le : ∀ v : Nat, yat9 F S k z (v : Int) ≤ yat9 F S o z (v : Int) := fun v => by
      by_cases c : ∃ w, w < F.1 ∧ S z w = true ∧ ydist F k w = (v : Int)
      · obtain ⟨w, hw, q, d⟩ := c
        have := of_decide_eq_true (h w hw)
        rw [← cl w hw q, ← cl w hw q, ← d]
        exact Int.le_of_eq this
      · have z0 : yat9 F S k z (v : Int) = 0 := ycnt_up (n := 0) _ (fun w hw => by
          cases q : yfarq F S k z (v : Int) w with
          | false => rfl
          | true =>
            unfold yfarq at q
            rw [Bool.and_eq_true, decide_eq_true_iff] at q
            exact absurd ⟨w, hw, q⟩ c)
        rw [z0]; exact (ycnt_bd _ _).1
    have s1 := yat9_sum (S := S) hp (z := z) hk
    have s2 := yat9_sum (S := S) hp (z := z) ho
    refine Classical.byContradiction fun ne => ?_
    by_cases hv : v < 30001
    · have := ysum_lt (f := fun v : Nat => yat9 F S k z (v : Int)) (g := fun v : Nat => yat9 F S o z (v : Int)) (n := 30001) (i := v) (fun v _ => le v) hv (by have := le v; omega)
      omega
    · have far : ∀ a, a < F.1 → yat9 F S a z (v : Int) = 0 := fun a ha => ycnt_up (n := 0) _ (fun w hw => by
        cases q : yfarq F S a z (v : Int) w with
        | false => rfl
        | true =>
          unfold yfarq at q
          rw [Bool.and_eq_true, decide_eq_true_iff] at q
          have := ydist_bd hp ha hw
          omega)
      exact ne (by rw [far k hk, far o ho])
  · intro h z hz
    obtain ⟨d, hd⟩ := Int.eq_ofNat_of_zero_le (ydist_bd hp hk hz).1
    unfold ylike
    rw [decide_eq_true_iff, hd]
    exact h z hz d
theorem yref_iff {k o : Nat} : yref F S k o = true ↔ S k o = true ∧ ∀ z, z < F.1 → ylike F S k o z = true := by
  unfold yref
  rw [Bool.and_eq_true, decide_eq_true_iff, yfind_none]
  refine and_congr Iff.rfl ⟨fun h z hz => ?_, fun h z _ hz => ?_⟩
  · have := h z (by omega) (by omega); simpa using this
  · rw [h z (by omega)]; rfl
theorem yref_eq (hp : yplaced F) (E : yEq F.1 S) : yEq F.1 (yref F S) := by
  have key : ∀ k o, k < F.1 → o < F.1 → (yref F S k o = true ↔ S k o = true ∧ ∀ z, z < F.1 → ∀ v : Nat, yat9 F S k z (v : Int) = yat9 F S o z (v : Int)) := fun k o hk ho => by
    rw [yref_iff, ylike_all hp E hk ho]
  refine ⟨fun k hk => (key k k hk hk).mpr ⟨E.r k hk, fun _ _ _ => rfl⟩, fun k o hk ho q => ?_, fun k o p hk ho hp' q r => ?_⟩
  · have := (key k o hk ho).mp q
    exact (key o k ho hk).mpr ⟨E.s k o hk ho this.1, fun z hz v => (this.2 z hz v).symm⟩
  · have a := (key k o hk ho).mp q
    have b := (key o p ho hp').mp r
    exact (key k p hk hp').mpr ⟨E.t k o p hk ho hp' a.1 b.1, fun z hz v => (a.2 z hz v).trans (b.2 z hz v)⟩
theorem yit_eq (hp : yplaced F) : ∀ t, yEq F.1 (yit F t) := by
  intro t
  induction t with
  | zero => exact ⟨fun k _ => by simp [yit], fun k o _ _ q => by simp only [yit, decide_eq_true_iff] at q ⊢; exact q.symm, fun k o p _ _ _ q r => by simp only [yit, decide_eq_true_iff] at q r ⊢; exact q.trans r⟩
  | succ t ih => exact yref_eq hp ih
/-- a rigid map takes an atom into its own cell -/
theorem yIs.it (hW : yW F) {π : Nat → Nat} (h : yIs F π) : ∀ t k, k < F.1 → yit F t k (π k) = true := by
  intro t
  induction t with
  | zero => intro k hk; simp only [yit, decide_eq_true_iff]; exact (h.kd k hk).symm
  | succ t ih =>
    intro k hk
    have hp : yplaced F := hW.2.2.1
    have E := yit_eq (F := F) hp t
    refine yref_iff.mpr ⟨ih k hk, fun z hz => ?_⟩
    unfold ylike
    rw [decide_eq_true_iff]
    refine Int.le_antisymm ?_ ?_
    · refine ycnt_inj (f := π) F.1 F.1 (fun w hw q => ⟨h.lt w hw, ?_⟩) (fun i j hi hj _ _ e => h.inj hW hi hj e)
      unfold yfarq at q ⊢
      rw [Bool.and_eq_true, decide_eq_true_iff] at q ⊢
      exact ⟨E.t z w (π w) hz hw (h.lt w hw) q.1 (ih w hw), by rw [h.ds k w hk hw]; exact q.2⟩
    · have sur := fun o ho => yinj_surj (f := π) h.lt (fun k j hk hj e => h.inj hW hk hj e) (o := o) ho
      let ρ : Nat → Nat := fun o => if ho : o < F.1 then Classical.choose (sur o ho) else 0
      have r : ∀ o, o < F.1 → ρ o < F.1 ∧ π (ρ o) = o := fun o ho => by
        show (if ho : o < F.1 then Classical.choose (sur o ho) else 0) < F.1 ∧ π (if ho : o < F.1 then Classical.choose (sur o ho) else 0) = o
        rw [dif_pos ho]; exact Classical.choose_spec (sur o ho)
      refine ycnt_inj (f := ρ) F.1 F.1 (fun w hw q => ⟨(r w hw).1, ?_⟩) (fun i j hi hj _ _ e => by rw [← (r i hi).2, e, (r j hj).2])
      unfold yfarq at q ⊢
      rw [Bool.and_eq_true, decide_eq_true_iff] at q ⊢
      have rw' := r w hw
      have i1 := ih (ρ w) rw'.1
      rw [rw'.2] at i1
      refine ⟨E.t z w (ρ w) hz hw rw'.1 q.1 (E.s _ _ rw'.1 hw i1), ?_⟩
      rw [← h.ds k (ρ w) hk rw'.1, rw'.2]; exact q.2
/-- the least of a cell at step t -/
def yct9 (F : yF) (t k : Nat) : Nat := (yfind (yit F t k) F.1 0).toNat
theorem yct9_sp (t : Nat) {k : Nat} (hk : k < F.1) : yct9 F t k < F.1 ∧ yit F t k (yct9 F t k) = true ∧ (∀ o, o < yct9 F t k → yit F t k o = false) ∧ yfind (yit F t k) F.1 0 = (yct9 F t k : Int) := by
  have := yfn_spec (q := yit F t k) (n := F.1) ⟨k, hk, by
    induction t with
    | zero => simp [yit]
    | succ t ih =>
      refine yref_iff.mpr ⟨ih, fun z hz => ?_⟩
      unfold ylike; simp⟩
  exact this
theorem yct9_eq (hp : yplaced F) (t : Nat) {k o : Nat} (hk : k < F.1) (ho : o < F.1) : yct9 F t k = yct9 F t o ↔ yit F t k o = true := by
  have E := yit_eq hp t
  have a := yct9_sp (F := F) t hk
  have b := yct9_sp (F := F) t ho
  constructor
  · intro e
    rw [e] at a
    exact E.t k _ o hk b.1 ho a.2.1 (E.s o _ ho b.1 b.2.1)
  · intro q
    have same : ∀ p, p < F.1 → yit F t k p = yit F t o p := fun p hp' => by
      rw [Bool.eq_iff_iff]
      exact ⟨fun g => E.t o k p ho hk hp' (E.s k o hk ho q) g, fun g => E.t k o p hk ho hp' q g⟩
    unfold yct9
    rw [yfind_congr fun i _ hi => same i (by omega)]
end
