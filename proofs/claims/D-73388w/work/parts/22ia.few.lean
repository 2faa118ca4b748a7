/-! ===== maths: how few make all, by choices that rise ===== -/
section
variable {T : yT}
def ycm9 (T : yT) : Nat → Nat → Nat → Prop
  | 0, s, _ => s = 2 ^ Tm T - 1
  | n + 1, s, f => s = 2 ^ Tm T - 1 ∨ ∃ a, f ≤ a ∧ a < Tm T ∧ s.testBit a = false ∧ ycm9 T n (yad T s a) (a + 1)
/-- these make all -/
def ygl (T : yT) (l : List Nat) : Prop := (∀ x ∈ l, x < Tm T) ∧ ∀ z, ysg T z = true → (∀ x ∈ l, z.testBit x = true) → ∀ b, b < Tm T → z.testBit b = true
theorem ymke_iff {k : Nat} : ymke T k ↔ ∃ l, l.length = k ∧ ygl T l := Iff.rfl
theorem ycm9_to (V : yV T) : ∀ (n s f : Nat), ysg T s = true → ycm9 T n s f → ∃ l : List Nat, l.length ≤ n ∧ (∀ x ∈ l, x < Tm T) ∧ ∀ z, ysg T z = true → ysub1 s z → (∀ x ∈ l, z.testBit x = true) → ∀ b, b < Tm T → z.testBit b = true := by
  have full : ∀ s, s = 2 ^ Tm T - 1 → ∀ z, ysub1 s z → ∀ b, b < Tm T → z.testBit b = true := fun s e z h b hb => h b (by rw [e, Nat.testBit_two_pow_sub_one]; simp [hb])
  intro n
  induction n with
  | zero => intro s f hs h; exact ⟨[], Nat.le_refl _, fun x hx => absurd hx List.not_mem_nil, fun z _ hz _ => full s h z hz⟩
  | succ n ih =>
    intro s f hs h
    rcases h with h | ⟨a, h1, h2, h3, h4⟩
    · exact ⟨[], Nat.zero_le _, fun x hx => absurd hx List.not_mem_nil, fun z _ hz _ => full s h z hz⟩
    · have sm := (ysg_iff.mp hs).2.2
      obtain ⟨l, l1, l2, l3⟩ := ih _ _ (yad_sp V sm h2).1 h4
      refine ⟨a :: l, by simp; omega, fun x hx => ?_, fun z hz hsz hl => ?_⟩
      · rcases List.mem_cons.mp hx with q | q
        · rw [q]; exact h2
        · exact l2 x q
      · exact l3 z hz ((yad_sub V sm h2).2.2 z hz hsz (hl a List.mem_cons_self)) (fun x hx => hl x (List.mem_cons_of_mem _ hx))
/-- the least closed set of a list -/
def ycl9 (T : yT) (p : List Nat) (s : Nat) : Prop := ysg T s = true ∧ (∀ x ∈ p, s.testBit x = true) ∧ ∀ z, ysg T z = true → (∀ x ∈ p, z.testBit x = true) → ysub1 s z
theorem ycm9_of (V : yV T) {k : Nat} (hmin : ∀ l : List Nat, l.length < k → ¬ ygl T l) : ∀ (r p : List Nat) (s f n : Nat), ycl9 T p s → (p ++ r).length = k → ygl T (p ++ r) → r.Pairwise (fun a b => a < b) → (∀ a ∈ r, f ≤ a) → r.length ≤ n → ycm9 T n s f := by
  intro r
  induction r with
  | nil =>
    intro p s f n hc hl hg _ _ _
    rw [List.append_nil] at hg
    have e : s = 2 ^ Tm T - 1 := yfull_eq hc.1 (hg.2 s hc.1 hc.2.1)
    cases n with
    | zero => exact e
    | succ n => exact Or.inl e
  | cons a r ih =>
    intro p s f n hc hl hg hp hf hn
    have am : a < Tm T := hg.1 a (by simp)
    have sm := (ysg_iff.mp hc.1).2.2
    have na : s.testBit a = false := by
      cases q : s.testBit a with
      | false => rfl
      | true =>
        refine absurd ?_ (hmin (p ++ r) (by simp at hl ⊢; omega))
        refine ⟨fun x hx => hg.1 x ?_, fun z hz hzx => hg.2 z hz fun x hx => ?_⟩
        · rcases List.mem_append.mp hx with w | w
          · exact List.mem_append_left _ w
          · exact List.mem_append_right _ (List.mem_cons_of_mem _ w)
        · rcases List.mem_append.mp hx with w | w
          · exact hzx x (List.mem_append_left _ w)
          · rcases List.mem_cons.mp w with w | w
            · rw [w]; exact hc.2.2 z hz (fun y hy => hzx y (List.mem_append_left _ hy)) a q
            · exact hzx x (List.mem_append_right _ w)
    have hp := List.pairwise_cons.mp hp
    cases n with
    | zero => simp at hn
    | succ n =>
      refine Or.inr ⟨a, hf a List.mem_cons_self, am, na, ih (p ++ [a]) _ _ n ?_ (by simpa using hl) (by simpa using hg) hp.2 (fun b hb => hp.1 b hb) (by simpa using hn)⟩
      have ys := yad_sub V sm am
      refine ⟨(yad_sp V sm am).1, fun x hx => ?_, fun z hz hzx => ?_⟩
      · rcases List.mem_append.mp hx with w | w
        · exact ys.1 x (hc.2.1 x w)
        · rw [List.mem_singleton.mp w]; exact ys.2.1
      · exact ys.2.2 z hz (hc.2.2 z hz fun x hx => hzx x (List.mem_append_left _ hx)) (hzx a (by simp))
theorem ycm9_iff (V : yV T) {n : Nat} : ycm9 T n 1 1 ↔ ∃ k, k ≤ n ∧ ymke T k := by
  have one : ∀ z, ysg T z = true → ysub1 1 z := fun z hz b hb => by
    have t1 : Nat.testBit 1 b = decide (0 = b) := Nat.testBit_two_pow (n := 0) (m := b)
    rw [t1, decide_eq_true_iff] at hb
    rw [← hb]; exact (ysg_iff.mp hz).1
  constructor
  · intro h
    obtain ⟨l, l1, l2, l3⟩ := ycm9_to V n 1 1 (ysg_one V) h
    exact ⟨l.length, l1, l, rfl, l2, fun z hz hl => l3 z hz (one z hz) hl⟩
  · rintro ⟨k, hk, hm⟩
    -- the fewest
    have ex : ∃ k0, k0 ≤ k ∧ ymke T k0 ∧ ∀ j, j < k0 → ¬ ymke T j := by
      have key : ∀ n, (∃ j, j ≤ n ∧ ymke T j) → ∃ k0, k0 ≤ n ∧ ymke T k0 ∧ ∀ j, j < k0 → ¬ ymke T j := by
        intro n
        induction n with
        | zero => rintro ⟨j, hj, h⟩; have : j = 0 := by omega
                  subst this; exact ⟨0, Nat.le_refl _, h, fun i hi => absurd hi (Nat.not_lt_zero _)⟩
        | succ n ih =>
          rintro ⟨j, hj, h⟩
          by_cases c : ∃ i, i ≤ n ∧ ymke T i
          · obtain ⟨k0, a, b, d⟩ := ih c
            exact ⟨k0, by omega, b, d⟩
          · have e : j = n + 1 := Nat.le_antisymm hj (Nat.lt_of_not_le fun z => c ⟨j, z, h⟩)
            exact ⟨j, hj, h, fun i hi z => c ⟨i, by omega, z⟩⟩
      exact key k ⟨k, Nat.le_refl _, hm⟩
    obtain ⟨k0, h1, ⟨l, ll, lg⟩, hmin⟩ := ex
    have hmin' : ∀ l : List Nat, l.length < k0 → ¬ ygl T l := fun l hl hg => hmin _ hl ⟨l, rfl, hg⟩
    have rem : ∀ p q : List Nat, ∀ a, p ++ a :: q = l → (∀ z, ysg T z = true → (∀ x ∈ p ++ q, z.testBit x = true) → z.testBit a = true) → False := fun p q a e h => by
      refine hmin' (p ++ q) (by rw [← ll, ← e]; simp) ⟨fun x hx => lg.1 x ?_, fun z hz hzx => lg.2 z hz fun x hx => ?_⟩
      · rw [← e]
        rcases List.mem_append.mp hx with w | w
        · exact List.mem_append_left _ w
        · exact List.mem_append_right _ (List.mem_cons_of_mem _ w)
      · rw [← e] at hx
        rcases List.mem_append.mp hx with w | w
        · exact hzx x (List.mem_append_left _ w)
        · rcases List.mem_cons.mp w with w | w
          · rw [w]; exact h z hz hzx
          · exact hzx x (List.mem_append_right _ w)
    have n0 : 0 ∉ l := fun h => by
      obtain ⟨p, q, e⟩ := List.append_of_mem h
      exact rem p q 0 e.symm fun z hz _ => (ysg_iff.mp hz).1
    have nd : l.Nodup := by
      refine Classical.byContradiction fun no => ?_
      have key : ∀ l' : List Nat, ¬ l'.Nodup → ∃ p a q, l' = p ++ a :: q ∧ a ∈ q := by
        intro l'
        induction l' with
        | nil => intro h; exact absurd List.nodup_nil h
        | cons x t ih =>
          intro h
          by_cases c : x ∈ t
          · exact ⟨[], x, t, rfl, c⟩
          · obtain ⟨p, a, q, e, hm⟩ := ih fun z => h (List.nodup_cons.mpr ⟨c, z⟩)
            exact ⟨x :: p, a, q, by rw [e]; rfl, hm⟩
      obtain ⟨p, a, q, e, hm⟩ := key l no
      exact rem p q a e.symm fun z _ hzx => hzx a (List.mem_append_right _ hm)
    have pm := List.mergeSort_perm l (fun a b => decide (a ≤ b))
    have srt := List.pairwise_mergeSort (le := fun a b : Nat => decide (a ≤ b)) (l := l) (fun a b c h1 h2 => by simp only [decide_eq_true_iff] at *; omega) (fun a b => by simp only [Bool.or_eq_true, decide_eq_true_iff]; omega)
    have ndm := pm.nodup_iff.mpr nd
    have slt : (l.mergeSort (fun a b => decide (a ≤ b))).Pairwise (fun a b => a < b) := by
      refine List.Pairwise.imp₂ (fun a b h1 h2 => ?_) srt (List.nodup_iff_pairwise_ne.mp ndm)
      have := of_decide_eq_true h1
      omega
    refine ycm9_of V hmin' (l.mergeSort (fun a b => decide (a ≤ b))) [] 1 1 n ⟨ysg_one V, fun x hx => absurd hx List.not_mem_nil, fun z hz _ => one z hz⟩ (by rw [List.nil_append, pm.length_eq, ll]) ?_ slt (fun a ha => ?_) (by rw [pm.length_eq, ll]; omega)
    · rw [List.nil_append]
      exact ⟨fun x hx => lg.1 x (pm.mem_iff.mp hx), fun z hz hzx => lg.2 z hz fun x hx => hzx x (pm.mem_iff.mpr hx)⟩
    · have := pm.mem_iff.mp ha
      have : a ≠ 0 := fun z => n0 (by rw [← z]; exact this)
      omega
theorem yfw_sp (V : yV T) : yfw T ≤ 48 ∧ ymke T (yfw T) ∧ ∀ j, j < yfw T → ¬ ymke T j := by
  have m := V.m
  have ex : ∃ i, i < 49 ∧ @decide (ymke T i) (Classical.propDecidable _) = true := ⟨Tm T, by omega, (@decide_eq_true_iff _ (Classical.propDecidable _)).mpr ⟨List.range (Tm T), List.length_range, fun x hx => List.mem_range.mp hx, fun z _ hz b hb => hz b (List.mem_range.mpr hb)⟩⟩
  obtain ⟨s1, s2, s3, s4⟩ := yfn_spec ex
  have e : yfw T = yfn (fun k => @decide (ymke T k) (Classical.propDecidable _)) 49 := rfl
  rw [e]
  exact ⟨by omega, (@decide_eq_true_iff _ (Classical.propDecidable _)).mp s2, fun j hj => (@decide_eq_false_iff_not _ (Classical.propDecidable _)).mp (s3 j hj)⟩
end
