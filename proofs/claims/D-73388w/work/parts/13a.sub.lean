/-! ===== maths: subgroups of a small group, as bits ===== -/
/-- the bits of u times w, joined to acc -/
def xrm (mul : Nat → Nat → Nat) (w : Nat) : Nat → Nat → Nat → Nat
  | 0, _, acc => acc
  | n + 1, u, acc => match Nat.beq u 0 with
    | true => acc
    | false => xrm mul w n (Nat.mod u (Nat.pow 2 (Nat.log2 u))) (Nat.lor acc (Nat.pow 2 (mul (Nat.log2 u) w)))
/-- a walk: each step multiplies w by one of s and a (a digit of c), and s times w is joined -/
def xwk (mul : Nat → Nat → Nat) (s sa : Nat) : Nat → Nat → Nat → Nat → Nat
  | 0, _, _, acc => acc
  | n + 1, c, w, acc => match Nat.beq c 0 with
    | true => acc
    | false => match Nat.testBit sa (Nat.mod c 64) with
      | false => 0
      | true => xwk mul s sa n (Nat.div c 64) (mul w (Nat.mod c 64)) (xrm mul (mul w (Nat.mod c 64)) 48 s acc)
def xsubs (x y : Nat) : Prop := ∀ b, x.testBit b = true → y.testBit b = true
/-- a set that is closed -/
def xsb (mul : Nat → Nat → Nat) (x : Nat) : Prop := x.testBit 0 = true ∧ ∀ a b, x.testBit a = true → x.testBit b = true → x.testBit (mul a b) = true
/-- a set, the greatest of what it is made by, walks for each further one -/
abbrev xLt : Type := List (Nat × Nat × List (Nat × Nat))
def xok1 (N : Nat) (mul : Nat → Nat → Nat) (L : xLt) (s : Nat × Nat × List (Nat × Nat)) : Bool :=
  (List.range N).all (fun a => Nat.testBit s.1 a || Nat.ble a s.2.1 || s.2.2.any (fun p => Nat.beq p.1 a && L.any (fun t => Nat.ble t.2.1 a && Nat.testBit t.1 a && Nat.beq t.1 (Nat.lor t.1 s.1) && Nat.beq t.1 (xwk mul s.1 (Nat.lor s.1 (Nat.pow 2 a)) 48 p.2 0 s.1))))
theorem xbit_or (t a b : Nat) : (t ||| 2 ^ a).testBit b = true ↔ t.testBit b = true ∨ a = b := by
  rw [Nat.testBit_or, Nat.testBit_two_pow, Bool.or_eq_true, decide_eq_true_iff]
theorem xrm_sub {mul : Nat → Nat → Nat} {w x : Nat} : ∀ n u acc, (∀ b, u.testBit b = true → x.testBit (mul b w) = true) → xsubs acc x → xsubs (xrm mul w n u acc) x := by
  intro n
  induction n with
  | zero => intro u acc _ h; exact h
  | succ n ih =>
    intro u acc hu h
    unfold xrm
    split
    · exact h
    · rename_i c
      have c : u ≠ 0 := fun z => by rw [z] at c; cases c
      refine ih _ _ (fun b hb => hu b ?_) (fun b hb => ?_)
      · have hb : (u % 2 ^ u.log2).testBit b = true := hb
        rw [Nat.testBit_mod_two_pow, Bool.and_eq_true] at hb; exact hb.2
      · rcases (xbit_or _ _ _).mp hb with q | q
        · exact h b q
        · rw [← q]; exact hu _ (Nat.testBit_log2 c)
theorem xwk_sub {mul : Nat → Nat → Nat} {s sa x : Nat} (hx : xsb mul x) (hs : xsubs s x) (hsa : xsubs sa x) : ∀ n c w acc, x.testBit w = true → xsubs acc x → xsubs (xwk mul s sa n c w acc) x := by
  intro n
  induction n with
  | zero => intro c w acc _ h; exact h
  | succ n ih =>
    intro c w acc hw h
    unfold xwk
    split
    · exact h
    · split
      · intro b hb; rw [Nat.zero_testBit] at hb; cases hb
      · rename_i q
        have hw' := hx.2 _ _ hw (hsa _ q)
        exact ih _ _ _ hw' (xrm_sub _ _ _ (fun b hb => hx.2 _ _ (hs b hb) hw') h)
/-- every closed set is in the list -/
theorem xok_all {N : Nat} {mul : Nat → Nat → Nat} {L : xLt} (h1 : L.any (fun s => s.1 == 1 && s.2.1 == 0) = true) (h2 : ∀ s, s ∈ L → xok1 N mul L s = true) {x : Nat} (hx : xsb mul x) (hN : x < 2 ^ N) : ∃ s, s ∈ L ∧ s.1 = x := by
  rw [List.any_eq_true] at h1
  obtain ⟨s0, m0, e0⟩ := h1
  rw [Bool.and_eq_true] at e0
  have e01 : s0.1 = 1 := by simpa using e0.1
  have e02 : s0.2.1 = 0 := by simpa using e0.2
  have key : ∀ k, k ≤ N → ∃ s, s ∈ L ∧ xsubs s.1 x ∧ (∀ b, b < k → x.testBit b = true → s.1.testBit b = true) ∧ (s.2.1 < k ∨ s.2.1 = 0) := by
    intro k
    induction k with
    | zero =>
      intro _
      refine ⟨s0, m0, fun b hb => ?_, fun b hb => absurd hb (Nat.not_lt_zero _), Or.inr e02⟩
      rw [e01] at hb
      have t1 : Nat.testBit 1 b = decide (0 = b) := Nat.testBit_two_pow (n := 0) (m := b)
      rw [t1, decide_eq_true_iff] at hb
      rw [← hb]; exact hx.1
    | succ k ih =>
      intro hk
      obtain ⟨s, m, q1, q2, q3⟩ := ih (by omega)
      have old : (x.testBit k = true → s.1.testBit k = true) → ∃ s, s ∈ L ∧ xsubs s.1 x ∧ (∀ b, b < k + 1 → x.testBit b = true → s.1.testBit b = true) ∧ (s.2.1 < k + 1 ∨ s.2.1 = 0) := fun c => by
        refine ⟨s, m, q1, fun b hb hxb => ?_, by omega⟩
        by_cases c3 : b = k
        · rw [c3] at hxb ⊢; exact c hxb
        · exact q2 b (by omega) hxb
      by_cases c : x.testBit k = true
      · by_cases c2 : s.1.testBit k = true
        · exact old (fun _ => c2)
        · have hs := h2 s m
          unfold xok1 at hs
          rw [List.all_eq_true] at hs
          have ha := hs k (by rw [List.mem_range]; omega)
          rw [Bool.or_eq_true, Bool.or_eq_true, List.any_eq_true] at ha
          rcases ha with (z | z) | ⟨p, mp, ep⟩
          · exact absurd z c2
          · have := Nat.le_of_ble_eq_true z
            have k0 : k = 0 := by omega
            subst k0
            obtain ⟨s', m', q1', _, _⟩ := ih (by omega)
            -- bit 0 is in each
            exact ⟨s0, m0, fun b hb => by
              rw [e01] at hb
              have t1 : Nat.testBit 1 b = decide (0 = b) := Nat.testBit_two_pow (n := 0) (m := b)
              rw [t1, decide_eq_true_iff] at hb
              rw [← hb]; exact hx.1, fun b hb _ => by
              have : b = 0 := by omega
              rw [this, e01]; rfl, Or.inr e02⟩
          · rw [Bool.and_eq_true, List.any_eq_true] at ep
            obtain ⟨_, t, mt, et⟩ := ep
            rw [Bool.and_eq_true, Bool.and_eq_true, Bool.and_eq_true] at et
            obtain ⟨⟨⟨t1, t2⟩, t3⟩, t4⟩ := et
            have t1 := Nat.le_of_ble_eq_true t1
            have t3 : t.1 = t.1 ||| s.1 := Nat.eq_of_beq_eq_true t3
            have t4 := Nat.eq_of_beq_eq_true t4
            have sa : xsubs (Nat.lor s.1 (Nat.pow 2 k)) x := fun b hb => by
              rcases (xbit_or _ _ _).mp hb with z | z
              · exact q1 b z
              · rw [← z]; exact c
            refine ⟨t, mt, ?_, fun b hb hxb => ?_, by omega⟩
            · rw [t4]; exact xwk_sub hx q1 sa _ _ _ _ hx.1 q1
            · by_cases c3 : b = k
              · rw [c3]; exact t2
              · rw [t3, Nat.testBit_or, q2 b (by omega) hxb, Bool.or_true]
      · exact old (fun z => absurd z c)
  obtain ⟨s, m, q1, q2, _⟩ := key N (Nat.le_refl _)
  refine ⟨s, m, Nat.eq_of_testBit_eq fun b => ?_⟩
  by_cases c : x.testBit b = true
  · have hb : b < N := by
      apply Nat.lt_of_not_le
      intro z
      have : x.testBit b = false := Nat.testBit_lt_two_pow (Nat.lt_of_lt_of_le hN (Nat.pow_le_pow_right (by omega) z))
      rw [this] at c; cases c
    rw [c, q2 b hb c]
  · have c' : x.testBit b = false := by simpa using c
    rw [c']
    by_cases c2 : s.1.testBit b = true
    · exact absurd (q1 b c2) c
    · simpa using c2
