/-! ===== the component: one region of 1134 cells at x; a frame lies at x + f ===== -/
abbrev cH (h : zH) (x : Nat) (φ ψ : Nat → Nat → Int) (α : Nat → Nat → Option Nat) : zH := rH 1134 h x φ ψ α
/-- the kinds of a frame's cells -/
structure fK (e : zEv) (h : zH) (x f : Nat) : Prop where
  b : e.1 ≤ x
  n : f + 26 ≤ 1134
  s : x + 1134 ≤ zsz h
  K0 : zK h (x + f) = some (Sum.inl 2)
  K1 : zK h (x + (f + 1)) = some (Sum.inr (.int, 12))
  K2 : zK h (x + (f + 2)) = some (Sum.inr (.array .int, 3))
  K3 : ∀ i, i < 3 → zK h (x + (f + 3 + i)) = some (Sum.inr (.int, 12))
  K6 : zK h (x + (f + 6)) = some (Sum.inr (.array .int, 12))
  K7 : zK h (x + (f + 7)) = some (Sum.inr (.array .int, 12))
  K8 : ∀ i, i < 12 → zK h (x + (f + 8 + i)) = some (Sum.inr (.int, 12))
  K20 : zK h (x + (f + 20)) = some (Sum.inr (.long, 3))
  K21 : zK h (x + (f + 21)) = some (Sum.inr (.long, 3))
  K22 : zK h (x + (f + 22)) = some (Sum.inr (.long, 3))
  K23 : zK h (x + (f + 23)) = some (Sum.inr (.long, 3))
  K24 : zK h (x + (f + 24)) = some (Sum.inr (.int, 12))
  K25 : zK h (x + (f + 25)) = some (Sum.inr (.int, 12))
/-- a frame's references that stay -/
structure fA (x f : Nat) (α : Nat → Nat → Option Nat) : Prop where
  A1 : α f 1 = some (x + (f + 1))
  A2 : α f 2 = some (x + (f + 2))
  A3 : α f 3 = some (x + (f + 6))
  A4 : α f 4 = some (x + (f + 7))
  A5 : α f 5 = some (x + (f + 20))
  A6 : α f 6 = some (x + (f + 21))
  A7 : α f 7 = some (x + (f + 22))
  A8 : α f 8 = some (x + (f + 23))
  A9 : α f 9 = some (x + (f + 24))
  A10 : α f 10 = some (x + (f + 25))
  R2 : ∀ i, i < 3 → α (f + 2) i = some (x + (f + 3 + i))
  R7 : ∀ i, i < 12 → α (f + 7) i = some (x + (f + 8 + i))
section
variable {e : zEv} {d x f : Nat} {h : zH} {φ ψ : Nat → Nat → Int} {α : Nat → Nat → Option Nat}
theorem fA.of {α' : Nat → Nat → Option Nat} (A : fA x f α) (q : ∀ i, i ≠ f + 6 → f ≤ i → i < f + 26 → α' i = α i) : fA x f α' := by
  have q0 := q f (by omega) (by omega) (by omega)
  refine ⟨?_, ?_, ?_, ?_, ?_, ?_, ?_, ?_, ?_, ?_, fun i hi => ?_, fun i hi => ?_⟩
  · rw [q0]; exact A.A1
  · rw [q0]; exact A.A2
  · rw [q0]; exact A.A3
  · rw [q0]; exact A.A4
  · rw [q0]; exact A.A5
  · rw [q0]; exact A.A6
  · rw [q0]; exact A.A7
  · rw [q0]; exact A.A8
  · rw [q0]; exact A.A9
  · rw [q0]; exact A.A10
  · rw [q (f + 2) (by omega) (by omega) (by omega)]; exact A.R2 i hi
  · rw [q (f + 7) (by omega) (by omega) (by omega)]; exact A.R7 i hi
theorem fA.u (A : fA x f α) (k : Nat) (v : Option Nat) : fA x f (zu α (f + 6) k v) := A.of fun i hi _ _ => zu_cell _ _ _ hi
/-- rows k.. of fars are null -/
def fcl (f k : Nat) (α : Nat → Nat → Option Nat) : Nat → Nat → Option Nat := fun i j => if i = f + 6 ∧ j < k then none else α i j
theorem f_changes (K : fK e h x f) (A : fA x f α) : zc e (d + 1) 386 [zr (some (x + f))] (cH h x φ ψ α) (fun o h' => o = Sum.inl none ∧ h' = cH h x φ ψ (fcl f 12 α)) := by
  have kn := K.n
  have kb := K.b
  have key : ∀ t : Nat, t ≤ 12 → ∀ k : Nat, k = 12 - t → zg e 386 d 2 [zr (some (x + f)), zi (k : Int)] [] (cH h x φ ψ (fcl f k α)) (fun o h' => o = Sum.inl none ∧ h' = cH h x φ ψ (fcl f 12 α)) := by
    intro t
    induction t with
    | zero =>
      intro _ k hk
      obtain rfl : k = 12 := by omega
      rw [r386_2]
      simp only [r386_0, r386_1, r386_3, r386_5, r386_8, r386_9, r386_12, r386_13, r386_14, r386_15, r386_18, r386_21, znl_i, znl_r, znl_j, znl_l, List.length_cons, List.length_nil, Option.some.injEq, Sum.inl.injEq, Sum.inr.injEq, Prod.mk.injEq, true_and, and_true, exists_eq_left', zK_sI, zA_sI, zL_sI, zK_sL, zA_sL, zI_sL, zK_fI, zA_fI, zL_fI, zK_fL, zA_fL, zI_fL, Nat.reduceAdd, Nat.reduceLeDiff, forall_eq', zl_lt, zl_gt, zl_eq, zl_le, zl_ge, zm_0, zaft_n, zaft_v, zb_eq, Decidable.not_not]
      refine ⟨fun _ => trivial, fun z => ?_⟩
      exact absurd z (by decide)
    | succ t ih =>
      intro ht k hk
      have A' : fA x f (fcl f k α) := A.of fun i hi _ _ => funext fun j => if_neg (fun z => hi z.1)
      rw [r386_2]
      simp (disch := omega) only [r386_0, r386_1, r386_3, r386_5, r386_8, r386_9, r386_12, r386_13, r386_14, r386_15, r386_18, r386_21, znl_i, znl_r, znl_j, znl_l, List.length_cons, List.length_nil, Option.some.injEq, Sum.inl.injEq, Sum.inr.injEq, Prod.mk.injEq, true_and, and_true, exists_eq_left', zK_sI, zA_sI, zL_sI, zK_sL, zA_sL, zI_sL, zK_fI, zA_fI, zL_fI, zK_fL, zA_fL, zI_fL, Nat.reduceAdd, Nat.reduceLeDiff, forall_eq', zl_lt, zl_gt, zl_eq, zl_le, zl_ge, zm_0, zaft_n, zaft_v, zb_eq, Decidable.not_not, zK_rH, zA_rH, zsA_rH, K.K0, K.K6, A'.A3]
      refine ⟨fun z => ?_, fun _ => ?_⟩
      · rw [zn_b (by omega) (by omega), zn_b (by omega) (by omega)] at z; omega
      · rw [zn_b (by omega) (by omega)]
        refine ⟨⟨by omega, by omega, by omega⟩, (fun v hv => by cases hv), ?_⟩
        have := ih (by omega) (k + 1) (by omega)
        rw [Int.toNat_natCast]
        refine cast (congrArg (fun α' => zg e 386 d 2 [zr (some (x + f)), zi ((k : Int) + 1)] [] (cH h x φ ψ α') _) ?_) this
        funext i j
        simp only [fcl, zu]
        by_cases c : i = f + 6
        · subst c
          by_cases c2 : j = k
          · simp [c2]
          · simp [c2, show (j < k + 1 ↔ j < k) by omega]
        · simp [c]
  simp (disch := omega) only [n386, r386_0, r386_1, r386_3, r386_5, r386_8, r386_9, r386_12, r386_13, r386_14, r386_15, r386_18, r386_21, znl_i, znl_r, znl_j, znl_l, List.length_cons, List.length_nil, Option.some.injEq, Sum.inl.injEq, Sum.inr.injEq, Prod.mk.injEq, true_and, and_true, exists_eq_left', zK_sI, zA_sI, zL_sI, zK_sL, zA_sL, zI_sL, zK_fI, zA_fI, zL_fI, zK_fL, zA_fL, zI_fL, Nat.reduceAdd, Nat.reduceLeDiff, forall_eq', zl_lt, zl_gt, zl_eq, zl_le, zl_ge, zm_0, zaft_n, zaft_v, zb_eq, Decidable.not_not]
  have := key 12 (by omega) 0 rfl
  refine cast (congrArg (fun α' => zg e 386 d 2 [zr (some (x + f)), zi 0] [] (cH h x φ ψ α') _) ?_) this
  funext i j
  simp [fcl]
end
