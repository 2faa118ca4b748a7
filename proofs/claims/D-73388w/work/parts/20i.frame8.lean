/-- the three numbers of a cell c -/
def f3 (ψ : Nat → Nat → Int) (c : Nat) (u : Nat → Int) : Nat → Nat → Int := fun i j => if i = c ∧ j < 3 then u j else ψ i j
theorem f3_s {ψ : Nat → Nat → Int} {c j : Nat} {u : Nat → Int} (hj : j < 3) : f3 ψ c u c j = u j := if_pos ⟨rfl, hj⟩
theorem f3_n {ψ : Nat → Nat → Int} {c i : Nat} {u : Nat → Int} (hi : i ≠ c) : f3 ψ c u i = ψ i := funext fun _ => if_neg fun z => hi z.1
theorem f3_u (ψ : Nat → Nat → Int) (c : Nat) (u : Nat → Int) : zu (zu (zu ψ c 0 (u 0)) c 1 (u 1)) c 2 (u 2) = f3 ψ c u := by
  funext i j
  simp only [zu, f3]
  by_cases q : i = c
  · subst q
    by_cases q0 : j = 0
    · subst q0; simp
    · by_cases q1 : j = 1
      · subst q1; simp
      · by_cases q2 : j = 2
        · subst q2; simp
        · rw [if_neg (by omega), if_neg (by omega), if_neg (by omega), if_neg (by omega)]
  · simp [q]
section
variable {e : zEv} {d x f o a b c : Nat} {h h1 h2 : zH} {φ φ' φ'' ψ : Nat → Nat → Int} {α α' α'' : Nat → Nat → Option Nat} {F : yF} {u v : Nat → Int}
theorem f_dot (hx : x + 1134 ≤ zsz h) (ha : a < 1134) (hb : b < 1134) (ka : zK h (x + a) = some (Sum.inr (.long, 3))) (kb : zK h (x + b) = some (Sum.inr (.long, 3))) (qa : ∀ i, i < 3 → ψ a i = u i) (qb : ∀ i, i < 3 → ψ b i = v i) : zc e (d + 1) 127 [zr (some (x + a)), zr (some (x + b))] (cH h x φ ψ α)
    (fun ov h' => ov = Sum.inl (some (zl (ydot u v))) ∧ h' = cH h x φ ψ α) := by
  simp (disch := omega) only [n127, r127_0, r127_1, r127_2, r127_3, r127_4, r127_5, r127_6, r127_7, r127_8, r127_9, r127_10, r127_11, r127_12, r127_13, r127_14, r127_15, r127_16, r127_17, r127_18, r127_19, r127_20, r127_21, r127_22, r127_23, znl_i, znl_r, znl_j, znl_l, List.length_cons, List.length_nil, Option.some.injEq, Sum.inl.injEq, Sum.inr.injEq, Prod.mk.injEq, true_and, and_true, exists_eq_left', zK_sI, zA_sI, zL_sI, zK_sL, zA_sL, zI_sL, zK_fI, zA_fI, zL_fI, zK_fL, zA_fL, zI_fL, Nat.reduceAdd, Nat.reduceLeDiff, forall_eq', zl_lt, zl_gt, zl_eq, zl_le, zl_ge, zm_0, zaft_n, zaft_v, zb_eq, Decidable.not_not, zK_rH, zI_rH, zL_rH, zA_rH, zsI_rH, zsL_rH, zsA_rH, zcpI_rH, zn_b, zm_b, Int.toNat_natCast, Int.toNat_zero, Int.reduceToNat, ka, kb, qa, qb]
  exact ⟨by decide, by decide, by decide, by decide, by decide, by decide, by decide, by decide, by decide, by decide, by decide, by decide, rfl⟩
theorem f_crosses (eb : e.1 ≤ x) (ha : a < 1134) (hb : b < 1134) (hc : c < 1134) (ca : a ≠ c) (cb : b ≠ c) (ka : zK h (x + a) = some (Sum.inr (.long, 3))) (kb : zK h (x + b) = some (Sum.inr (.long, 3))) (kc : zK h (x + c) = some (Sum.inr (.long, 3))) (qa : ∀ i, i < 3 → ψ a i = u i) (qb : ∀ i, i < 3 → ψ b i = v i) : zc e (d + 1) 126 [zr (some (x + a)), zr (some (x + b)), zr (some (x + c))] (cH h x φ ψ α)
    (fun ov h' => ov = Sum.inl none ∧ h' = cH h x φ (f3 ψ c (ycrs u v)) α) := by
  simp (disch := omega) only [n126, r126_0, r126_1, r126_2, r126_3, r126_4, r126_5, r126_6, r126_7, r126_8, r126_9, r126_10, r126_11, r126_12, r126_13, r126_14, r126_15, r126_16, r126_17, r126_18, r126_19, r126_20, r126_21, r126_22, r126_23, r126_24, r126_25, r126_26, r126_27, r126_28, r126_29, r126_30, r126_31, r126_32, r126_33, r126_34, r126_35, r126_36, r126_37, r126_38, r126_39, r126_40, r126_41, r126_42, r126_43, r126_44, r126_45, r126_46, r126_47, r126_48, r126_49, r126_50, r126_51, r126_52, r126_53, r126_54, znl_i, znl_r, znl_j, znl_l, List.length_cons, List.length_nil, Option.some.injEq, Sum.inl.injEq, Sum.inr.injEq, Prod.mk.injEq, true_and, and_true, exists_eq_left', zK_sI, zA_sI, zL_sI, zK_sL, zA_sL, zI_sL, zK_fI, zA_fI, zL_fI, zK_fL, zA_fL, zI_fL, Nat.reduceAdd, Nat.reduceLeDiff, forall_eq', zl_lt, zl_gt, zl_eq, zl_le, zl_ge, zm_0, zaft_n, zaft_v, zb_eq, Decidable.not_not, zK_rH, zI_rH, zL_rH, zA_rH, zsI_rH, zsL_rH, zsA_rH, zcpI_rH, zn_b, zm_b, Int.toNat_natCast, Int.toNat_zero, Int.reduceToNat, ka, kb, kc, qa, qb, zu_cell]
  repeat (refine And.intro (by omega) ?_)
  exact congrArg (fun ψ' => cH h x φ ψ' α) (f3_u ψ c (ycrs u v))
theorem f_difference (K : fK e h x f) (A : fA x f α) (S : fS F f φ) (k o : Nat) (hk : k < F.1) (ho : o < F.1) (hc : c < 1134) (kc : zK h (x + c) = some (Sum.inr (.long, 3))) : zc e (d + 1) 404 [zr (some (x + f)), zi (o : Int), zi (k : Int), zr (some (x + c))] (cH h x φ ψ α)
    (fun ov h' => ov = Sum.inl none ∧ h' = cH h x φ (f3 ψ c (ysub F k o)) α) := by
  have kn := K.n
  have kb := K.b
  have hm := S.w.1
  have bk := S.w.2.2.1 k hk
  have bo := S.w.2.2.1 o ho
  have step : ∀ (ψ' : Nat → Nat → Int) (i : Nat) (P : zEt), i < 3 → zg e 404 d 3 [zr (some (x + f)), zi (o : Int), zi (k : Int), zr (some (x + c)), zi ((i + 1 : Nat) : Int)] [] (cH h x φ (zu ψ' c i (ysub F k o i)) α) P → zg e 404 d 3 [zr (some (x + f)), zi (o : Int), zi (k : Int), zr (some (x + c)), zi (i : Int)] [] (cH h x φ ψ' α) P := by
    intro ψ' i P hi g
    have b1 := bk (i + 1) (by omega) (by omega)
    have b2 := bo (i + 1) (by omega) (by omega)
    rw [r404_3]
    simp (disch := omega) only [r404_0, r404_1, r404_5, r404_6, r404_9, r404_10, r404_12, r404_13, r404_16, r404_18, r404_19, r404_20, r404_21, r404_22, r404_25, r404_27, r404_28, r404_29, r404_30, r404_31, r404_32, r404_33, r404_36, r404_39, znl_i, znl_r, znl_j, znl_l, List.length_cons, List.length_nil, Option.some.injEq, Sum.inl.injEq, Sum.inr.injEq, Prod.mk.injEq, true_and, and_true, exists_eq_left', zK_sI, zA_sI, zL_sI, zK_sL, zA_sL, zI_sL, zK_fI, zA_fI, zL_fI, zK_fL, zA_fL, zI_fL, Nat.reduceAdd, Nat.reduceLeDiff, forall_eq', zl_lt, zl_gt, zl_eq, zl_le, zl_ge, zm_0, zaft_n, zaft_v, zb_eq, Decidable.not_not, zK_rH, zI_rH, zL_rH, zA_rH, zsI_rH, zsL_rH, zsA_rH, zcpI_rH, zn_b, zm_b, Int.toNat_natCast, Int.toNat_zero, Int.reduceToNat, K.K0, K.K1, K.K2, K.K3, K.K6, K.K7, K.K8, K.K20, K.K21, K.K22, K.K23, K.K24, K.K25, A.A1, A.A2, A.A3, A.A4, A.A5, A.A6, A.A7, A.A8, A.A9, A.A10, A.R2, A.R7, S.p, kc]
    refine ⟨fun z => absurd z (by omega), fun _ => ?_⟩
    repeat (refine And.intro (by omega) ?_)
    exact g
  simp (disch := omega) only [n404, r404_0, r404_1, r404_5, r404_6, r404_9, r404_10, r404_12, r404_13, r404_16, r404_18, r404_19, r404_20, r404_21, r404_22, r404_25, r404_27, r404_28, r404_29, r404_30, r404_31, r404_32, r404_33, r404_36, r404_39, znl_i, znl_r, znl_j, znl_l, List.length_cons, List.length_nil, Option.some.injEq, Sum.inl.injEq, Sum.inr.injEq, Prod.mk.injEq, true_and, and_true, exists_eq_left', zK_sI, zA_sI, zL_sI, zK_sL, zA_sL, zI_sL, zK_fI, zA_fI, zL_fI, zK_fL, zA_fL, zI_fL, Nat.reduceAdd, Nat.reduceLeDiff, forall_eq', zl_lt, zl_gt, zl_eq, zl_le, zl_ge, zm_0, zaft_n, zaft_v, zb_eq, Decidable.not_not, zK_rH, zI_rH, zL_rH, zA_rH, zsI_rH, zsL_rH, zsA_rH, zcpI_rH, zn_b, zm_b, Int.toNat_natCast, Int.toNat_zero, Int.reduceToNat, K.K0, K.K1, K.K2, K.K3, K.K6, K.K7, K.K8, K.K20, K.K21, K.K22, K.K23, K.K24, K.K25, A.A1, A.A2, A.A3, A.A4, A.A5, A.A6, A.A7, A.A8, A.A9, A.A10, A.R2, A.R7]
  refine step _ 0 _ (by omega) (step _ 1 _ (by omega) (step _ 2 _ (by omega) ?_))
  rw [r404_3, f3_u]
  simp (disch := omega) only [r404_0, r404_1, r404_5, r404_6, r404_9, r404_10, r404_12, r404_13, r404_16, r404_18, r404_19, r404_20, r404_21, r404_22, r404_25, r404_27, r404_28, r404_29, r404_30, r404_31, r404_32, r404_33, r404_36, r404_39, znl_i, znl_r, znl_j, znl_l, List.length_cons, List.length_nil, Option.some.injEq, Sum.inl.injEq, Sum.inr.injEq, Prod.mk.injEq, true_and, and_true, exists_eq_left', zK_sI, zA_sI, zL_sI, zK_sL, zA_sL, zI_sL, zK_fI, zA_fI, zL_fI, zK_fL, zA_fL, zI_fL, Nat.reduceAdd, Nat.reduceLeDiff, forall_eq', zl_lt, zl_gt, zl_eq, zl_le, zl_ge, zm_0, zaft_n, zaft_v, zb_eq, Decidable.not_not, zK_rH, zI_rH, zL_rH, zA_rH, zsI_rH, zsL_rH, zsA_rH, zcpI_rH, zn_b, zm_b, Int.toNat_natCast, Int.toNat_zero, Int.reduceToNat, K.K0, K.K1, K.K2, K.K3, K.K6, K.K7, K.K8, K.K20, K.K21, K.K22, K.K23, K.K24, K.K25, A.A1, A.A2, A.A3, A.A4, A.A5, A.A6, A.A7, A.A8, A.A9, A.A10, A.R2, A.R7]
  exact ⟨fun _ => trivial, fun z => absurd z (by decide)⟩
end
