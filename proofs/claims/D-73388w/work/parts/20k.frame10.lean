theorem zaft_x {cx hp nx a : Nat} {L R : List zV} {h1 : zH} {K : zKt} {E : zEt} (hk : zK h1 a = some (Sum.inl cx)) : zaft nx (zh1 cx hp) L R (Sum.inr a) h1 K E ↔ K hp L [zr (some a)] h1 := by
  have e : zh1 cx hp (zcls h1 a) = some (some hp) := by unfold zcls zh1; simp only [hk, if_true]
  show (match zh1 cx hp (zcls h1 a) with | some (some pc) => K pc L [Sum.inr (Sum.inl (some a))] h1 | some none => E (Sum.inr a) h1 | none => False) ↔ _
  rw [e]
theorem zaft_x0 {nx a : Nat} {L R : List zV} {h1 : zH} {K : zKt} {E : zEt} : zaft nx zh0 L R (Sum.inr a) h1 K E ↔ E (Sum.inr a) h1 := by
  unfold zaft; simp [zh0]
section
variable {e : zEv} {d x f o a b c : Nat} {h h1 h2 : zH} {φ φ' φ'' ψ : Nat → Nat → Int} {α α' α'' : Nat → Nat → Option Nat} {F : yF} {u v : Nat → Int}
theorem j_mulEx {X Y : Int} (hX : yi X) (hY : yi Y) (hb : e.1 ≤ zsz h) : zc e (d + 1) 81 [zi X, zi Y] h (fun ov h' => yi (X * Y) ∧ ov = Sum.inl (some (zi (X * Y))) ∧ h' = h ∨ ¬ yi (X * Y) ∧ ov = Sum.inr (zsz h) ∧ h' = znew h (Sum.inl 14) 6) := by
  have b := ymul_b (x := X) (y := Y) (A := 2147483648) (B := 2147483648) (by unfold yi at hX; omega) (by unfold yi at hY; omega)
  have e1 : zm (X * Y) = X * Y := zm_id (by omega) (by omega)
  have zl := zn_lo (X * Y)
  have e3 : zm (zn (X * Y)) = zn (X * Y) := zm_b (by omega) (by omega)
  have e2 : yi (X * Y) ↔ zn (X * Y) = X * Y := ⟨fun q => zn_i q, fun q => by rw [← q]; exact zl⟩
  have hc : (if zn (X * Y) < X * Y then (-1 : Int) else if zn (X * Y) = X * Y then 0 else 1) = 0 ↔ zn (X * Y) = X * Y := by
    split
    · exact ⟨fun z => absurd z (by decide), fun z => by omega⟩
    · split
      · exact ⟨fun _ => by assumption, fun _ => rfl⟩
      · exact ⟨fun z => absurd z (by decide), fun z => by omega⟩
  simp (disch := omega) only [n81, r81_0, r81_1, r81_2, r81_3, r81_4, r81_5, r81_6, r81_7, r81_8, r81_9, r81_10, r81_11, r81_14, r81_17, r81_18, r81_20, r81_23, r81_24, r81_25, r81_26, znl_i, znl_r, znl_j, znl_l, List.length_cons, List.length_nil, Option.some.injEq, Sum.inl.injEq, Sum.inr.injEq, Prod.mk.injEq, true_and, and_true, exists_eq_left', zK_sI, zA_sI, zL_sI, zK_sL, zA_sL, zI_sL, zK_fI, zA_fI, zL_fI, zK_fL, zA_fL, zI_fL, Nat.reduceAdd, Nat.reduceLeDiff, forall_eq', zl_lt, zl_gt, zl_eq, zl_le, zl_ge, zm_0, zaft_n, zaft_v, zb_eq, Decidable.not_not, zK_rH, zI_rH, zL_rH, zA_rH, zsI_rH, zsL_rH, zsA_rH, zcpI_rH, zn_b, zm_b, Int.toNat_natCast, Int.toNat_zero, Int.reduceToNat, zn_i hX, zn_i hY, e1, e3, hc]
  rw [e2]
  refine ⟨fun z => ?_, fun z => ⟨hb, ⟨14, if_pos rfl⟩, ?_⟩⟩
  · exact Or.inl z
  · exact Or.inr z
theorem f_canStretch (K : fK e h x f) (A : fA x f α) (S : fS F f φ) (n : Int) (hn : yi n) : zc e (d + 2) 398 [zr (some (x + f)), zi n] (cH h x φ ψ α)
    (fun ov h' => ov = Sum.inl (some (zi (yb (yinA F 1 n 0 && (yinA F 2 n 0 && yinA F 3 n 0))))) ∧ ∃ h1, h' = cH h1 x φ ψ α ∧ zX 1 6 h h1) := by
  have kn := K.n
  have kb := K.b
  have ks := K.s
  have hm := S.w.1
  have X0 := (zX.refl h).mono (c' := 1) (s' := 6) (by omega) (by omega)
  have inner : ∀ (i : Nat) (Q : zEt), i < 3 → (yinA F (i + 1) n 0 = true → ∀ w1 w2 w3, zg e 398 (d + 1) 2 [zr (some (x + f)), zi n, zi ((i + 1 : Nat) : Int), w1, w2, w3] [] (cH h x φ ψ α) Q) → (yinA F (i + 1) n 0 = false → ∀ h1, zX 1 6 h h1 → Q (Sum.inl (some (zi 0))) (cH h1 x φ ψ α)) → ∀ w1 w2 w3, zg e 398 (d + 1) 2 [zr (some (x + f)), zi n, zi (i : Int), w1, w2, w3] [] (cH h x φ ψ α) Q := by
    intro i Q hi g1 g2 w1 w2 w3
    have loop := zdown0 (fun k => (∀ j, j < k → (!yin F (i + 1) n 0 j) = false) → ∀ w2 w3, zg e 398 (d + 1) 9 [zr (some (x + f)), zi n, zi (i : Int), zi (k : Int), w2, w3] [] (cH h x φ ψ α) Q) F.1 (fun q w2 w3 => ?_) (fun k hk ih q w2 w3 => ?_)
    · rw [r398_2]
      simp (disch := omega) only [r398_0, r398_1, r398_3, r398_4, r398_7, r398_8, r398_10, r398_11, r398_14, r398_17, r398_18, r398_21, r398_22, r398_23, r398_24, r398_25, r398_26, r398_29, r398_31, r398_34, r398_36, r398_37, r398_38, r398_40, r398_42, r398_45, r398_47, r398_49, r398_52, r398_53, r398_54, r398_57, r398_60, r398_63, r398_66, r398_67, znl_i, znl_r, znl_j, znl_l, List.length_cons, List.length_nil, Option.some.injEq, Sum.inl.injEq, Sum.inr.injEq, Prod.mk.injEq, true_and, and_true, exists_eq_left', zK_sI, zA_sI, zL_sI, zK_sL, zA_sL, zI_sL, zK_fI, zA_fI, zL_fI, zK_fL, zA_fL, zI_fL, Nat.reduceAdd, Nat.reduceLeDiff, forall_eq', zl_lt, zl_gt, zl_eq, zl_le, zl_ge, zm_0, zaft_n, zaft_v, zb_eq, Decidable.not_not, zK_rH, zI_rH, zL_rH, zA_rH, zsI_rH, zsL_rH, zsA_rH, zcpI_rH, zn_b, zm_b, Int.toNat_natCast, Int.toNat_zero, Int.reduceToNat, K.K0, K.K1, K.K2, K.K3, K.K6, K.K7, K.K8, K.K20, K.K21, K.K22, K.K23, K.K24, K.K25, A.A1, A.A2, A.A3, A.A4, A.A5, A.A6, A.A7, A.A8, A.A9, A.A10, A.R2, A.R7]
      refine ⟨fun z => absurd z (by omega), fun _ => ?_⟩
      exact loop (fun j hj => absurd hj (by omega)) _ _
    · rw [r398_9]
      simp (disch := omega) only [r398_0, r398_1, r398_3, r398_4, r398_7, r398_8, r398_10, r398_11, r398_14, r398_17, r398_18, r398_21, r398_22, r398_23, r398_24, r398_25, r398_26, r398_29, r398_31, r398_34, r398_36, r398_37, r398_38, r398_40, r398_42, r398_45, r398_47, r398_49, r398_52, r398_53, r398_54, r398_57, r398_60, r398_63, r398_66, r398_67, znl_i, znl_r, znl_j, znl_l, List.length_cons, List.length_nil, Option.some.injEq, Sum.inl.injEq, Sum.inr.injEq, Prod.mk.injEq, true_and, and_true, exists_eq_left', zK_sI, zA_sI, zL_sI, zK_sL, zA_sL, zI_sL, zK_fI, zA_fI, zL_fI, zK_fL, zA_fL, zI_fL, Nat.reduceAdd, Nat.reduceLeDiff, forall_eq', zl_lt, zl_gt, zl_eq, zl_le, zl_ge, zm_0, zaft_n, zaft_v, zb_eq, Decidable.not_not, zK_rH, zI_rH, zL_rH, zA_rH, zsI_rH, zsL_rH, zsA_rH, zcpI_rH, zn_b, zm_b, Int.toNat_natCast, Int.toNat_zero, Int.reduceToNat, K.K0, K.K1, K.K2, K.K3, K.K6, K.K7, K.K8, K.K20, K.K21, K.K22, K.K23, K.K24, K.K25, A.A1, A.A2, A.A3, A.A4, A.A5, A.A6, A.A7, A.A8, A.A9, A.A10, A.R2, A.R7, S.m]
      refine ⟨fun _ => ?_, fun z => absurd z (by omega)⟩
      exact g1 (decide_eq_true (yfind_no q)) _ _ _
    · have b := S.w.2.2.1 k hk (i + 1) (by omega) (by omega)
      rw [r398_9]
      simp (disch := omega) only [r398_0, r398_1, r398_3, r398_4, r398_7, r398_8, r398_10, r398_11, r398_14, r398_17, r398_18, r398_21, r398_22, r398_23, r398_24, r398_25, r398_26, r398_29, r398_31, r398_34, r398_36, r398_37, r398_38, r398_40, r398_42, r398_45, r398_47, r398_49, r398_52, r398_53, r398_54, r398_57, r398_60, r398_63, r398_66, r398_67, znl_i, znl_r, znl_j, znl_l, List.length_cons, List.length_nil, Option.some.injEq, Sum.inl.injEq, Sum.inr.injEq, Prod.mk.injEq, true_and, and_true, exists_eq_left', zK_sI, zA_sI, zL_sI, zK_sL, zA_sL, zI_sL, zK_fI, zA_fI, zL_fI, zK_fL, zA_fL, zI_fL, Nat.reduceAdd, Nat.reduceLeDiff, forall_eq', zl_lt, zl_gt, zl_eq, zl_le, zl_ge, zm_0, zaft_n, zaft_v, zb_eq, Decidable.not_not, zK_rH, zI_rH, zL_rH, zA_rH, zsI_rH, zsL_rH, zsA_rH, zcpI_rH, zn_b, zm_b, Int.toNat_natCast, Int.toNat_zero, Int.reduceToNat, K.K0, K.K1, K.K2, K.K3, K.K6, K.K7, K.K8, K.K20, K.K21, K.K22, K.K23, K.K24, K.K25, A.A1, A.A2, A.A3, A.A4, A.A5, A.A6, A.A7, A.A8, A.A9, A.A10, A.R2, A.R7, S.m, S.p]
      refine ⟨fun z => absurd z (by omega), fun _ => ?_⟩
      repeat (refine And.intro (by omega) ?_)
      have no : yin F (i + 1) n 0 k = false → yinA F (i + 1) n 0 = false := fun z => decide_eq_false (by rw [yfind_hit hk q (by rw [z]; rfl)]; omega)
      have cm : n * F.2 k (i + 1) + 0 = F.2 k (i + 1) * n := by rw [Int.mul_comm]; omega
      refine zc_mono (j_mulEx (d := d) (X := F.2 k (i + 1)) (Y := n) (by unfold yi; omega) hn (show e.1 ≤ zsz h by omega)) ?_
      rintro _ _ (⟨p, rfl, rfl⟩ | ⟨p, rfl, rfl⟩)
      · have p1 := p.1
        have p2 := p.2
        have pi := zn_i p
        have nxt : yin F (i + 1) n 0 k = true → ∀ j, j < k + 1 → (!yin F (i + 1) n 0 j) = false := fun z j hj => by
          by_cases w : j = k
          · rw [w, z]; rfl
          · exact q j (by omega)
        simp (disch := omega) only [r398_0, r398_1, r398_3, r398_4, r398_7, r398_8, r398_10, r398_11, r398_14, r398_17, r398_18, r398_21, r398_22, r398_23, r398_24, r398_25, r398_26, r398_29, r398_31, r398_34, r398_36, r398_37, r398_38, r398_40, r398_42, r398_45, r398_47, r398_49, r398_52, r398_53, r398_54, r398_57, r398_60, r398_63, r398_66, r398_67, znl_i, znl_r, znl_j, znl_l, List.length_cons, List.length_nil, Option.some.injEq, Sum.inl.injEq, Sum.inr.injEq, Prod.mk.injEq, true_and, and_true, exists_eq_left', zK_sI, zA_sI, zL_sI, zK_sL, zA_sL, zI_sL, zK_fI, zA_fI, zL_fI, zK_fL, zA_fL, zI_fL, Nat.reduceAdd, Nat.reduceLeDiff, forall_eq', zl_lt, zl_gt, zl_eq, zl_le, zl_ge, zm_0, zaft_n, zaft_v, zb_eq, Decidable.not_not, zK_rH, zI_rH, zL_rH, zA_rH, zsI_rH, zsL_rH, zsA_rH, zcpI_rH, zn_b, zm_b, Int.toNat_natCast, Int.toNat_zero, Int.reduceToNat, K.K0, K.K1, K.K2, K.K3, K.K6, K.K7, K.K8, K.K20, K.K21, K.K22, K.K23, K.K24, K.K25, A.A1, A.A2, A.A3, A.A4, A.A5, A.A6, A.A7, A.A8, A.A9, A.A10, A.R2, A.R7, pi]
        refine ⟨fun z => ?_, fun z => ?_⟩
        · refine ⟨by omega, by omega, g2 (no (decide_eq_false (by omega))) h X0⟩
        · refine ⟨fun w => ?_, fun w => ⟨by omega, by omega, g2 (no (decide_eq_false (by omega))) h X0⟩⟩
          exact ih (nxt (decide_eq_true (by omega))) _ _
      · have X1 : zX 1 6 h (znew h (Sum.inl 14) 6) := zX.new h _ _
        have n0 : ¬ (-50 ≤ n * F.2 k (i + 1) + 0 ∧ n * F.2 k (i + 1) + 0 ≤ 50) := fun z => p (by unfold yi; omega)
        simp (disch := omega) only [r398_0, r398_1, r398_3, r398_4, r398_7, r398_8, r398_10, r398_11, r398_14, r398_17, r398_18, r398_21, r398_22, r398_23, r398_24, r398_25, r398_26, r398_29, r398_31, r398_34, r398_36, r398_37, r398_38, r398_40, r398_42, r398_45, r398_47, r398_49, r398_52, r398_53, r398_54, r398_57, r398_60, r398_63, r398_66, r398_67, znl_i, znl_r, znl_j, znl_l, List.length_cons, List.length_nil, Option.some.injEq, Sum.inl.injEq, Sum.inr.injEq, Prod.mk.injEq, true_and, and_true, exists_eq_left', zK_sI, zA_sI, zL_sI, zK_sL, zA_sL, zI_sL, zK_fI, zA_fI, zL_fI, zK_fL, zA_fL, zI_fL, Nat.reduceAdd, Nat.reduceLeDiff, forall_eq', zl_lt, zl_gt, zl_eq, zl_le, zl_ge, zm_0, zaft_n, zaft_v, zb_eq, Decidable.not_not, zK_rH, zI_rH, zL_rH, zA_rH, zsI_rH, zsL_rH, zsA_rH, zcpI_rH, zn_b, zm_b, Int.toNat_natCast, Int.toNat_zero, Int.reduceToNat, K.K0, K.K1, K.K2, K.K3, K.K6, K.K7, K.K8, K.K20, K.K21, K.K22, K.K23, K.K24, K.K25, A.A1, A.A2, A.A3, A.A4, A.A5, A.A6, A.A7, A.A8, A.A9, A.A10, A.R2, A.R7, rH_new]
        refine (zaft_x (a := zsz h) (show zK (rH 1134 (znew h (Sum.inl 14) 6) x φ ψ α) (zsz h) = some (Sum.inl 14) from if_pos rfl)).mpr ?_
        simp (disch := omega) only [r398_0, r398_1, r398_3, r398_4, r398_7, r398_8, r398_10, r398_11, r398_14, r398_17, r398_18, r398_21, r398_22, r398_23, r398_24, r398_25, r398_26, r398_29, r398_31, r398_34, r398_36, r398_37, r398_38, r398_40, r398_42, r398_45, r398_47, r398_49, r398_52, r398_53, r398_54, r398_57, r398_60, r398_63, r398_66, r398_67, znl_i, znl_r, znl_j, znl_l, List.length_cons, List.length_nil, Option.some.injEq, Sum.inl.injEq, Sum.inr.injEq, Prod.mk.injEq, true_and, and_true, exists_eq_left', zK_sI, zA_sI, zL_sI, zK_sL, zA_sL, zI_sL, zK_fI, zA_fI, zL_fI, zK_fL, zA_fL, zI_fL, Nat.reduceAdd, Nat.reduceLeDiff, forall_eq', zl_lt, zl_gt, zl_eq, zl_le, zl_ge, zm_0, zaft_n, zaft_v, zb_eq, Decidable.not_not, zK_rH, zI_rH, zL_rH, zA_rH, zsI_rH, zsL_rH, zsA_rH, zcpI_rH, zn_b, zm_b, Int.toNat_natCast, Int.toNat_zero, Int.reduceToNat, K.K0, K.K1, K.K2, K.K3, K.K6, K.K7, K.K8, K.K20, K.K21, K.K22, K.K23, K.K24, K.K25, A.A1, A.A2, A.A3, A.A4, A.A5, A.A6, A.A7, A.A8, A.A9, A.A10, A.R2, A.R7]
        exact ⟨by omega, by omega, g2 (no (decide_eq_false n0)) _ X1⟩
  simp (disch := omega) only [n398, r398_0, r398_1, r398_3, r398_4, r398_7, r398_8, r398_10, r398_11, r398_14, r398_17, r398_18, r398_21, r398_22, r398_23, r398_24, r398_25, r398_26, r398_29, r398_31, r398_34, r398_36, r398_37, r398_38, r398_40, r398_42, r398_45, r398_47, r398_49, r398_52, r398_53, r398_54, r398_57, r398_60, r398_63, r398_66, r398_67, znl_i, znl_r, znl_j, znl_l, List.length_cons, List.length_nil, Option.some.injEq, Sum.inl.injEq, Sum.inr.injEq, Prod.mk.injEq, true_and, and_true, exists_eq_left', zK_sI, zA_sI, zL_sI, zK_sL, zA_sL, zI_sL, zK_fI, zA_fI, zL_fI, zK_fL, zA_fL, zI_fL, Nat.reduceAdd, Nat.reduceLeDiff, forall_eq', zl_lt, zl_gt, zl_eq, zl_le, zl_ge, zm_0, zaft_n, zaft_v, zb_eq, Decidable.not_not, zK_rH, zI_rH, zL_rH, zA_rH, zsI_rH, zsL_rH, zsA_rH, zcpI_rH, zn_b, zm_b, Int.toNat_natCast, Int.toNat_zero, Int.reduceToNat, K.K0, K.K1, K.K2, K.K3, K.K6, K.K7, K.K8, K.K20, K.K21, K.K22, K.K23, K.K24, K.K25, A.A1, A.A2, A.A3, A.A4, A.A5, A.A6, A.A7, A.A8, A.A9, A.A10, A.R2, A.R7]
  have fin : ∀ h1, zX 1 6 h h1 → (yinA F 1 n 0 && (yinA F 2 n 0 && yinA F 3 n 0)) = false → (fun ov h' => ov = Sum.inl (some (zi (yb (yinA F 1 n 0 && (yinA F 2 n 0 && yinA F 3 n 0))))) ∧ ∃ h1, h' = cH h1 x φ ψ α ∧ zX 1 6 h h1 : zEt) (Sum.inl (some (zi 0))) (cH h1 x φ ψ α) := fun h1 X q => by
    rw [q]; exact ⟨rfl, h1, rfl, X⟩
  refine inner 0 _ (by omega) (fun t1 w1 w2 w3 => inner 1 _ (by omega) (fun t2 w1 w2 w3 => inner 2 _ (by omega) (fun t3 w1 w2 w3 => ?_) (fun t3 h1 X => fin h1 X (by rw [t3, Bool.and_false, Bool.and_false])) _ _ _) (fun t2 h1 X => fin h1 X (by rw [t2, Bool.false_and, Bool.and_false])) _ _ _) (fun t1 h1 X => fin h1 X (by rw [t1, Bool.false_and])) _ _ _
  rw [r398_2]
  simp (disch := omega) only [r398_0, r398_1, r398_3, r398_4, r398_7, r398_8, r398_10, r398_11, r398_14, r398_17, r398_18, r398_21, r398_22, r398_23, r398_24, r398_25, r398_26, r398_29, r398_31, r398_34, r398_36, r398_37, r398_38, r398_40, r398_42, r398_45, r398_47, r398_49, r398_52, r398_53, r398_54, r398_57, r398_60, r398_63, r398_66, r398_67, znl_i, znl_r, znl_j, znl_l, List.length_cons, List.length_nil, Option.some.injEq, Sum.inl.injEq, Sum.inr.injEq, Prod.mk.injEq, true_and, and_true, exists_eq_left', zK_sI, zA_sI, zL_sI, zK_sL, zA_sL, zI_sL, zK_fI, zA_fI, zL_fI, zK_fL, zA_fL, zI_fL, Nat.reduceAdd, Nat.reduceLeDiff, forall_eq', zl_lt, zl_gt, zl_eq, zl_le, zl_ge, zm_0, zaft_n, zaft_v, zb_eq, Decidable.not_not, zK_rH, zI_rH, zL_rH, zA_rH, zsI_rH, zsL_rH, zsA_rH, zcpI_rH, zn_b, zm_b, Int.toNat_natCast, Int.toNat_zero, Int.reduceToNat, K.K0, K.K1, K.K2, K.K3, K.K6, K.K7, K.K8, K.K20, K.K21, K.K22, K.K23, K.K24, K.K25, A.A1, A.A2, A.A3, A.A4, A.A5, A.A6, A.A7, A.A8, A.A9, A.A10, A.R2, A.R7]
  refine ⟨fun _ => ⟨by decide, by decide, ?_⟩, fun z => absurd z (by decide)⟩
  have t1 : yinA F 1 n 0 = true := t1
  have t2 : yinA F 2 n 0 = true := t2
  have t3 : yinA F 3 n 0 = true := t3
  rw [t1, t2, t3]
  exact ⟨rfl, h, rfl, X0⟩
theorem f_stretches (K : fK e h x f) (A : fA x f α) (S : fS F f φ) (n : Int) (hw : yW (ychF 3 n 0 (ychF 2 n 0 (ychF 1 n 0 F)))) : zc e (d + 2) 399 [zr (some (x + f)), zi n] (cH h x φ ψ α)
    (fun ov h' => ov = Sum.inl none ∧ ∃ φ', h' = cH h x φ' ψ (fcl f 12 α) ∧ fS (ychF 3 n 0 (ychF 2 n 0 (ychF 1 n 0 F))) f φ' ∧ ∀ j, (j < f ∨ f + 6 ≤ j) → φ' j = φ j) := by
  have kn := K.n
  have kb := K.b
  have hm := S.w.1
  have fin : ∀ k, k < F.1 → ∀ i, i < 3 → (ychF 3 n 0 (ychF 2 n 0 (ychF 1 n 0 F))).2 k (i + 1) = F.2 k (i + 1) * n := fun k hk i hi => by
    obtain rfl | rfl | rfl : i = 0 ∨ i = 1 ∨ i = 2 := by omega
    all_goals simp [ychF, Int.mul_comm]
  have inner : ∀ (i : Nat) (Q : zEt), i < 3 → (∀ φ' : Nat → Nat → Int, (∀ j, j < f + 3 ∨ f + 6 ≤ j → φ' j = φ j) → (∀ i' j, i' < 3 → j < F.1 → φ' (f + 3 + i') j = if i' < i + 1 then F.2 j (i' + 1) * n else F.2 j (i' + 1)) → ∀ w, zg e 399 (d + 1) 2 [zr (some (x + f)), zi n, zi ((i + 1 : Nat) : Int), w] [] (cH h x φ' ψ α) Q) → ∀ φ' : Nat → Nat → Int, (∀ j, j < f + 3 ∨ f + 6 ≤ j → φ' j = φ j) → (∀ i' j, i' < 3 → j < F.1 → φ' (f + 3 + i') j = if i' < i then F.2 j (i' + 1) * n else F.2 j (i' + 1)) → ∀ w, zg e 399 (d + 1) 2 [zr (some (x + f)), zi n, zi (i : Int), w] [] (cH h x φ' ψ α) Q := by
    intro i Q hi g φ0 q1 q2 w
    have loop := zdown0 (fun k => ∀ φ' : Nat → Nat → Int, (∀ j, j < f + 3 ∨ f + 6 ≤ j → φ' j = φ j) → (∀ i' j, i' < 3 → j < F.1 → φ' (f + 3 + i') j = if i' < i ∨ i' = i ∧ j < k then F.2 j (i' + 1) * n else F.2 j (i' + 1)) → zg e 399 (d + 1) 9 [zr (some (x + f)), zi n, zi (i : Int), zi (k : Int)] [] (cH h x φ' ψ α) Q) F.1 (fun φ' q1 q2 => ?_) (fun k hk ih φ' q1 q2 => ?_)
    · rw [r399_2]
      simp (disch := omega) only [r399_0, r399_1, r399_3, r399_4, r399_7, r399_8, r399_10, r399_11, r399_14, r399_17, r399_18, r399_21, r399_22, r399_23, r399_24, r399_25, r399_26, r399_27, r399_28, r399_29, r399_32, r399_35, r399_38, r399_41, r399_42, r399_45, znl_i, znl_r, znl_j, znl_l, List.length_cons, List.length_nil, Option.some.injEq, Sum.inl.injEq, Sum.inr.injEq, Prod.mk.injEq, true_and, and_true, exists_eq_left', zK_sI, zA_sI, zL_sI, zK_sL, zA_sL, zI_sL, zK_fI, zA_fI, zL_fI, zK_fL, zA_fL, zI_fL, Nat.reduceAdd, Nat.reduceLeDiff, forall_eq', zl_lt, zl_gt, zl_eq, zl_le, zl_ge, zm_0, zaft_n, zaft_v, zb_eq, Decidable.not_not, zK_rH, zI_rH, zL_rH, zA_rH, zsI_rH, zsL_rH, zsA_rH, zcpI_rH, zn_b, zm_b, Int.toNat_natCast, Int.toNat_zero, Int.reduceToNat, K.K0, K.K1, K.K2, K.K3, K.K6, K.K7, K.K8, K.K20, K.K21, K.K22, K.K23, K.K24, K.K25, A.A1, A.A2, A.A3, A.A4, A.A5, A.A6, A.A7, A.A8, A.A9, A.A10, A.R2, A.R7]
      refine ⟨fun z => absurd z (by omega), fun _ => ?_⟩
      refine loop φ0 q1 fun i' j hi' hj => ?_
      rw [q2 i' j hi' hj]
      by_cases c : i' < i
      · rw [if_pos c, if_pos (Or.inl c)]
      · rw [if_neg c, if_neg (by omega)]
    · rw [r399_9]
      simp (disch := omega) only [r399_0, r399_1, r399_3, r399_4, r399_7, r399_8, r399_10, r399_11, r399_14, r399_17, r399_18, r399_21, r399_22, r399_23, r399_24, r399_25, r399_26, r399_27, r399_28, r399_29, r399_32, r399_35, r399_38, r399_41, r399_42, r399_45, znl_i, znl_r, znl_j, znl_l, List.length_cons, List.length_nil, Option.some.injEq, Sum.inl.injEq, Sum.inr.injEq, Prod.mk.injEq, true_and, and_true, exists_eq_left', zK_sI, zA_sI, zL_sI, zK_sL, zA_sL, zI_sL, zK_fI, zA_fI, zL_fI, zK_fL, zA_fL, zI_fL, Nat.reduceAdd, Nat.reduceLeDiff, forall_eq', zl_lt, zl_gt, zl_eq, zl_le, zl_ge, zm_0, zaft_n, zaft_v, zb_eq, Decidable.not_not, zK_rH, zI_rH, zL_rH, zA_rH, zsI_rH, zsL_rH, zsA_rH, zcpI_rH, zn_b, zm_b, Int.toNat_natCast, Int.toNat_zero, Int.reduceToNat, K.K0, K.K1, K.K2, K.K3, K.K6, K.K7, K.K8, K.K20, K.K21, K.K22, K.K23, K.K24, K.K25, A.A1, A.A2, A.A3, A.A4, A.A5, A.A6, A.A7, A.A8, A.A9, A.A10, A.R2, A.R7, q1, S.m]
      refine ⟨fun _ => ?_, fun z => absurd z (by omega)⟩
      refine g φ' q1 (fun i' j hi' hj => ?_) _
      rw [q2 i' j hi' hj]
      by_cases c : i' < i + 1
      · rw [if_pos c, if_pos (by omega)]
      · rw [if_neg c, if_neg (by omega)]
    · have b := S.w.2.2.1 k hk (i + 1) (by omega) (by omega)
      have v := q2 i k hi hk
      rw [if_neg (by omega)] at v
      have fb := hw.2.2.1 k hk (i + 1) (by omega) (by omega)
      rw [fin k hk i hi] at fb
      rw [r399_9]
      simp (disch := omega) only [r399_0, r399_1, r399_3, r399_4, r399_7, r399_8, r399_10, r399_11, r399_14, r399_17, r399_18, r399_21, r399_22, r399_23, r399_24, r399_25, r399_26, r399_27, r399_28, r399_29, r399_32, r399_35, r399_38, r399_41, r399_42, r399_45, znl_i, znl_r, znl_j, znl_l, List.length_cons, List.length_nil, Option.some.injEq, Sum.inl.injEq, Sum.inr.injEq, Prod.mk.injEq, true_and, and_true, exists_eq_left', zK_sI, zA_sI, zL_sI, zK_sL, zA_sL, zI_sL, zK_fI, zA_fI, zL_fI, zK_fL, zA_fL, zI_fL, Nat.reduceAdd, Nat.reduceLeDiff, forall_eq', zl_lt, zl_gt, zl_eq, zl_le, zl_ge, zm_0, zaft_n, zaft_v, zb_eq, Decidable.not_not, zK_rH, zI_rH, zL_rH, zA_rH, zsI_rH, zsL_rH, zsA_rH, zcpI_rH, zn_b, zm_b, Int.toNat_natCast, Int.toNat_zero, Int.reduceToNat, K.K0, K.K1, K.K2, K.K3, K.K6, K.K7, K.K8, K.K20, K.K21, K.K22, K.K23, K.K24, K.K25, A.A1, A.A2, A.A3, A.A4, A.A5, A.A6, A.A7, A.A8, A.A9, A.A10, A.R2, A.R7, q1, S.m, v]
      refine ⟨fun z => absurd z (by omega), fun _ => ?_⟩
      repeat (refine And.intro (by omega) ?_)
      refine ih _ (fun j hj => ?_) (fun i' j hi' hj => ?_)
      · rw [zu_cell _ _ _ (by omega)]; exact q1 j hj
      · by_cases c : i' = i
        · subst c
          by_cases c2 : j = k
          · subst c2; rw [zu_same, if_pos (by omega)]
          · rw [zu_slot _ _ _ c2, q2 i' j hi' hj]
            by_cases c3 : j < k
            · rw [if_pos (by omega), if_pos (by omega)]
            · rw [if_neg (by omega), if_neg (by omega)]
        · rw [zu_cell _ _ _ (by omega), q2 i' j hi' hj]
          by_cases c3 : i' < i
          · rw [if_pos (by omega), if_pos (by omega)]
          · rw [if_neg (by omega), if_neg (by omega)]
  simp (disch := omega) only [n399, r399_0, r399_1, r399_3, r399_4, r399_7, r399_8, r399_10, r399_11, r399_14, r399_17, r399_18, r399_21, r399_22, r399_23, r399_24, r399_25, r399_26, r399_27, r399_28, r399_29, r399_32, r399_35, r399_38, r399_41, r399_42, r399_45, znl_i, znl_r, znl_j, znl_l, List.length_cons, List.length_nil, Option.some.injEq, Sum.inl.injEq, Sum.inr.injEq, Prod.mk.injEq, true_and, and_true, exists_eq_left', zK_sI, zA_sI, zL_sI, zK_sL, zA_sL, zI_sL, zK_fI, zA_fI, zL_fI, zK_fL, zA_fL, zI_fL, Nat.reduceAdd, Nat.reduceLeDiff, forall_eq', zl_lt, zl_gt, zl_eq, zl_le, zl_ge, zm_0, zaft_n, zaft_v, zb_eq, Decidable.not_not, zK_rH, zI_rH, zL_rH, zA_rH, zsI_rH, zsL_rH, zsA_rH, zcpI_rH, zn_b, zm_b, Int.toNat_natCast, Int.toNat_zero, Int.reduceToNat, K.K0, K.K1, K.K2, K.K3, K.K6, K.K7, K.K8, K.K20, K.K21, K.K22, K.K23, K.K24, K.K25, A.A1, A.A2, A.A3, A.A4, A.A5, A.A6, A.A7, A.A8, A.A9, A.A10, A.R2, A.R7]
  refine inner 0 _ (by omega) (fun φ1 a1 b1 w => inner 1 _ (by omega) (fun φ2 a2 b2 w => inner 2 _ (by omega) (fun φ3 a3 b3 w => ?_) φ2 a2 b2 w) φ1 a1 b1 w) φ (fun _ _ => rfl) (fun i' j hi' hj => by rw [if_neg (by omega)]; exact S.p i' hi' j hj) _
  rw [r399_2]
  simp (disch := omega) only [r399_0, r399_1, r399_3, r399_4, r399_7, r399_8, r399_10, r399_11, r399_14, r399_17, r399_18, r399_21, r399_22, r399_23, r399_24, r399_25, r399_26, r399_27, r399_28, r399_29, r399_32, r399_35, r399_38, r399_41, r399_42, r399_45, znl_i, znl_r, znl_j, znl_l, List.length_cons, List.length_nil, Option.some.injEq, Sum.inl.injEq, Sum.inr.injEq, Prod.mk.injEq, true_and, and_true, exists_eq_left', zK_sI, zA_sI, zL_sI, zK_sL, zA_sL, zI_sL, zK_fI, zA_fI, zL_fI, zK_fL, zA_fL, zI_fL, Nat.reduceAdd, Nat.reduceLeDiff, forall_eq', zl_lt, zl_gt, zl_eq, zl_le, zl_ge, zm_0, zaft_n, zaft_v, zb_eq, Decidable.not_not, zK_rH, zI_rH, zL_rH, zA_rH, zsI_rH, zsL_rH, zsA_rH, zcpI_rH, zn_b, zm_b, Int.toNat_natCast, Int.toNat_zero, Int.reduceToNat, K.K0, K.K1, K.K2, K.K3, K.K6, K.K7, K.K8, K.K20, K.K21, K.K22, K.K23, K.K24, K.K25, A.A1, A.A2, A.A3, A.A4, A.A5, A.A6, A.A7, A.A8, A.A9, A.A10, A.R2, A.R7]
  refine ⟨fun _ => ?_, fun z => absurd z (by decide)⟩
  refine zc_w (f_changes K A) ?_
  simp (disch := omega) only [r399_0, r399_1, r399_3, r399_4, r399_7, r399_8, r399_10, r399_11, r399_14, r399_17, r399_18, r399_21, r399_22, r399_23, r399_24, r399_25, r399_26, r399_27, r399_28, r399_29, r399_32, r399_35, r399_38, r399_41, r399_42, r399_45, znl_i, znl_r, znl_j, znl_l, List.length_cons, List.length_nil, Option.some.injEq, Sum.inl.injEq, Sum.inr.injEq, Prod.mk.injEq, true_and, and_true, exists_eq_left', zK_sI, zA_sI, zL_sI, zK_sL, zA_sL, zI_sL, zK_fI, zA_fI, zL_fI, zK_fL, zA_fL, zI_fL, Nat.reduceAdd, Nat.reduceLeDiff, forall_eq', zl_lt, zl_gt, zl_eq, zl_le, zl_ge, zm_0, zaft_n, zaft_v, zb_eq, Decidable.not_not, zK_rH, zI_rH, zL_rH, zA_rH, zsI_rH, zsL_rH, zsA_rH, zcpI_rH, zn_b, zm_b, Int.toNat_natCast, Int.toNat_zero, Int.reduceToNat, K.K0, K.K1, K.K2, K.K3, K.K6, K.K7, K.K8, K.K20, K.K21, K.K22, K.K23, K.K24, K.K25, A.A1, A.A2, A.A3, A.A4, A.A5, A.A6, A.A7, A.A8, A.A9, A.A10, A.R2, A.R7]
  refine ⟨φ3, rfl, ⟨hw, ?_, fun j hj => ?_, fun i hi j hj => ?_⟩, fun j hj => a3 j (by omega)⟩
  · rw [a3 _ (by omega)]; exact S.m
  · rw [a3 _ (by omega), S.k j hj]; simp [ychF]
  · rw [fin j hj i hi, b3 i j hi hj, if_pos (by omega)]
end
