/-! ===== the component's maps: Op, Both, Move ===== -/
/-- an Op lies at o, its row at r -/
structure oS (h : zH) (x : Nat) (φ : Nat → Nat → Int) (α : Nat → Nat → Option Nat) (o r n : Nat) (π : Nat → Nat) (sg : Int) : Prop where
  lo : o < 1134
  lr : r < 1134
  ln : n ≤ 12
  K : zK h (x + o) = some (Sum.inl 6)
  Kr : zK h (x + r) = some (Sum.inr (.int, 12))
  A : α o 0 = some (x + r)
  many : φ o 1 = (n : Int)
  hand : φ o 2 = sg
  row : ∀ k, k < n → φ r k = (π k : Int)
  lt : ∀ k, k < n → π k < n
  s1 : -1 ≤ sg ∧ sg ≤ 1
section
variable {e : zEv} {d x f o r n g b : Nat} {h h1 h2 : zH} {φ φ' φ'' ψ : Nat → Nat → Int} {α α' α'' : Nat → Nat → Option Nat} {F : yF} {π ρ : Nat → Nat} {sg sh : Int} {T : yT}
theorem oS.of (O : oS h x φ α o r n π sg) (hK : ∀ q, q < x + 1134 → zK h1 q = zK h q) (e1 : φ' o = φ o) (e2 : φ' r = φ r) (h3 : α' o 0 = α o 0) : oS h1 x φ' α' o r n π sg := by
  have ho := O.lo
  have hr := O.lr
  exact ⟨O.lo, O.lr, O.ln, by rw [hK _ (by omega)]; exact O.K, by rw [hK _ (by omega)]; exact O.Kr, by rw [h3]; exact O.A, by rw [e1]; exact O.many, by rw [e1]; exact O.hand, fun k hk => by rw [e2]; exact O.row k hk, O.lt, O.s1⟩
theorem o_to (O : oS h x φ α o r n π sg) {k : Nat} (hk : k < n) : zc e (d + 1) 448 [zr (some (x + o)), zi (k : Int)] (cH h x φ ψ α) (fun ov h' => ov = Sum.inl (some (zi (π k : Int))) ∧ h' = cH h x φ ψ α) := by
  have ho := O.lo
  have hr := O.lr
  have hn := O.ln
  have hl := O.lt k hk
  simp (disch := omega) only [n448, r448_0, r448_1, r448_4, r448_5, r448_6, znl_i, znl_r, znl_j, znl_l, List.length_cons, List.length_nil, Option.some.injEq, Sum.inl.injEq, Sum.inr.injEq, Prod.mk.injEq, true_and, and_true, exists_eq_left', zK_sI, zA_sI, zL_sI, zK_sL, zA_sL, zI_sL, zK_fI, zA_fI, zL_fI, zK_fL, zA_fL, zI_fL, Nat.reduceAdd, Nat.reduceLeDiff, forall_eq', zl_lt, zl_gt, zl_eq, zl_le, zl_ge, zm_0, zaft_n, zaft_v, zb_eq, Decidable.not_not, zK_rH, zI_rH, zL_rH, zA_rH, zsI_rH, zsL_rH, zsA_rH, zcpI_rH, zn_b, zm_b, Int.toNat_natCast, Int.toNat_zero, Int.reduceToNat, O.K, O.Kr, O.A, O.row]
  repeat (refine And.intro (by omega) ?_)
  omega
theorem o_hand (O : oS h x φ α o r n π sg) : zc e (d + 1) 449 [zr (some (x + o))] (cH h x φ ψ α) (fun ov h' => ov = Sum.inl (some (zi sg)) ∧ h' = cH h x φ ψ α) := by
  have ho := O.lo
  have hs := O.s1
  simp (disch := omega) only [n449, r449_0, r449_1, r449_4, znl_i, znl_r, znl_j, znl_l, List.length_cons, List.length_nil, Option.some.injEq, Sum.inl.injEq, Sum.inr.injEq, Prod.mk.injEq, true_and, and_true, exists_eq_left', zK_sI, zA_sI, zL_sI, zK_sL, zA_sL, zI_sL, zK_fI, zA_fI, zL_fI, zK_fL, zA_fL, zI_fL, Nat.reduceAdd, Nat.reduceLeDiff, forall_eq', zl_lt, zl_gt, zl_eq, zl_le, zl_ge, zm_0, zaft_n, zaft_v, zb_eq, Decidable.not_not, zK_rH, zI_rH, zL_rH, zA_rH, zsI_rH, zsL_rH, zsA_rH, zcpI_rH, zn_b, zm_b, Int.toNat_natCast, Int.toNat_zero, Int.reduceToNat, O.K, O.hand]
theorem o_many (O : oS h x φ α o r n π sg) : zc e (d + 1) 450 [zr (some (x + o))] (cH h x φ ψ α) (fun ov h' => ov = Sum.inl (some (zi (n : Int))) ∧ h' = cH h x φ ψ α) := by
  have ho := O.lo
  have hn := O.ln
  simp (disch := omega) only [n450, r450_0, r450_1, r450_4, znl_i, znl_r, znl_j, znl_l, List.length_cons, List.length_nil, Option.some.injEq, Sum.inl.injEq, Sum.inr.injEq, Prod.mk.injEq, true_and, and_true, exists_eq_left', zK_sI, zA_sI, zL_sI, zK_sL, zA_sL, zI_sL, zK_fI, zA_fI, zL_fI, zK_fL, zA_fL, zI_fL, Nat.reduceAdd, Nat.reduceLeDiff, forall_eq', zl_lt, zl_gt, zl_eq, zl_le, zl_ge, zm_0, zaft_n, zaft_v, zb_eq, Decidable.not_not, zK_rH, zI_rH, zL_rH, zA_rH, zsI_rH, zsL_rH, zsA_rH, zcpI_rH, zn_b, zm_b, Int.toNat_natCast, Int.toNat_zero, Int.reduceToNat, O.K, O.many]
theorem o_leaves (O : oS h x φ α o r n π sg) {k : Nat} (hk : k < n) : zc e (d + 2) 381 [zr (some (x + o)), zi (k : Int)] (cH h x φ ψ α) (fun ov h' => ov = Sum.inl (some (zi (yb (decide (π k = k))))) ∧ h' = cH h x φ ψ α) := by
  have ho := O.lo
  have hn := O.ln
  have hl := O.lt k hk
  simp (disch := omega) only [n381, r381_0, r381_1, r381_2, r381_7, r381_8, r381_11, r381_12, r381_15, r381_16, znl_i, znl_r, znl_j, znl_l, List.length_cons, List.length_nil, Option.some.injEq, Sum.inl.injEq, Sum.inr.injEq, Prod.mk.injEq, true_and, and_true, exists_eq_left', zK_sI, zA_sI, zL_sI, zK_sL, zA_sL, zI_sL, zK_fI, zA_fI, zL_fI, zK_fL, zA_fL, zI_fL, Nat.reduceAdd, Nat.reduceLeDiff, forall_eq', zl_lt, zl_gt, zl_eq, zl_le, zl_ge, zm_0, zaft_n, zaft_v, zb_eq, Decidable.not_not, zK_rH, zI_rH, zL_rH, zA_rH, zsI_rH, zsL_rH, zsA_rH, zcpI_rH, zn_b, zm_b, Int.toNat_natCast, Int.toNat_zero, Int.reduceToNat, O.K]
  refine Or.inl (zc_w (o_to (d := d) O hk) ?_)
  simp (disch := omega) only [r381_0, r381_1, r381_2, r381_7, r381_8, r381_11, r381_12, r381_15, r381_16, znl_i, znl_r, znl_j, znl_l, List.length_cons, List.length_nil, Option.some.injEq, Sum.inl.injEq, Sum.inr.injEq, Prod.mk.injEq, true_and, and_true, exists_eq_left', zK_sI, zA_sI, zL_sI, zK_sL, zA_sL, zI_sL, zK_fI, zA_fI, zL_fI, zK_fL, zA_fL, zI_fL, Nat.reduceAdd, Nat.reduceLeDiff, forall_eq', zl_lt, zl_gt, zl_eq, zl_le, zl_ge, zm_0, zaft_n, zaft_v, zb_eq, Decidable.not_not, zK_rH, zI_rH, zL_rH, zA_rH, zsI_rH, zsL_rH, zsA_rH, zcpI_rH, zn_b, zm_b, Int.toNat_natCast, Int.toNat_zero, Int.reduceToNat, O.K]
  refine ⟨fun z => ⟨by decide, by decide, ?_⟩, fun z => ⟨by decide, by decide, ?_⟩⟩
  · rw [decide_eq_false (by omega)]; rfl
  · rw [decide_eq_true (by omega)]; rfl
theorem o_staying (O : oS h x φ α o r n π sg) : zc e (d + 3) 380 [zr (some (x + o))] (cH h x φ ψ α) (fun ov h' => ov = Sum.inl (some (zi (ycnt (fun k => decide (π k = k)) n))) ∧ h' = cH h x φ ψ α) := by
  have ho := O.lo
  have hn := O.ln
  have loop := zdown0 (fun k => zg e 380 (d + 2) 4 [zr (some (x + o)), zi (ycnt (fun k => decide (π k = k)) k), zi (k : Int)] [] (cH h x φ ψ α) (fun ov h' => ov = Sum.inl (some (zi (ycnt (fun k => decide (π k = k)) n))) ∧ h' = cH h x φ ψ α)) n ?_ (fun k hk ih => ?_)
  · simp (disch := omega) only [n380, r380_0, r380_1, r380_2, r380_3, r380_5, r380_6, r380_11, r380_14, r380_15, r380_16, r380_17, r380_22, r380_25, r380_26, r380_29, r380_30, r380_31, r380_32, r380_35, r380_38, r380_39, znl_i, znl_r, znl_j, znl_l, List.length_cons, List.length_nil, Option.some.injEq, Sum.inl.injEq, Sum.inr.injEq, Prod.mk.injEq, true_and, and_true, exists_eq_left', zK_sI, zA_sI, zL_sI, zK_sL, zA_sL, zI_sL, zK_fI, zA_fI, zL_fI, zK_fL, zA_fL, zI_fL, Nat.reduceAdd, Nat.reduceLeDiff, forall_eq', zl_lt, zl_gt, zl_eq, zl_le, zl_ge, zm_0, zaft_n, zaft_v, zb_eq, Decidable.not_not, zK_rH, zI_rH, zL_rH, zA_rH, zsI_rH, zsL_rH, zsA_rH, zcpI_rH, zn_b, zm_b, Int.toNat_natCast, Int.toNat_zero, Int.reduceToNat, O.K]
    exact loop
  · have b := ycnt_bd (fun k => decide (π k = k)) n
    rw [r380_4]
    simp (disch := omega) only [r380_0, r380_1, r380_2, r380_3, r380_5, r380_6, r380_11, r380_14, r380_15, r380_16, r380_17, r380_22, r380_25, r380_26, r380_29, r380_30, r380_31, r380_32, r380_35, r380_38, r380_39, znl_i, znl_r, znl_j, znl_l, List.length_cons, List.length_nil, Option.some.injEq, Sum.inl.injEq, Sum.inr.injEq, Prod.mk.injEq, true_and, and_true, exists_eq_left', zK_sI, zA_sI, zL_sI, zK_sL, zA_sL, zI_sL, zK_fI, zA_fI, zL_fI, zK_fL, zA_fL, zI_fL, Nat.reduceAdd, Nat.reduceLeDiff, forall_eq', zl_lt, zl_gt, zl_eq, zl_le, zl_ge, zm_0, zaft_n, zaft_v, zb_eq, Decidable.not_not, zK_rH, zI_rH, zL_rH, zA_rH, zsI_rH, zsL_rH, zsA_rH, zcpI_rH, zn_b, zm_b, Int.toNat_natCast, Int.toNat_zero, Int.reduceToNat, O.K]
    refine Or.inl (zc_w (o_many (d := d + 1) O) ?_)
    simp (disch := omega) only [r380_0, r380_1, r380_2, r380_3, r380_5, r380_6, r380_11, r380_14, r380_15, r380_16, r380_17, r380_22, r380_25, r380_26, r380_29, r380_30, r380_31, r380_32, r380_35, r380_38, r380_39, znl_i, znl_r, znl_j, znl_l, List.length_cons, List.length_nil, Option.some.injEq, Sum.inl.injEq, Sum.inr.injEq, Prod.mk.injEq, true_and, and_true, exists_eq_left', zK_sI, zA_sI, zL_sI, zK_sL, zA_sL, zI_sL, zK_fI, zA_fI, zL_fI, zK_fL, zA_fL, zI_fL, Nat.reduceAdd, Nat.reduceLeDiff, forall_eq', zl_lt, zl_gt, zl_eq, zl_le, zl_ge, zm_0, zaft_n, zaft_v, zb_eq, Decidable.not_not, zK_rH, zI_rH, zL_rH, zA_rH, zsI_rH, zsL_rH, zsA_rH, zcpI_rH, zn_b, zm_b, Int.toNat_natCast, Int.toNat_zero, Int.reduceToNat, O.K]
    exact ⟨fun _ => trivial, fun z => absurd z (by omega)⟩
  · have b := ycnt_bd (fun k => decide (π k = k)) k
    rw [r380_4]
    simp (disch := omega) only [r380_0, r380_1, r380_2, r380_3, r380_5, r380_6, r380_11, r380_14, r380_15, r380_16, r380_17, r380_22, r380_25, r380_26, r380_29, r380_30, r380_31, r380_32, r380_35, r380_38, r380_39, znl_i, znl_r, znl_j, znl_l, List.length_cons, List.length_nil, Option.some.injEq, Sum.inl.injEq, Sum.inr.injEq, Prod.mk.injEq, true_and, and_true, exists_eq_left', zK_sI, zA_sI, zL_sI, zK_sL, zA_sL, zI_sL, zK_fI, zA_fI, zL_fI, zK_fL, zA_fL, zI_fL, Nat.reduceAdd, Nat.reduceLeDiff, forall_eq', zl_lt, zl_gt, zl_eq, zl_le, zl_ge, zm_0, zaft_n, zaft_v, zb_eq, Decidable.not_not, zK_rH, zI_rH, zL_rH, zA_rH, zsI_rH, zsL_rH, zsA_rH, zcpI_rH, zn_b, zm_b, Int.toNat_natCast, Int.toNat_zero, Int.reduceToNat, O.K]
    refine Or.inl (zc_w (o_many (d := d + 1) O) ?_)
    simp (disch := omega) only [r380_0, r380_1, r380_2, r380_3, r380_5, r380_6, r380_11, r380_14, r380_15, r380_16, r380_17, r380_22, r380_25, r380_26, r380_29, r380_30, r380_31, r380_32, r380_35, r380_38, r380_39, znl_i, znl_r, znl_j, znl_l, List.length_cons, List.length_nil, Option.some.injEq, Sum.inl.injEq, Sum.inr.injEq, Prod.mk.injEq, true_and, and_true, exists_eq_left', zK_sI, zA_sI, zL_sI, zK_sL, zA_sL, zI_sL, zK_fI, zA_fI, zL_fI, zK_fL, zA_fL, zI_fL, Nat.reduceAdd, Nat.reduceLeDiff, forall_eq', zl_lt, zl_gt, zl_eq, zl_le, zl_ge, zm_0, zaft_n, zaft_v, zb_eq, Decidable.not_not, zK_rH, zI_rH, zL_rH, zA_rH, zsI_rH, zsL_rH, zsA_rH, zcpI_rH, zn_b, zm_b, Int.toNat_natCast, Int.toNat_zero, Int.reduceToNat, O.K]
    refine ⟨fun z => absurd z (by omega), fun _ => ?_⟩
    refine Or.inl (zc_w (o_leaves (d := d) O hk) ?_)
    rw [ycnt_sb] at ih
    cases hq : decide (π k = k) with
    | true =>
      rw [hq] at ih
      simp (disch := omega) only [r380_0, r380_1, r380_2, r380_3, r380_5, r380_6, r380_11, r380_14, r380_15, r380_16, r380_17, r380_22, r380_25, r380_26, r380_29, r380_30, r380_31, r380_32, r380_35, r380_38, r380_39, znl_i, znl_r, znl_j, znl_l, List.length_cons, List.length_nil, Option.some.injEq, Sum.inl.injEq, Sum.inr.injEq, Prod.mk.injEq, true_and, and_true, exists_eq_left', zK_sI, zA_sI, zL_sI, zK_sL, zA_sL, zI_sL, zK_fI, zA_fI, zL_fI, zK_fL, zA_fL, zI_fL, Nat.reduceAdd, Nat.reduceLeDiff, forall_eq', zl_lt, zl_gt, zl_eq, zl_le, zl_ge, zm_0, zaft_n, zaft_v, zb_eq, Decidable.not_not, zK_rH, zI_rH, zL_rH, zA_rH, zsI_rH, zsL_rH, zsA_rH, zcpI_rH, zn_b, zm_b, Int.toNat_natCast, Int.toNat_zero, Int.reduceToNat, O.K, show yb true = 1 from rfl]
      exact ⟨fun z => absurd z (by decide), fun _ => ih⟩
    | false =>
      rw [hq] at ih
      simp (disch := omega) only [r380_0, r380_1, r380_2, r380_3, r380_5, r380_6, r380_11, r380_14, r380_15, r380_16, r380_17, r380_22, r380_25, r380_26, r380_29, r380_30, r380_31, r380_32, r380_35, r380_38, r380_39, znl_i, znl_r, znl_j, znl_l, List.length_cons, List.length_nil, Option.some.injEq, Sum.inl.injEq, Sum.inr.injEq, Prod.mk.injEq, true_and, and_true, exists_eq_left', zK_sI, zA_sI, zL_sI, zK_sL, zA_sL, zI_sL, zK_fI, zA_fI, zL_fI, zK_fL, zA_fL, zI_fL, Nat.reduceAdd, Nat.reduceLeDiff, forall_eq', zl_lt, zl_gt, zl_eq, zl_le, zl_ge, zm_0, zaft_n, zaft_v, zb_eq, Decidable.not_not, zK_rH, zI_rH, zL_rH, zA_rH, zsI_rH, zsL_rH, zsA_rH, zcpI_rH, zn_b, zm_b, Int.toNat_natCast, Int.toNat_zero, Int.reduceToNat, O.K, show yb false = 0 from rfl]
      exact ⟨fun _ => ih, fun z => absurd trivial z⟩
end
