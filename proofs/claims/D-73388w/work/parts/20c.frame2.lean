/-- a frame's numbers: F lies at f -/
structure fS (F : yF) (f : Nat) (φ : Nat → Nat → Int) : Prop where
  w : yW F
  m : φ f 0 = (F.1 : Int)
  k : ∀ k, k < F.1 → φ (f + 1) k = F.2 k 0
  p : ∀ i, i < 3 → ∀ k, k < F.1 → φ (f + 3 + i) k = F.2 k (i + 1)
/-- rows that are laid are right -/
def fV (F : yF) (x f : Nat) (φ : Nat → Nat → Int) (α : Nat → Nat → Option Nat) : Prop := ∀ k, k < 12 → α (f + 6) k = none ∨ (k < F.1 ∧ α (f + 6) k = some (x + (f + 8 + k)) ∧ ∀ j, j < F.1 → φ (f + 8 + k) j = ydist F k j)
theorem zcpy_n {α : Type} {f : Nat → Nat → α} {a dp b sp n c : Nat} (hc : c ≠ a) : zcpy f a dp b sp n c = f c := funext fun _ => if_neg fun z => hc z.1
theorem zcpy_0 {α : Type} {f : Nat → Nat → α} {a b n j : Nat} (hj : j < n) : zcpy f a 0 b 0 n a j = f b j := by
  show (if a = a ∧ 0 ≤ j ∧ j < 0 + n then f b (0 + (j - 0)) else f a j) = _
  rw [if_pos ⟨rfl, Nat.zero_le _, by omega⟩, Nat.zero_add, Nat.sub_zero]
section
variable {e : zEv} {d x f o : Nat} {h : zH} {φ ψ : Nat → Nat → Int} {α : Nat → Nat → Option Nat} {F : yF}
theorem fS.of {φ' : Nat → Nat → Int} (S : fS F f φ) (q : ∀ i, f ≤ i → i < f + 6 → φ' i = φ i) : fS F f φ' := by
  refine ⟨S.w, ?_, fun k hk => ?_, fun i hi k hk => ?_⟩
  · rw [q f (by omega) (by omega)]; exact S.m
  · rw [q (f + 1) (by omega) (by omega)]; exact S.k k hk
  · rw [q (f + 3 + i) (by omega) (by omega)]; exact S.p i hi k hk
theorem fV_cl (F : yF) (x f : Nat) (φ : Nat → Nat → Int) (α : Nat → Nat → Option Nat) : fV F x f φ (fcl f 12 α) := fun k hk => Or.inl (if_pos ⟨rfl, hk⟩)
theorem fcl_n {i k : Nat} (hi : i ≠ f + 6) : fcl f k α i = α i := funext fun _ => if_neg fun z => hi z.1
theorem fA.cl (A : fA x f α) (k : Nat) : fA x f (fcl f k α) := A.of fun _ hi _ _ => fcl_n hi
theorem f_be (K : fK e h x f) (A : fA x f α) (K' : fK e h x o) (A' : fA x o α) (hd : f + 26 ≤ o ∨ o + 26 ≤ f) (S : fS F o φ) : zc e (d + 2) 385 [zr (some (x + f)), zr (some (x + o))] (cH h x φ ψ α)
    (fun ov h' => ov = Sum.inl none ∧ ∃ φ', h' = cH h x φ' ψ (fcl f 12 α) ∧ fS F f φ' ∧ ∀ i, (i < f ∨ f + 6 ≤ i) → φ' i = φ i) := by
  have kn := K.n
  have kb := K.b
  have kn' := K'.n
  have hm := S.w.1
  have step : ∀ (φ1 : Nat → Nat → Int) (i : Nat) (P : zEt), i < 3 → zg e 385 (d + 1) 25 [zr (some (x + f)), zr (some (x + o)), zi ((i + 1 : Nat) : Int)] [] (cH h x (zcpy φ1 (f + 3 + i) 0 (o + 3 + i) 0 12) ψ α) P → zg e 385 (d + 1) 25 [zr (some (x + f)), zr (some (x + o)), zi (i : Int)] [] (cH h x φ1 ψ α) P := by
    intro φ1 i P hi g
    rw [r385_25]
    simp (disch := omega) only [r385_0, r385_1, r385_2, r385_5, r385_8, r385_9, r385_12, r385_13, r385_14, r385_17, r385_18, r385_20, r385_23, r385_24, r385_26, r385_27, r385_30, r385_31, r385_34, r385_35, r385_36, r385_37, r385_38, r385_41, r385_42, r385_43, r385_44, r385_46, r385_49, r385_52, r385_55, r385_56, r385_59, znl_i, znl_r, znl_j, znl_l, List.length_cons, List.length_nil, Option.some.injEq, Sum.inl.injEq, Sum.inr.injEq, Prod.mk.injEq, true_and, and_true, exists_eq_left', zK_sI, zA_sI, zL_sI, zK_sL, zA_sL, zI_sL, zK_fI, zA_fI, zL_fI, zK_fL, zA_fL, zI_fL, Nat.reduceAdd, Nat.reduceLeDiff, forall_eq', zl_lt, zl_gt, zl_eq, zl_le, zl_ge, zm_0, zaft_n, zaft_v, zb_eq, Decidable.not_not, zK_rH, zI_rH, zL_rH, zA_rH, zsI_rH, zsL_rH, zsA_rH, zcpI_rH, zn_b, zm_b, Int.toNat_natCast, Int.toNat_zero, Int.reduceToNat, K.K0, K.K1, K.K2, K.K3, K.K6, K.K7, K.K8, K.K20, K.K21, K.K22, K.K23, K.K24, K.K25, A.A1, A.A2, A.A3, A.A4, A.A5, A.A6, A.A7, A.A8, A.A9, A.A10, A.R2, A.R7, K'.K0, K'.K1, K'.K2, K'.K3, K'.K6, K'.K7, K'.K8, K'.K20, K'.K21, K'.K22, K'.K23, K'.K24, K'.K25, A'.A1, A'.A2, A'.A3, A'.A4, A'.A5, A'.A6, A'.A7, A'.A8, A'.A9, A'.A10, A'.R2, A'.R7]
    refine ⟨fun z => ?_, fun _ => ?_⟩
    · omega
    · exact ⟨by omega, by omega, by omega, by omega, 12, 12, rfl, rfl, by omega, by decide, by decide, by decide, by decide, by decide, g⟩
  simp (disch := omega) only [n385, r385_0, r385_1, r385_2, r385_5, r385_8, r385_9, r385_12, r385_13, r385_14, r385_17, r385_18, r385_20, r385_23, r385_24, r385_26, r385_27, r385_30, r385_31, r385_34, r385_35, r385_36, r385_37, r385_38, r385_41, r385_42, r385_43, r385_44, r385_46, r385_49, r385_52, r385_55, r385_56, r385_59, znl_i, znl_r, znl_j, znl_l, List.length_cons, List.length_nil, Option.some.injEq, Sum.inl.injEq, Sum.inr.injEq, Prod.mk.injEq, true_and, and_true, exists_eq_left', zK_sI, zA_sI, zL_sI, zK_sL, zA_sL, zI_sL, zK_fI, zA_fI, zL_fI, zK_fL, zA_fL, zI_fL, Nat.reduceAdd, Nat.reduceLeDiff, forall_eq', zl_lt, zl_gt, zl_eq, zl_le, zl_ge, zm_0, zaft_n, zaft_v, zb_eq, Decidable.not_not, zK_rH, zI_rH, zL_rH, zA_rH, zsI_rH, zsL_rH, zsA_rH, zcpI_rH, zn_b, zm_b, Int.toNat_natCast, Int.toNat_zero, Int.reduceToNat, K.K0, K.K1, K.K2, K.K3, K.K6, K.K7, K.K8, K.K20, K.K21, K.K22, K.K23, K.K24, K.K25, A.A1, A.A2, A.A3, A.A4, A.A5, A.A6, A.A7, A.A8, A.A9, A.A10, A.R2, A.R7, K'.K0, K'.K1, K'.K2, K'.K3, K'.K6, K'.K7, K'.K8, K'.K20, K'.K21, K'.K22, K'.K23, K'.K24, K'.K25, A'.A1, A'.A2, A'.A3, A'.A4, A'.A5, A'.A6, A'.A7, A'.A8, A'.A9, A'.A10, A'.R2, A'.R7, zI_rH0]
  refine ⟨by omega, 12, 12, rfl, rfl, by omega, by decide, by decide, by decide, by decide, by decide, ?_⟩
  refine step _ 0 _ (by omega) (step _ 1 _ (by omega) (step _ 2 _ (by omega) ?_))
  rw [r385_25]
  simp (disch := omega) only [r385_0, r385_1, r385_2, r385_5, r385_8, r385_9, r385_12, r385_13, r385_14, r385_17, r385_18, r385_20, r385_23, r385_24, r385_26, r385_27, r385_30, r385_31, r385_34, r385_35, r385_36, r385_37, r385_38, r385_41, r385_42, r385_43, r385_44, r385_46, r385_49, r385_52, r385_55, r385_56, r385_59, znl_i, znl_r, znl_j, znl_l, List.length_cons, List.length_nil, Option.some.injEq, Sum.inl.injEq, Sum.inr.injEq, Prod.mk.injEq, true_and, and_true, exists_eq_left', zK_sI, zA_sI, zL_sI, zK_sL, zA_sL, zI_sL, zK_fI, zA_fI, zL_fI, zK_fL, zA_fL, zI_fL, Nat.reduceAdd, Nat.reduceLeDiff, forall_eq', zl_lt, zl_gt, zl_eq, zl_le, zl_ge, zm_0, zaft_n, zaft_v, zb_eq, Decidable.not_not, zK_rH, zI_rH, zL_rH, zA_rH, zsI_rH, zsL_rH, zsA_rH, zcpI_rH, zn_b, zm_b, Int.toNat_natCast, Int.toNat_zero, Int.reduceToNat, K.K0, K.K1, K.K2, K.K3, K.K6, K.K7, K.K8, K.K20, K.K21, K.K22, K.K23, K.K24, K.K25, A.A1, A.A2, A.A3, A.A4, A.A5, A.A6, A.A7, A.A8, A.A9, A.A10, A.R2, A.R7, K'.K0, K'.K1, K'.K2, K'.K3, K'.K6, K'.K7, K'.K8, K'.K20, K'.K21, K'.K22, K'.K23, K'.K24, K'.K25, A'.A1, A'.A2, A'.A3, A'.A4, A'.A5, A'.A6, A'.A7, A'.A8, A'.A9, A'.A10, A'.R2, A'.R7]
  refine ⟨fun _ => ?_, fun z => absurd z (by decide)⟩
  refine zc_w (f_changes K A) ?_
  simp (disch := omega) only [r385_0, r385_1, r385_2, r385_5, r385_8, r385_9, r385_12, r385_13, r385_14, r385_17, r385_18, r385_20, r385_23, r385_24, r385_26, r385_27, r385_30, r385_31, r385_34, r385_35, r385_36, r385_37, r385_38, r385_41, r385_42, r385_43, r385_44, r385_46, r385_49, r385_52, r385_55, r385_56, r385_59, znl_i, znl_r, znl_j, znl_l, List.length_cons, List.length_nil, Option.some.injEq, Sum.inl.injEq, Sum.inr.injEq, Prod.mk.injEq, true_and, and_true, exists_eq_left', zK_sI, zA_sI, zL_sI, zK_sL, zA_sL, zI_sL, zK_fI, zA_fI, zL_fI, zK_fL, zA_fL, zI_fL, Nat.reduceAdd, Nat.reduceLeDiff, forall_eq', zl_lt, zl_gt, zl_eq, zl_le, zl_ge, zm_0, zaft_n, zaft_v, zb_eq, Decidable.not_not, zK_rH, zI_rH, zL_rH, zA_rH, zsI_rH, zsL_rH, zsA_rH, zcpI_rH, zn_b, zm_b, Int.toNat_natCast, Int.toNat_zero, Int.reduceToNat, K.K0, K.K1, K.K2, K.K3, K.K6, K.K7, K.K8, K.K20, K.K21, K.K22, K.K23, K.K24, K.K25, A.A1, A.A2, A.A3, A.A4, A.A5, A.A6, A.A7, A.A8, A.A9, A.A10, A.R2, A.R7]
  refine ⟨_, rfl, ?_, ?_⟩
  · refine ⟨S.w, ?_, fun k hk => ?_, fun i hi k hk => ?_⟩
    · simp (disch := omega) only [zcpy_n, zu_same, S.m]
    · simp (disch := omega) only [zcpy_n, zcpy_0, zu_cell, S.k]
    · obtain rfl | rfl | rfl : i = 0 ∨ i = 1 ∨ i = 2 := by omega
      all_goals
        simp (disch := omega) only [zcpy_n, zcpy_0, zu_cell]
        exact S.p _ (by omega) k hk
  · intro i hi
    simp (disch := omega) only [zcpy_n, zu_cell]
theorem f_clears (K : fK e h x f) (A : fA x f α) : zc e (d + 2) 387 [zr (some (x + f))] (cH h x φ ψ α) (fun ov h' => ov = Sum.inl none ∧ h' = cH h x (zu φ f 0 0) ψ (fcl f 12 α)) := by
  have kn := K.n
  have kb := K.b
  simp (disch := omega) only [n387, r387_0, r387_1, r387_2, r387_5, r387_6, r387_9, znl_i, znl_r, znl_j, znl_l, List.length_cons, List.length_nil, Option.some.injEq, Sum.inl.injEq, Sum.inr.injEq, Prod.mk.injEq, true_and, and_true, exists_eq_left', zK_sI, zA_sI, zL_sI, zK_sL, zA_sL, zI_sL, zK_fI, zA_fI, zL_fI, zK_fL, zA_fL, zI_fL, Nat.reduceAdd, Nat.reduceLeDiff, forall_eq', zl_lt, zl_gt, zl_eq, zl_le, zl_ge, zm_0, zaft_n, zaft_v, zb_eq, Decidable.not_not, zK_rH, zI_rH, zL_rH, zA_rH, zsI_rH, zsL_rH, zsA_rH, zcpI_rH, zn_b, zm_b, Int.toNat_natCast, Int.toNat_zero, Int.reduceToNat, K.K0, K.K1, K.K2, K.K3, K.K6, K.K7, K.K8, K.K20, K.K21, K.K22, K.K23, K.K24, K.K25, A.A1, A.A2, A.A3, A.A4, A.A5, A.A6, A.A7, A.A8, A.A9, A.A10, A.R2, A.R7]
  refine ⟨by omega, ?_⟩
  refine zc_w (f_changes K A) ?_
  simp (disch := omega) only [r387_0, r387_1, r387_2, r387_5, r387_6, r387_9, znl_i, znl_r, znl_j, znl_l, List.length_cons, List.length_nil, Option.some.injEq, Sum.inl.injEq, Sum.inr.injEq, Prod.mk.injEq, true_and, and_true, exists_eq_left', zK_sI, zA_sI, zL_sI, zK_sL, zA_sL, zI_sL, zK_fI, zA_fI, zL_fI, zK_fL, zA_fL, zI_fL, Nat.reduceAdd, Nat.reduceLeDiff, forall_eq', zl_lt, zl_gt, zl_eq, zl_le, zl_ge, zm_0, zaft_n, zaft_v, zb_eq, Decidable.not_not, zK_rH, zI_rH, zL_rH, zA_rH, zsI_rH, zsL_rH, zsA_rH, zcpI_rH, zn_b, zm_b, Int.toNat_natCast, Int.toNat_zero, Int.reduceToNat, K.K0, K.K1, K.K2, K.K3, K.K6, K.K7, K.K8, K.K20, K.K21, K.K22, K.K23, K.K24, K.K25, A.A1, A.A2, A.A3, A.A4, A.A5, A.A6, A.A7, A.A8, A.A9, A.A10, A.R2, A.R7]
theorem f_laysRow (K : fK e h x f) (A : fA x f α) (S : fS F f φ) (k : Nat) (hk : k < F.1) : zc e (d + 1) 401 [zr (some (x + f)), zi (k : Int)] (cH h x φ ψ α)
    (fun ov h' => ov = Sum.inl none ∧ ∃ φ', h' = cH h x φ' ψ (zu α (f + 6) k (some (x + (f + 8 + k)))) ∧ (∀ i, i ≠ f + 8 + k → φ' i = φ i) ∧ ∀ j, j < F.1 → φ' (f + 8 + k) j = ydist F k j) := by
  have kn := K.n
  have kb := K.b
  have hm := S.w.1
  have loop := zdown0 (fun j => ∀ φ' : Nat → Nat → Int, (∀ i, i ≠ f + 8 + k → φ' i = φ i) → (∀ i, i < j → φ' (f + 8 + k) i = ydist F k i) → ∀ u v, zg e 401 d 2 [zr (some (x + f)), zi (k : Int), zi (j : Int), u, v] [] (cH h x φ' ψ α) (fun ov h' => ov = Sum.inl none ∧ ∃ φ', h' = cH h x φ' ψ (zu α (f + 6) k (some (x + (f + 8 + k)))) ∧ (∀ i, i ≠ f + 8 + k → φ' i = φ i) ∧ ∀ j, j < F.1 → φ' (f + 8 + k) j = ydist F k j)) F.1 (fun φ' q1 q2 u v => ?_) (fun j hj ih φ' q1 q2 u v => ?_)
  · simp (disch := omega) only [n401, r401_0, r401_1, r401_3, r401_4, r401_7, r401_10, r401_11, r401_12, r401_13, r401_17, r401_18, r401_21, r401_22, r401_23, r401_26, r401_28, r401_29, r401_30, r401_31, r401_32, r401_35, r401_37, r401_38, r401_39, r401_40, r401_41, r401_42, r401_45, r401_47, r401_48, r401_49, r401_50, r401_51, r401_54, r401_56, r401_57, r401_58, r401_59, r401_60, r401_61, r401_62, r401_63, r401_66, r401_69, r401_70, r401_73, r401_74, r401_75, r401_76, r401_77, r401_78, r401_81, r401_84, r401_85, r401_88, r401_89, r401_90, r401_93, r401_94, r401_95, r401_96, znl_i, znl_r, znl_j, znl_l, List.length_cons, List.length_nil, Option.some.injEq, Sum.inl.injEq, Sum.inr.injEq, Prod.mk.injEq, true_and, and_true, exists_eq_left', zK_sI, zA_sI, zL_sI, zK_sL, zA_sL, zI_sL, zK_fI, zA_fI, zL_fI, zK_fL, zA_fL, zI_fL, Nat.reduceAdd, Nat.reduceLeDiff, forall_eq', zl_lt, zl_gt, zl_eq, zl_le, zl_ge, zm_0, zaft_n, zaft_v, zb_eq, Decidable.not_not, zK_rH, zI_rH, zL_rH, zA_rH, zsI_rH, zsL_rH, zsA_rH, zcpI_rH, zn_b, zm_b, Int.toNat_natCast, Int.toNat_zero, Int.reduceToNat, K.K0, K.K1, K.K2, K.K3, K.K6, K.K7, K.K8, K.K20, K.K21, K.K22, K.K23, K.K24, K.K25, A.A1, A.A2, A.A3, A.A4, A.A5, A.A6, A.A7, A.A8, A.A9, A.A10, A.R2, A.R7]
    exact loop φ (fun _ _ => rfl) (fun i hi => absurd hi (by omega)) _ _
  · rw [r401_2]
    simp (disch := omega) only [r401_0, r401_1, r401_3, r401_4, r401_7, r401_10, r401_11, r401_12, r401_13, r401_17, r401_18, r401_21, r401_22, r401_23, r401_26, r401_28, r401_29, r401_30, r401_31, r401_32, r401_35, r401_37, r401_38, r401_39, r401_40, r401_41, r401_42, r401_45, r401_47, r401_48, r401_49, r401_50, r401_51, r401_54, r401_56, r401_57, r401_58, r401_59, r401_60, r401_61, r401_62, r401_63, r401_66, r401_69, r401_70, r401_73, r401_74, r401_75, r401_76, r401_77, r401_78, r401_81, r401_84, r401_85, r401_88, r401_89, r401_90, r401_93, r401_94, r401_95, r401_96, znl_i, znl_r, znl_j, znl_l, List.length_cons, List.length_nil, Option.some.injEq, Sum.inl.injEq, Sum.inr.injEq, Prod.mk.injEq, true_and, and_true, exists_eq_left', zK_sI, zA_sI, zL_sI, zK_sL, zA_sL, zI_sL, zK_fI, zA_fI, zL_fI, zK_fL, zA_fL, zI_fL, Nat.reduceAdd, Nat.reduceLeDiff, forall_eq', zl_lt, zl_gt, zl_eq, zl_le, zl_ge, zm_0, zaft_n, zaft_v, zb_eq, Decidable.not_not, zK_rH, zI_rH, zL_rH, zA_rH, zsI_rH, zsL_rH, zsA_rH, zcpI_rH, zn_b, zm_b, Int.toNat_natCast, Int.toNat_zero, Int.reduceToNat, K.K0, K.K1, K.K2, K.K3, K.K6, K.K7, K.K8, K.K20, K.K21, K.K22, K.K23, K.K24, K.K25, A.A1, A.A2, A.A3, A.A4, A.A5, A.A6, A.A7, A.A8, A.A9, A.A10, A.R2, A.R7, q1, S.m]
    refine ⟨fun _ => ?_, fun z => absurd z (by omega)⟩
    exact ⟨by omega, by omega, ⟨by omega, by omega, by omega⟩, ⟨by omega, rfl⟩, φ', rfl, q1, q2⟩
  · rw [r401_2]
    simp (disch := omega) only [r401_0, r401_1, r401_3, r401_4, r401_7, r401_10, r401_11, r401_12, r401_13, r401_17, r401_18, r401_21, r401_22, r401_23, r401_26, r401_28, r401_29, r401_30, r401_31, r401_32, r401_35, r401_37, r401_38, r401_39, r401_40, r401_41, r401_42, r401_45, r401_47, r401_48, r401_49, r401_50, r401_51, r401_54, r401_56, r401_57, r401_58, r401_59, r401_60, r401_61, r401_62, r401_63, r401_66, r401_69, r401_70, r401_73, r401_74, r401_75, r401_76, r401_77, r401_78, r401_81, r401_84, r401_85, r401_88, r401_89, r401_90, r401_93, r401_94, r401_95, r401_96, znl_i, znl_r, znl_j, znl_l, List.length_cons, List.length_nil, Option.some.injEq, Sum.inl.injEq, Sum.inr.injEq, Prod.mk.injEq, true_and, and_true, exists_eq_left', zK_sI, zA_sI, zL_sI, zK_sL, zA_sL, zI_sL, zK_fI, zA_fI, zL_fI, zK_fL, zA_fL, zI_fL, Nat.reduceAdd, Nat.reduceLeDiff, forall_eq', zl_lt, zl_gt, zl_eq, zl_le, zl_ge, zm_0, zaft_n, zaft_v, zb_eq, Decidable.not_not, zK_rH, zI_rH, zL_rH, zA_rH, zsI_rH, zsL_rH, zsA_rH, zcpI_rH, zn_b, zm_b, Int.toNat_natCast, Int.toNat_zero, Int.reduceToNat, K.K0, K.K1, K.K2, K.K3, K.K6, K.K7, K.K8, K.K20, K.K21, K.K22, K.K23, K.K24, K.K25, A.A1, A.A2, A.A3, A.A4, A.A5, A.A6, A.A7, A.A8, A.A9, A.A10, A.R2, A.R7, q1, S.m]
    refine ⟨fun z => absurd z (by omega), fun _ => ?_⟩
    have step : ∀ (i : Nat) (n : Int) (P : zEt), i < 3 → zg e 401 d 15 [zr (some (x + f)), zi (k : Int), zi (j : Int), zi (n + (F.2 k (i + 1) - F.2 j (i + 1)) * (F.2 k (i + 1) - F.2 j (i + 1))), zi ((i + 1 : Nat) : Int)] [] (cH h x φ' ψ α) P → zg e 401 d 15 [zr (some (x + f)), zi (k : Int), zi (j : Int), zi n, zi (i : Int)] [] (cH h x φ' ψ α) P := by
      intro i n P hi g
      rw [r401_15]
      simp (disch := omega) only [r401_0, r401_1, r401_3, r401_4, r401_7, r401_10, r401_11, r401_12, r401_13, r401_17, r401_18, r401_21, r401_22, r401_23, r401_26, r401_28, r401_29, r401_30, r401_31, r401_32, r401_35, r401_37, r401_38, r401_39, r401_40, r401_41, r401_42, r401_45, r401_47, r401_48, r401_49, r401_50, r401_51, r401_54, r401_56, r401_57, r401_58, r401_59, r401_60, r401_61, r401_62, r401_63, r401_66, r401_69, r401_70, r401_73, r401_74, r401_75, r401_76, r401_77, r401_78, r401_81, r401_84, r401_85, r401_88, r401_89, r401_90, r401_93, r401_94, r401_95, r401_96, znl_i, znl_r, znl_j, znl_l, List.length_cons, List.length_nil, Option.some.injEq, Sum.inl.injEq, Sum.inr.injEq, Prod.mk.injEq, true_and, and_true, exists_eq_left', zK_sI, zA_sI, zL_sI, zK_sL, zA_sL, zI_sL, zK_fI, zA_fI, zL_fI, zK_fL, zA_fL, zI_fL, Nat.reduceAdd, Nat.reduceLeDiff, forall_eq', zl_lt, zl_gt, zl_eq, zl_le, zl_ge, zm_0, zaft_n, zaft_v, zb_eq, Decidable.not_not, zK_rH, zI_rH, zL_rH, zA_rH, zsI_rH, zsL_rH, zsA_rH, zcpI_rH, zn_b, zm_b, Int.toNat_natCast, Int.toNat_zero, Int.reduceToNat, K.K0, K.K1, K.K2, K.K3, K.K6, K.K7, K.K8, K.K20, K.K21, K.K22, K.K23, K.K24, K.K25, A.A1, A.A2, A.A3, A.A4, A.A5, A.A6, A.A7, A.A8, A.A9, A.A10, A.R2, A.R7, q1, S.m, S.p]
      refine ⟨fun z => absurd z (by omega), fun _ => ?_⟩
      repeat (refine And.intro (by omega) ?_)
      exact g
    refine step 0 _ _ (by omega) (step 1 _ _ (by omega) (step 2 _ _ (by omega) ?_))
    rw [r401_15]
    simp (disch := omega) only [r401_0, r401_1, r401_3, r401_4, r401_7, r401_10, r401_11, r401_12, r401_13, r401_17, r401_18, r401_21, r401_22, r401_23, r401_26, r401_28, r401_29, r401_30, r401_31, r401_32, r401_35, r401_37, r401_38, r401_39, r401_40, r401_41, r401_42, r401_45, r401_47, r401_48, r401_49, r401_50, r401_51, r401_54, r401_56, r401_57, r401_58, r401_59, r401_60, r401_61, r401_62, r401_63, r401_66, r401_69, r401_70, r401_73, r401_74, r401_75, r401_76, r401_77, r401_78, r401_81, r401_84, r401_85, r401_88, r401_89, r401_90, r401_93, r401_94, r401_95, r401_96, znl_i, znl_r, znl_j, znl_l, List.length_cons, List.length_nil, Option.some.injEq, Sum.inl.injEq, Sum.inr.injEq, Prod.mk.injEq, true_and, and_true, exists_eq_left', zK_sI, zA_sI, zL_sI, zK_sL, zA_sL, zI_sL, zK_fI, zA_fI, zL_fI, zK_fL, zA_fL, zI_fL, Nat.reduceAdd, Nat.reduceLeDiff, forall_eq', zl_lt, zl_gt, zl_eq, zl_le, zl_ge, zm_0, zaft_n, zaft_v, zb_eq, Decidable.not_not, zK_rH, zI_rH, zL_rH, zA_rH, zsI_rH, zsL_rH, zsA_rH, zcpI_rH, zn_b, zm_b, Int.toNat_natCast, Int.toNat_zero, Int.reduceToNat, K.K0, K.K1, K.K2, K.K3, K.K6, K.K7, K.K8, K.K20, K.K21, K.K22, K.K23, K.K24, K.K25, A.A1, A.A2, A.A3, A.A4, A.A5, A.A6, A.A7, A.A8, A.A9, A.A10, A.R2, A.R7, q1, S.m, S.p]
    refine ⟨fun _ => ?_, fun z => absurd z (by decide)⟩
    repeat (refine And.intro (by omega) ?_)
    refine ih _ (fun i hi => ?_) (fun i hi => ?_) _ _
    · rw [zu_cell _ _ _ hi]; exact q1 i hi
    · by_cases c : i = j
      · subst c; rw [zu_same]; simp only [ydist]; omega
      · rw [zu_slot _ _ _ c]; exact q2 i (by omega)
end
