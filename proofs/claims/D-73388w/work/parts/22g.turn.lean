section
variable {e : zEv} {d x f o r n g b : Nat} {h h1 h2 : zH} {φ φ' φ'' ψ ψ' ψ'' : Nat → Nat → Int} {α α' α'' : Nat → Nat → Option Nat} {F : yF} {T : yT}
theorem zld_n (v : Nat) (hv : v < 2 ^ 48) (h0 : v ≠ 0) : zland (v : Int) ((v : Int) - 1) = ((v &&& (v - 1) : Nat) : Int) := by
  rw [show (v : Int) - 1 = ((v - 1 : Nat) : Int) by omega, zland_n (by omega) (by omega)]
theorem zlo_n (s k : Nat) (hs : s < 2 ^ 48) (hk : k < 48) : zlor (s : Int) (zlshl 1 (k : Int)) = ((s ||| 2 ^ k : Nat) : Int) := by
  have : 2 ^ k < 2 ^ 48 := Nat.pow_lt_pow_right (by omega) hk
  rw [zlshl_n (by omega), zlor_n (by omega) (by omega)]
theorem g_setTurned (D : gD e h x f g T φ α) {X c : Nat} (hX : X < 2 ^ Tm T) (hc : c < Tm T) : zc e (d + 3) 437 [zr (some (x + g)), zl (X : Int), zi (c : Int)] (cH h x φ ψ α) (fun ov h' => ov = Sum.inl (some (zl (ytn T X c (Tm T) : Int))) ∧ h' = cH h x φ ψ α) := by
  have GK := D.GK
  have GA := D.GA
  have V := D.V
  have gn := GK.n
  have m := V.m
  have X48 := ypw2_lt (b := 0) m.2 hX
  generalize hQ : (fun ov h' => ov = Sum.inl (some (zl (ytn T X c (Tm T) : Int))) ∧ h' = cH h x φ ψ α : zEt) = Q
  have main : ∀ (N left other : Nat), ycnt left.testBit 64 ≤ (N : Int) → left < 2 ^ 48 → yTu T X c left other → zg e 437 (d + 2) 6 [zr (some (x + g)), zl (X : Int), zj, zi (c : Int), zl (other : Int), zj, zl (left : Int), zj] [] (cH h x φ ψ α) Q := by
    have fin : ∀ other : Nat, yTu T X c 0 other → zg e 437 (d + 2) 6 [zr (some (x + g)), zl (X : Int), zj, zi (c : Int), zl (other : Int), zj, zl ((0 : Nat) : Int), zj] [] (cH h x φ ψ α) Q := fun other U => by
      rw [r437_6]
      simp (disch := omega) only [r437_0, r437_1, r437_3, r437_4, r437_8, r437_9, r437_10, r437_13, r437_15, r437_16, r437_17, r437_19, r437_22, r437_23, r437_26, r437_27, r437_28, r437_30, r437_32, r437_34, r437_35, r437_36, r437_37, r437_39, r437_42, r437_44, znl_i, znl_r, znl_j, znl_l, List.length_cons, List.length_nil, Option.some.injEq, Sum.inl.injEq, Sum.inr.injEq, Prod.mk.injEq, true_and, and_true, exists_eq_left', zK_sI, zA_sI, zL_sI, zK_sL, zA_sL, zI_sL, zK_fI, zA_fI, zL_fI, zK_fL, zA_fL, zI_fL, Nat.reduceAdd, Nat.reduceLeDiff, forall_eq', zl_lt, zl_gt, zl_eq, zl_le, zl_ge, zm_0, zaft_n, zaft_v, zb_eq, Decidable.not_not, zK_rH, zI_rH, zL_rH, zA_rH, zsI_rH, zsL_rH, zsA_rH, zcpI_rH, zn_b, zm_b, Int.toNat_natCast, Int.toNat_zero, Int.reduceToNat, zlq_eq]
      refine ⟨fun _ => ?_, fun z => absurd (show ((0 : Nat) : Int) = 0 from rfl) z⟩
      rw [← hQ]
      exact ⟨by rw [U.end hX], rfl⟩
    intro N
    induction N with
    | zero =>
      intro left other hN hl U
      have c0 : left = 0 := Classical.byContradiction fun n0 => by
        have := ycnt_pos 64 left (by omega) n0
        omega
      subst c0
      exact fin other U
    | succ N ih =>
      intro left other hN hl U
      by_cases c0 : left = 0
      · subst c0
        exact fin other U
      · obtain ⟨t, ht⟩ := ylw9_ex c0
        have tm : t < Tm T := by
          refine Nat.lt_of_not_le fun z => ?_
          have := U.1 t ht.1
          rw [Nat.testBit_lt_two_pow (Nat.lt_of_lt_of_le hX (Nat.pow_le_pow_right (by omega) z))] at this
          cases this
        have cj := V.cj hc tm
        have ld := zld_n left hl c0
        have o48 := ypw2_lt (b := 0) m.2 U.2.1
        have lo := zlo_n other (ycj T c t) o48 (by omega)
        have dr := ycnt_drop 64 left (by omega) c0
        have dl : left &&& (left - 1) < 2 ^ 48 := Nat.lt_of_le_of_lt Nat.and_le_left hl
        have g' := ih _ _ (by omega) dl (U.step V hX hc ht)
        rw [r437_6]
        simp (disch := omega) only [r437_0, r437_1, r437_3, r437_4, r437_8, r437_9, r437_10, r437_13, r437_15, r437_16, r437_17, r437_19, r437_22, r437_23, r437_26, r437_27, r437_28, r437_30, r437_32, r437_34, r437_35, r437_36, r437_37, r437_39, r437_42, r437_44, znl_i, znl_r, znl_j, znl_l, List.length_cons, List.length_nil, Option.some.injEq, Sum.inl.injEq, Sum.inr.injEq, Prod.mk.injEq, true_and, and_true, exists_eq_left', zK_sI, zA_sI, zL_sI, zK_sL, zA_sL, zI_sL, zK_fI, zA_fI, zL_fI, zK_fL, zA_fL, zI_fL, Nat.reduceAdd, Nat.reduceLeDiff, forall_eq', zl_lt, zl_gt, zl_eq, zl_le, zl_ge, zm_0, zaft_n, zaft_v, zb_eq, Decidable.not_not, zK_rH, zI_rH, zL_rH, zA_rH, zsI_rH, zsL_rH, zsA_rH, zcpI_rH, zn_b, zm_b, Int.toNat_natCast, Int.toNat_zero, Int.reduceToNat, zlq_eq, GK.K0]
        refine ⟨fun z => absurd z (by omega), fun _ => ?_⟩
        refine zc_w (j_ntz (d := d) (by omega) ht) ?_
        simp (disch := omega) only [r437_0, r437_1, r437_3, r437_4, r437_8, r437_9, r437_10, r437_13, r437_15, r437_16, r437_17, r437_19, r437_22, r437_23, r437_26, r437_27, r437_28, r437_30, r437_32, r437_34, r437_35, r437_36, r437_37, r437_39, r437_42, r437_44, znl_i, znl_r, znl_j, znl_l, List.length_cons, List.length_nil, Option.some.injEq, Sum.inl.injEq, Sum.inr.injEq, Prod.mk.injEq, true_and, and_true, exists_eq_left', zK_sI, zA_sI, zL_sI, zK_sL, zA_sL, zI_sL, zK_fI, zA_fI, zL_fI, zK_fL, zA_fL, zI_fL, Nat.reduceAdd, Nat.reduceLeDiff, forall_eq', zl_lt, zl_gt, zl_eq, zl_le, zl_ge, zm_0, zaft_n, zaft_v, zb_eq, Decidable.not_not, zK_rH, zI_rH, zL_rH, zA_rH, zsI_rH, zsL_rH, zsA_rH, zcpI_rH, zn_b, zm_b, Int.toNat_natCast, Int.toNat_zero, Int.reduceToNat, GK.K0]
        refine zc_w (g_turned (d := d + 1) GK GA V D.J.a tm hc) ?_
        simp (disch := omega) only [r437_0, r437_1, r437_3, r437_4, r437_8, r437_9, r437_10, r437_13, r437_15, r437_16, r437_17, r437_19, r437_22, r437_23, r437_26, r437_27, r437_28, r437_30, r437_32, r437_34, r437_35, r437_36, r437_37, r437_39, r437_42, r437_44, znl_i, znl_r, znl_j, znl_l, List.length_cons, List.length_nil, Option.some.injEq, Sum.inl.injEq, Sum.inr.injEq, Prod.mk.injEq, true_and, and_true, exists_eq_left', zK_sI, zA_sI, zL_sI, zK_sL, zA_sL, zI_sL, zK_fI, zA_fI, zL_fI, zK_fL, zA_fL, zI_fL, Nat.reduceAdd, Nat.reduceLeDiff, forall_eq', zl_lt, zl_gt, zl_eq, zl_le, zl_ge, zm_0, zaft_n, zaft_v, zb_eq, Decidable.not_not, zK_rH, zI_rH, zL_rH, zA_rH, zsI_rH, zsL_rH, zsA_rH, zcpI_rH, zn_b, zm_b, Int.toNat_natCast, Int.toNat_zero, Int.reduceToNat, GK.K0, ld, lo]
        exact g'
  simp (disch := omega) only [n437, r437_0, r437_1, r437_3, r437_4, r437_8, r437_9, r437_10, r437_13, r437_15, r437_16, r437_17, r437_19, r437_22, r437_23, r437_26, r437_27, r437_28, r437_30, r437_32, r437_34, r437_35, r437_36, r437_37, r437_39, r437_42, r437_44, znl_i, znl_r, znl_j, znl_l, List.length_cons, List.length_nil, Option.some.injEq, Sum.inl.injEq, Sum.inr.injEq, Prod.mk.injEq, true_and, and_true, exists_eq_left', zK_sI, zA_sI, zL_sI, zK_sL, zA_sL, zI_sL, zK_fI, zA_fI, zL_fI, zK_fL, zA_fL, zI_fL, Nat.reduceAdd, Nat.reduceLeDiff, forall_eq', zl_lt, zl_gt, zl_eq, zl_le, zl_ge, zm_0, zaft_n, zaft_v, zb_eq, Decidable.not_not, zK_rH, zI_rH, zL_rH, zA_rH, zsI_rH, zsL_rH, zsA_rH, zcpI_rH, zn_b, zm_b, Int.toNat_natCast, Int.toNat_zero, Int.reduceToNat, GK.K0]
  have cb := ycnt_bd X.testBit 64
  exact main 64 X 0 (by omega) X48 yTu.start
theorem g_turnedMany (D : gD e h x f g T φ α) {X : Nat} (hX : ysg T X = true) : zc e (d + 4) 436 [zr (some (x + g)), zl (X : Int)] (cH h x φ ψ α)
    (fun ov h' => ∃ l, yUn T X (Tm T) l ∧ ov = Sum.inl (some (zi (l.length : Int))) ∧ ∃ ψ', h' = cH h x φ ψ' α ∧ ∀ i, i ≠ g + 87 → ψ' i = ψ i) := by
  have GK := D.GK
  have GA := D.GA
  have V := D.V
  have gn := GK.n
  have kb := GK.b
  have m := V.m
  have X1 := (ysg_iff.mp hX).2.2
  have loop := zdown0 (fun c => ∀ (l : List Nat) (ψ1 : Nat → Nat → Int), yUn T X c l → (∀ i, i ≠ g + 87 → ψ1 i = ψ i) → (∀ i v : Nat, l[i]? = some v → ψ1 (g + 87) i = (v : Int)) → ∀ w5 w6 w7, zg e 436 (d + 3) 5 [zr (some (x + g)), zl (X : Int), zj, zi (l.length : Int), zi (c : Int), w5, w6, w7] [] (cH h x φ ψ1 α) (fun ov h' => ∃ l, yUn T X (Tm T) l ∧ ov = Sum.inl (some (zi (l.length : Int))) ∧ ∃ ψ', h' = cH h x φ ψ' α ∧ ∀ i, i ≠ g + 87 → ψ' i = ψ i)) (Tm T) (fun l ψ1 U q1 q2 w5 w6 w7 => ?_) (fun c hc ih l ψ1 U q1 q2 w5 w6 w7 => ?_)
  · simp (disch := omega) only [n436, r436_0, r436_1, r436_2, r436_3, r436_7, r436_8, r436_11, r436_14, r436_15, r436_16, r436_18, r436_21, r436_23, r436_24, r436_28, r436_29, r436_32, r436_33, r436_36, r436_38, r436_39, r436_41, r436_42, r436_45, r436_48, r436_51, r436_53, r436_54, r436_57, r436_60, r436_61, r436_64, r436_65, r436_67, r436_68, r436_71, r436_74, r436_77, r436_78, znl_i, znl_r, znl_j, znl_l, List.length_cons, List.length_nil, Option.some.injEq, Sum.inl.injEq, Sum.inr.injEq, Prod.mk.injEq, true_and, and_true, exists_eq_left', zK_sI, zA_sI, zL_sI, zK_sL, zA_sL, zI_sL, zK_fI, zA_fI, zL_fI, zK_fL, zA_fL, zI_fL, Nat.reduceAdd, Nat.reduceLeDiff, forall_eq', zl_lt, zl_gt, zl_eq, zl_le, zl_ge, zm_0, zaft_n, zaft_v, zb_eq, Decidable.not_not, zK_rH, zI_rH, zL_rH, zA_rH, zsI_rH, zsL_rH, zsA_rH, zcpI_rH, zn_b, zm_b, Int.toNat_natCast, Int.toNat_zero, Int.reduceToNat, GK.K0]
    exact loop [] ψ yUn.start (fun _ _ => rfl) (fun i v h => by simp at h) _ _ _
  · have le := U.len
    rw [r436_5]
    simp (disch := omega) only [r436_0, r436_1, r436_2, r436_3, r436_7, r436_8, r436_11, r436_14, r436_15, r436_16, r436_18, r436_21, r436_23, r436_24, r436_28, r436_29, r436_32, r436_33, r436_36, r436_38, r436_39, r436_41, r436_42, r436_45, r436_48, r436_51, r436_53, r436_54, r436_57, r436_60, r436_61, r436_64, r436_65, r436_67, r436_68, r436_71, r436_74, r436_77, r436_78, znl_i, znl_r, znl_j, znl_l, List.length_cons, List.length_nil, Option.some.injEq, Sum.inl.injEq, Sum.inr.injEq, Prod.mk.injEq, true_and, and_true, exists_eq_left', zK_sI, zA_sI, zL_sI, zK_sL, zA_sL, zI_sL, zK_fI, zA_fI, zL_fI, zK_fL, zA_fL, zI_fL, Nat.reduceAdd, Nat.reduceLeDiff, forall_eq', zl_lt, zl_gt, zl_eq, zl_le, zl_ge, zm_0, zaft_n, zaft_v, zb_eq, Decidable.not_not, zK_rH, zI_rH, zL_rH, zA_rH, zsI_rH, zsL_rH, zsA_rH, zcpI_rH, zn_b, zm_b, Int.toNat_natCast, Int.toNat_zero, Int.reduceToNat, GK.K0, D.G.m]
    exact ⟨fun _ => ⟨l, U, rfl, ψ1, rfl, q1⟩, fun z => absurd z (by omega)⟩
  · have le := U.len
    have tl : ytn T X c (Tm T) < 2 ^ 48 := ypw2_lt (b := 0) m.2 (ytn_lt V hc _ (Nat.le_refl _))
    rw [r436_5]
    simp (disch := omega) only [r436_0, r436_1, r436_2, r436_3, r436_7, r436_8, r436_11, r436_14, r436_15, r436_16, r436_18, r436_21, r436_23, r436_24, r436_28, r436_29, r436_32, r436_33, r436_36, r436_38, r436_39, r436_41, r436_42, r436_45, r436_48, r436_51, r436_53, r436_54, r436_57, r436_60, r436_61, r436_64, r436_65, r436_67, r436_68, r436_71, r436_74, r436_77, r436_78, znl_i, znl_r, znl_j, znl_l, List.length_cons, List.length_nil, Option.some.injEq, Sum.inl.injEq, Sum.inr.injEq, Prod.mk.injEq, true_and, and_true, exists_eq_left', zK_sI, zA_sI, zL_sI, zK_sL, zA_sL, zI_sL, zK_fI, zA_fI, zL_fI, zK_fL, zA_fL, zI_fL, Nat.reduceAdd, Nat.reduceLeDiff, forall_eq', zl_lt, zl_gt, zl_eq, zl_le, zl_ge, zm_0, zaft_n, zaft_v, zb_eq, Decidable.not_not, zK_rH, zI_rH, zL_rH, zA_rH, zsI_rH, zsL_rH, zsA_rH, zcpI_rH, zn_b, zm_b, Int.toNat_natCast, Int.toNat_zero, Int.reduceToNat, GK.K0, D.G.m]
    refine ⟨fun z => absurd z (by omega), fun _ => ?_⟩
    refine zc_w (g_setTurned (d := d) D X1 hc) ?_
    have inner := zdown0 (fun k => (∀ i v : Nat, i < k → l[i]? = some v → v ≠ ytn T X c (Tm T)) → zg e 436 (d + 3) 26 [zr (some (x + g)), zl (X : Int), zj, zi (l.length : Int), zi (c : Int), zl (ytn T X c (Tm T) : Int), zj, zi (k : Int)] [] (cH h x φ ψ1 α) (fun ov h' => ∃ l, yUn T X (Tm T) l ∧ ov = Sum.inl (some (zi (l.length : Int))) ∧ ∃ ψ', h' = cH h x φ ψ' α ∧ ∀ i, i ≠ g + 87 → ψ' i = ψ i)) l.length (fun q3 => ?_) (fun k hk ihk q3 => ?_)
    · simp (disch := omega) only [r436_0, r436_1, r436_2, r436_3, r436_7, r436_8, r436_11, r436_14, r436_15, r436_16, r436_18, r436_21, r436_23, r436_24, r436_28, r436_29, r436_32, r436_33, r436_36, r436_38, r436_39, r436_41, r436_42, r436_45, r436_48, r436_51, r436_53, r436_54, r436_57, r436_60, r436_61, r436_64, r436_65, r436_67, r436_68, r436_71, r436_74, r436_77, r436_78, znl_i, znl_r, znl_j, znl_l, List.length_cons, List.length_nil, Option.some.injEq, Sum.inl.injEq, Sum.inr.injEq, Prod.mk.injEq, true_and, and_true, exists_eq_left', zK_sI, zA_sI, zL_sI, zK_sL, zA_sL, zI_sL, zK_fI, zA_fI, zL_fI, zK_fL, zA_fL, zI_fL, Nat.reduceAdd, Nat.reduceLeDiff, forall_eq', zl_lt, zl_gt, zl_eq, zl_le, zl_ge, zm_0, zaft_n, zaft_v, zb_eq, Decidable.not_not, zK_rH, zI_rH, zL_rH, zA_rH, zsI_rH, zsL_rH, zsA_rH, zcpI_rH, zn_b, zm_b, Int.toNat_natCast, Int.toNat_zero, Int.reduceToNat, GK.K0]
      exact inner (fun i v hi => absurd hi (by omega))
    · have nin : ytn T X c (Tm T) ∉ l := fun z => by
        obtain ⟨i, hi, e1⟩ := List.mem_iff_getElem.mp z
        exact q3 i _ hi (List.getElem?_eq_getElem hi) e1
      have U2 := U.new nin
      have ll : (l ++ [ytn T X c (Tm T)]).length = l.length + 1 := by simp
      have g' := ih _ (zu ψ1 (g + 87) l.length (ytn T X c (Tm T) : Int)) U2 (fun i hi => by rw [zu_cell _ _ _ hi]; exact q1 i hi) (fun i v hv => by
        by_cases w : i < l.length
        · rw [List.getElem?_append_left w] at hv
          rw [zu_slot _ _ _ (by omega)]; exact q2 i v hv
        · rw [List.getElem?_append_right (by omega)] at hv
          have hi : i = l.length := by
            have := (List.getElem?_eq_some_iff.mp hv).1
            simp at this; omega
          subst hi
          rw [Nat.sub_self] at hv
          have hv : ytn T X c (Tm T) = v := Option.some.inj hv
          rw [zu_same, hv]) (zl (ytn T X c (Tm T) : Int)) zj (zi (l.length : Int))
      rw [ll] at g'
      rw [r436_26]
      simp (disch := omega) only [r436_0, r436_1, r436_2, r436_3, r436_7, r436_8, r436_11, r436_14, r436_15, r436_16, r436_18, r436_21, r436_23, r436_24, r436_28, r436_29, r436_32, r436_33, r436_36, r436_38, r436_39, r436_41, r436_42, r436_45, r436_48, r436_51, r436_53, r436_54, r436_57, r436_60, r436_61, r436_64, r436_65, r436_67, r436_68, r436_71, r436_74, r436_77, r436_78, znl_i, znl_r, znl_j, znl_l, List.length_cons, List.length_nil, Option.some.injEq, Sum.inl.injEq, Sum.inr.injEq, Prod.mk.injEq, true_and, and_true, exists_eq_left', zK_sI, zA_sI, zL_sI, zK_sL, zA_sL, zI_sL, zK_fI, zA_fI, zL_fI, zK_fL, zA_fL, zI_fL, Nat.reduceAdd, Nat.reduceLeDiff, forall_eq', zl_lt, zl_gt, zl_eq, zl_le, zl_ge, zm_0, zaft_n, zaft_v, zb_eq, Decidable.not_not, zK_rH, zI_rH, zL_rH, zA_rH, zsI_rH, zsL_rH, zsA_rH, zcpI_rH, zn_b, zm_b, Int.toNat_natCast, Int.toNat_zero, Int.reduceToNat, GK.K0, GK.K87, GA.A16]
      refine ⟨fun _ => ⟨fun _ => ?_, fun z => absurd z (by omega)⟩, fun z => absurd z (by omega)⟩
      repeat (refine And.intro (by omega) ?_)
      exact g'
    · have ev := q2 k _ (List.getElem?_eq_getElem hk)
      have vm : l[k] ∈ l := List.getElem_mem hk
      have vb : l[k] < 2 ^ 48 := by
        obtain ⟨c', hc', e1⟩ := (U.mem _).mp vm
        rw [← e1]; exact ypw2_lt (b := 0) m.2 (ytn_lt V (by omega) _ (Nat.le_refl _))
      rw [r436_26]
      simp (disch := omega) only [r436_0, r436_1, r436_2, r436_3, r436_7, r436_8, r436_11, r436_14, r436_15, r436_16, r436_18, r436_21, r436_23, r436_24, r436_28, r436_29, r436_32, r436_33, r436_36, r436_38, r436_39, r436_41, r436_42, r436_45, r436_48, r436_51, r436_53, r436_54, r436_57, r436_60, r436_61, r436_64, r436_65, r436_67, r436_68, r436_71, r436_74, r436_77, r436_78, znl_i, znl_r, znl_j, znl_l, List.length_cons, List.length_nil, Option.some.injEq, Sum.inl.injEq, Sum.inr.injEq, Prod.mk.injEq, true_and, and_true, exists_eq_left', zK_sI, zA_sI, zL_sI, zK_sL, zA_sL, zI_sL, zK_fI, zA_fI, zL_fI, zK_fL, zA_fL, zI_fL, Nat.reduceAdd, Nat.reduceLeDiff, forall_eq', zl_lt, zl_gt, zl_eq, zl_le, zl_ge, zm_0, zaft_n, zaft_v, zb_eq, Decidable.not_not, zK_rH, zI_rH, zL_rH, zA_rH, zsI_rH, zsL_rH, zsA_rH, zcpI_rH, zn_b, zm_b, Int.toNat_natCast, Int.toNat_zero, Int.reduceToNat, GK.K0, GK.K87, GA.A16, ev, zlq_eq]
      refine ⟨fun z => absurd z (by omega), fun _ => ⟨by omega, by omega, fun z => ?_, fun z => ?_⟩⟩
      · have g' := ih l ψ1 (U.old (by rw [show ytn T X c (Tm T) = l[k] by omega]; exact vm)) q1 q2 (zl (ytn T X c (Tm T) : Int)) zj (zi (k : Int))
        refine ⟨fun z => absurd z (by omega), fun _ => g'⟩
      · exact ihk (fun i v hi hv => by
          by_cases w : i = k
          · subst w
            rw [List.getElem?_eq_getElem hk] at hv
            have hv := Option.some.inj hv
            intro z2; rw [← hv] at z2; omega
          · exact q3 i v (by omega) hv)
end
