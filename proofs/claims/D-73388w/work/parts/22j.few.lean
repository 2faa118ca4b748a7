section
variable {e : zEv} {d x f o r n g b : Nat} {h h1 h2 : zH} {φ φ' φ'' ψ ψ' ψ'' : Nat → Nat → Int} {α α' α'' : Nat → Nat → Option Nat} {F : yF} {T : yT}
noncomputable def yb9 (p : Prop) : Int := yb (@decide p (Classical.propDecidable _))
theorem yb9_t {p : Prop} (h : p) : yb9 p = 1 := by
  unfold yb9; rw [(@decide_eq_true_iff _ (Classical.propDecidable _)).mpr h]; rfl
theorem yb9_f {p : Prop} (h : ¬ p) : yb9 p = 0 := by
  unfold yb9; rw [(@decide_eq_false_iff_not _ (Classical.propDecidable _)).mpr h]; rfl
theorem g_canMake (D : gD e h x f g T φ α) : ∀ (n s k : Nat), n ≤ 48 → ysg T s = true → k ≤ 48 → zc e (d + 4 + n) 431 [zr (some (x + g)), zi (n : Int), zl (s : Int), zi (k : Int)] (cH h x φ ψ α) (fun ov h' => ov = Sum.inl (some (zi (yb9 (ycm9 T n s k)))) ∧ h' = cH h x φ ψ α) := by
  have GK := D.GK
  have V := D.V
  have gn := GK.n
  have m := V.m
  have p1 : 1 ≤ 2 ^ Tm T := Nat.one_le_two_pow
  have p48 : 2 ^ Tm T ≤ 2 ^ 48 := Nat.pow_le_pow_right (by omega) m.2
  intro n
  induction n with
  | zero =>
    intro s k _ hs hk
    have sm := (ysg_iff.mp hs).2.2
    simp (disch := omega) only [n431, r431_0, r431_1, r431_2, r431_5, r431_6, r431_9, r431_10, r431_11, r431_12, r431_15, r431_16, r431_17, r431_19, r431_23, r431_24, r431_27, r431_30, r431_31, r431_33, r431_36, r431_39, r431_40, r431_41, r431_42, r431_43, r431_44, r431_45, r431_46, r431_48, r431_49, r431_50, r431_53, r431_55, r431_56, r431_57, r431_60, r431_63, r431_64, r431_65, r431_68, r431_71, r431_72, znl_i, znl_r, znl_j, znl_l, List.length_cons, List.length_nil, Option.some.injEq, Sum.inl.injEq, Sum.inr.injEq, Prod.mk.injEq, true_and, and_true, exists_eq_left', zK_sI, zA_sI, zL_sI, zK_sL, zA_sL, zI_sL, zK_fI, zA_fI, zL_fI, zK_fL, zA_fL, zI_fL, Nat.reduceAdd, Nat.reduceLeDiff, forall_eq', zl_lt, zl_gt, zl_eq, zl_le, zl_ge, zm_0, zaft_n, zaft_v, zb_eq, Decidable.not_not, zK_rH, zI_rH, zL_rH, zA_rH, zsI_rH, zsL_rH, zsA_rH, zcpI_rH, zn_b, zm_b, Int.toNat_natCast, Int.toNat_zero, Int.reduceToNat, GK.K0]
    refine zc_w (g_all (d := d + 2) D) ?_
    simp (disch := omega) only [r431_0, r431_1, r431_2, r431_5, r431_6, r431_9, r431_10, r431_11, r431_12, r431_15, r431_16, r431_17, r431_19, r431_23, r431_24, r431_27, r431_30, r431_31, r431_33, r431_36, r431_39, r431_40, r431_41, r431_42, r431_43, r431_44, r431_45, r431_46, r431_48, r431_49, r431_50, r431_53, r431_55, r431_56, r431_57, r431_60, r431_63, r431_64, r431_65, r431_68, r431_71, r431_72, znl_i, znl_r, znl_j, znl_l, List.length_cons, List.length_nil, Option.some.injEq, Sum.inl.injEq, Sum.inr.injEq, Prod.mk.injEq, true_and, and_true, exists_eq_left', zK_sI, zA_sI, zL_sI, zK_sL, zA_sL, zI_sL, zK_fI, zA_fI, zL_fI, zK_fL, zA_fL, zI_fL, Nat.reduceAdd, Nat.reduceLeDiff, forall_eq', zl_lt, zl_gt, zl_eq, zl_le, zl_ge, zm_0, zaft_n, zaft_v, zb_eq, Decidable.not_not, zK_rH, zI_rH, zL_rH, zA_rH, zsI_rH, zsL_rH, zsA_rH, zcpI_rH, zn_b, zm_b, Int.toNat_natCast, Int.toNat_zero, Int.reduceToNat, zlq_eq]
    refine ⟨fun z => ⟨fun w => absurd (show ((0 : Nat) : Int) = 0 from rfl) w, fun _ => ⟨by decide, by decide, ?_⟩⟩, fun z => ⟨by decide, by decide, ?_⟩⟩
    · exact (yb9_f (show ¬ (s = 2 ^ Tm T - 1) by omega)).symm
    · exact (yb9_t (show s = 2 ^ Tm T - 1 by omega)).symm
  | succ n ih =>
    intro s k hn hs hk
    have sm := (ysg_iff.mp hs).2.2
    have s48 := ypw2_lt (b := 0) m.2 sm
    have loop : k ≤ Tm T → s ≠ 2 ^ Tm T - 1 → _ := fun hk2 hne => zdown (fun a => k ≤ a → (∀ i, k ≤ i → i < a → ¬ (s.testBit i = false ∧ ycm9 T n (yad T s i) (i + 1))) → zg e 431 (d + 4 + n) 21 [zr (some (x + g)), zi ((n + 1 : Nat) : Int), zl (s : Int), zj, zi (k : Int), zi (a : Int)] [] (cH h x φ ψ α) (fun ov h' => ov = Sum.inl (some (zi (yb9 (ycm9 T (n + 1) s k)))) ∧ h' = cH h x φ ψ α)) (Tm T) (fun _ q => by
        rw [r431_21]
        simp (disch := omega) only [r431_0, r431_1, r431_2, r431_5, r431_6, r431_9, r431_10, r431_11, r431_12, r431_15, r431_16, r431_17, r431_19, r431_23, r431_24, r431_27, r431_30, r431_31, r431_33, r431_36, r431_39, r431_40, r431_41, r431_42, r431_43, r431_44, r431_45, r431_46, r431_48, r431_49, r431_50, r431_53, r431_55, r431_56, r431_57, r431_60, r431_63, r431_64, r431_65, r431_68, r431_71, r431_72, znl_i, znl_r, znl_j, znl_l, List.length_cons, List.length_nil, Option.some.injEq, Sum.inl.injEq, Sum.inr.injEq, Prod.mk.injEq, true_and, and_true, exists_eq_left', zK_sI, zA_sI, zL_sI, zK_sL, zA_sL, zI_sL, zK_fI, zA_fI, zL_fI, zK_fL, zA_fL, zI_fL, Nat.reduceAdd, Nat.reduceLeDiff, forall_eq', zl_lt, zl_gt, zl_eq, zl_le, zl_ge, zm_0, zaft_n, zaft_v, zb_eq, Decidable.not_not, zK_rH, zI_rH, zL_rH, zA_rH, zsI_rH, zsL_rH, zsA_rH, zcpI_rH, zn_b, zm_b, Int.toNat_natCast, Int.toNat_zero, Int.reduceToNat, GK.K0, D.G.m]
        refine ⟨fun _ => ⟨by decide, by decide, ?_⟩, fun z => absurd z (by omega)⟩
        rw [yb9_f]
        rintro (z | ⟨a, h1, h2, h3, h4⟩)
        · exact hne z
        · exact q a h1 h2 ⟨h3, h4⟩) (fun a ha iha hka q => by
        rw [r431_21]
        simp (disch := omega) only [r431_0, r431_1, r431_2, r431_5, r431_6, r431_9, r431_10, r431_11, r431_12, r431_15, r431_16, r431_17, r431_19, r431_23, r431_24, r431_27, r431_30, r431_31, r431_33, r431_36, r431_39, r431_40, r431_41, r431_42, r431_43, r431_44, r431_45, r431_46, r431_48, r431_49, r431_50, r431_53, r431_55, r431_56, r431_57, r431_60, r431_63, r431_64, r431_65, r431_68, r431_71, r431_72, znl_i, znl_r, znl_j, znl_l, List.length_cons, List.length_nil, Option.some.injEq, Sum.inl.injEq, Sum.inr.injEq, Prod.mk.injEq, true_and, and_true, exists_eq_left', zK_sI, zA_sI, zL_sI, zK_sL, zA_sL, zI_sL, zK_fI, zA_fI, zL_fI, zK_fL, zA_fL, zI_fL, Nat.reduceAdd, Nat.reduceLeDiff, forall_eq', zl_lt, zl_gt, zl_eq, zl_le, zl_ge, zm_0, zaft_n, zaft_v, zb_eq, Decidable.not_not, zK_rH, zI_rH, zL_rH, zA_rH, zsI_rH, zsL_rH, zsA_rH, zcpI_rH, zn_b, zm_b, Int.toNat_natCast, Int.toNat_zero, Int.reduceToNat, GK.K0, D.G.m]
        refine ⟨fun z => absurd z (by omega), fun _ => ?_⟩
        have isi := g_isIn (e := e) (h := cH h x φ ψ α) (d := d + 3 + n) s a (by omega) (by omega)
        rw [show d + 3 + n + 1 = d + 4 + n by omega] at isi
        refine zc_w isi ?_
        have nxt : ¬ (s.testBit a = false ∧ ycm9 T n (yad T s a) (a + 1)) → ∀ i, k ≤ i → i < a + 1 → ¬ (s.testBit i = false ∧ ycm9 T n (yad T s i) (i + 1)) := fun z i h1 h2 => by
          by_cases w : i = a
          · rw [w]; exact z
          · exact q i h1 (by omega)
        cases hb : s.testBit a with
        | true =>
          simp (disch := omega) only [r431_0, r431_1, r431_2, r431_5, r431_6, r431_9, r431_10, r431_11, r431_12, r431_15, r431_16, r431_17, r431_19, r431_23, r431_24, r431_27, r431_30, r431_31, r431_33, r431_36, r431_39, r431_40, r431_41, r431_42, r431_43, r431_44, r431_45, r431_46, r431_48, r431_49, r431_50, r431_53, r431_55, r431_56, r431_57, r431_60, r431_63, r431_64, r431_65, r431_68, r431_71, r431_72, znl_i, znl_r, znl_j, znl_l, List.length_cons, List.length_nil, Option.some.injEq, Sum.inl.injEq, Sum.inr.injEq, Prod.mk.injEq, true_and, and_true, exists_eq_left', zK_sI, zA_sI, zL_sI, zK_sL, zA_sL, zI_sL, zK_fI, zA_fI, zL_fI, zK_fL, zA_fL, zI_fL, Nat.reduceAdd, Nat.reduceLeDiff, forall_eq', zl_lt, zl_gt, zl_eq, zl_le, zl_ge, zm_0, zaft_n, zaft_v, zb_eq, Decidable.not_not, zK_rH, zI_rH, zL_rH, zA_rH, zsI_rH, zsL_rH, zsA_rH, zcpI_rH, zn_b, zm_b, Int.toNat_natCast, Int.toNat_zero, Int.reduceToNat, show yb true = 1 from rfl]
          exact ⟨fun _ => iha (by omega) (nxt fun z => by rw [hb] at z; cases z.1), fun z => absurd z (by decide)⟩
        | false =>
          have lo := zlo_n s a s48 (by omega)
          have Bm : s ||| 2 ^ a < 2 ^ Tm T := Nat.or_lt_two_pow sm (Nat.pow_lt_pow_right (by omega) ha)
          have e1 : ((n + 1 : Nat) : Int) - 1 = (n : Int) := by omega
          have cl := g_closes (ψ := ψ) (d := d + 1 + n) D Bm
          rw [show d + 1 + n + 3 = d + 4 + n by omega] at cl
          simp (disch := omega) only [r431_0, r431_1, r431_2, r431_5, r431_6, r431_9, r431_10, r431_11, r431_12, r431_15, r431_16, r431_17, r431_19, r431_23, r431_24, r431_27, r431_30, r431_31, r431_33, r431_36, r431_39, r431_40, r431_41, r431_42, r431_43, r431_44, r431_45, r431_46, r431_48, r431_49, r431_50, r431_53, r431_55, r431_56, r431_57, r431_60, r431_63, r431_64, r431_65, r431_68, r431_71, r431_72, znl_i, znl_r, znl_j, znl_l, List.length_cons, List.length_nil, Option.some.injEq, Sum.inl.injEq, Sum.inr.injEq, Prod.mk.injEq, true_and, and_true, exists_eq_left', zK_sI, zA_sI, zL_sI, zK_sL, zA_sL, zI_sL, zK_fI, zA_fI, zL_fI, zK_fL, zA_fL, zI_fL, Nat.reduceAdd, Nat.reduceLeDiff, forall_eq', zl_lt, zl_gt, zl_eq, zl_le, zl_ge, zm_0, zaft_n, zaft_v, zb_eq, Decidable.not_not, zK_rH, zI_rH, zL_rH, zA_rH, zsI_rH, zsL_rH, zsA_rH, zcpI_rH, zn_b, zm_b, Int.toNat_natCast, Int.toNat_zero, Int.reduceToNat, show yb false = 0 from rfl, GK.K0, lo, e1]
          refine ⟨fun z => absurd trivial z, fun _ => ?_⟩
          refine zc_w cl ?_
          simp (disch := omega) only [r431_0, r431_1, r431_2, r431_5, r431_6, r431_9, r431_10, r431_11, r431_12, r431_15, r431_16, r431_17, r431_19, r431_23, r431_24, r431_27, r431_30, r431_31, r431_33, r431_36, r431_39, r431_40, r431_41, r431_42, r431_43, r431_44, r431_45, r431_46, r431_48, r431_49, r431_50, r431_53, r431_55, r431_56, r431_57, r431_60, r431_63, r431_64, r431_65, r431_68, r431_71, r431_72, znl_i, znl_r, znl_j, znl_l, List.length_cons, List.length_nil, Option.some.injEq, Sum.inl.injEq, Sum.inr.injEq, Prod.mk.injEq, true_and, and_true, exists_eq_left', zK_sI, zA_sI, zL_sI, zK_sL, zA_sL, zI_sL, zK_fI, zA_fI, zL_fI, zK_fL, zA_fL, zI_fL, Nat.reduceAdd, Nat.reduceLeDiff, forall_eq', zl_lt, zl_gt, zl_eq, zl_le, zl_ge, zm_0, zaft_n, zaft_v, zb_eq, Decidable.not_not, zK_rH, zI_rH, zL_rH, zA_rH, zsI_rH, zsL_rH, zsA_rH, zcpI_rH, zn_b, zm_b, Int.toNat_natCast, Int.toNat_zero, Int.reduceToNat, GK.K0]
          have call := ih (yad T s a) (a + 1) (by omega) (yad_sp V sm ha).1 (by omega)
          refine zc_w call ?_
          by_cases w : ycm9 T n (yad T s a) (a + 1)
          · rw [yb9_t w]
            simp (disch := omega) only [r431_0, r431_1, r431_2, r431_5, r431_6, r431_9, r431_10, r431_11, r431_12, r431_15, r431_16, r431_17, r431_19, r431_23, r431_24, r431_27, r431_30, r431_31, r431_33, r431_36, r431_39, r431_40, r431_41, r431_42, r431_43, r431_44, r431_45, r431_46, r431_48, r431_49, r431_50, r431_53, r431_55, r431_56, r431_57, r431_60, r431_63, r431_64, r431_65, r431_68, r431_71, r431_72, znl_i, znl_r, znl_j, znl_l, List.length_cons, List.length_nil, Option.some.injEq, Sum.inl.injEq, Sum.inr.injEq, Prod.mk.injEq, true_and, and_true, exists_eq_left', zK_sI, zA_sI, zL_sI, zK_sL, zA_sL, zI_sL, zK_fI, zA_fI, zL_fI, zK_fL, zA_fL, zI_fL, Nat.reduceAdd, Nat.reduceLeDiff, forall_eq', zl_lt, zl_gt, zl_eq, zl_le, zl_ge, zm_0, zaft_n, zaft_v, zb_eq, Decidable.not_not, zK_rH, zI_rH, zL_rH, zA_rH, zsI_rH, zsL_rH, zsA_rH, zcpI_rH, zn_b, zm_b, Int.toNat_natCast, Int.toNat_zero, Int.reduceToNat]
            refine ⟨fun z => absurd z (by decide), fun _ => ⟨by decide, by decide, ?_⟩⟩
            rw [yb9_t (show ycm9 T (n + 1) s k from Or.inr ⟨a, hka, ha, hb, w⟩)]
          · rw [yb9_f w]
            simp (disch := omega) only [r431_0, r431_1, r431_2, r431_5, r431_6, r431_9, r431_10, r431_11, r431_12, r431_15, r431_16, r431_17, r431_19, r431_23, r431_24, r431_27, r431_30, r431_31, r431_33, r431_36, r431_39, r431_40, r431_41, r431_42, r431_43, r431_44, r431_45, r431_46, r431_48, r431_49, r431_50, r431_53, r431_55, r431_56, r431_57, r431_60, r431_63, r431_64, r431_65, r431_68, r431_71, r431_72, znl_i, znl_r, znl_j, znl_l, List.length_cons, List.length_nil, Option.some.injEq, Sum.inl.injEq, Sum.inr.injEq, Prod.mk.injEq, true_and, and_true, exists_eq_left', zK_sI, zA_sI, zL_sI, zK_sL, zA_sL, zI_sL, zK_fI, zA_fI, zL_fI, zK_fL, zA_fL, zI_fL, Nat.reduceAdd, Nat.reduceLeDiff, forall_eq', zl_lt, zl_gt, zl_eq, zl_le, zl_ge, zm_0, zaft_n, zaft_v, zb_eq, Decidable.not_not, zK_rH, zI_rH, zL_rH, zA_rH, zsI_rH, zsL_rH, zsA_rH, zcpI_rH, zn_b, zm_b, Int.toNat_natCast, Int.toNat_zero, Int.reduceToNat]
            exact ⟨fun _ => iha (by omega) (nxt fun z => w z.2), fun z => absurd trivial z⟩) k hk2
    have al := g_all (ψ := ψ) (d := d + 3 + n) D
    rw [show d + 3 + n + 1 = d + 4 + n by omega] at al
    show zc e ((d + 4 + n) + 1) _ _ _ _
    simp (disch := omega) only [n431, r431_0, r431_1, r431_2, r431_5, r431_6, r431_9, r431_10, r431_11, r431_12, r431_15, r431_16, r431_17, r431_19, r431_23, r431_24, r431_27, r431_30, r431_31, r431_33, r431_36, r431_39, r431_40, r431_41, r431_42, r431_43, r431_44, r431_45, r431_46, r431_48, r431_49, r431_50, r431_53, r431_55, r431_56, r431_57, r431_60, r431_63, r431_64, r431_65, r431_68, r431_71, r431_72, znl_i, znl_r, znl_j, znl_l, List.length_cons, List.length_nil, Option.some.injEq, Sum.inl.injEq, Sum.inr.injEq, Prod.mk.injEq, true_and, and_true, exists_eq_left', zK_sI, zA_sI, zL_sI, zK_sL, zA_sL, zI_sL, zK_fI, zA_fI, zL_fI, zK_fL, zA_fL, zI_fL, Nat.reduceAdd, Nat.reduceLeDiff, forall_eq', zl_lt, zl_gt, zl_eq, zl_le, zl_ge, zm_0, zaft_n, zaft_v, zb_eq, Decidable.not_not, zK_rH, zI_rH, zL_rH, zA_rH, zsI_rH, zsL_rH, zsA_rH, zcpI_rH, zn_b, zm_b, Int.toNat_natCast, Int.toNat_zero, Int.reduceToNat, GK.K0]
    refine zc_w al ?_
    simp (disch := omega) only [r431_0, r431_1, r431_2, r431_5, r431_6, r431_9, r431_10, r431_11, r431_12, r431_15, r431_16, r431_17, r431_19, r431_23, r431_24, r431_27, r431_30, r431_31, r431_33, r431_36, r431_39, r431_40, r431_41, r431_42, r431_43, r431_44, r431_45, r431_46, r431_48, r431_49, r431_50, r431_53, r431_55, r431_56, r431_57, r431_60, r431_63, r431_64, r431_65, r431_68, r431_71, r431_72, znl_i, znl_r, znl_j, znl_l, List.length_cons, List.length_nil, Option.some.injEq, Sum.inl.injEq, Sum.inr.injEq, Prod.mk.injEq, true_and, and_true, exists_eq_left', zK_sI, zA_sI, zL_sI, zK_sL, zA_sL, zI_sL, zK_fI, zA_fI, zL_fI, zK_fL, zA_fL, zI_fL, Nat.reduceAdd, Nat.reduceLeDiff, forall_eq', zl_lt, zl_gt, zl_eq, zl_le, zl_ge, zm_0, zaft_n, zaft_v, zb_eq, Decidable.not_not, zK_rH, zI_rH, zL_rH, zA_rH, zsI_rH, zsL_rH, zsA_rH, zcpI_rH, zn_b, zm_b, Int.toNat_natCast, Int.toNat_zero, Int.reduceToNat, zlq_eq]
    refine ⟨fun z => ⟨fun _ => ?_, fun w => absurd w (by omega)⟩, fun z => ⟨by decide, by decide, ?_⟩⟩
    · by_cases hk2 : k ≤ Tm T
      · exact loop hk2 (by omega) (Nat.le_refl _) (fun i h1 h2 => absurd h2 (by omega))
      · rw [r431_21]
        simp (disch := omega) only [r431_0, r431_1, r431_2, r431_5, r431_6, r431_9, r431_10, r431_11, r431_12, r431_15, r431_16, r431_17, r431_19, r431_23, r431_24, r431_27, r431_30, r431_31, r431_33, r431_36, r431_39, r431_40, r431_41, r431_42, r431_43, r431_44, r431_45, r431_46, r431_48, r431_49, r431_50, r431_53, r431_55, r431_56, r431_57, r431_60, r431_63, r431_64, r431_65, r431_68, r431_71, r431_72, znl_i, znl_r, znl_j, znl_l, List.length_cons, List.length_nil, Option.some.injEq, Sum.inl.injEq, Sum.inr.injEq, Prod.mk.injEq, true_and, and_true, exists_eq_left', zK_sI, zA_sI, zL_sI, zK_sL, zA_sL, zI_sL, zK_fI, zA_fI, zL_fI, zK_fL, zA_fL, zI_fL, Nat.reduceAdd, Nat.reduceLeDiff, forall_eq', zl_lt, zl_gt, zl_eq, zl_le, zl_ge, zm_0, zaft_n, zaft_v, zb_eq, Decidable.not_not, zK_rH, zI_rH, zL_rH, zA_rH, zsI_rH, zsL_rH, zsA_rH, zcpI_rH, zn_b, zm_b, Int.toNat_natCast, Int.toNat_zero, Int.reduceToNat, GK.K0, D.G.m]
        refine ⟨fun _ => ⟨by decide, by decide, ?_⟩, fun z => absurd z (by omega)⟩
        rw [yb9_f]
        rintro (z2 | ⟨a, h1, h2, h3, h4⟩)
        · omega
        · omega
    · rw [yb9_t (show ycm9 T (n + 1) s k from Or.inl (by omega))]
theorem g_fewestOf (D : gD e h x f g T φ α) : zc e (d + 53) 430 [zr (some (x + g))] (cH h x φ ψ α) (fun ov h' => ov = Sum.inl (some (zi (yfw T : Int))) ∧ h' = cH h x φ ψ α) := by
  have GK := D.GK
  have V := D.V
  have gn := GK.n
  obtain ⟨w1, w2, w3⟩ := yfw_sp V
  have loop := zdown (fun n => n ≤ yfw T → zg e 430 (d + 52) 2 [zr (some (x + g)), zi (n : Int)] [] (cH h x φ ψ α) (fun ov h' => ov = Sum.inl (some (zi (yfw T : Int))) ∧ h' = cH h x φ ψ α)) (yfw T + 1) (fun z => absurd z (by omega)) (fun n hn ih hle => by
    rw [r430_2]
    simp (disch := omega) only [r430_0, r430_1, r430_3, r430_5, r430_8, r430_9, r430_10, r430_11, r430_12, r430_15, r430_18, r430_21, r430_24, r430_25, znl_i, znl_r, znl_j, znl_l, List.length_cons, List.length_nil, Option.some.injEq, Sum.inl.injEq, Sum.inr.injEq, Prod.mk.injEq, true_and, and_true, exists_eq_left', zK_sI, zA_sI, zL_sI, zK_sL, zA_sL, zI_sL, zK_fI, zA_fI, zL_fI, zK_fL, zA_fL, zI_fL, Nat.reduceAdd, Nat.reduceLeDiff, forall_eq', zl_lt, zl_gt, zl_eq, zl_le, zl_ge, zm_0, zaft_n, zaft_v, zb_eq, Decidable.not_not, zK_rH, zI_rH, zL_rH, zA_rH, zsI_rH, zsL_rH, zsA_rH, zcpI_rH, zn_b, zm_b, Int.toNat_natCast, Int.toNat_zero, Int.reduceToNat, GK.K0]
    refine ⟨fun z => ?_, fun z => ?_⟩
    · have : n = yfw T := by omega
      rw [this]
    · have call := g_canMake (ψ := ψ) (d := d + 48 - n) D n 1 1 (by omega) (ysg_one V) (by omega)
      rw [show d + 48 - n + 4 + n = d + 52 by omega] at call
      refine zc_w call ?_
      by_cases c : n = yfw T
      · rw [yb9_t ((ycm9_iff V).mpr ⟨n, Nat.le_refl _, by rw [c]; exact w2⟩)]
        simp (disch := omega) only [r430_0, r430_1, r430_3, r430_5, r430_8, r430_9, r430_10, r430_11, r430_12, r430_15, r430_18, r430_21, r430_24, r430_25, znl_i, znl_r, znl_j, znl_l, List.length_cons, List.length_nil, Option.some.injEq, Sum.inl.injEq, Sum.inr.injEq, Prod.mk.injEq, true_and, and_true, exists_eq_left', zK_sI, zA_sI, zL_sI, zK_sL, zA_sL, zI_sL, zK_fI, zA_fI, zL_fI, zK_fL, zA_fL, zI_fL, Nat.reduceAdd, Nat.reduceLeDiff, forall_eq', zl_lt, zl_gt, zl_eq, zl_le, zl_ge, zm_0, zaft_n, zaft_v, zb_eq, Decidable.not_not, zK_rH, zI_rH, zL_rH, zA_rH, zsI_rH, zsL_rH, zsA_rH, zcpI_rH, zn_b, zm_b, Int.toNat_natCast, Int.toNat_zero, Int.reduceToNat]
        refine ⟨fun _ => ?_, fun z => absurd z (by decide)⟩
        rw [c]
      · rw [yb9_f (fun z => by
          obtain ⟨k, hk, hm⟩ := (ycm9_iff V).mp z
          exact w3 k (by omega) hm)]
        simp (disch := omega) only [r430_0, r430_1, r430_3, r430_5, r430_8, r430_9, r430_10, r430_11, r430_12, r430_15, r430_18, r430_21, r430_24, r430_25, znl_i, znl_r, znl_j, znl_l, List.length_cons, List.length_nil, Option.some.injEq, Sum.inl.injEq, Sum.inr.injEq, Prod.mk.injEq, true_and, and_true, exists_eq_left', zK_sI, zA_sI, zL_sI, zK_sL, zA_sL, zI_sL, zK_fI, zA_fI, zL_fI, zK_fL, zA_fL, zI_fL, Nat.reduceAdd, Nat.reduceLeDiff, forall_eq', zl_lt, zl_gt, zl_eq, zl_le, zl_ge, zm_0, zaft_n, zaft_v, zb_eq, Decidable.not_not, zK_rH, zI_rH, zL_rH, zA_rH, zsI_rH, zsL_rH, zsA_rH, zcpI_rH, zn_b, zm_b, Int.toNat_natCast, Int.toNat_zero, Int.reduceToNat]
        exact ⟨fun z => absurd trivial z, fun _ => ih (by omega)⟩) 0 (by omega)
  simp (disch := omega) only [n430, r430_0, r430_1, r430_3, r430_5, r430_8, r430_9, r430_10, r430_11, r430_12, r430_15, r430_18, r430_21, r430_24, r430_25, znl_i, znl_r, znl_j, znl_l, List.length_cons, List.length_nil, Option.some.injEq, Sum.inl.injEq, Sum.inr.injEq, Prod.mk.injEq, true_and, and_true, exists_eq_left', zK_sI, zA_sI, zL_sI, zK_sL, zA_sL, zI_sL, zK_fI, zA_fI, zL_fI, zK_fL, zA_fL, zI_fL, Nat.reduceAdd, Nat.reduceLeDiff, forall_eq', zl_lt, zl_gt, zl_eq, zl_le, zl_ge, zm_0, zaft_n, zaft_v, zb_eq, Decidable.not_not, zK_rH, zI_rH, zL_rH, zA_rH, zsI_rH, zsL_rH, zsA_rH, zcpI_rH, zn_b, zm_b, Int.toNat_natCast, Int.toNat_zero, Int.reduceToNat, GK.K0]
  exact loop (by omega)
end
