section
variable {e : zEv} {d x f o r n g b : Nat} {h h1 h2 : zH} {φ φ' φ'' ψ ψ' ψ'' : Nat → Nat → Int} {α α' α'' : Nat → Nat → Option Nat} {F : yF} {T : yT}
theorem z1n : (1 : Int) = ((1 : Nat) : Int) := rfl
theorem z0n : (0 : Int) = ((0 : Nat) : Int) := rfl
theorem ypw2_lt {m b : Nat} (hm : m ≤ 48) {s : Nat} (h : s < 2 ^ m) : s < 2 ^ 48 := Nat.lt_of_lt_of_le h (Nat.pow_le_pow_right (by omega) hm)
/-- the least closed set -/
theorem g_closes (D : gD e h x f g T φ α) {B : Nat} (hB : B < 2 ^ Tm T) : zc e (d + 3) 429 [zr (some (x + g)), zl (B : Int)] (cH h x φ ψ α) (fun ov h' => ov = Sum.inl (some (zl (ygn T (fun b => B.testBit b = true) : Int))) ∧ h' = cH h x φ ψ α) := by
  have GK := D.GK
  have GA := D.GA
  have V := D.V
  have gn := GK.n
  have m := V.m
  have hX : ∀ g, B.testBit g = true → g < Tm T := fun g hg => by
    refine Nat.lt_of_not_le fun z => ?_
    rw [Nat.testBit_lt_two_pow (Nat.lt_of_lt_of_le hB (Nat.pow_le_pow_right (by omega) z))] at hg
    cases hg
  have B48 := ypw2_lt (b := 0) m.2 hB
  generalize hQ : (fun ov h' => ov = Sum.inl (some (zl (ygn T (fun b => B.testBit b = true) : Int))) ∧ h' = cH h x φ ψ α : zEt) = Q
  have zld : ∀ v : Nat, v < 2 ^ 48 → v ≠ 0 → zland (v : Int) ((v : Int) - 1) = ((v &&& (v - 1) : Nat) : Int) := fun v hv h0 => by
    rw [show (v : Int) - 1 = ((v - 1 : Nat) : Int) by omega, zland_n (by omega) (by omega)]
  have zlo : ∀ (s k : Nat), s < 2 ^ 48 → k < 48 → zlor (s : Int) (zlshl 1 (k : Int)) = ((s ||| 2 ^ k : Nat) : Int) := fun s k hs hk => by
    have : 2 ^ k < 2 ^ 48 := Nat.pow_lt_pow_right (by omega) hk
    rw [zlshl_n (by omega), zlor_n (by omega) (by omega)]
  have inner : ∀ (M : Nat) (a : Nat), a < Tm T → (∀ set fresh : Nat, yCm set fresh ≤ (M : Int) → yCl T (fun b => B.testBit b = true) set fresh → ∀ w7 w8 w9 w10, zg e 429 (d + 2) 5 [zr (some (x + g)), zl (B : Int), zj, zl (set : Int), zj, zl (fresh : Int), zj, w7, w8, w9, w10] [] (cH h x φ ψ α) Q) → ∀ (N left set fresh : Nat), ycnt left.testBit 64 ≤ (N : Int) → left < 2 ^ 48 → yCi T (fun b => B.testBit b = true) a set fresh left → yCm set fresh ≤ (M : Int) → ∀ w10, zg e 429 (d + 2) 31 [zr (some (x + g)), zl (B : Int), zj, zl (set : Int), zj, zl (fresh : Int), zj, zi (a : Int), zl (left : Int), zj, w10] [] (cH h x φ ψ α) Q := by
    intro M a ha ih N
    have fin : ∀ set fresh : Nat, yCi T (fun b => B.testBit b = true) a set fresh 0 → yCm set fresh ≤ (M : Int) → ∀ w10, zg e 429 (d + 2) 31 [zr (some (x + g)), zl (B : Int), zj, zl (set : Int), zj, zl (fresh : Int), zj, zi (a : Int), zl ((0 : Nat) : Int), zj, w10] [] (cH h x φ ψ α) Q := fun set fresh C hM w10 => by
      rw [r429_31]
      simp (disch := omega) only [r429_0, r429_1, r429_2, r429_3, r429_7, r429_8, r429_9, r429_12, r429_14, r429_17, r429_19, r429_21, r429_23, r429_24, r429_25, r429_26, r429_28, r429_29, r429_33, r429_34, r429_35, r429_38, r429_39, r429_42, r429_44, r429_45, r429_47, r429_50, r429_51, r429_53, r429_54, r429_56, r429_59, r429_62, r429_65, r429_66, r429_67, r429_69, r429_70, r429_71, r429_72, r429_74, r429_75, r429_77, r429_78, r429_79, r429_81, r429_83, r429_85, r429_86, r429_87, r429_88, r429_90, r429_93, r429_96, r429_97, znl_i, znl_r, znl_j, znl_l, List.length_cons, List.length_nil, Option.some.injEq, Sum.inl.injEq, Sum.inr.injEq, Prod.mk.injEq, true_and, and_true, exists_eq_left', zK_sI, zA_sI, zL_sI, zK_sL, zA_sL, zI_sL, zK_fI, zA_fI, zL_fI, zK_fL, zA_fL, zI_fL, Nat.reduceAdd, Nat.reduceLeDiff, forall_eq', zl_lt, zl_gt, zl_eq, zl_le, zl_ge, zm_0, zaft_n, zaft_v, zb_eq, Decidable.not_not, zK_rH, zI_rH, zL_rH, zA_rH, zsI_rH, zsL_rH, zsA_rH, zcpI_rH, zn_b, zm_b, Int.toNat_natCast, Int.toNat_zero, Int.reduceToNat, zlq_eq]
      exact ⟨fun _ => ih set fresh hM C.close _ _ _ _, fun z => absurd (show ((0 : Nat) : Int) = 0 from rfl) z⟩
    induction N with
    | zero =>
      intro left set fresh hN hl C hM w10
      have c : left = 0 := Classical.byContradiction fun n0 => by
        have := ycnt_pos 64 left (by omega) n0
        omega
      subst c
      exact fin set fresh C hM w10
    | succ N ihN =>
      intro left set fresh hN hl C hM w10
      by_cases c : left = 0
      · subst c
        exact fin set fresh C hM w10
      · obtain ⟨t, ht⟩ := ylw9_ex c
        have tB := C.ll t ht.1
        have tm : t < Tm T := hX t tB
        have hb := V.th ha tm
        have j1 := D.J.a.j a t ha tm
        have s48 := ypw2_lt (b := 0) m.2 C.lt
        have f48 := ypw2_lt (b := 0) m.2 C.fl
        have ld := zld left hl c
        have dr := ycnt_drop 64 left (by omega) c
        have dl : left &&& (left - 1) < 2 ^ 48 := Nat.lt_of_le_of_lt Nat.and_le_left hl
        rw [r429_31]
        simp (disch := omega) only [r429_0, r429_1, r429_2, r429_3, r429_7, r429_8, r429_9, r429_12, r429_14, r429_17, r429_19, r429_21, r429_23, r429_24, r429_25, r429_26, r429_28, r429_29, r429_33, r429_34, r429_35, r429_38, r429_39, r429_42, r429_44, r429_45, r429_47, r429_50, r429_51, r429_53, r429_54, r429_56, r429_59, r429_62, r429_65, r429_66, r429_67, r429_69, r429_70, r429_71, r429_72, r429_74, r429_75, r429_77, r429_78, r429_79, r429_81, r429_83, r429_85, r429_86, r429_87, r429_88, r429_90, r429_93, r429_96, r429_97, znl_i, znl_r, znl_j, znl_l, List.length_cons, List.length_nil, Option.some.injEq, Sum.inl.injEq, Sum.inr.injEq, Prod.mk.injEq, true_and, and_true, exists_eq_left', zK_sI, zA_sI, zL_sI, zK_sL, zA_sL, zI_sL, zK_fI, zA_fI, zL_fI, zK_fL, zA_fL, zI_fL, Nat.reduceAdd, Nat.reduceLeDiff, forall_eq', zl_lt, zl_gt, zl_eq, zl_le, zl_ge, zm_0, zaft_n, zaft_v, zb_eq, Decidable.not_not, zK_rH, zI_rH, zL_rH, zA_rH, zsI_rH, zsL_rH, zsA_rH, zcpI_rH, zn_b, zm_b, Int.toNat_natCast, Int.toNat_zero, Int.reduceToNat, zlq_eq, GK.K0, GK.K31, GA.A7, GA.R31]
        refine ⟨fun z => absurd z (by omega), fun _ => ?_⟩
        repeat (refine And.intro (by omega) ?_)
        refine zc_w (j_ntz (d := d) (by omega) ht) ?_
        simp (disch := omega) only [r429_0, r429_1, r429_2, r429_3, r429_7, r429_8, r429_9, r429_12, r429_14, r429_17, r429_19, r429_21, r429_23, r429_24, r429_25, r429_26, r429_28, r429_29, r429_33, r429_34, r429_35, r429_38, r429_39, r429_42, r429_44, r429_45, r429_47, r429_50, r429_51, r429_53, r429_54, r429_56, r429_59, r429_62, r429_65, r429_66, r429_67, r429_69, r429_70, r429_71, r429_72, r429_74, r429_75, r429_77, r429_78, r429_79, r429_81, r429_83, r429_85, r429_86, r429_87, r429_88, r429_90, r429_93, r429_96, r429_97, znl_i, znl_r, znl_j, znl_l, List.length_cons, List.length_nil, Option.some.injEq, Sum.inl.injEq, Sum.inr.injEq, Prod.mk.injEq, true_and, and_true, exists_eq_left', zK_sI, zA_sI, zL_sI, zK_sL, zA_sL, zI_sL, zK_fI, zA_fI, zL_fI, zK_fL, zA_fL, zI_fL, Nat.reduceAdd, Nat.reduceLeDiff, forall_eq', zl_lt, zl_gt, zl_eq, zl_le, zl_ge, zm_0, zaft_n, zaft_v, zb_eq, Decidable.not_not, zK_rH, zI_rH, zL_rH, zA_rH, zsI_rH, zsL_rH, zsA_rH, zcpI_rH, zn_b, zm_b, Int.toNat_natCast, Int.toNat_zero, Int.reduceToNat, GK.K32, j1]
        repeat (refine And.intro (by omega) ?_)
        refine zc_w (g_isIn (d := d + 1) set (yth T a t) (by omega) (by omega)) ?_
        cases hs : set.testBit (yth T a t) with
        | true =>
          have g' := ihN _ set fresh (by omega) dl (C.skip ht hs) hM (zi (yth T a t : Int))
          simp (disch := omega) only [r429_0, r429_1, r429_2, r429_3, r429_7, r429_8, r429_9, r429_12, r429_14, r429_17, r429_19, r429_21, r429_23, r429_24, r429_25, r429_26, r429_28, r429_29, r429_33, r429_34, r429_35, r429_38, r429_39, r429_42, r429_44, r429_45, r429_47, r429_50, r429_51, r429_53, r429_54, r429_56, r429_59, r429_62, r429_65, r429_66, r429_67, r429_69, r429_70, r429_71, r429_72, r429_74, r429_75, r429_77, r429_78, r429_79, r429_81, r429_83, r429_85, r429_86, r429_87, r429_88, r429_90, r429_93, r429_96, r429_97, znl_i, znl_r, znl_j, znl_l, List.length_cons, List.length_nil, Option.some.injEq, Sum.inl.injEq, Sum.inr.injEq, Prod.mk.injEq, true_and, and_true, exists_eq_left', zK_sI, zA_sI, zL_sI, zK_sL, zA_sL, zI_sL, zK_fI, zA_fI, zL_fI, zK_fL, zA_fL, zI_fL, Nat.reduceAdd, Nat.reduceLeDiff, forall_eq', zl_lt, zl_gt, zl_eq, zl_le, zl_ge, zm_0, zaft_n, zaft_v, zb_eq, Decidable.not_not, zK_rH, zI_rH, zL_rH, zA_rH, zsI_rH, zsL_rH, zsA_rH, zcpI_rH, zn_b, zm_b, Int.toNat_natCast, Int.toNat_zero, Int.reduceToNat, show yb true = 1 from rfl, ld]
          exact ⟨fun z => absurd z (by decide), fun _ => g'⟩
        | false =>
          have hf : fresh.testBit (yth T a t) = false := by
            cases q : fresh.testBit (yth T a t) with
            | false => rfl
            | true => rw [C.sub _ q] at hs; cases hs
          have ma := yCm_add (b := yth T a t) (by omega) hs hf
          have g' := ihN _ _ _ (by omega) dl (C.add V hX ha ht hs) (by omega) (zi (yth T a t : Int))
          simp (disch := omega) only [r429_0, r429_1, r429_2, r429_3, r429_7, r429_8, r429_9, r429_12, r429_14, r429_17, r429_19, r429_21, r429_23, r429_24, r429_25, r429_26, r429_28, r429_29, r429_33, r429_34, r429_35, r429_38, r429_39, r429_42, r429_44, r429_45, r429_47, r429_50, r429_51, r429_53, r429_54, r429_56, r429_59, r429_62, r429_65, r429_66, r429_67, r429_69, r429_70, r429_71, r429_72, r429_74, r429_75, r429_77, r429_78, r429_79, r429_81, r429_83, r429_85, r429_86, r429_87, r429_88, r429_90, r429_93, r429_96, r429_97, znl_i, znl_r, znl_j, znl_l, List.length_cons, List.length_nil, Option.some.injEq, Sum.inl.injEq, Sum.inr.injEq, Prod.mk.injEq, true_and, and_true, exists_eq_left', zK_sI, zA_sI, zL_sI, zK_sL, zA_sL, zI_sL, zK_fI, zA_fI, zL_fI, zK_fL, zA_fL, zI_fL, Nat.reduceAdd, Nat.reduceLeDiff, forall_eq', zl_lt, zl_gt, zl_eq, zl_le, zl_ge, zm_0, zaft_n, zaft_v, zb_eq, Decidable.not_not, zK_rH, zI_rH, zL_rH, zA_rH, zsI_rH, zsL_rH, zsA_rH, zcpI_rH, zn_b, zm_b, Int.toNat_natCast, Int.toNat_zero, Int.reduceToNat, show yb false = 0 from rfl, ld, zlo]
          exact ⟨fun _ => g', fun z => absurd trivial z⟩
  have main : ∀ (M set fresh : Nat), yCm set fresh ≤ (M : Int) → yCl T (fun b => B.testBit b = true) set fresh → ∀ w7 w8 w9 w10, zg e 429 (d + 2) 5 [zr (some (x + g)), zl (B : Int), zj, zl (set : Int), zj, zl (fresh : Int), zj, w7, w8, w9, w10] [] (cH h x φ ψ α) Q := by
    have fin : ∀ set : Nat, yCl T (fun b => B.testBit b = true) set 0 → ∀ w7 w8 w9 w10, zg e 429 (d + 2) 5 [zr (some (x + g)), zl (B : Int), zj, zl (set : Int), zj, zl ((0 : Nat) : Int), zj, w7, w8, w9, w10] [] (cH h x φ ψ α) Q := fun set C w7 w8 w9 w10 => by
      rw [r429_5]
      simp (disch := omega) only [r429_0, r429_1, r429_2, r429_3, r429_7, r429_8, r429_9, r429_12, r429_14, r429_17, r429_19, r429_21, r429_23, r429_24, r429_25, r429_26, r429_28, r429_29, r429_33, r429_34, r429_35, r429_38, r429_39, r429_42, r429_44, r429_45, r429_47, r429_50, r429_51, r429_53, r429_54, r429_56, r429_59, r429_62, r429_65, r429_66, r429_67, r429_69, r429_70, r429_71, r429_72, r429_74, r429_75, r429_77, r429_78, r429_79, r429_81, r429_83, r429_85, r429_86, r429_87, r429_88, r429_90, r429_93, r429_96, r429_97, znl_i, znl_r, znl_j, znl_l, List.length_cons, List.length_nil, Option.some.injEq, Sum.inl.injEq, Sum.inr.injEq, Prod.mk.injEq, true_and, and_true, exists_eq_left', zK_sI, zA_sI, zL_sI, zK_sL, zA_sL, zI_sL, zK_fI, zA_fI, zL_fI, zK_fL, zA_fL, zI_fL, Nat.reduceAdd, Nat.reduceLeDiff, forall_eq', zl_lt, zl_gt, zl_eq, zl_le, zl_ge, zm_0, zaft_n, zaft_v, zb_eq, Decidable.not_not, zK_rH, zI_rH, zL_rH, zA_rH, zsI_rH, zsL_rH, zsA_rH, zcpI_rH, zn_b, zm_b, Int.toNat_natCast, Int.toNat_zero, Int.reduceToNat, zlq_eq]
      refine ⟨fun _ => ?_, fun z => absurd (show ((0 : Nat) : Int) = 0 from rfl) z⟩
      rw [← hQ]
      exact ⟨by rw [ygn_eq (C.end V hX)], rfl⟩
    intro M
    induction M with
    | zero =>
      intro set fresh hM C w7 w8 w9 w10
      have nn := yCm_nn set fresh
      have f48 := ypw2_lt (b := 0) m.2 C.fl
      by_cases c : fresh = 0
      · subst c
        exact fin set C _ _ _ _
      · have := yCm_drop (set := set) (fresh := fresh) (by omega) c
        have := yCm_nn set (fresh &&& (fresh - 1))
        omega
    | succ M ih =>
      intro set fresh hM C w7 w8 w9 w10
      have f48 := ypw2_lt (b := 0) m.2 C.fl
      by_cases c : fresh = 0
      · subst c
        exact fin set C _ _ _ _
      · obtain ⟨t, ht⟩ := ylw9_ex c
        have tm := ylw9_lt C.fl ht
        have md := yCm_drop (set := set) (fresh := fresh) (by omega) c
        have fd := zld fresh f48 c
        have cb := ycnt_bd B.testBit 64
        have g' := inner M t tm ih 64 B set (fresh &&& (fresh - 1)) (by omega) B48 (C.open ht (fun g => Iff.rfl)) (by omega) w10
        rw [r429_5]
        simp (disch := omega) only [r429_0, r429_1, r429_2, r429_3, r429_7, r429_8, r429_9, r429_12, r429_14, r429_17, r429_19, r429_21, r429_23, r429_24, r429_25, r429_26, r429_28, r429_29, r429_33, r429_34, r429_35, r429_38, r429_39, r429_42, r429_44, r429_45, r429_47, r429_50, r429_51, r429_53, r429_54, r429_56, r429_59, r429_62, r429_65, r429_66, r429_67, r429_69, r429_70, r429_71, r429_72, r429_74, r429_75, r429_77, r429_78, r429_79, r429_81, r429_83, r429_85, r429_86, r429_87, r429_88, r429_90, r429_93, r429_96, r429_97, znl_i, znl_r, znl_j, znl_l, List.length_cons, List.length_nil, Option.some.injEq, Sum.inl.injEq, Sum.inr.injEq, Prod.mk.injEq, true_and, and_true, exists_eq_left', zK_sI, zA_sI, zL_sI, zK_sL, zA_sL, zI_sL, zK_fI, zA_fI, zL_fI, zK_fL, zA_fL, zI_fL, Nat.reduceAdd, Nat.reduceLeDiff, forall_eq', zl_lt, zl_gt, zl_eq, zl_le, zl_ge, zm_0, zaft_n, zaft_v, zb_eq, Decidable.not_not, zK_rH, zI_rH, zL_rH, zA_rH, zsI_rH, zsL_rH, zsA_rH, zcpI_rH, zn_b, zm_b, Int.toNat_natCast, Int.toNat_zero, Int.reduceToNat, zlq_eq]
        refine ⟨fun z => absurd z (by omega), fun _ => ?_⟩
        refine zc_w (j_ntz (d := d) (by omega) ht) ?_
        simp (disch := omega) only [r429_0, r429_1, r429_2, r429_3, r429_7, r429_8, r429_9, r429_12, r429_14, r429_17, r429_19, r429_21, r429_23, r429_24, r429_25, r429_26, r429_28, r429_29, r429_33, r429_34, r429_35, r429_38, r429_39, r429_42, r429_44, r429_45, r429_47, r429_50, r429_51, r429_53, r429_54, r429_56, r429_59, r429_62, r429_65, r429_66, r429_67, r429_69, r429_70, r429_71, r429_72, r429_74, r429_75, r429_77, r429_78, r429_79, r429_81, r429_83, r429_85, r429_86, r429_87, r429_88, r429_90, r429_93, r429_96, r429_97, znl_i, znl_r, znl_j, znl_l, List.length_cons, List.length_nil, Option.some.injEq, Sum.inl.injEq, Sum.inr.injEq, Prod.mk.injEq, true_and, and_true, exists_eq_left', zK_sI, zA_sI, zL_sI, zK_sL, zA_sL, zI_sL, zK_fI, zA_fI, zL_fI, zK_fL, zA_fL, zI_fL, Nat.reduceAdd, Nat.reduceLeDiff, forall_eq', zl_lt, zl_gt, zl_eq, zl_le, zl_ge, zm_0, zaft_n, zaft_v, zb_eq, Decidable.not_not, zK_rH, zI_rH, zL_rH, zA_rH, zsI_rH, zsL_rH, zsA_rH, zcpI_rH, zn_b, zm_b, Int.toNat_natCast, Int.toNat_zero, Int.reduceToNat, fd]
        exact g'
  simp (disch := omega) only [n429, r429_0, r429_1, r429_2, r429_3, r429_7, r429_8, r429_9, r429_12, r429_14, r429_17, r429_19, r429_21, r429_23, r429_24, r429_25, r429_26, r429_28, r429_29, r429_33, r429_34, r429_35, r429_38, r429_39, r429_42, r429_44, r429_45, r429_47, r429_50, r429_51, r429_53, r429_54, r429_56, r429_59, r429_62, r429_65, r429_66, r429_67, r429_69, r429_70, r429_71, r429_72, r429_74, r429_75, r429_77, r429_78, r429_79, r429_81, r429_83, r429_85, r429_86, r429_87, r429_88, r429_90, r429_93, r429_96, r429_97, znl_i, znl_r, znl_j, znl_l, List.length_cons, List.length_nil, Option.some.injEq, Sum.inl.injEq, Sum.inr.injEq, Prod.mk.injEq, true_and, and_true, exists_eq_left', zK_sI, zA_sI, zL_sI, zK_sL, zA_sL, zI_sL, zK_fI, zA_fI, zL_fI, zK_fL, zA_fL, zI_fL, Nat.reduceAdd, Nat.reduceLeDiff, forall_eq', zl_lt, zl_gt, zl_eq, zl_le, zl_ge, zm_0, zaft_n, zaft_v, zb_eq, Decidable.not_not, zK_rH, zI_rH, zL_rH, zA_rH, zsI_rH, zsL_rH, zsA_rH, zcpI_rH, zn_b, zm_b, Int.toNat_natCast, Int.toNat_zero, Int.reduceToNat, GK.K0]
  have nn := yCm_nn 1 1
  exact main (yCm 1 1).toNat 1 1 (by omega) (yCl.start V) _ _ _ _
end
