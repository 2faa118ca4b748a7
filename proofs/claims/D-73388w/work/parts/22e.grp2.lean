/-! ===== what the component asks of its group ===== -/
/-- a group with all its tables; its frame lies at f -/
structure gD (e : zEv) (h : zH) (x f g : Nat) (T : yT) (φ : Nat → Nat → Int) (α : Nat → Nat → Option Nat) : Prop where
  GK : gK e h x g
  GA : gA x g α
  V : yV T
  G : gT T g φ
  J : gJ T g φ
  fr : α g 0 = some (x + f)
  fl : f < 1134
  fk : zK h (x + f) = some (Sum.inl 2)
  fm : φ f 0 = (Tn T : Int)
section
variable {e : zEv} {d x f o r n g b : Nat} {h h1 h2 : zH} {φ φ' φ'' ψ ψ' ψ'' : Nat → Nat → Int} {α α' α'' : Nat → Nat → Option Nat} {F : yF} {T : yT}
theorem gD.O (D : gD e h x f g T φ α) {i : Nat} (hi : i < Tm T) : oS h x φ α (g + 89 + 2 * i) (g + 90 + 2 * i) (Tn T) (TR T i) (Tg T i) := D.G.O D.V D.GK D.GA hi
theorem g_periodOf (D : gD e h x f g T φ α) {a : Nat} (ha : a < Tm T) : zc e (d + 1) 420 [zr (some (x + g)), zi (a : Int)] (cH h x φ ψ α) (fun ov h' => ov = Sum.inl (some (zi (yper T a : Int))) ∧ h' = cH h x φ ψ α) := by
  have GK := D.GK
  have GA := D.GA
  have V := D.V
  have gn := GK.n
  have m := V.m
  obtain ⟨p1, p2, p3, p4⟩ := V.per ha
  have loop := zdown (fun n => 1 ≤ n → n ≤ yper T a → zg e 420 d 4 [zr (some (x + g)), zi (a : Int), zi (n : Int), zi (ypw T a n : Int)] [] (cH h x φ ψ α) (fun ov h' => ov = Sum.inl (some (zi (yper T a : Int))) ∧ h' = cH h x φ ψ α)) (yper T a + 1) (fun _ z => absurd z (by omega)) (fun n hn ih h1 h2 => by
    have pb := V.pw ha n
    have jn := D.J.a.j _ a pb ha
    have nx : yth T (ypw T a n) a = ypw T a (n + 1) := rfl
    have pb2 := V.pw ha (n + 1)
    rw [r420_4]
    by_cases c : n = yper T a
    · rw [c, p3]
      simp (disch := omega) only [r420_0, r420_1, r420_2, r420_3, r420_5, r420_8, r420_9, r420_11, r420_14, r420_17, r420_18, r420_21, r420_22, r420_23, r420_24, r420_25, r420_26, r420_29, r420_30, znl_i, znl_r, znl_j, znl_l, List.length_cons, List.length_nil, Option.some.injEq, Sum.inl.injEq, Sum.inr.injEq, Prod.mk.injEq, true_and, and_true, exists_eq_left', zK_sI, zA_sI, zL_sI, zK_sL, zA_sL, zI_sL, zK_fI, zA_fI, zL_fI, zK_fL, zA_fL, zI_fL, Nat.reduceAdd, Nat.reduceLeDiff, forall_eq', zl_lt, zl_gt, zl_eq, zl_le, zl_ge, zm_0, zaft_n, zaft_v, zb_eq, Decidable.not_not, zK_rH, zI_rH, zL_rH, zA_rH, zsI_rH, zsL_rH, zsA_rH, zcpI_rH, zn_b, zm_b, Int.toNat_natCast, Int.toNat_zero, Int.reduceToNat, GK.K0]
      exact ⟨fun _ => trivial, fun z => absurd (show ((0 : Nat) : Int) = 0 from rfl) z⟩
    · have n0 := p4 n h1 (by omega)
      rw [nx] at jn
      simp (disch := omega) only [r420_0, r420_1, r420_2, r420_3, r420_5, r420_8, r420_9, r420_11, r420_14, r420_17, r420_18, r420_21, r420_22, r420_23, r420_24, r420_25, r420_26, r420_29, r420_30, znl_i, znl_r, znl_j, znl_l, List.length_cons, List.length_nil, Option.some.injEq, Sum.inl.injEq, Sum.inr.injEq, Prod.mk.injEq, true_and, and_true, exists_eq_left', zK_sI, zA_sI, zL_sI, zK_sL, zA_sL, zI_sL, zK_fI, zA_fI, zL_fI, zK_fL, zA_fL, zI_fL, Nat.reduceAdd, Nat.reduceLeDiff, forall_eq', zl_lt, zl_gt, zl_eq, zl_le, zl_ge, zm_0, zaft_n, zaft_v, zb_eq, Decidable.not_not, zK_rH, zI_rH, zL_rH, zA_rH, zsI_rH, zsL_rH, zsA_rH, zcpI_rH, zn_b, zm_b, Int.toNat_natCast, Int.toNat_zero, Int.reduceToNat, GK.K0, GK.K31, GK.K32, GA.A7, GA.R31, jn]
      refine ⟨fun z => absurd z (by omega), fun _ => ⟨fun z => absurd z (by omega), fun _ => ?_⟩⟩
      repeat (refine And.intro (by omega) ?_)
      exact ih (by omega) (by omega)) 1 (by omega)
  simp (disch := omega) only [n420, r420_0, r420_1, r420_2, r420_3, r420_5, r420_8, r420_9, r420_11, r420_14, r420_17, r420_18, r420_21, r420_22, r420_23, r420_24, r420_25, r420_26, r420_29, r420_30, znl_i, znl_r, znl_j, znl_l, List.length_cons, List.length_nil, Option.some.injEq, Sum.inl.injEq, Sum.inr.injEq, Prod.mk.injEq, true_and, and_true, exists_eq_left', zK_sI, zA_sI, zL_sI, zK_sL, zA_sL, zI_sL, zK_fI, zA_fI, zL_fI, zK_fL, zA_fL, zI_fL, Nat.reduceAdd, Nat.reduceLeDiff, forall_eq', zl_lt, zl_gt, zl_eq, zl_le, zl_ge, zm_0, zaft_n, zaft_v, zb_eq, Decidable.not_not, zK_rH, zI_rH, zL_rH, zA_rH, zsI_rH, zsL_rH, zsA_rH, zcpI_rH, zn_b, zm_b, Int.toNat_natCast, Int.toNat_zero, Int.reduceToNat, GK.K0]
  have g' := loop (by omega) (by omega)
  rw [V.pw1 ha] at g'
  exact g'
theorem g_has (D : gD e h x f g T φ α) (s t : Int) (hs : -1000 ≤ s ∧ s ≤ 1000) (ht : -1000 ≤ t ∧ t ≤ 1000) : zc e (d + 1) 421 [zr (some (x + g)), zi s, zi t] (cH h x φ ψ α) (fun ov h' => ov = Sum.inl (some (zi (yct T s t))) ∧ h' = cH h x φ ψ α) := by
  have GK := D.GK
  have GA := D.GA
  have V := D.V
  have gn := GK.n
  have m := V.m
  have loop := zdown0 (fun k => zg e 421 d 5 [zr (some (x + g)), zi s, zi t, zi (ycnt (fun x => decide (Tg T x = s ∧ Tt T x = t)) k), zi (k : Int)] [] (cH h x φ ψ α) (fun ov h' => ov = Sum.inl (some (zi (yct T s t))) ∧ h' = cH h x φ ψ α)) (Tm T) ?_ (fun k hk ih => ?_)
  · simp (disch := omega) only [n421, r421_0, r421_1, r421_2, r421_3, r421_7, r421_8, r421_11, r421_14, r421_15, r421_16, r421_19, r421_21, r421_22, r421_25, r421_26, r421_29, r421_30, r421_33, r421_35, r421_36, r421_39, r421_40, r421_43, r421_44, r421_47, r421_48, r421_49, r421_50, r421_53, r421_56, r421_57, znl_i, znl_r, znl_j, znl_l, List.length_cons, List.length_nil, Option.some.injEq, Sum.inl.injEq, Sum.inr.injEq, Prod.mk.injEq, true_and, and_true, exists_eq_left', zK_sI, zA_sI, zL_sI, zK_sL, zA_sL, zI_sL, zK_fI, zA_fI, zL_fI, zK_fL, zA_fL, zI_fL, Nat.reduceAdd, Nat.reduceLeDiff, forall_eq', zl_lt, zl_gt, zl_eq, zl_le, zl_ge, zm_0, zaft_n, zaft_v, zb_eq, Decidable.not_not, zK_rH, zI_rH, zL_rH, zA_rH, zsI_rH, zsL_rH, zsA_rH, zcpI_rH, zn_b, zm_b, Int.toNat_natCast, Int.toNat_zero, Int.reduceToNat, GK.K0]
    exact loop
  · have b := ycnt_bd (fun x => decide (Tg T x = s ∧ Tt T x = t)) (Tm T)
    rw [r421_5]
    simp (disch := omega) only [r421_0, r421_1, r421_2, r421_3, r421_7, r421_8, r421_11, r421_14, r421_15, r421_16, r421_19, r421_21, r421_22, r421_25, r421_26, r421_29, r421_30, r421_33, r421_35, r421_36, r421_39, r421_40, r421_43, r421_44, r421_47, r421_48, r421_49, r421_50, r421_53, r421_56, r421_57, znl_i, znl_r, znl_j, znl_l, List.length_cons, List.length_nil, Option.some.injEq, Sum.inl.injEq, Sum.inr.injEq, Prod.mk.injEq, true_and, and_true, exists_eq_left', zK_sI, zA_sI, zL_sI, zK_sL, zA_sL, zI_sL, zK_fI, zA_fI, zL_fI, zK_fL, zA_fL, zI_fL, Nat.reduceAdd, Nat.reduceLeDiff, forall_eq', zl_lt, zl_gt, zl_eq, zl_le, zl_ge, zm_0, zaft_n, zaft_v, zb_eq, Decidable.not_not, zK_rH, zI_rH, zL_rH, zA_rH, zsI_rH, zsL_rH, zsA_rH, zcpI_rH, zn_b, zm_b, Int.toNat_natCast, Int.toNat_zero, Int.reduceToNat, GK.K0, D.G.m]
    exact ⟨fun _ => rfl, fun z => absurd z (by omega)⟩
  · have b := ycnt_bd (fun x => decide (Tg T x = s ∧ Tt T x = t)) k
    have g1 := D.G.hg k hk
    have g2 := D.G.t k hk
    have b1 := V.g hk
    have b2 := V.t hk
    rw [ycnt_sb] at ih
    rw [r421_5]
    simp (disch := omega) only [r421_0, r421_1, r421_2, r421_3, r421_7, r421_8, r421_11, r421_14, r421_15, r421_16, r421_19, r421_21, r421_22, r421_25, r421_26, r421_29, r421_30, r421_33, r421_35, r421_36, r421_39, r421_40, r421_43, r421_44, r421_47, r421_48, r421_49, r421_50, r421_53, r421_56, r421_57, znl_i, znl_r, znl_j, znl_l, List.length_cons, List.length_nil, Option.some.injEq, Sum.inl.injEq, Sum.inr.injEq, Prod.mk.injEq, true_and, and_true, exists_eq_left', zK_sI, zA_sI, zL_sI, zK_sL, zA_sL, zI_sL, zK_fI, zA_fI, zL_fI, zK_fL, zA_fL, zI_fL, Nat.reduceAdd, Nat.reduceLeDiff, forall_eq', zl_lt, zl_gt, zl_eq, zl_le, zl_ge, zm_0, zaft_n, zaft_v, zb_eq, Decidable.not_not, zK_rH, zI_rH, zL_rH, zA_rH, zsI_rH, zsL_rH, zsA_rH, zcpI_rH, zn_b, zm_b, Int.toNat_natCast, Int.toNat_zero, Int.reduceToNat, GK.K0, GK.K1, GK.K89, GA.A1, GA.R1, D.G.m, g1, g2]
    refine ⟨fun z => absurd z (by omega), fun _ => ⟨by omega, by omega, fun z => ?_, fun z => ⟨by omega, by omega, fun z2 => ?_, fun z2 => ?_⟩⟩⟩
    · rw [decide_eq_false (fun w => z w.1)] at ih; exact ih
    · rw [decide_eq_false (fun w => z2 w.2)] at ih; exact ih
    · rw [decide_eq_true ⟨z, z2⟩] at ih; exact ih
theorem g_isIn (X k : Nat) (hX : X < 2 ^ 62) (hk : k < 63) : zc e (d + 1) 426 [zl X, zi k] h (fun o h' => o = Sum.inl (some (zi (yb (X.testBit k)))) ∧ h' = h) := by
  have e1 : zm 1 = 1 := by decide
  have hd := Nat.div_le_self X (2 ^ k)
  have ha : (X / 2 ^ k) &&& 1 = X / 2 ^ k % 2 := Nat.and_one_is_mod _
  simp only [n426, r426_0, r426_1, r426_2, r426_3, r426_4, r426_5, r426_6, r426_7, r426_10, r426_11, r426_14, r426_15, znl_i, znl_r, znl_j, znl_l, List.length_cons, List.length_nil, Option.some.injEq, Sum.inl.injEq, Sum.inr.injEq, Prod.mk.injEq, true_and, and_true, exists_eq_left', zK_sI, zA_sI, zL_sI, zK_sL, zA_sL, zI_sL, zK_fI, zA_fI, zL_fI, zK_fL, zA_fL, zI_fL, Nat.reduceAdd, Nat.reduceLeDiff, forall_eq', zl_lt, zl_gt, zl_eq, zl_le, zl_ge, zm_0, zaft_n, zaft_v, zb_eq, Decidable.not_not]
  rw [zlshr_n hX hk, show (1 : Int) = ((1 : Nat) : Int) from rfl, zland_n (by omega) (by omega), ha]
  have hb : X.testBit k = decide (X / 2 ^ k % 2 = 1) := Nat.testBit_eq_decide_div_mod_eq
  rw [hb]
  simp (disch := omega) only [zn_b, zm_b, Int.toNat_natCast, Int.toNat_zero, zt4, zt_4, zt6, zt_6, zt9, zt_9, zt12, zt_12, zt48, zt_48, zt97, zt_97, zt144, zt144b]
  refine ⟨fun q => ?_, fun q => ?_⟩
  · rw [decide_eq_false (by omega)]; (repeat' (first | rfl | exact True.intro | decide | omega | refine And.intro ?_ ?_))
  · rw [decide_eq_true (by omega)]; (repeat' (first | rfl | exact True.intro | decide | omega | refine And.intro ?_ ?_))
theorem g_all (D : gD e h x f g T φ α) : zc e (d + 1) 423 [zr (some (x + g))] (cH h x φ ψ α) (fun ov h' => ov = Sum.inl (some (zl ((2 ^ Tm T - 1 : Nat) : Int))) ∧ h' = cH h x φ ψ α) := by
  have GK := D.GK
  have gn := GK.n
  have m := D.V.m
  have p : 1 ≤ 2 ^ Tm T := Nat.one_le_two_pow
  simp (disch := omega) only [n423, r423_0, r423_1, r423_2, r423_5, r423_6, r423_7, r423_8, znl_i, znl_r, znl_j, znl_l, List.length_cons, List.length_nil, Option.some.injEq, Sum.inl.injEq, Sum.inr.injEq, Prod.mk.injEq, true_and, and_true, exists_eq_left', zK_sI, zA_sI, zL_sI, zK_sL, zA_sL, zI_sL, zK_fI, zA_fI, zL_fI, zK_fL, zA_fL, zI_fL, Nat.reduceAdd, Nat.reduceLeDiff, forall_eq', zl_lt, zl_gt, zl_eq, zl_le, zl_ge, zm_0, zaft_n, zaft_v, zb_eq, Decidable.not_not, zK_rH, zI_rH, zL_rH, zA_rH, zsI_rH, zsL_rH, zsA_rH, zcpI_rH, zn_b, zm_b, Int.toNat_natCast, Int.toNat_zero, Int.reduceToNat, GK.K0, D.G.m]
  rw [zlshl_n (by omega)]
  omega
theorem g_leastBy (D : gD e h x f g T φ α) (X k : Nat) (hX : X < 2 ^ 62) (hk : k < Tn T) : zc e (d + 2) 425 [zr (some (x + g)), zl X, zi (k : Int)] (cH h x φ ψ α) (fun ov h' => ov = Sum.inl (some (zi (ylb T X.testBit k (Tm T) : Int))) ∧ h' = cH h x φ ψ α) := by
  have GK := D.GK
  have GA := D.GA
  have V := D.V
  have gn := GK.n
  have m := V.m
  have hn := V.n
  have loop := zdown0 (fun a => zg e 425 (d + 1) 6 [zr (some (x + g)), zl X, zj, zi (k : Int), zi (ylb T X.testBit k a : Int), zi (a : Int)] [] (cH h x φ ψ α) (fun ov h' => ov = Sum.inl (some (zi (ylb T X.testBit k (Tm T) : Int))) ∧ h' = cH h x φ ψ α)) (Tm T) ?_ (fun a ha ih => ?_)
  · simp (disch := omega) only [n425, r425_0, r425_1, r425_3, r425_4, r425_8, r425_9, r425_12, r425_15, r425_16, r425_18, r425_21, r425_24, r425_26, r425_27, r425_30, r425_32, r425_33, r425_34, r425_37, r425_40, r425_42, r425_45, r425_48, r425_50, znl_i, znl_r, znl_j, znl_l, List.length_cons, List.length_nil, Option.some.injEq, Sum.inl.injEq, Sum.inr.injEq, Prod.mk.injEq, true_and, and_true, exists_eq_left', zK_sI, zA_sI, zL_sI, zK_sL, zA_sL, zI_sL, zK_fI, zA_fI, zL_fI, zK_fL, zA_fL, zI_fL, Nat.reduceAdd, Nat.reduceLeDiff, forall_eq', zl_lt, zl_gt, zl_eq, zl_le, zl_ge, zm_0, zaft_n, zaft_v, zb_eq, Decidable.not_not, zK_rH, zI_rH, zL_rH, zA_rH, zsI_rH, zsL_rH, zsA_rH, zcpI_rH, zn_b, zm_b, Int.toNat_natCast, Int.toNat_zero, Int.reduceToNat, GK.K0]
    exact loop
  · have b := V.lb (X := X.testBit) hk (Tm T) (Nat.le_refl _)
    rw [r425_6]
    simp (disch := omega) only [r425_0, r425_1, r425_3, r425_4, r425_8, r425_9, r425_12, r425_15, r425_16, r425_18, r425_21, r425_24, r425_26, r425_27, r425_30, r425_32, r425_33, r425_34, r425_37, r425_40, r425_42, r425_45, r425_48, r425_50, znl_i, znl_r, znl_j, znl_l, List.length_cons, List.length_nil, Option.some.injEq, Sum.inl.injEq, Sum.inr.injEq, Prod.mk.injEq, true_and, and_true, exists_eq_left', zK_sI, zA_sI, zL_sI, zK_sL, zA_sL, zI_sL, zK_fI, zA_fI, zL_fI, zK_fL, zA_fL, zI_fL, Nat.reduceAdd, Nat.reduceLeDiff, forall_eq', zl_lt, zl_gt, zl_eq, zl_le, zl_ge, zm_0, zaft_n, zaft_v, zb_eq, Decidable.not_not, zK_rH, zI_rH, zL_rH, zA_rH, zsI_rH, zsL_rH, zsA_rH, zcpI_rH, zn_b, zm_b, Int.toNat_natCast, Int.toNat_zero, Int.reduceToNat, GK.K0, D.G.m]
    exact ⟨fun _ => trivial, fun z => absurd z (by omega)⟩
  · have b := V.lb (X := X.testBit) hk a (by omega)
    have rb := V.R ha hk
    rw [r425_6]
    simp (disch := omega) only [r425_0, r425_1, r425_3, r425_4, r425_8, r425_9, r425_12, r425_15, r425_16, r425_18, r425_21, r425_24, r425_26, r425_27, r425_30, r425_32, r425_33, r425_34, r425_37, r425_40, r425_42, r425_45, r425_48, r425_50, znl_i, znl_r, znl_j, znl_l, List.length_cons, List.length_nil, Option.some.injEq, Sum.inl.injEq, Sum.inr.injEq, Prod.mk.injEq, true_and, and_true, exists_eq_left', zK_sI, zA_sI, zL_sI, zK_sL, zA_sL, zI_sL, zK_fI, zA_fI, zL_fI, zK_fL, zA_fL, zI_fL, Nat.reduceAdd, Nat.reduceLeDiff, forall_eq', zl_lt, zl_gt, zl_eq, zl_le, zl_ge, zm_0, zaft_n, zaft_v, zb_eq, Decidable.not_not, zK_rH, zI_rH, zL_rH, zA_rH, zsI_rH, zsL_rH, zsA_rH, zcpI_rH, zn_b, zm_b, Int.toNat_natCast, Int.toNat_zero, Int.reduceToNat, GK.K0, D.G.m]
    refine ⟨fun z => absurd z (by omega), fun _ => ?_⟩
    refine zc_w (g_isIn (d := d) X a hX (by omega)) ?_
    have ihs : ylb T X.testBit k (a + 1) = if X.testBit a = true ∧ TR T a k < ylb T X.testBit k a then TR T a k else ylb T X.testBit k a := rfl
    rw [ihs] at ih
    cases hb : X.testBit a with
    | false =>
      rw [hb, if_neg (by simp)] at ih
      simp (disch := omega) only [r425_0, r425_1, r425_3, r425_4, r425_8, r425_9, r425_12, r425_15, r425_16, r425_18, r425_21, r425_24, r425_26, r425_27, r425_30, r425_32, r425_33, r425_34, r425_37, r425_40, r425_42, r425_45, r425_48, r425_50, znl_i, znl_r, znl_j, znl_l, List.length_cons, List.length_nil, Option.some.injEq, Sum.inl.injEq, Sum.inr.injEq, Prod.mk.injEq, true_and, and_true, exists_eq_left', zK_sI, zA_sI, zL_sI, zK_sL, zA_sL, zI_sL, zK_fI, zA_fI, zL_fI, zK_fL, zA_fL, zI_fL, Nat.reduceAdd, Nat.reduceLeDiff, forall_eq', zl_lt, zl_gt, zl_eq, zl_le, zl_ge, zm_0, zaft_n, zaft_v, zb_eq, Decidable.not_not, zK_rH, zI_rH, zL_rH, zA_rH, zsI_rH, zsL_rH, zsA_rH, zcpI_rH, zn_b, zm_b, Int.toNat_natCast, Int.toNat_zero, Int.reduceToNat, show yb false = 0 from rfl]
      exact ⟨fun _ => ih, fun z => absurd trivial z⟩
    | true =>
      rw [hb] at ih
      simp (disch := omega) only [r425_0, r425_1, r425_3, r425_4, r425_8, r425_9, r425_12, r425_15, r425_16, r425_18, r425_21, r425_24, r425_26, r425_27, r425_30, r425_32, r425_33, r425_34, r425_37, r425_40, r425_42, r425_45, r425_48, r425_50, znl_i, znl_r, znl_j, znl_l, List.length_cons, List.length_nil, Option.some.injEq, Sum.inl.injEq, Sum.inr.injEq, Prod.mk.injEq, true_and, and_true, exists_eq_left', zK_sI, zA_sI, zL_sI, zK_sL, zA_sL, zI_sL, zK_fI, zA_fI, zL_fI, zK_fL, zA_fL, zI_fL, Nat.reduceAdd, Nat.reduceLeDiff, forall_eq', zl_lt, zl_gt, zl_eq, zl_le, zl_ge, zm_0, zaft_n, zaft_v, zb_eq, Decidable.not_not, zK_rH, zI_rH, zL_rH, zA_rH, zsI_rH, zsL_rH, zsA_rH, zcpI_rH, zn_b, zm_b, Int.toNat_natCast, Int.toNat_zero, Int.reduceToNat, show yb true = 1 from rfl, GK.K0, GK.K1, GK.K89, GA.A1, GA.R1]
      refine ⟨fun z => absurd z (by decide), fun _ => ?_⟩
      repeat (refine And.intro (by omega) ?_)
      refine zc_w (o_to (d := d) (D.O ha) hk) ?_
      simp (disch := omega) only [r425_0, r425_1, r425_3, r425_4, r425_8, r425_9, r425_12, r425_15, r425_16, r425_18, r425_21, r425_24, r425_26, r425_27, r425_30, r425_32, r425_33, r425_34, r425_37, r425_40, r425_42, r425_45, r425_48, r425_50, znl_i, znl_r, znl_j, znl_l, List.length_cons, List.length_nil, Option.some.injEq, Sum.inl.injEq, Sum.inr.injEq, Prod.mk.injEq, true_and, and_true, exists_eq_left', zK_sI, zA_sI, zL_sI, zK_sL, zA_sL, zI_sL, zK_fI, zA_fI, zL_fI, zK_fL, zA_fL, zI_fL, Nat.reduceAdd, Nat.reduceLeDiff, forall_eq', zl_lt, zl_gt, zl_eq, zl_le, zl_ge, zm_0, zaft_n, zaft_v, zb_eq, Decidable.not_not, zK_rH, zI_rH, zL_rH, zA_rH, zsI_rH, zsL_rH, zsA_rH, zcpI_rH, zn_b, zm_b, Int.toNat_natCast, Int.toNat_zero, Int.reduceToNat, GK.K0]
      refine zc_w (j_min (d := d) _ _ (by omega) (by omega) (by omega) (by omega)) ?_
      by_cases c : TR T a k < ylb T X.testBit k a
      · rw [if_pos ⟨rfl, c⟩] at ih
        rw [if_pos (by omega)]
        simp (disch := omega) only [r425_0, r425_1, r425_3, r425_4, r425_8, r425_9, r425_12, r425_15, r425_16, r425_18, r425_21, r425_24, r425_26, r425_27, r425_30, r425_32, r425_33, r425_34, r425_37, r425_40, r425_42, r425_45, r425_48, r425_50, znl_i, znl_r, znl_j, znl_l, List.length_cons, List.length_nil, Option.some.injEq, Sum.inl.injEq, Sum.inr.injEq, Prod.mk.injEq, true_and, and_true, exists_eq_left', zK_sI, zA_sI, zL_sI, zK_sL, zA_sL, zI_sL, zK_fI, zA_fI, zL_fI, zK_fL, zA_fL, zI_fL, Nat.reduceAdd, Nat.reduceLeDiff, forall_eq', zl_lt, zl_gt, zl_eq, zl_le, zl_ge, zm_0, zaft_n, zaft_v, zb_eq, Decidable.not_not, zK_rH, zI_rH, zL_rH, zA_rH, zsI_rH, zsL_rH, zsA_rH, zcpI_rH, zn_b, zm_b, Int.toNat_natCast, Int.toNat_zero, Int.reduceToNat, GK.K0]
        exact ih
      · rw [if_neg (fun z => c z.2)] at ih
        rw [if_neg (by omega)]
        simp (disch := omega) only [r425_0, r425_1, r425_3, r425_4, r425_8, r425_9, r425_12, r425_15, r425_16, r425_18, r425_21, r425_24, r425_26, r425_27, r425_30, r425_32, r425_33, r425_34, r425_37, r425_40, r425_42, r425_45, r425_48, r425_50, znl_i, znl_r, znl_j, znl_l, List.length_cons, List.length_nil, Option.some.injEq, Sum.inl.injEq, Sum.inr.injEq, Prod.mk.injEq, true_and, and_true, exists_eq_left', zK_sI, zA_sI, zL_sI, zK_sL, zA_sL, zI_sL, zK_fI, zA_fI, zL_fI, zK_fL, zA_fL, zI_fL, Nat.reduceAdd, Nat.reduceLeDiff, forall_eq', zl_lt, zl_gt, zl_eq, zl_le, zl_ge, zm_0, zaft_n, zaft_v, zb_eq, Decidable.not_not, zK_rH, zI_rH, zL_rH, zA_rH, zsI_rH, zsL_rH, zsA_rH, zcpI_rH, zn_b, zm_b, Int.toNat_natCast, Int.toNat_zero, Int.reduceToNat, GK.K0]
        exact ih
theorem ylb_k (T : yT) (X : Nat → Bool) (k : Nat) : ∀ j, ylb T X k j ≤ k ∧ (ylb T X k j = k ↔ ∀ i, i < j → ¬ (X i = true ∧ TR T i k < k)) := by
  intro j
  induction j with
  | zero => exact ⟨Nat.le_refl _, ⟨fun _ i hi => absurd hi (Nat.not_lt_zero _), fun _ => rfl⟩⟩
  | succ j ih =>
    have e : ylb T X k (j + 1) = if X j = true ∧ TR T j k < ylb T X k j then TR T j k else ylb T X k j := rfl
    rw [e]
    by_cases c : X j = true ∧ TR T j k < ylb T X k j
    · rw [if_pos c]
      refine ⟨by omega, ⟨fun z => by omega, fun z => absurd ⟨c.1, by omega⟩ (z j (by omega))⟩⟩
    · rw [if_neg c]
      refine ⟨ih.1, ⟨fun z i hi => ?_, fun z => ih.2.mpr fun i hi => z i (by omega)⟩⟩
      by_cases q : i = j
      · subst q; rw [z] at c; exact c
      · exact ih.2.mp z i (by omega)
theorem yorb_eq (T : yT) (X : Nat) (k : Nat) : yallb (fun j => !(X.testBit j && decide (TR T j k < k))) (Tm T) = decide (ylb T X.testBit k (Tm T) = k) := by
  rw [Bool.eq_iff_iff, yallb_iff, decide_eq_true_iff, (ylb_k T X.testBit k (Tm T)).2]
  refine ⟨fun z i hi => ?_, fun z i hi => ?_⟩
  · have := z i hi
    cases hb : X.testBit i with
    | false => exact fun w => by cases w.1
    | true => rw [hb] at this; intro w; rw [decide_eq_true w.2] at this; cases this
  · cases hb : X.testBit i with
    | false => rfl
    | true => rw [decide_eq_false (fun w => z i hi ⟨hb, w⟩)]; rfl
theorem g_orbitMany (D : gD e h x f g T φ α) (X : Nat) (hX : X < 2 ^ 62) : zc e (d + 3) 424 [zr (some (x + g)), zl X] (cH h x φ ψ α) (fun ov h' => ov = Sum.inl (some (zi (yorb T X))) ∧ h' = cH h x φ ψ α) := by
  have GK := D.GK
  have V := D.V
  have gn := GK.n
  have m := V.m
  have hn := V.n
  have fl := D.fl
  have loop := zdown0 (fun k => zg e 424 (d + 2) 5 [zr (some (x + g)), zl X, zj, zi (ycnt (fun k => yallb (fun j => !(X.testBit j && decide (TR T j k < k))) (Tm T)) k), zi (k : Int)] [] (cH h x φ ψ α) (fun ov h' => ov = Sum.inl (some (zi (yorb T X))) ∧ h' = cH h x φ ψ α)) (Tn T) ?_ (fun k hk ih => ?_)
  · simp (disch := omega) only [n424, r424_0, r424_1, r424_2, r424_3, r424_7, r424_8, r424_11, r424_14, r424_17, r424_18, r424_19, r424_20, r424_22, r424_25, r424_27, r424_30, r424_31, r424_34, r424_35, r424_36, r424_37, r424_40, r424_43, r424_44, znl_i, znl_r, znl_j, znl_l, List.length_cons, List.length_nil, Option.some.injEq, Sum.inl.injEq, Sum.inr.injEq, Prod.mk.injEq, true_and, and_true, exists_eq_left', zK_sI, zA_sI, zL_sI, zK_sL, zA_sL, zI_sL, zK_fI, zA_fI, zL_fI, zK_fL, zA_fL, zI_fL, Nat.reduceAdd, Nat.reduceLeDiff, forall_eq', zl_lt, zl_gt, zl_eq, zl_le, zl_ge, zm_0, zaft_n, zaft_v, zb_eq, Decidable.not_not, zK_rH, zI_rH, zL_rH, zA_rH, zsI_rH, zsL_rH, zsA_rH, zcpI_rH, zn_b, zm_b, Int.toNat_natCast, Int.toNat_zero, Int.reduceToNat, GK.K0]
    exact loop
  · have b := ycnt_bd (fun k => yallb (fun j => !(X.testBit j && decide (TR T j k < k))) (Tm T)) (Tn T)
    rw [r424_5]
    simp (disch := omega) only [r424_0, r424_1, r424_2, r424_3, r424_7, r424_8, r424_11, r424_14, r424_17, r424_18, r424_19, r424_20, r424_22, r424_25, r424_27, r424_30, r424_31, r424_34, r424_35, r424_36, r424_37, r424_40, r424_43, r424_44, znl_i, znl_r, znl_j, znl_l, List.length_cons, List.length_nil, Option.some.injEq, Sum.inl.injEq, Sum.inr.injEq, Prod.mk.injEq, true_and, and_true, exists_eq_left', zK_sI, zA_sI, zL_sI, zK_sL, zA_sL, zI_sL, zK_fI, zA_fI, zL_fI, zK_fL, zA_fL, zI_fL, Nat.reduceAdd, Nat.reduceLeDiff, forall_eq', zl_lt, zl_gt, zl_eq, zl_le, zl_ge, zm_0, zaft_n, zaft_v, zb_eq, Decidable.not_not, zK_rH, zI_rH, zL_rH, zA_rH, zsI_rH, zsL_rH, zsA_rH, zcpI_rH, zn_b, zm_b, Int.toNat_natCast, Int.toNat_zero, Int.reduceToNat, GK.K0, D.fr, D.fk, D.fm]
    exact ⟨fun _ => rfl, fun z => absurd z (by omega)⟩
  · have b := ycnt_bd (fun k => yallb (fun j => !(X.testBit j && decide (TR T j k < k))) (Tm T)) k
    have lb := V.lb (X := X.testBit) hk (Tm T) (Nat.le_refl _)
    rw [ycnt_sb, yorb_eq] at ih
    rw [r424_5]
    simp (disch := omega) only [r424_0, r424_1, r424_2, r424_3, r424_7, r424_8, r424_11, r424_14, r424_17, r424_18, r424_19, r424_20, r424_22, r424_25, r424_27, r424_30, r424_31, r424_34, r424_35, r424_36, r424_37, r424_40, r424_43, r424_44, znl_i, znl_r, znl_j, znl_l, List.length_cons, List.length_nil, Option.some.injEq, Sum.inl.injEq, Sum.inr.injEq, Prod.mk.injEq, true_and, and_true, exists_eq_left', zK_sI, zA_sI, zL_sI, zK_sL, zA_sL, zI_sL, zK_fI, zA_fI, zL_fI, zK_fL, zA_fL, zI_fL, Nat.reduceAdd, Nat.reduceLeDiff, forall_eq', zl_lt, zl_gt, zl_eq, zl_le, zl_ge, zm_0, zaft_n, zaft_v, zb_eq, Decidable.not_not, zK_rH, zI_rH, zL_rH, zA_rH, zsI_rH, zsL_rH, zsA_rH, zcpI_rH, zn_b, zm_b, Int.toNat_natCast, Int.toNat_zero, Int.reduceToNat, GK.K0, D.fr, D.fk, D.fm]
    refine ⟨fun z => absurd z (by omega), fun _ => ?_⟩
    refine zc_w (g_leastBy (d := d) D X k hX hk) ?_
    simp (disch := omega) only [r424_0, r424_1, r424_2, r424_3, r424_7, r424_8, r424_11, r424_14, r424_17, r424_18, r424_19, r424_20, r424_22, r424_25, r424_27, r424_30, r424_31, r424_34, r424_35, r424_36, r424_37, r424_40, r424_43, r424_44, znl_i, znl_r, znl_j, znl_l, List.length_cons, List.length_nil, Option.some.injEq, Sum.inl.injEq, Sum.inr.injEq, Prod.mk.injEq, true_and, and_true, exists_eq_left', zK_sI, zA_sI, zL_sI, zK_sL, zA_sL, zI_sL, zK_fI, zA_fI, zL_fI, zK_fL, zA_fL, zI_fL, Nat.reduceAdd, Nat.reduceLeDiff, forall_eq', zl_lt, zl_gt, zl_eq, zl_le, zl_ge, zm_0, zaft_n, zaft_v, zb_eq, Decidable.not_not, zK_rH, zI_rH, zL_rH, zA_rH, zsI_rH, zsL_rH, zsA_rH, zcpI_rH, zn_b, zm_b, Int.toNat_natCast, Int.toNat_zero, Int.reduceToNat, GK.K0]
    refine ⟨fun z => ?_, fun z => ?_⟩
    · rw [decide_eq_false (by omega)] at ih; exact ih
    · rw [decide_eq_true (by omega)] at ih; exact ih
theorem g_isLeastPair (D : gD e h x f g T φ α) {k o : Nat} (hk : k < Tn T) (ho : o < Tn T) : zc e (d + 2) 428 [zr (some (x + g)), zi (k : Int), zi (o : Int)] (cH h x φ ψ α) (fun ov h' => ov = Sum.inl (some (zi (yb (ylp T k o)))) ∧ h' = cH h x φ ψ α) := by
  have GK := D.GK
  have GA := D.GA
  have V := D.V
  have gn := GK.n
  have m := V.m
  have hn := V.n
  have loop := zdown0 (fun a => (∀ i, i < a → (!decide (¬ (12 * min (TR T i k) (TR T i o) + max (TR T i k) (TR T i o) < 12 * k + o))) = false) → ∀ w4 w5, zg e 428 (d + 1) 2 [zr (some (x + g)), zi (k : Int), zi (o : Int), zi (a : Int), w4, w5] [] (cH h x φ ψ α) (fun ov h' => ov = Sum.inl (some (zi (yb (ylp T k o)))) ∧ h' = cH h x φ ψ α)) (Tm T) (fun q w4 w5 => ?_) (fun a ha ih q w4 w5 => ?_)
  · simp (disch := omega) only [n428, r428_0, r428_1, r428_3, r428_4, r428_7, r428_10, r428_11, r428_14, r428_15, r428_16, r428_17, r428_20, r428_21, r428_24, r428_25, r428_26, r428_27, r428_30, r428_33, r428_35, r428_36, r428_39, r428_40, r428_41, r428_42, r428_45, r428_46, r428_49, r428_50, r428_51, r428_52, r428_55, r428_58, r428_60, r428_62, r428_63, r428_66, r428_68, r428_69, r428_72, r428_74, r428_75, r428_78, r428_79, r428_80, r428_83, r428_86, r428_87, znl_i, znl_r, znl_j, znl_l, List.length_cons, List.length_nil, Option.some.injEq, Sum.inl.injEq, Sum.inr.injEq, Prod.mk.injEq, true_and, and_true, exists_eq_left', zK_sI, zA_sI, zL_sI, zK_sL, zA_sL, zI_sL, zK_fI, zA_fI, zL_fI, zK_fL, zA_fL, zI_fL, Nat.reduceAdd, Nat.reduceLeDiff, forall_eq', zl_lt, zl_gt, zl_eq, zl_le, zl_ge, zm_0, zaft_n, zaft_v, zb_eq, Decidable.not_not, zK_rH, zI_rH, zL_rH, zA_rH, zsI_rH, zsL_rH, zsA_rH, zcpI_rH, zn_b, zm_b, Int.toNat_natCast, Int.toNat_zero, Int.reduceToNat, GK.K0]
    exact loop (fun i hi => absurd hi (by omega)) _ _
  · rw [r428_2]
    simp (disch := omega) only [r428_0, r428_1, r428_3, r428_4, r428_7, r428_10, r428_11, r428_14, r428_15, r428_16, r428_17, r428_20, r428_21, r428_24, r428_25, r428_26, r428_27, r428_30, r428_33, r428_35, r428_36, r428_39, r428_40, r428_41, r428_42, r428_45, r428_46, r428_49, r428_50, r428_51, r428_52, r428_55, r428_58, r428_60, r428_62, r428_63, r428_66, r428_68, r428_69, r428_72, r428_74, r428_75, r428_78, r428_79, r428_80, r428_83, r428_86, r428_87, znl_i, znl_r, znl_j, znl_l, List.length_cons, List.length_nil, Option.some.injEq, Sum.inl.injEq, Sum.inr.injEq, Prod.mk.injEq, true_and, and_true, exists_eq_left', zK_sI, zA_sI, zL_sI, zK_sL, zA_sL, zI_sL, zK_fI, zA_fI, zL_fI, zK_fL, zA_fL, zI_fL, Nat.reduceAdd, Nat.reduceLeDiff, forall_eq', zl_lt, zl_gt, zl_eq, zl_le, zl_ge, zm_0, zaft_n, zaft_v, zb_eq, Decidable.not_not, zK_rH, zI_rH, zL_rH, zA_rH, zsI_rH, zsL_rH, zsA_rH, zcpI_rH, zn_b, zm_b, Int.toNat_natCast, Int.toNat_zero, Int.reduceToNat, GK.K0, D.G.m]
    refine ⟨fun _ => ⟨by decide, by decide, ?_⟩, fun z => absurd z (by omega)⟩
    rw [show ylp T k o = true from decide_eq_true (yfind_no q)]; rfl
  · have r1 := V.R ha hk
    have r2 := V.R ha ho
    rw [r428_2]
    simp (disch := omega) only [r428_0, r428_1, r428_3, r428_4, r428_7, r428_10, r428_11, r428_14, r428_15, r428_16, r428_17, r428_20, r428_21, r428_24, r428_25, r428_26, r428_27, r428_30, r428_33, r428_35, r428_36, r428_39, r428_40, r428_41, r428_42, r428_45, r428_46, r428_49, r428_50, r428_51, r428_52, r428_55, r428_58, r428_60, r428_62, r428_63, r428_66, r428_68, r428_69, r428_72, r428_74, r428_75, r428_78, r428_79, r428_80, r428_83, r428_86, r428_87, znl_i, znl_r, znl_j, znl_l, List.length_cons, List.length_nil, Option.some.injEq, Sum.inl.injEq, Sum.inr.injEq, Prod.mk.injEq, true_and, and_true, exists_eq_left', zK_sI, zA_sI, zL_sI, zK_sL, zA_sL, zI_sL, zK_fI, zA_fI, zL_fI, zK_fL, zA_fL, zI_fL, Nat.reduceAdd, Nat.reduceLeDiff, forall_eq', zl_lt, zl_gt, zl_eq, zl_le, zl_ge, zm_0, zaft_n, zaft_v, zb_eq, Decidable.not_not, zK_rH, zI_rH, zL_rH, zA_rH, zsI_rH, zsL_rH, zsA_rH, zcpI_rH, zn_b, zm_b, Int.toNat_natCast, Int.toNat_zero, Int.reduceToNat, GK.K0, GK.K1, GK.K89, GA.A1, GA.R1, D.G.m]
    refine ⟨fun z => absurd z (by omega), fun _ => ?_⟩
    repeat (refine And.intro (by omega) ?_)
    refine zc_w (o_to (d := d) (D.O ha) hk) ?_
    simp (disch := omega) only [r428_0, r428_1, r428_3, r428_4, r428_7, r428_10, r428_11, r428_14, r428_15, r428_16, r428_17, r428_20, r428_21, r428_24, r428_25, r428_26, r428_27, r428_30, r428_33, r428_35, r428_36, r428_39, r428_40, r428_41, r428_42, r428_45, r428_46, r428_49, r428_50, r428_51, r428_52, r428_55, r428_58, r428_60, r428_62, r428_63, r428_66, r428_68, r428_69, r428_72, r428_74, r428_75, r428_78, r428_79, r428_80, r428_83, r428_86, r428_87, znl_i, znl_r, znl_j, znl_l, List.length_cons, List.length_nil, Option.some.injEq, Sum.inl.injEq, Sum.inr.injEq, Prod.mk.injEq, true_and, and_true, exists_eq_left', zK_sI, zA_sI, zL_sI, zK_sL, zA_sL, zI_sL, zK_fI, zA_fI, zL_fI, zK_fL, zA_fL, zI_fL, Nat.reduceAdd, Nat.reduceLeDiff, forall_eq', zl_lt, zl_gt, zl_eq, zl_le, zl_ge, zm_0, zaft_n, zaft_v, zb_eq, Decidable.not_not, zK_rH, zI_rH, zL_rH, zA_rH, zsI_rH, zsL_rH, zsA_rH, zcpI_rH, zn_b, zm_b, Int.toNat_natCast, Int.toNat_zero, Int.reduceToNat, GK.K0, GK.K1, GK.K89, GA.A1, GA.R1]
    repeat (refine And.intro (by omega) ?_)
    refine zc_w (o_to (d := d) (D.O ha) ho) ?_
    simp (disch := omega) only [r428_0, r428_1, r428_3, r428_4, r428_7, r428_10, r428_11, r428_14, r428_15, r428_16, r428_17, r428_20, r428_21, r428_24, r428_25, r428_26, r428_27, r428_30, r428_33, r428_35, r428_36, r428_39, r428_40, r428_41, r428_42, r428_45, r428_46, r428_49, r428_50, r428_51, r428_52, r428_55, r428_58, r428_60, r428_62, r428_63, r428_66, r428_68, r428_69, r428_72, r428_74, r428_75, r428_78, r428_79, r428_80, r428_83, r428_86, r428_87, znl_i, znl_r, znl_j, znl_l, List.length_cons, List.length_nil, Option.some.injEq, Sum.inl.injEq, Sum.inr.injEq, Prod.mk.injEq, true_and, and_true, exists_eq_left', zK_sI, zA_sI, zL_sI, zK_sL, zA_sL, zI_sL, zK_fI, zA_fI, zL_fI, zK_fL, zA_fL, zI_fL, Nat.reduceAdd, Nat.reduceLeDiff, forall_eq', zl_lt, zl_gt, zl_eq, zl_le, zl_ge, zm_0, zaft_n, zaft_v, zb_eq, Decidable.not_not, zK_rH, zI_rH, zL_rH, zA_rH, zsI_rH, zsL_rH, zsA_rH, zcpI_rH, zn_b, zm_b, Int.toNat_natCast, Int.toNat_zero, Int.reduceToNat, GK.K0]
    refine zc_w (j_min (d := d) _ _ (by omega) (by omega) (by omega) (by omega)) ?_
    simp (disch := omega) only [r428_0, r428_1, r428_3, r428_4, r428_7, r428_10, r428_11, r428_14, r428_15, r428_16, r428_17, r428_20, r428_21, r428_24, r428_25, r428_26, r428_27, r428_30, r428_33, r428_35, r428_36, r428_39, r428_40, r428_41, r428_42, r428_45, r428_46, r428_49, r428_50, r428_51, r428_52, r428_55, r428_58, r428_60, r428_62, r428_63, r428_66, r428_68, r428_69, r428_72, r428_74, r428_75, r428_78, r428_79, r428_80, r428_83, r428_86, r428_87, znl_i, znl_r, znl_j, znl_l, List.length_cons, List.length_nil, Option.some.injEq, Sum.inl.injEq, Sum.inr.injEq, Prod.mk.injEq, true_and, and_true, exists_eq_left', zK_sI, zA_sI, zL_sI, zK_sL, zA_sL, zI_sL, zK_fI, zA_fI, zL_fI, zK_fL, zA_fL, zI_fL, Nat.reduceAdd, Nat.reduceLeDiff, forall_eq', zl_lt, zl_gt, zl_eq, zl_le, zl_ge, zm_0, zaft_n, zaft_v, zb_eq, Decidable.not_not, zK_rH, zI_rH, zL_rH, zA_rH, zsI_rH, zsL_rH, zsA_rH, zcpI_rH, zn_b, zm_b, Int.toNat_natCast, Int.toNat_zero, Int.reduceToNat, GK.K0, GK.K1, GK.K89, GA.A1, GA.R1]
    repeat (refine And.intro (by omega) ?_)
    refine zc_w (o_to (d := d) (D.O ha) hk) ?_
    simp (disch := omega) only [r428_0, r428_1, r428_3, r428_4, r428_7, r428_10, r428_11, r428_14, r428_15, r428_16, r428_17, r428_20, r428_21, r428_24, r428_25, r428_26, r428_27, r428_30, r428_33, r428_35, r428_36, r428_39, r428_40, r428_41, r428_42, r428_45, r428_46, r428_49, r428_50, r428_51, r428_52, r428_55, r428_58, r428_60, r428_62, r428_63, r428_66, r428_68, r428_69, r428_72, r428_74, r428_75, r428_78, r428_79, r428_80, r428_83, r428_86, r428_87, znl_i, znl_r, znl_j, znl_l, List.length_cons, List.length_nil, Option.some.injEq, Sum.inl.injEq, Sum.inr.injEq, Prod.mk.injEq, true_and, and_true, exists_eq_left', zK_sI, zA_sI, zL_sI, zK_sL, zA_sL, zI_sL, zK_fI, zA_fI, zL_fI, zK_fL, zA_fL, zI_fL, Nat.reduceAdd, Nat.reduceLeDiff, forall_eq', zl_lt, zl_gt, zl_eq, zl_le, zl_ge, zm_0, zaft_n, zaft_v, zb_eq, Decidable.not_not, zK_rH, zI_rH, zL_rH, zA_rH, zsI_rH, zsL_rH, zsA_rH, zcpI_rH, zn_b, zm_b, Int.toNat_natCast, Int.toNat_zero, Int.reduceToNat, GK.K0, GK.K1, GK.K89, GA.A1, GA.R1]
    repeat (refine And.intro (by omega) ?_)
    refine zc_w (o_to (d := d) (D.O ha) ho) ?_
    simp (disch := omega) only [r428_0, r428_1, r428_3, r428_4, r428_7, r428_10, r428_11, r428_14, r428_15, r428_16, r428_17, r428_20, r428_21, r428_24, r428_25, r428_26, r428_27, r428_30, r428_33, r428_35, r428_36, r428_39, r428_40, r428_41, r428_42, r428_45, r428_46, r428_49, r428_50, r428_51, r428_52, r428_55, r428_58, r428_60, r428_62, r428_63, r428_66, r428_68, r428_69, r428_72, r428_74, r428_75, r428_78, r428_79, r428_80, r428_83, r428_86, r428_87, znl_i, znl_r, znl_j, znl_l, List.length_cons, List.length_nil, Option.some.injEq, Sum.inl.injEq, Sum.inr.injEq, Prod.mk.injEq, true_and, and_true, exists_eq_left', zK_sI, zA_sI, zL_sI, zK_sL, zA_sL, zI_sL, zK_fI, zA_fI, zL_fI, zK_fL, zA_fL, zI_fL, Nat.reduceAdd, Nat.reduceLeDiff, forall_eq', zl_lt, zl_gt, zl_eq, zl_le, zl_ge, zm_0, zaft_n, zaft_v, zb_eq, Decidable.not_not, zK_rH, zI_rH, zL_rH, zA_rH, zsI_rH, zsL_rH, zsA_rH, zcpI_rH, zn_b, zm_b, Int.toNat_natCast, Int.toNat_zero, Int.reduceToNat, GK.K0]
    refine zc_w (j_max (d := d) _ _ (by omega) (by omega) (by omega) (by omega)) ?_
    have mn : (if (TR T a o : Int) < (TR T a k : Int) then (TR T a o : Int) else (TR T a k : Int)) = ((min (TR T a k) (TR T a o) : Nat) : Int) := by split <;> omega
    have mx : (if (TR T a k : Int) < (TR T a o : Int) then (TR T a o : Int) else (TR T a k : Int)) = ((max (TR T a k) (TR T a o) : Nat) : Int) := by split <;> omega
    rw [mn, mx]
    have b1 : min (TR T a k) (TR T a o) < 12 := by omega
    have b2 : max (TR T a k) (TR T a o) < 12 := by omega
    generalize hmn : min (TR T a k) (TR T a o) = u at *
    generalize hmx : max (TR T a k) (TR T a o) = v at *
    have nxt : ¬ (12 * u + v < 12 * k + o) → ∀ i, i < a + 1 → (!decide (¬ (12 * min (TR T i k) (TR T i o) + max (TR T i k) (TR T i o) < 12 * k + o))) = false := fun z i hi => by
      by_cases c : i = a
      · subst c; rw [hmn, hmx, decide_eq_true z]; rfl
      · exact q i (by omega)
    have no : 12 * u + v < 12 * k + o → ylp T k o = false := fun z => decide_eq_false (by
      rw [yfind_hit ha q (by rw [hmn, hmx, decide_eq_false (by omega)]; rfl)]; omega)
    simp (disch := omega) only [r428_0, r428_1, r428_3, r428_4, r428_7, r428_10, r428_11, r428_14, r428_15, r428_16, r428_17, r428_20, r428_21, r428_24, r428_25, r428_26, r428_27, r428_30, r428_33, r428_35, r428_36, r428_39, r428_40, r428_41, r428_42, r428_45, r428_46, r428_49, r428_50, r428_51, r428_52, r428_55, r428_58, r428_60, r428_62, r428_63, r428_66, r428_68, r428_69, r428_72, r428_74, r428_75, r428_78, r428_79, r428_80, r428_83, r428_86, r428_87, znl_i, znl_r, znl_j, znl_l, List.length_cons, List.length_nil, Option.some.injEq, Sum.inl.injEq, Sum.inr.injEq, Prod.mk.injEq, true_and, and_true, exists_eq_left', zK_sI, zA_sI, zL_sI, zK_sL, zA_sL, zI_sL, zK_fI, zA_fI, zL_fI, zK_fL, zA_fL, zI_fL, Nat.reduceAdd, Nat.reduceLeDiff, forall_eq', zl_lt, zl_gt, zl_eq, zl_le, zl_ge, zm_0, zaft_n, zaft_v, zb_eq, Decidable.not_not, zK_rH, zI_rH, zL_rH, zA_rH, zsI_rH, zsL_rH, zsA_rH, zcpI_rH, zn_b, zm_b, Int.toNat_natCast, Int.toNat_zero, Int.reduceToNat, GK.K0]
    refine ⟨fun z => ⟨by decide, by decide, ?_⟩, fun z => ⟨fun z2 => ih (nxt (by omega)) _ _, fun z2 => ⟨fun z3 => ih (nxt (by omega)) _ _, fun z3 => ⟨by decide, by decide, ?_⟩⟩⟩⟩
    · rw [no (by omega)]; rfl
    · rw [no (by omega)]; rfl
theorem g_pairMany (D : gD e h x f g T φ α) : zc e (d + 3) 427 [zr (some (x + g))] (cH h x φ ψ α) (fun ov h' => ov = Sum.inl (some (zi (ypo T))) ∧ h' = cH h x φ ψ α) := by
  have GK := D.GK
  have V := D.V
  have gn := GK.n
  have hn := V.n
  have fl := D.fl
  have cb : ∀ k j, 0 ≤ ycnt (fun o => decide (k < o) && ylp T k o) j ∧ ycnt (fun o => decide (k < o) && ylp T k o) j ≤ j := fun k j => ycnt_bd _ _
  have sb : ∀ k : Nat, k ≤ 12 → 0 ≤ ysum (fun k => ycnt (fun o => decide (k < o) && ylp T k o) (Tn T)) k ∧ ysum (fun k => ycnt (fun o => decide (k < o) && ylp T k o) (Tn T)) k ≤ 12 * k := fun k => by
    induction k with
    | zero => intro _; simp [ysum]
    | succ k ih => intro hk; have := ih (by omega); have := cb k (Tn T); rw [ysum_s]; push_cast; omega
  have loop := zdown0 (fun k => ∀ w3, zg e 427 (d + 2) 4 [zr (some (x + g)), zi (ysum (fun k => ycnt (fun o => decide (k < o) && ylp T k o) (Tn T)) k), zi (k : Int), w3] [] (cH h x φ ψ α) (fun ov h' => ov = Sum.inl (some (zi (ypo T))) ∧ h' = cH h x φ ψ α)) (Tn T) (fun w3 => ?_) (fun k hk ih w3 => ?_)
  · simp (disch := omega) only [n427, r427_0, r427_1, r427_2, r427_3, r427_5, r427_6, r427_9, r427_12, r427_15, r427_16, r427_17, r427_18, r427_20, r427_21, r427_24, r427_27, r427_30, r427_31, r427_32, r427_33, r427_34, r427_37, r427_40, r427_41, r427_44, r427_45, r427_46, r427_47, r427_50, r427_53, r427_56, r427_59, r427_60, znl_i, znl_r, znl_j, znl_l, List.length_cons, List.length_nil, Option.some.injEq, Sum.inl.injEq, Sum.inr.injEq, Prod.mk.injEq, true_and, and_true, exists_eq_left', zK_sI, zA_sI, zL_sI, zK_sL, zA_sL, zI_sL, zK_fI, zA_fI, zL_fI, zK_fL, zA_fL, zI_fL, Nat.reduceAdd, Nat.reduceLeDiff, forall_eq', zl_lt, zl_gt, zl_eq, zl_le, zl_ge, zm_0, zaft_n, zaft_v, zb_eq, Decidable.not_not, zK_rH, zI_rH, zL_rH, zA_rH, zsI_rH, zsL_rH, zsA_rH, zcpI_rH, zn_b, zm_b, Int.toNat_natCast, Int.toNat_zero, Int.reduceToNat, GK.K0]
    exact loop _
  · have b := sb (Tn T) hn.2
    rw [r427_4]
    simp (disch := omega) only [r427_0, r427_1, r427_2, r427_3, r427_5, r427_6, r427_9, r427_12, r427_15, r427_16, r427_17, r427_18, r427_20, r427_21, r427_24, r427_27, r427_30, r427_31, r427_32, r427_33, r427_34, r427_37, r427_40, r427_41, r427_44, r427_45, r427_46, r427_47, r427_50, r427_53, r427_56, r427_59, r427_60, znl_i, znl_r, znl_j, znl_l, List.length_cons, List.length_nil, Option.some.injEq, Sum.inl.injEq, Sum.inr.injEq, Prod.mk.injEq, true_and, and_true, exists_eq_left', zK_sI, zA_sI, zL_sI, zK_sL, zA_sL, zI_sL, zK_fI, zA_fI, zL_fI, zK_fL, zA_fL, zI_fL, Nat.reduceAdd, Nat.reduceLeDiff, forall_eq', zl_lt, zl_gt, zl_eq, zl_le, zl_ge, zm_0, zaft_n, zaft_v, zb_eq, Decidable.not_not, zK_rH, zI_rH, zL_rH, zA_rH, zsI_rH, zsL_rH, zsA_rH, zcpI_rH, zn_b, zm_b, Int.toNat_natCast, Int.toNat_zero, Int.reduceToNat, GK.K0, D.fr, D.fk, D.fm]
    exact ⟨fun _ => rfl, fun z => absurd z (by omega)⟩
  · have b := sb k (by omega)
    have inner := zdown (fun j => k < j → zg e 427 (d + 2) 19 [zr (some (x + g)), zi (ysum (fun k => ycnt (fun o => decide (k < o) && ylp T k o) (Tn T)) k + ycnt (fun o => decide (k < o) && ylp T k o) j), zi (k : Int), zi (j : Int)] [] (cH h x φ ψ α) (fun ov h' => ov = Sum.inl (some (zi (ypo T))) ∧ h' = cH h x φ ψ α)) (Tn T) (fun _ => by
      have g' := ih (zi (Tn T : Int))
      rw [ysum_s] at g'
      rw [r427_19]
      simp (disch := omega) only [r427_0, r427_1, r427_2, r427_3, r427_5, r427_6, r427_9, r427_12, r427_15, r427_16, r427_17, r427_18, r427_20, r427_21, r427_24, r427_27, r427_30, r427_31, r427_32, r427_33, r427_34, r427_37, r427_40, r427_41, r427_44, r427_45, r427_46, r427_47, r427_50, r427_53, r427_56, r427_59, r427_60, znl_i, znl_r, znl_j, znl_l, List.length_cons, List.length_nil, Option.some.injEq, Sum.inl.injEq, Sum.inr.injEq, Prod.mk.injEq, true_and, and_true, exists_eq_left', zK_sI, zA_sI, zL_sI, zK_sL, zA_sL, zI_sL, zK_fI, zA_fI, zL_fI, zK_fL, zA_fL, zI_fL, Nat.reduceAdd, Nat.reduceLeDiff, forall_eq', zl_lt, zl_gt, zl_eq, zl_le, zl_ge, zm_0, zaft_n, zaft_v, zb_eq, Decidable.not_not, zK_rH, zI_rH, zL_rH, zA_rH, zsI_rH, zsL_rH, zsA_rH, zcpI_rH, zn_b, zm_b, Int.toNat_natCast, Int.toNat_zero, Int.reduceToNat, GK.K0, D.fr, D.fk, D.fm]
      exact ⟨fun _ => g', fun z => absurd z (by omega)⟩) (fun j hj ihj hkj => by
      have c1 := cb k j
      have g' := ihj (by omega)
      rw [ycnt_sb, decide_eq_true hkj, Bool.true_and, ← Int.add_assoc] at g'
      rw [r427_19]
      simp (disch := omega) only [r427_0, r427_1, r427_2, r427_3, r427_5, r427_6, r427_9, r427_12, r427_15, r427_16, r427_17, r427_18, r427_20, r427_21, r427_24, r427_27, r427_30, r427_31, r427_32, r427_33, r427_34, r427_37, r427_40, r427_41, r427_44, r427_45, r427_46, r427_47, r427_50, r427_53, r427_56, r427_59, r427_60, znl_i, znl_r, znl_j, znl_l, List.length_cons, List.length_nil, Option.some.injEq, Sum.inl.injEq, Sum.inr.injEq, Prod.mk.injEq, true_and, and_true, exists_eq_left', zK_sI, zA_sI, zL_sI, zK_sL, zA_sL, zI_sL, zK_fI, zA_fI, zL_fI, zK_fL, zA_fL, zI_fL, Nat.reduceAdd, Nat.reduceLeDiff, forall_eq', zl_lt, zl_gt, zl_eq, zl_le, zl_ge, zm_0, zaft_n, zaft_v, zb_eq, Decidable.not_not, zK_rH, zI_rH, zL_rH, zA_rH, zsI_rH, zsL_rH, zsA_rH, zcpI_rH, zn_b, zm_b, Int.toNat_natCast, Int.toNat_zero, Int.reduceToNat, GK.K0, D.fr, D.fk, D.fm]
      refine ⟨fun z => absurd z (by omega), fun _ => ?_⟩
      refine zc_w (g_isLeastPair (d := d) D hk hj) ?_
      cases hq : ylp T k j with
      | true =>
        rw [hq] at g'
        simp (disch := omega) only [r427_0, r427_1, r427_2, r427_3, r427_5, r427_6, r427_9, r427_12, r427_15, r427_16, r427_17, r427_18, r427_20, r427_21, r427_24, r427_27, r427_30, r427_31, r427_32, r427_33, r427_34, r427_37, r427_40, r427_41, r427_44, r427_45, r427_46, r427_47, r427_50, r427_53, r427_56, r427_59, r427_60, znl_i, znl_r, znl_j, znl_l, List.length_cons, List.length_nil, Option.some.injEq, Sum.inl.injEq, Sum.inr.injEq, Prod.mk.injEq, true_and, and_true, exists_eq_left', zK_sI, zA_sI, zL_sI, zK_sL, zA_sL, zI_sL, zK_fI, zA_fI, zL_fI, zK_fL, zA_fL, zI_fL, Nat.reduceAdd, Nat.reduceLeDiff, forall_eq', zl_lt, zl_gt, zl_eq, zl_le, zl_ge, zm_0, zaft_n, zaft_v, zb_eq, Decidable.not_not, zK_rH, zI_rH, zL_rH, zA_rH, zsI_rH, zsL_rH, zsA_rH, zcpI_rH, zn_b, zm_b, Int.toNat_natCast, Int.toNat_zero, Int.reduceToNat, show yb true = 1 from rfl]
        exact ⟨fun z => absurd z (by decide), fun _ => g'⟩
      | false =>
        rw [hq] at g'
        simp (disch := omega) only [r427_0, r427_1, r427_2, r427_3, r427_5, r427_6, r427_9, r427_12, r427_15, r427_16, r427_17, r427_18, r427_20, r427_21, r427_24, r427_27, r427_30, r427_31, r427_32, r427_33, r427_34, r427_37, r427_40, r427_41, r427_44, r427_45, r427_46, r427_47, r427_50, r427_53, r427_56, r427_59, r427_60, znl_i, znl_r, znl_j, znl_l, List.length_cons, List.length_nil, Option.some.injEq, Sum.inl.injEq, Sum.inr.injEq, Prod.mk.injEq, true_and, and_true, exists_eq_left', zK_sI, zA_sI, zL_sI, zK_sL, zA_sL, zI_sL, zK_fI, zA_fI, zL_fI, zK_fL, zA_fL, zI_fL, Nat.reduceAdd, Nat.reduceLeDiff, forall_eq', zl_lt, zl_gt, zl_eq, zl_le, zl_ge, zm_0, zaft_n, zaft_v, zb_eq, Decidable.not_not, zK_rH, zI_rH, zL_rH, zA_rH, zsI_rH, zsL_rH, zsA_rH, zcpI_rH, zn_b, zm_b, Int.toNat_natCast, Int.toNat_zero, Int.reduceToNat, show yb false = 0 from rfl]
        exact ⟨fun _ => g', fun z => absurd trivial z⟩) (k + 1) (by omega)
    have z0 : ycnt (fun o => decide (k < o) && ylp T k o) (k + 1) = 0 := ycnt_up (n := 0) _ (fun i hi => by rw [decide_eq_false (by omega)]; rfl)
    have g' := inner (by omega)
    rw [z0, Int.add_zero] at g'
    rw [r427_4]
    simp (disch := omega) only [r427_0, r427_1, r427_2, r427_3, r427_5, r427_6, r427_9, r427_12, r427_15, r427_16, r427_17, r427_18, r427_20, r427_21, r427_24, r427_27, r427_30, r427_31, r427_32, r427_33, r427_34, r427_37, r427_40, r427_41, r427_44, r427_45, r427_46, r427_47, r427_50, r427_53, r427_56, r427_59, r427_60, znl_i, znl_r, znl_j, znl_l, List.length_cons, List.length_nil, Option.some.injEq, Sum.inl.injEq, Sum.inr.injEq, Prod.mk.injEq, true_and, and_true, exists_eq_left', zK_sI, zA_sI, zL_sI, zK_sL, zA_sL, zI_sL, zK_fI, zA_fI, zL_fI, zK_fL, zA_fL, zI_fL, Nat.reduceAdd, Nat.reduceLeDiff, forall_eq', zl_lt, zl_gt, zl_eq, zl_le, zl_ge, zm_0, zaft_n, zaft_v, zb_eq, Decidable.not_not, zK_rH, zI_rH, zL_rH, zA_rH, zsI_rH, zsL_rH, zsA_rH, zcpI_rH, zn_b, zm_b, Int.toNat_natCast, Int.toNat_zero, Int.reduceToNat, GK.K0, D.fr, D.fk, D.fm]
    exact ⟨fun z => absurd z (by omega), fun _ => g'⟩
theorem g_told (D : gD e h x f g T φ α) {a : Nat} (ha : a < Tm T) (w : Nat) (hw : w ≤ 5) : zc e (d + 4) 438 [zr (some (x + g)), zi (w : Int), zi (a : Int)] (cH h x φ ψ α) (fun ov h' => ov = Sum.inl (some (zi (ynb T w a))) ∧ h' = cH h x φ ψ α) := by
  have GK := D.GK
  have GA := D.GA
  have V := D.V
  have gn := GK.n
  have m := V.m
  have hn := V.n
  have g1 := D.G.hg a ha
  have g2 := D.G.t a ha
  have b1 := V.g ha
  have b2 := V.t ha
  have cb := ycnt_bd (fun k => decide (TR T a k = k)) (Tn T)
  have p1 := ymul_b (x := ycnt (fun k => decide (TR T a k = k)) (Tn T)) (y := Tt T a) (A := 12) (B := 3) (by omega) b2
  have p2 := ymul_b (x := Tg T a) (y := Tt T a) (A := 1) (B := 3) (by omega) b2
  have p3 := ymul_b (x := Tt T a) (y := Tt T a) (A := 3) (B := 3) b2 b2
  have p4 : (ycnt (fun k => decide (TR T a k = k)) (Tn T) - 1 - Tg T a) * Tt T a = ycnt (fun k => decide (TR T a k = k)) (Tn T) * Tt T a - Tt T a - Tg T a * Tt T a := by rw [Int.sub_mul, Int.sub_mul, Int.one_mul]
  have haa := V.th ha ha
  have j1 := D.J.a.j a a ha ha
  have g3 := D.G.t _ haa
  have b3 := V.t haa
  simp (disch := omega) only [n438, r438_0, r438_1, r438_4, r438_5, r438_6, r438_7, r438_8, r438_11, r438_13, r438_14, r438_48, r438_50, r438_51, r438_54, r438_55, r438_58, r438_59, r438_62, r438_65, r438_66, r438_69, r438_70, r438_73, r438_74, r438_77, r438_79, r438_80, r438_81, r438_82, r438_85, r438_86, r438_87, r438_90, r438_91, r438_94, r438_96, r438_99, r438_100, r438_103, r438_104, r438_107, r438_108, r438_109, r438_112, r438_113, r438_116, r438_117, r438_118, r438_119, r438_120, r438_121, r438_124, r438_125, r438_126, r438_127, znl_i, znl_r, znl_j, znl_l, List.length_cons, List.length_nil, Option.some.injEq, Sum.inl.injEq, Sum.inr.injEq, Prod.mk.injEq, true_and, and_true, exists_eq_left', zK_sI, zA_sI, zL_sI, zK_sL, zA_sL, zI_sL, zK_fI, zA_fI, zL_fI, zK_fL, zA_fL, zI_fL, Nat.reduceAdd, Nat.reduceLeDiff, forall_eq', zl_lt, zl_gt, zl_eq, zl_le, zl_ge, zm_0, zaft_n, zaft_v, zb_eq, Decidable.not_not, zK_rH, zI_rH, zL_rH, zA_rH, zsI_rH, zsL_rH, zsA_rH, zcpI_rH, zn_b, zm_b, Int.toNat_natCast, Int.toNat_zero, Int.reduceToNat, GK.K0, GK.K1, GK.K89, GA.A1, GA.R1]
  repeat (refine And.intro (by omega) ?_)
  refine zc_w (o_staying (d := d) (D.O ha)) ?_
  have fin : ∀ v, -1000 ≤ v ∧ v ≤ 1000 → v = ynb T w a → zg e 438 (d + 3) 127 [zr (some (x + g)), zi (w : Int), zi (a : Int), zr (some (x + (g + 89 + 2 * a))), zi (ycnt (fun k => decide (TR T a k = k)) (Tn T))] [zi v] (cH h x φ ψ α) (fun ov h' => ov = Sum.inl (some (zi (ynb T w a))) ∧ h' = cH h x φ ψ α) := fun v hv hq => by
    simp (disch := omega) only [r438_0, r438_1, r438_4, r438_5, r438_6, r438_7, r438_8, r438_11, r438_13, r438_14, r438_48, r438_50, r438_51, r438_54, r438_55, r438_58, r438_59, r438_62, r438_65, r438_66, r438_69, r438_70, r438_73, r438_74, r438_77, r438_79, r438_80, r438_81, r438_82, r438_85, r438_86, r438_87, r438_90, r438_91, r438_94, r438_96, r438_99, r438_100, r438_103, r438_104, r438_107, r438_108, r438_109, r438_112, r438_113, r438_116, r438_117, r438_118, r438_119, r438_120, r438_121, r438_124, r438_125, r438_126, r438_127, znl_i, znl_r, znl_j, znl_l, List.length_cons, List.length_nil, Option.some.injEq, Sum.inl.injEq, Sum.inr.injEq, Prod.mk.injEq, true_and, and_true, exists_eq_left', zK_sI, zA_sI, zL_sI, zK_sL, zA_sL, zI_sL, zK_fI, zA_fI, zL_fI, zK_fL, zA_fL, zI_fL, Nat.reduceAdd, Nat.reduceLeDiff, forall_eq', zl_lt, zl_gt, zl_eq, zl_le, zl_ge, zm_0, zaft_n, zaft_v, zb_eq, Decidable.not_not, zK_rH, zI_rH, zL_rH, zA_rH, zsI_rH, zsL_rH, zsA_rH, zcpI_rH, zn_b, zm_b, Int.toNat_natCast, Int.toNat_zero, Int.reduceToNat]
    exact hq
  have ex : ycnt (fun k => decide (TR T a k = k)) (Tn T) = yfx1 T a := rfl
  obtain rfl | rfl | rfl | rfl | rfl | rfl : w = 0 ∨ w = 1 ∨ w = 2 ∨ w = 3 ∨ w = 4 ∨ w = 5 := by omega
  · simp (disch := omega) only [r438_0, r438_1, r438_4, r438_5, r438_6, r438_7, r438_8, r438_11, r438_13, r438_14, r438_48, r438_50, r438_51, r438_54, r438_55, r438_58, r438_59, r438_62, r438_65, r438_66, r438_69, r438_70, r438_73, r438_74, r438_77, r438_79, r438_80, r438_81, r438_82, r438_85, r438_86, r438_87, r438_90, r438_91, r438_94, r438_96, r438_99, r438_100, r438_103, r438_104, r438_107, r438_108, r438_109, r438_112, r438_113, r438_116, r438_117, r438_118, r438_119, r438_120, r438_121, r438_124, r438_125, r438_126, znl_i, znl_r, znl_j, znl_l, List.length_cons, List.length_nil, Option.some.injEq, Sum.inl.injEq, Sum.inr.injEq, Prod.mk.injEq, true_and, and_true, exists_eq_left', zK_sI, zA_sI, zL_sI, zK_sL, zA_sL, zI_sL, zK_fI, zA_fI, zL_fI, zK_fL, zA_fL, zI_fL, Nat.reduceAdd, Nat.reduceLeDiff, forall_eq', zl_lt, zl_gt, zl_eq, zl_le, zl_ge, zm_0, zaft_n, zaft_v, zb_eq, Decidable.not_not, zK_rH, zI_rH, zL_rH, zA_rH, zsI_rH, zsL_rH, zsA_rH, zcpI_rH, zn_b, zm_b, Int.toNat_natCast, Int.toNat_zero, Int.reduceToNat, GK.K89, g2, show zts 0 [48, 58, 65, 77, 94] 99 ((0 : Nat) : Int) = 48 from by decide]
    exact fin _ (by omega) rfl
  · simp (disch := omega) only [r438_0, r438_1, r438_4, r438_5, r438_6, r438_7, r438_8, r438_11, r438_13, r438_14, r438_48, r438_50, r438_51, r438_54, r438_55, r438_58, r438_59, r438_62, r438_65, r438_66, r438_69, r438_70, r438_73, r438_74, r438_77, r438_79, r438_80, r438_81, r438_82, r438_85, r438_86, r438_87, r438_90, r438_91, r438_94, r438_96, r438_99, r438_100, r438_103, r438_104, r438_107, r438_108, r438_109, r438_112, r438_113, r438_116, r438_117, r438_118, r438_119, r438_120, r438_121, r438_124, r438_125, r438_126, znl_i, znl_r, znl_j, znl_l, List.length_cons, List.length_nil, Option.some.injEq, Sum.inl.injEq, Sum.inr.injEq, Prod.mk.injEq, true_and, and_true, exists_eq_left', zK_sI, zA_sI, zL_sI, zK_sL, zA_sL, zI_sL, zK_fI, zA_fI, zL_fI, zK_fL, zA_fL, zI_fL, Nat.reduceAdd, Nat.reduceLeDiff, forall_eq', zl_lt, zl_gt, zl_eq, zl_le, zl_ge, zm_0, zaft_n, zaft_v, zb_eq, Decidable.not_not, zK_rH, zI_rH, zL_rH, zA_rH, zsI_rH, zsL_rH, zsA_rH, zcpI_rH, zn_b, zm_b, Int.toNat_natCast, Int.toNat_zero, Int.reduceToNat, GK.K89, g2, show zts 0 [48, 58, 65, 77, 94] 99 ((1 : Nat) : Int) = 58 from by decide]
    exact fin _ (by omega) rfl
  · simp (disch := omega) only [r438_0, r438_1, r438_4, r438_5, r438_6, r438_7, r438_8, r438_11, r438_13, r438_14, r438_48, r438_50, r438_51, r438_54, r438_55, r438_58, r438_59, r438_62, r438_65, r438_66, r438_69, r438_70, r438_73, r438_74, r438_77, r438_79, r438_80, r438_81, r438_82, r438_85, r438_86, r438_87, r438_90, r438_91, r438_94, r438_96, r438_99, r438_100, r438_103, r438_104, r438_107, r438_108, r438_109, r438_112, r438_113, r438_116, r438_117, r438_118, r438_119, r438_120, r438_121, r438_124, r438_125, r438_126, znl_i, znl_r, znl_j, znl_l, List.length_cons, List.length_nil, Option.some.injEq, Sum.inl.injEq, Sum.inr.injEq, Prod.mk.injEq, true_and, and_true, exists_eq_left', zK_sI, zA_sI, zL_sI, zK_sL, zA_sL, zI_sL, zK_fI, zA_fI, zL_fI, zK_fL, zA_fL, zI_fL, Nat.reduceAdd, Nat.reduceLeDiff, forall_eq', zl_lt, zl_gt, zl_eq, zl_le, zl_ge, zm_0, zaft_n, zaft_v, zb_eq, Decidable.not_not, zK_rH, zI_rH, zL_rH, zA_rH, zsI_rH, zsL_rH, zsA_rH, zcpI_rH, zn_b, zm_b, Int.toNat_natCast, Int.toNat_zero, Int.reduceToNat, GK.K89, g1, g2, show zts 0 [48, 58, 65, 77, 94] 99 ((2 : Nat) : Int) = 65 from by decide]
    exact fin _ (by omega) rfl
  · simp (disch := omega) only [r438_0, r438_1, r438_4, r438_5, r438_6, r438_7, r438_8, r438_11, r438_13, r438_14, r438_48, r438_50, r438_51, r438_54, r438_55, r438_58, r438_59, r438_62, r438_65, r438_66, r438_69, r438_70, r438_73, r438_74, r438_77, r438_79, r438_80, r438_81, r438_82, r438_85, r438_86, r438_87, r438_90, r438_91, r438_94, r438_96, r438_99, r438_100, r438_103, r438_104, r438_107, r438_108, r438_109, r438_112, r438_113, r438_116, r438_117, r438_118, r438_119, r438_120, r438_121, r438_124, r438_125, r438_126, znl_i, znl_r, znl_j, znl_l, List.length_cons, List.length_nil, Option.some.injEq, Sum.inl.injEq, Sum.inr.injEq, Prod.mk.injEq, true_and, and_true, exists_eq_left', zK_sI, zA_sI, zL_sI, zK_sL, zA_sL, zI_sL, zK_fI, zA_fI, zL_fI, zK_fL, zA_fL, zI_fL, Nat.reduceAdd, Nat.reduceLeDiff, forall_eq', zl_lt, zl_gt, zl_eq, zl_le, zl_ge, zm_0, zaft_n, zaft_v, zb_eq, Decidable.not_not, zK_rH, zI_rH, zL_rH, zA_rH, zsI_rH, zsL_rH, zsA_rH, zcpI_rH, zn_b, zm_b, Int.toNat_natCast, Int.toNat_zero, Int.reduceToNat, GK.K89, g1, g2, show zts 0 [48, 58, 65, 77, 94] 99 ((3 : Nat) : Int) = 77 from by decide]
    exact fin _ (by omega) p4
  · simp (disch := omega) only [r438_0, r438_1, r438_4, r438_5, r438_6, r438_7, r438_8, r438_11, r438_13, r438_14, r438_48, r438_50, r438_51, r438_54, r438_55, r438_58, r438_59, r438_62, r438_65, r438_66, r438_69, r438_70, r438_73, r438_74, r438_77, r438_79, r438_80, r438_81, r438_82, r438_85, r438_86, r438_87, r438_90, r438_91, r438_94, r438_96, r438_99, r438_100, r438_103, r438_104, r438_107, r438_108, r438_109, r438_112, r438_113, r438_116, r438_117, r438_118, r438_119, r438_120, r438_121, r438_124, r438_125, r438_126, znl_i, znl_r, znl_j, znl_l, List.length_cons, List.length_nil, Option.some.injEq, Sum.inl.injEq, Sum.inr.injEq, Prod.mk.injEq, true_and, and_true, exists_eq_left', zK_sI, zA_sI, zL_sI, zK_sL, zA_sL, zI_sL, zK_fI, zA_fI, zL_fI, zK_fL, zA_fL, zI_fL, Nat.reduceAdd, Nat.reduceLeDiff, forall_eq', zl_lt, zl_gt, zl_eq, zl_le, zl_ge, zm_0, zaft_n, zaft_v, zb_eq, Decidable.not_not, zK_rH, zI_rH, zL_rH, zA_rH, zsI_rH, zsL_rH, zsA_rH, zcpI_rH, zn_b, zm_b, Int.toNat_natCast, Int.toNat_zero, Int.reduceToNat, show zts 0 [48, 58, 65, 77, 94] 99 ((4 : Nat) : Int) = 94 from by decide]
    exact fin _ (by omega) rfl
  · simp (disch := omega) only [r438_0, r438_1, r438_4, r438_5, r438_6, r438_7, r438_8, r438_11, r438_13, r438_14, r438_48, r438_50, r438_51, r438_54, r438_55, r438_58, r438_59, r438_62, r438_65, r438_66, r438_69, r438_70, r438_73, r438_74, r438_77, r438_79, r438_80, r438_81, r438_82, r438_85, r438_86, r438_87, r438_90, r438_91, r438_94, r438_96, r438_99, r438_100, r438_103, r438_104, r438_107, r438_108, r438_109, r438_112, r438_113, r438_116, r438_117, r438_118, r438_119, r438_120, r438_121, r438_124, r438_125, r438_126, znl_i, znl_r, znl_j, znl_l, List.length_cons, List.length_nil, Option.some.injEq, Sum.inl.injEq, Sum.inr.injEq, Prod.mk.injEq, true_and, and_true, exists_eq_left', zK_sI, zA_sI, zL_sI, zK_sL, zA_sL, zI_sL, zK_fI, zA_fI, zL_fI, zK_fL, zA_fL, zI_fL, Nat.reduceAdd, Nat.reduceLeDiff, forall_eq', zl_lt, zl_gt, zl_eq, zl_le, zl_ge, zm_0, zaft_n, zaft_v, zb_eq, Decidable.not_not, zK_rH, zI_rH, zL_rH, zA_rH, zsI_rH, zsL_rH, zsA_rH, zcpI_rH, zn_b, zm_b, Int.toNat_natCast, Int.toNat_zero, Int.reduceToNat, GK.K0, GK.K1, GK.K89, GK.K31, GK.K32, GA.A1, GA.A7, GA.R1, GA.R31, g2, g3, j1, show zts 0 [48, 58, 65, 77, 94] 99 ((5 : Nat) : Int) = 99 from by decide]
    have q : (((Tt T a * Tt T a + Tt T (yth T a a)).tdiv 2).natAbs : Nat) ≤ (Tt T a * Tt T a + Tt T (yth T a a)).natAbs := by
      rw [Int.natAbs_tdiv]; exact Nat.div_le_self _ _
    exact ⟨by omega, by omega, by omega, by omega, by omega, by omega, by decide, fin _ (by omega) rfl⟩
end
