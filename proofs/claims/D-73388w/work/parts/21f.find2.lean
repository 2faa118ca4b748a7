/-- maps of one row -/
noncomputable def yfs (F : yF) (p : List Nat) : List (List Nat × Int) := if yQ4 F = -1 then [(p, 1), (p, -1)] else [(p, yhd F (ylv p))]
theorem ytc_tr {F : yF} {i : Nat} {p : List Nat} {sg : Int} (h : yAt F i (ylv p) sg) : Tt (yTF F) i = ytc F (p, sg) := by
  show ((ylg (yord F) i).2.2 0 + (ylg (yord F) i).2.2 4 + (ylg (yord F) i).2.2 8).tdiv (yWF F) = _
  rw [h.eq]; rfl
theorem ytc_b {F : yF} (hW : yW F) (h3 : y3 F ≠ -1) {p : List Nat} {sg : Int} (G : yGo F (ylv p) sg) : -3 ≤ ytc F (p, sg) ∧ ytc F (p, sg) ≤ 3 := by
  obtain ⟨i, hi⟩ := at_of hW h3 G
  obtain ⟨z, _, b, e⟩ := at_tr h3 hi
  rw [← ytc_tr hi, e]
  rcases G.s1 with q | q <;> rw [q] <;> omega
section
variable {e : zEv} {d x f o r n g b : Nat} {h h1 h2 : zH} {φ φ' φ'' ψ ψ' ψ'' : Nat → Nat → Int} {α α' α'' : Nat → Nat → Option Nat} {F : yF} {π ρ : Nat → Nat} {sg sh : Int} {T : yT} {cl : Nat → Nat} {p : List Nat} {L : List (List Nat × Int)}
/-- seat i -/
def gse (x g i : Nat) : Option Nat := if i < 12 then some (x + (g + 2 + i)) else none
theorem gA.nx (GA : gA x g α) {i : Nat} (hi : i < 12) : α (g + 2 + i) 1 = gse x g (i + 1) := by
  rw [GA.S i hi]; unfold gse
  by_cases c : i < 11
  · rw [if_pos c, if_pos (by omega)]
  · rw [if_neg c, if_neg (by omega)]
theorem g_found (GK : gK e h x g) (K : fK e h x f) (hd : f + 26 ≤ g ∨ g + 185 ≤ f) (h3 : y3 F ≠ -1) (W : gW F x f g cl φ ψ α p L) (hp : p.length = F.1) (I : yIs F (ylv p)) (hL : (L ++ yfs F p).length ≤ 48) : zc e (d + 5) 412 [zr (some (x + g))] (cH h x φ ψ α)
    (fun ov h' => ov = Sum.inl none ∧ ∃ φ' ψ', h' = cH h x φ' ψ' α ∧ gW F x f g cl φ' ψ' α p (L ++ yfs F p) ∧ gR x f g h φ ψ α h φ' ψ' α) := by
  have gn := GK.n
  have kn := K.n
  have kb := K.b
  have hm := W.S.w.1
  have GA := W.GA
  have A := W.A
  have b4 : yQ4 F = -1 ∨ (0 ≤ yQ4 F ∧ yQ4 F < F.1) := y4_bd F (yQ3 F)
  have fin : ∀ φ1 : Nat → Nat → Int, (∀ i, i ≠ g + 30 → φ1 i = φ i) → (∀ k, k < F.1 → φ1 (g + 30) k = (ylv p k : Int)) → ∀ w, zg e 412 (d + 4) 47 [zr (some (x + g)), w] [] (cH h x φ1 ψ α) (fun ov h' => ov = Sum.inl none ∧ ∃ φ' ψ', h' = cH h x φ' ψ' α ∧ gW F x f g cl φ' ψ' α p (L ++ yfs F p) ∧ gR x f g h φ ψ α h φ' ψ' α) := by
    intro φ1 q1 q2 w
    have W1 : gW F x f g cl φ1 ψ α p L := W.of hd (fun i h1 h2 _ => q1 i h2) (fun _ _ _ => rfl) ⟨by rw [q1 _ (by omega)]; exact W.L.m, fun i q hq => by rw [q1 _ (by omega), q1 _ (by omega)]; exact W.L.q i q hq⟩
    have R1 : gR x f g h φ ψ α h φ1 ψ α := ⟨⟨0, zX.refl h, by omega⟩, fun i h1 h2 => q1 i (by omega), fun _ _ _ => rfl, fun _ _ _ => rfl⟩
    simp (disch := omega) only [r412_0, r412_1, r412_4, r412_6, r412_6s, r412_9, r412_10, r412_13, r412_14, r412_17, r412_20, r412_23, r412_24, r412_27, r412_30, r412_31, r412_34, r412_35, r412_38, r412_39, r412_40, r412_43, r412_44, r412_47, r412_48, r412_51, r412_54, r412_57, r412_58, r412_59, r412_62, r412_63, r412_64, r412_67, r412_70, r412_71, r412_72, r412_75, r412_76, r412_79, r412_82, r412_85, znl_i, znl_r, znl_j, znl_l, List.length_cons, List.length_nil, Option.some.injEq, Sum.inl.injEq, Sum.inr.injEq, Prod.mk.injEq, true_and, and_true, exists_eq_left', zK_sI, zA_sI, zL_sI, zK_sL, zA_sL, zI_sL, zK_fI, zA_fI, zL_fI, zK_fL, zA_fL, zI_fL, Nat.reduceAdd, Nat.reduceLeDiff, forall_eq', zl_lt, zl_gt, zl_eq, zl_le, zl_ge, zm_0, zaft_n, zaft_v, zb_eq, Decidable.not_not, zK_rH, zI_rH, zL_rH, zA_rH, zsI_rH, zsL_rH, zsA_rH, zcpI_rH, zn_b, zm_b, Int.toNat_natCast, Int.toNat_zero, Int.reduceToNat, GK.K0, GK.K14, GA.A4]
    refine zc_w (b_isFlat (d := d + 3) GK W1.B (by omega)) ?_
    unfold yfs at hL ⊢
    by_cases c : yQ4 F = -1
    · rw [if_pos c] at hL ⊢
      rw [decide_eq_true c]
      have hL2 : L.length + 2 ≤ 48 := by simpa using hL
      have G1 : yGo F (ylv p) 1 := ⟨I, Or.inl rfl, fun n => absurd c n⟩
      have G2 : yGo F (ylv p) (-1) := ⟨I, Or.inr rfl, fun n => absurd c n⟩
      simp (disch := omega) only [r412_0, r412_1, r412_4, r412_6, r412_6s, r412_9, r412_10, r412_13, r412_14, r412_17, r412_20, r412_23, r412_24, r412_27, r412_30, r412_31, r412_34, r412_35, r412_38, r412_39, r412_40, r412_43, r412_44, r412_47, r412_48, r412_51, r412_54, r412_57, r412_58, r412_59, r412_62, r412_63, r412_64, r412_67, r412_70, r412_71, r412_72, r412_75, r412_76, r412_79, r412_82, r412_85, znl_i, znl_r, znl_j, znl_l, List.length_cons, List.length_nil, Option.some.injEq, Sum.inl.injEq, Sum.inr.injEq, Prod.mk.injEq, true_and, and_true, exists_eq_left', zK_sI, zA_sI, zL_sI, zK_sL, zA_sL, zI_sL, zK_fI, zA_fI, zL_fI, zK_fL, zA_fL, zI_fL, Nat.reduceAdd, Nat.reduceLeDiff, forall_eq', zl_lt, zl_gt, zl_eq, zl_le, zl_ge, zm_0, zaft_n, zaft_v, zb_eq, Decidable.not_not, zK_rH, zI_rH, zL_rH, zA_rH, zsI_rH, zsL_rH, zsA_rH, zcpI_rH, zn_b, zm_b, Int.toNat_natCast, Int.toNat_zero, Int.reduceToNat, show yb true = 1 from rfl, GK.K0]
      refine ⟨fun z => absurd z (by decide), fun _ => ?_⟩
      refine zc_mono (g_adds (d := d) GK K hd h3 W1 hp G1 (ytc_b W.S.w h3 G1) (by omega) q2) ?_
      rintro _ _ ⟨rfl, φ2, ψ2, rfl, W2, R2, q3⟩
      simp (disch := omega) only [r412_0, r412_1, r412_4, r412_6, r412_6s, r412_9, r412_10, r412_13, r412_14, r412_17, r412_20, r412_23, r412_24, r412_27, r412_30, r412_31, r412_34, r412_35, r412_38, r412_39, r412_40, r412_43, r412_44, r412_47, r412_48, r412_51, r412_54, r412_57, r412_58, r412_59, r412_62, r412_63, r412_64, r412_67, r412_70, r412_71, r412_72, r412_75, r412_76, r412_79, r412_82, r412_85, znl_i, znl_r, znl_j, znl_l, List.length_cons, List.length_nil, Option.some.injEq, Sum.inl.injEq, Sum.inr.injEq, Prod.mk.injEq, true_and, and_true, exists_eq_left', zK_sI, zA_sI, zL_sI, zK_sL, zA_sL, zI_sL, zK_fI, zA_fI, zL_fI, zK_fL, zA_fL, zI_fL, Nat.reduceAdd, Nat.reduceLeDiff, forall_eq', zl_lt, zl_gt, zl_eq, zl_le, zl_ge, zm_0, zaft_n, zaft_v, zb_eq, Decidable.not_not, zK_rH, zI_rH, zL_rH, zA_rH, zsI_rH, zsL_rH, zsA_rH, zcpI_rH, zn_b, zm_b, Int.toNat_natCast, Int.toNat_zero, Int.reduceToNat, GK.K0]
      refine zc_mono (g_adds (d := d) GK K hd h3 W2 hp G2 (ytc_b W.S.w h3 G2) (by rw [List.length_append]; show L.length + 1 < 48; omega) q3) ?_
      rintro _ _ ⟨rfl, φ3, ψ3, rfl, W3, R3, q4⟩
      simp (disch := omega) only [r412_0, r412_1, r412_4, r412_6, r412_6s, r412_9, r412_10, r412_13, r412_14, r412_17, r412_20, r412_23, r412_24, r412_27, r412_30, r412_31, r412_34, r412_35, r412_38, r412_39, r412_40, r412_43, r412_44, r412_47, r412_48, r412_51, r412_54, r412_57, r412_58, r412_59, r412_62, r412_63, r412_64, r412_67, r412_70, r412_71, r412_72, r412_75, r412_76, r412_79, r412_82, r412_85, znl_i, znl_r, znl_j, znl_l, List.length_cons, List.length_nil, Option.some.injEq, Sum.inl.injEq, Sum.inr.injEq, Prod.mk.injEq, true_and, and_true, exists_eq_left', zK_sI, zA_sI, zL_sI, zK_sL, zA_sL, zI_sL, zK_fI, zA_fI, zL_fI, zK_fL, zA_fL, zI_fL, Nat.reduceAdd, Nat.reduceLeDiff, forall_eq', zl_lt, zl_gt, zl_eq, zl_le, zl_ge, zm_0, zaft_n, zaft_v, zb_eq, Decidable.not_not, zK_rH, zI_rH, zL_rH, zA_rH, zsI_rH, zsL_rH, zsA_rH, zcpI_rH, zn_b, zm_b, Int.toNat_natCast, Int.toNat_zero, Int.reduceToNat, GK.K0]
      refine ⟨φ3, ψ3, rfl, ?_, (R1.trans R2).trans R3⟩
      rw [List.append_assoc] at W3; exact W3
    · rw [if_neg c] at hL ⊢
      rw [decide_eq_false c]
      have hL1 : L.length + 1 ≤ 48 := by simpa using hL
      have G1 : yGo F (ylv p) (yhd F (ylv p)) := ⟨I, yhd_s F _, fun _ => rfl⟩
      have O := W1.tried GK q2 I.lt
      simp (disch := omega) only [r412_0, r412_1, r412_4, r412_6, r412_6s, r412_9, r412_10, r412_13, r412_14, r412_17, r412_20, r412_23, r412_24, r412_27, r412_30, r412_31, r412_34, r412_35, r412_38, r412_39, r412_40, r412_43, r412_44, r412_47, r412_48, r412_51, r412_54, r412_57, r412_58, r412_59, r412_62, r412_63, r412_64, r412_67, r412_70, r412_71, r412_72, r412_75, r412_76, r412_79, r412_82, r412_85, znl_i, znl_r, znl_j, znl_l, List.length_cons, List.length_nil, Option.some.injEq, Sum.inl.injEq, Sum.inr.injEq, Prod.mk.injEq, true_and, and_true, exists_eq_left', zK_sI, zA_sI, zL_sI, zK_sL, zA_sL, zI_sL, zK_fI, zA_fI, zL_fI, zK_fL, zA_fL, zI_fL, Nat.reduceAdd, Nat.reduceLeDiff, forall_eq', zl_lt, zl_gt, zl_eq, zl_le, zl_ge, zm_0, zaft_n, zaft_v, zb_eq, Decidable.not_not, zK_rH, zI_rH, zL_rH, zA_rH, zsI_rH, zsL_rH, zsA_rH, zcpI_rH, zn_b, zm_b, Int.toNat_natCast, Int.toNat_zero, Int.reduceToNat, show yb false = 0 from rfl, GK.K0, GK.K14, GA.A4, GA.A6]
      refine ⟨fun _ => ?_, fun z => absurd trivial z⟩
      refine zc_mono (b_handed (d := d + 1) GK GA K A W1.S h3 W1.B O c) ?_
      rintro _ _ ⟨rfl, ψ2, rfl, q3⟩
      have W2 : gW F x f g cl φ1 ψ2 α p L := W1.of hd (fun _ _ _ _ => rfl) q3 W1.L
      have R2 : gR x f g h φ1 ψ α h φ1 ψ2 α := ⟨⟨0, zX.refl h, by omega⟩, fun _ _ _ => rfl, fun i h1 h2 => q3 i (by omega) (by omega), fun _ _ _ => rfl⟩
      simp (disch := omega) only [r412_0, r412_1, r412_4, r412_6, r412_6s, r412_9, r412_10, r412_13, r412_14, r412_17, r412_20, r412_23, r412_24, r412_27, r412_30, r412_31, r412_34, r412_35, r412_38, r412_39, r412_40, r412_43, r412_44, r412_47, r412_48, r412_51, r412_54, r412_57, r412_58, r412_59, r412_62, r412_63, r412_64, r412_67, r412_70, r412_71, r412_72, r412_75, r412_76, r412_79, r412_82, r412_85, znl_i, znl_r, znl_j, znl_l, List.length_cons, List.length_nil, Option.some.injEq, Sum.inl.injEq, Sum.inr.injEq, Prod.mk.injEq, true_and, and_true, exists_eq_left', zK_sI, zA_sI, zL_sI, zK_sL, zA_sL, zI_sL, zK_fI, zA_fI, zL_fI, zK_fL, zA_fL, zI_fL, Nat.reduceAdd, Nat.reduceLeDiff, forall_eq', zl_lt, zl_gt, zl_eq, zl_le, zl_ge, zm_0, zaft_n, zaft_v, zb_eq, Decidable.not_not, zK_rH, zI_rH, zL_rH, zA_rH, zsI_rH, zsL_rH, zsA_rH, zcpI_rH, zn_b, zm_b, Int.toNat_natCast, Int.toNat_zero, Int.reduceToNat, GK.K0]
      refine zc_mono (g_adds (d := d) GK K hd h3 W2 hp G1 (ytc_b W.S.w h3 G1) (by omega) q2) ?_
      rintro _ _ ⟨rfl, φ3, ψ3, rfl, W3, R3, q4⟩
      simp (disch := omega) only [r412_0, r412_1, r412_4, r412_6, r412_6s, r412_9, r412_10, r412_13, r412_14, r412_17, r412_20, r412_23, r412_24, r412_27, r412_30, r412_31, r412_34, r412_35, r412_38, r412_39, r412_40, r412_43, r412_44, r412_47, r412_48, r412_51, r412_54, r412_57, r412_58, r412_59, r412_62, r412_63, r412_64, r412_67, r412_70, r412_71, r412_72, r412_75, r412_76, r412_79, r412_82, r412_85, znl_i, znl_r, znl_j, znl_l, List.length_cons, List.length_nil, Option.some.injEq, Sum.inl.injEq, Sum.inr.injEq, Prod.mk.injEq, true_and, and_true, exists_eq_left', zK_sI, zA_sI, zL_sI, zK_sL, zA_sL, zI_sL, zK_fI, zA_fI, zL_fI, zK_fL, zA_fL, zI_fL, Nat.reduceAdd, Nat.reduceLeDiff, forall_eq', zl_lt, zl_gt, zl_eq, zl_le, zl_ge, zm_0, zaft_n, zaft_v, zb_eq, Decidable.not_not, zK_rH, zI_rH, zL_rH, zA_rH, zsI_rH, zsL_rH, zsA_rH, zcpI_rH, zn_b, zm_b, Int.toNat_natCast, Int.toNat_zero, Int.reduceToNat, GK.K0]
      exact ⟨φ3, ψ3, rfl, W3, (R1.trans R2).trans R3⟩
  have loop := zdown0 (fun i => ∀ φ1 : Nat → Nat → Int, (∀ i, i ≠ g + 30 → φ1 i = φ i) → (∀ k, k < i → φ1 (g + 30) k = (ylv p k : Int)) → zg e 412 (d + 4) 5 [zr (some (x + g)), zr (gse x g i)] [] (cH h x φ1 ψ α) (fun ov h' => ov = Sum.inl none ∧ ∃ φ' ψ', h' = cH h x φ' ψ' α ∧ gW F x f g cl φ' ψ' α p (L ++ yfs F p) ∧ gR x f g h φ ψ α h φ' ψ' α)) F.1 (fun φ1 q1 q2 => ?_) (fun i hi ih φ1 q1 q2 => ?_)
  · simp (disch := omega) only [n412, r412_0, r412_1, r412_4, r412_6, r412_6s, r412_9, r412_10, r412_13, r412_14, r412_17, r412_20, r412_23, r412_24, r412_27, r412_30, r412_31, r412_34, r412_35, r412_38, r412_39, r412_40, r412_43, r412_44, r412_47, r412_48, r412_51, r412_54, r412_57, r412_58, r412_59, r412_62, r412_63, r412_64, r412_67, r412_70, r412_71, r412_72, r412_75, r412_76, r412_79, r412_82, r412_85, znl_i, znl_r, znl_j, znl_l, List.length_cons, List.length_nil, Option.some.injEq, Sum.inl.injEq, Sum.inr.injEq, Prod.mk.injEq, true_and, and_true, exists_eq_left', zK_sI, zA_sI, zL_sI, zK_sL, zA_sL, zI_sL, zK_fI, zA_fI, zL_fI, zK_fL, zA_fL, zI_fL, Nat.reduceAdd, Nat.reduceLeDiff, forall_eq', zl_lt, zl_gt, zl_eq, zl_le, zl_ge, zm_0, zaft_n, zaft_v, zb_eq, Decidable.not_not, zK_rH, zI_rH, zL_rH, zA_rH, zsI_rH, zsL_rH, zsA_rH, zcpI_rH, zn_b, zm_b, Int.toNat_natCast, Int.toNat_zero, Int.reduceToNat, GK.K0, GA.A3]
    exact loop φ (fun _ _ => rfl) (fun k hk => absurd hk (by omega))
  · by_cases c : F.1 < 12
    · rw [show gse x g F.1 = some (x + (g + 2 + F.1)) from if_pos c, r412_5]
      have a1 : φ1 (g + 2 + F.1) 0 = (F.1 : Int) := by rw [q1 _ (by omega)]; exact W.at' _ c
      have a2 : φ1 f 0 = (F.1 : Int) := by rw [q1 _ (by omega)]; exact W.S.m
      simp (disch := omega) only [r412_0, r412_1, r412_4, r412_6, r412_6s, r412_9, r412_10, r412_13, r412_14, r412_17, r412_20, r412_23, r412_24, r412_27, r412_30, r412_31, r412_34, r412_35, r412_38, r412_39, r412_40, r412_43, r412_44, r412_48, r412_51, r412_54, r412_57, r412_58, r412_59, r412_62, r412_63, r412_64, r412_67, r412_70, r412_71, r412_72, r412_75, r412_76, r412_79, r412_82, r412_85, znl_i, znl_r, znl_j, znl_l, List.length_cons, List.length_nil, Option.some.injEq, Sum.inl.injEq, Sum.inr.injEq, Prod.mk.injEq, true_and, and_true, exists_eq_left', zK_sI, zA_sI, zL_sI, zK_sL, zA_sL, zI_sL, zK_fI, zA_fI, zL_fI, zK_fL, zA_fL, zI_fL, Nat.reduceAdd, Nat.reduceLeDiff, forall_eq', zl_lt, zl_gt, zl_eq, zl_le, zl_ge, zm_0, zaft_n, zaft_v, zb_eq, Decidable.not_not, zK_rH, zI_rH, zL_rH, zA_rH, zsI_rH, zsL_rH, zsA_rH, zcpI_rH, zn_b, zm_b, Int.toNat_natCast, Int.toNat_zero, Int.reduceToNat, GK.K0, GK.K2, K.K0, W.fr, a1, a2]
      exact ⟨fun _ => fin φ1 q1 q2 _, fun z => absurd z (by omega)⟩
    · rw [show gse x g F.1 = none from if_neg c, r412_5]
      simp (disch := omega) only [r412_0, r412_1, r412_4, r412_6, r412_6s, r412_9, r412_10, r412_13, r412_14, r412_17, r412_20, r412_23, r412_24, r412_27, r412_30, r412_31, r412_34, r412_35, r412_38, r412_39, r412_40, r412_43, r412_44, r412_48, r412_51, r412_54, r412_57, r412_58, r412_59, r412_62, r412_63, r412_64, r412_67, r412_70, r412_71, r412_72, r412_75, r412_76, r412_79, r412_82, r412_85, znl_i, znl_r, znl_j, znl_l, List.length_cons, List.length_nil, Option.some.injEq, Sum.inl.injEq, Sum.inr.injEq, Prod.mk.injEq, true_and, and_true, exists_eq_left', zK_sI, zA_sI, zL_sI, zK_sL, zA_sL, zI_sL, zK_fI, zA_fI, zL_fI, zK_fL, zA_fL, zI_fL, Nat.reduceAdd, Nat.reduceLeDiff, forall_eq', zl_lt, zl_gt, zl_eq, zl_le, zl_ge, zm_0, zaft_n, zaft_v, zb_eq, Decidable.not_not, zK_rH, zI_rH, zL_rH, zA_rH, zsI_rH, zsL_rH, zsA_rH, zcpI_rH, zn_b, zm_b, Int.toNat_natCast, Int.toNat_zero, Int.reduceToNat, GK.K0]
      exact fin φ1 q1 q2 _
  · rw [show gse x g i = some (x + (g + 2 + i)) from if_pos (by omega), r412_5]
    have a1 : φ1 (g + 2 + i) 0 = (i : Int) := by rw [q1 _ (by omega)]; exact W.at' i (by omega)
    have a2 : φ1 f 0 = (F.1 : Int) := by rw [q1 _ (by omega)]; exact W.S.m
    have a3 : φ1 (g + 2 + i) 2 = (ylv p i : Int) := by rw [q1 _ (by omega)]; exact W.tk i (by omega)
    have pb := I.lt i hi
    have nx := GA.nx (i := i) (by omega)
    simp (disch := omega) only [r412_0, r412_1, r412_4, r412_6, r412_6s, r412_9, r412_10, r412_13, r412_14, r412_17, r412_20, r412_23, r412_24, r412_27, r412_30, r412_31, r412_34, r412_35, r412_38, r412_39, r412_40, r412_43, r412_44, r412_48, r412_51, r412_54, r412_57, r412_58, r412_59, r412_62, r412_63, r412_64, r412_67, r412_70, r412_71, r412_72, r412_75, r412_76, r412_79, r412_82, r412_85, znl_i, znl_r, znl_j, znl_l, List.length_cons, List.length_nil, Option.some.injEq, Sum.inl.injEq, Sum.inr.injEq, Prod.mk.injEq, true_and, and_true, exists_eq_left', zK_sI, zA_sI, zL_sI, zK_sL, zA_sL, zI_sL, zK_fI, zA_fI, zL_fI, zK_fL, zA_fL, zI_fL, Nat.reduceAdd, Nat.reduceLeDiff, forall_eq', zl_lt, zl_gt, zl_eq, zl_le, zl_ge, zm_0, zaft_n, zaft_v, zb_eq, Decidable.not_not, zK_rH, zI_rH, zL_rH, zA_rH, zsI_rH, zsL_rH, zsA_rH, zcpI_rH, zn_b, zm_b, Int.toNat_natCast, Int.toNat_zero, Int.reduceToNat, GK.K0, GK.K2, GK.K29, GK.K30, K.K0, W.fr, GA.A6, GA.T, a1, a2, a3, nx]
    refine ⟨fun z => absurd z (by omega), fun _ => ?_⟩
    repeat (refine And.intro (by omega) ?_)
    refine ih _ (fun j hj => ?_) (fun k hk => ?_)
    · rw [zu_cell _ _ _ hj]; exact q1 j hj
    · by_cases c2 : k = i
      · subst c2; rw [zu_same]
      · rw [zu_slot _ _ _ c2]; exact q2 k (by omega)
end
