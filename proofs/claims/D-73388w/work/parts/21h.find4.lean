/-- what of a group never changes: seats' atoms, the tried map's hand -/
structure gI (g : Nat) (φ : Nat → Nat → Int) : Prop where
  s : ∀ i, i < 12 → φ (g + 2 + i) 0 = (i : Int)
  t : -1 ≤ φ (g + 29) 2 ∧ φ (g + 29) 2 ≤ 1
/-- a group's maps are those of T -/
structure gT (T : yT) (g : Nat) (φ : Nat → Nat → Int) : Prop where
  m : φ g 2 = (Tm T : Int)
  n : ∀ i, i < Tm T → φ (g + 89 + 2 * i) 1 = (Tn T : Int)
  hg : ∀ i, i < Tm T → φ (g + 89 + 2 * i) 2 = Tg T i
  t : ∀ i, i < Tm T → φ (g + 89 + 2 * i) 3 = Tt T i
  r : ∀ i, i < Tm T → ∀ k, k < Tn T → φ (g + 90 + 2 * i) k = (TR T i k : Int)
/-- what the search leaves -/
structure gF (F : yF) (x f g : Nat) (h : zH) (φ ψ : Nat → Nat → Int) (α : Nat → Nat → Option Nat) (h1 : zH) (φ' ψ' : Nat → Nat → Int) (α' : Nat → Nat → Option Nat) : Prop where
  c : ∃ c, zX c (8 * c) h h1 ∧ c ≤ 12
  i : ∀ i, (i < f + 8 ∨ f + 26 ≤ i) → (i < g ∨ g + 185 ≤ i) → φ' i = φ i
  l : ∀ i, (i < f + 20 ∨ f + 24 ≤ i) → (i < g ∨ g + 185 ≤ i) → ψ' i = ψ i
  a : ∀ i, i ≠ f + 6 → (i < g ∨ g + 185 ≤ i) → α' i = α i
  S : fS F f φ'
  V : fV F x f φ' α'
  A : fA x f α'
  GA : gA x g α'
  I : gI g φ'
  fr : α' g 0 = some (x + f)
  B : bL F x f g φ' ψ' α'
  T : gT (yTF F) g φ'
section
variable {e : zEv} {d x f o r n g b : Nat} {h h1 h2 : zH} {φ φ' φ'' ψ ψ' ψ'' : Nat → Nat → Int} {α α' α'' : Nat → Nat → Option Nat} {F : yF} {π ρ : Nat → Nat} {sg sh : Int} {T : yT} {cl : Nat → Nat} {p : List Nat} {L : List (List Nat × Int)}
theorem gL.tab (hW : yW F) (h3 : y3 F ≠ -1) (W : gL F g φ (ycps F)) : gT (yTF F) g φ := by
  have ord := ycps_ord hW h3
  have len : (ycps F).length = Tm (yTF F) := by
    show _ = (yord F).length
    rw [← ord, List.length_map]
  have go : ∀ i, i < Tm (yTF F) → ∃ q, (ycps F)[i]? = some q ∧ yAt F i (ylv q.1) q.2 := fun i hi => by
    have hi' : i < (ycps F).length := by rw [len]; exact hi
    refine ⟨(ycps F)[i], List.getElem?_eq_getElem hi', hi, ?_, ?_⟩
    · have m : (ycps F)[i] ∈ ycps F := List.getElem_mem hi'
      obtain ⟨l, hl, hq⟩ := List.mem_flatMap.mp m
      have hl := (yrws_mem hW).mp hl
      split at hq
      · rename_i c
        rcases List.mem_cons.mp hq with z | z
        · rw [z]; exact ⟨hl.2, Or.inl rfl, fun n => absurd c n⟩
        · have z := List.mem_singleton.mp z
          rw [z]; exact ⟨hl.2, Or.inr rfl, fun n => absurd c n⟩
      · have z := List.mem_singleton.mp hq
        rw [z]; exact ⟨hl.2, yhd_s F _, fun _ => rfl⟩
    · unfold ylg
      rw [← ord, List.getElem?_map, List.getElem?_eq_getElem hi']; rfl
  refine ⟨by rw [W.m, len], fun i hi => ?_, fun i hi => ?_, fun i hi => ?_, fun i hi k hk => ?_⟩
  · obtain ⟨q, hq, _⟩ := go i hi
    exact (W.q i q hq).1
  · obtain ⟨q, hq, a⟩ := go i hi
    rw [(W.q i q hq).2.1, a.g]
  · obtain ⟨q, hq, a⟩ := go i hi
    rw [(W.q i q hq).2.2.1]; exact (ytc_tr a).symm
  · obtain ⟨q, hq, a⟩ := go i hi
    rw [(W.q i q hq).2.2.2 k hk, a.R hW h3 hk]
theorem g_finds (GK : gK e h x g) (GA : gA x g α) (GI : gI g φ) (K : fK e h x f) (A : fA x f α) (S : fS F f φ) (V : fV F x f φ α) (hd : f + 26 ≤ g ∨ g + 185 ≤ f) (h3 : y3 F ≠ -1) : zc e (d + 19) 410 [zr (some (x + g)), zr (some (x + f))] (cH h x φ ψ α)
    (fun ov h' => ov = Sum.inl none ∧ ∃ h1 φ' ψ' α', h' = cH h1 x φ' ψ' α' ∧ gF F x f g h φ ψ α h1 φ' ψ' α') := by
  have gn := GK.n
  have kn := K.n
  have kb := K.b
  have hm := S.w.1
  have hp : yplaced F := S.w.2.2.1
  have b3 := yQ3_bd h3
  have GA1 : gA x g (zu α g 0 (some (x + f))) := GA.of fun i j h1 h2 n => by
    unfold gch at n
    by_cases c : i = g
    · subst c; exact zu_slot _ _ _ (by omega)
    · rw [zu_cell _ _ _ c]
  have A1 : fA x f (zu α g 0 (some (x + f))) := A.of2 fun i h1 h2 => zu_cell _ _ _ (by omega)
  have fr1 : zu α g 0 (some (x + f)) g 0 = some (x + f) := zu_same _ _ _ _
  have S1 : fS F f (zu φ g 2 0) := S.of fun i h1 h2 => zu_cell _ _ _ (by omega)
  have V1 : fV F x f (zu φ g 2 0) (zu α g 0 (some (x + f))) := fun k hk => by
    rw [zu_cell _ _ _ (by omega)]
    rcases V k hk with v | ⟨v1, v2, v3⟩
    · exact Or.inl v
    · exact Or.inr ⟨v1, v2, fun j hj => by rw [zu_cell _ _ _ (by omega)]; exact v3 j hj⟩
  have nl1 : fnl f (zu α g 0 (some (x + f))) = fnl f α := by unfold fnl; rw [zu_cell _ _ _ (by omega)]
  have m1 : zu φ g 2 0 g 2 = 0 := zu_same _ _ _ _
  have oth1 : ∀ i, i ≠ g → zu φ g 2 0 i = φ i := fun i hi => zu_cell _ _ _ hi
  have ota1 : ∀ i, i ≠ g → zu α g 0 (some (x + f)) i = α i := fun i hi => zu_cell _ _ _ hi
  simp (disch := omega) only [n410, r410_0, r410_1, r410_2, r410_5, r410_6, r410_7, r410_10, r410_11, r410_14, r410_18, r410_19, r410_22, r410_23, r410_24, r410_27, r410_28, r410_31, r410_34, r410_35, r410_37, r410_39, r410_42, r410_43, r410_46, r410_47, r410_48, r410_49, r410_52, r410_55, r410_56, r410_57, r410_60, r410_63, znl_i, znl_r, znl_j, znl_l, List.length_cons, List.length_nil, Option.some.injEq, Sum.inl.injEq, Sum.inr.injEq, Prod.mk.injEq, true_and, and_true, exists_eq_left', zK_sI, zA_sI, zL_sI, zK_sL, zA_sL, zI_sL, zK_fI, zA_fI, zL_fI, zK_fL, zA_fL, zI_fL, Nat.reduceAdd, Nat.reduceLeDiff, forall_eq', zl_lt, zl_gt, zl_eq, zl_le, zl_ge, zm_0, zaft_n, zaft_v, zb_eq, Decidable.not_not, zK_rH, zI_rH, zL_rH, zA_rH, zsI_rH, zsL_rH, zsA_rH, zcpI_rH, zn_b, zm_b, Int.toNat_natCast, Int.toNat_zero, Int.reduceToNat, GK.K0, GK.K14, GA1.A4]
  refine ⟨by omega, by omega, ?_⟩
  show zg e 410 (d + 18) 15 _ _ (rH 1134 h x (zu φ g 2 0) ψ (zu α g 0 (some (x + f)))) _
  generalize zu φ g 2 0 = φ1 at *
  generalize zu α g 0 (some (x + f)) = α1 at *
  simp (disch := omega) only [r410_0, r410_1, r410_2, r410_5, r410_6, r410_7, r410_10, r410_11, r410_14, r410_15, r410_18, r410_19, r410_22, r410_23, r410_24, r410_27, r410_28, r410_31, r410_34, r410_35, r410_37, r410_39, r410_42, r410_43, r410_46, r410_47, r410_48, r410_49, r410_52, r410_55, r410_56, r410_57, r410_60, r410_63, znl_i, znl_r, znl_j, znl_l, List.length_cons, List.length_nil, Option.some.injEq, Sum.inl.injEq, Sum.inr.injEq, Prod.mk.injEq, true_and, and_true, exists_eq_left', zK_sI, zA_sI, zL_sI, zK_sL, zA_sL, zI_sL, zK_fI, zA_fI, zL_fI, zK_fL, zA_fL, zI_fL, Nat.reduceAdd, Nat.reduceLeDiff, forall_eq', zl_lt, zl_gt, zl_eq, zl_le, zl_ge, zm_0, zaft_n, zaft_v, zb_eq, Decidable.not_not, zK_rH, zI_rH, zL_rH, zA_rH, zsI_rH, zsL_rH, zsA_rH, zcpI_rH, zn_b, zm_b, Int.toNat_natCast, Int.toNat_zero, Int.reduceToNat, GK.K14]
  refine zc_mono (b_lays (d := d + 15) GK GA1 K A1 S1 h3 hd) ?_
  rintro _ _ ⟨rfl, ψ2, rfl, B2, ql⟩
  have GA2 : gA x g (zu α1 (g + 14) 0 (some (x + f))) := GA1.of fun i j h1 h2 n => by
    unfold gch at n
    by_cases c : i = g + 14
    · subst c; exact zu_slot _ _ _ (by omega)
    · rw [zu_cell _ _ _ c]
  have A2 : fA x f (zu α1 (g + 14) 0 (some (x + f))) := A1.of2 fun i h1 h2 => zu_cell _ _ _ (by omega)
  have q2 : ∀ i, i ≠ g + 14 → zu (zu φ1 (g + 14) 1 (yQ3 F : Int)) (g + 14) 2 (yQ4 F) i = φ1 i := fun i hi => by rw [zu_cell _ _ _ hi, zu_cell _ _ _ hi]
  have a2 : ∀ i, i ≠ g + 14 → zu α1 (g + 14) 0 (some (x + f)) i = α1 i := fun i hi => zu_cell _ _ _ hi
  generalize zu (zu φ1 (g + 14) 1 (yQ3 F : Int)) (g + 14) 2 (yQ4 F) = φ2 at *
  generalize zu α1 (g + 14) 0 (some (x + f)) = α2 at *
  have S2 : fS F f φ2 := S1.of fun i h1 h2 => q2 i (by omega)
  have V2 : fV F x f φ2 α2 := fun k hk => by
    rw [a2 _ (by omega)]
    rcases V1 k hk with v | ⟨v1, v2, v3⟩
    · exact Or.inl v
    · exact Or.inr ⟨v1, v2, fun j hj => by rw [q2 _ (by omega)]; exact v3 j hj⟩
  have nl2 : fnl f α2 = fnl f α := by rw [← nl1]; unfold fnl; rw [a2 _ (by omega)]
  simp (disch := omega) only [r410_0, r410_1, r410_2, r410_5, r410_6, r410_7, r410_10, r410_11, r410_14, r410_15, r410_18, r410_19, r410_22, r410_23, r410_24, r410_27, r410_28, r410_31, r410_34, r410_35, r410_37, r410_39, r410_42, r410_43, r410_46, r410_47, r410_48, r410_49, r410_52, r410_55, r410_56, r410_57, r410_60, r410_63, znl_i, znl_r, znl_j, znl_l, List.length_cons, List.length_nil, Option.some.injEq, Sum.inl.injEq, Sum.inr.injEq, Prod.mk.injEq, true_and, and_true, exists_eq_left', zK_sI, zA_sI, zL_sI, zK_sL, zA_sL, zI_sL, zK_fI, zA_fI, zL_fI, zK_fL, zA_fL, zI_fL, Nat.reduceAdd, Nat.reduceLeDiff, forall_eq', zl_lt, zl_gt, zl_eq, zl_le, zl_ge, zm_0, zaft_n, zaft_v, zb_eq, Decidable.not_not, zK_rH, zI_rH, zL_rH, zA_rH, zsI_rH, zsL_rH, zsA_rH, zcpI_rH, zn_b, zm_b, Int.toNat_natCast, Int.toNat_zero, Int.reduceToNat, K.K0]
  refine zc_mono (f_laysCells (d := d + 13) K A2 S2 V2) ?_
  rintro _ _ ⟨rfl, h3', φ3, α3, rfl, C3, cl3⟩
  have GK3 : gK e h3' x g := GK.X C3.c.choose_spec.1
  have K3 := C3.K K
  have A3 := C3.A A2
  have S3 := C3.S S2
  have GA3 : gA x g α3 := GA2.of fun i j h1 h2 _ => by rw [C3.a i (by omega)]
  simp (disch := omega) only [r410_0, r410_1, r410_2, r410_5, r410_6, r410_7, r410_10, r410_11, r410_14, r410_15, r410_18, r410_19, r410_22, r410_23, r410_24, r410_27, r410_28, r410_31, r410_34, r410_35, r410_37, r410_39, r410_42, r410_43, r410_46, r410_47, r410_48, r410_49, r410_52, r410_55, r410_56, r410_57, r410_60, r410_63, znl_i, znl_r, znl_j, znl_l, List.length_cons, List.length_nil, Option.some.injEq, Sum.inl.injEq, Sum.inr.injEq, Prod.mk.injEq, true_and, and_true, exists_eq_left', zK_sI, zA_sI, zL_sI, zK_sL, zA_sL, zI_sL, zK_fI, zA_fI, zL_fI, zK_fL, zA_fL, zI_fL, Nat.reduceAdd, Nat.reduceLeDiff, forall_eq', zl_lt, zl_gt, zl_eq, zl_le, zl_ge, zm_0, zaft_n, zaft_v, zb_eq, Decidable.not_not, zK_rH, zI_rH, zL_rH, zA_rH, zsI_rH, zsL_rH, zsA_rH, zcpI_rH, zn_b, zm_b, Int.toNat_natCast, Int.toNat_zero, Int.reduceToNat, GK3.K0, GK3.K29, K3.K0, GA3.A6, S3.m]
  refine ⟨by omega, ?_⟩
  have clr := zdown0 (fun k => ∀ φ4 : Nat → Nat → Int, (∀ i, i ≠ g + 28 → i ≠ g + 29 → φ4 i = φ3 i) → φ4 (g + 29) 1 = (F.1 : Int) → φ4 (g + 29) 2 = φ3 (g + 29) 2 → (∀ j, j < k → φ4 (g + 28) j = 0) → zg e 410 (d + 18) 36 [zr (some (x + g)), zr (some (x + f)), zi (k : Int)] [] (cH h3' x φ4 ψ2 α3) (fun ov h' => ov = Sum.inl none ∧ ∃ h1 φ' ψ' α', h' = cH h1 x φ' ψ' α' ∧ gF F x f g h φ ψ α h1 φ' ψ' α')) 12 (fun φ4 r1 r2 r3 r4 => ?_) (fun k hk ih φ4 r1 r2 r3 r4 => ?_)
  · refine clr _ (fun i h1 h2 => zu_cell _ _ _ h2) (zu_same _ _ _ _) (zu_slot _ _ _ (by omega)) (fun j hj => absurd hj (by omega))
  · have cl4 : ∀ k, k < F.1 → φ4 (f + 24) k = (ycln F k : Int) := fun k hk => by rw [r1 _ (by omega) (by omega), cl3 k hk, (ycln_bd hp hk).1]
    have W : gW F x f g (ycln F) φ4 ψ2 α3 [] [] := by
      refine ⟨Nat.zero_le _, S3.of fun i h1 h2 => r1 i (by omega) (by omega), fun k hk => ?_, A3, GA3, ?_, ⟨?_, ?_, ?_, B2.a, B2.w⟩, cl4, r2, ?_, fun i hi => ?_, fun i hi => absurd hi (Nat.not_lt_zero _), fun k hk => by rw [r4 k hk]; rfl, ⟨?_, fun i q hq => by simp at hq⟩⟩
      · rcases C3.v k hk with v | ⟨v1, v2, v3⟩
        · exact Or.inl v
        · exact Or.inr ⟨v1, v2, fun j hj => by rw [r1 _ (by omega) (by omega)]; exact v3 j hj⟩
      · rw [C3.a _ (by omega), a2 _ (by omega)]; exact fr1
      · rw [C3.a _ (by omega)]; exact B2.fr
      · rw [r1 _ (by omega) (by omega), C3.i _ (by omega) (by omega) (by omega)]; exact B2.t
      · rw [r1 _ (by omega) (by omega), C3.i _ (by omega) (by omega) (by omega)]; exact B2.q
      · rw [r3, C3.i _ (by omega) (by omega) (by omega), q2 _ (by omega), oth1 _ (by omega)]; exact GI.t
      · rw [r1 _ (by omega) (by omega), C3.i _ (by omega) (by omega) (by omega), q2 _ (by omega), oth1 _ (by omega)]; exact GI.s i hi
      · rw [r1 _ (by omega) (by omega), C3.i _ (by omega) (by omega) (by omega), q2 _ (by omega), m1]; rfl
    have hI : ∀ p, p.length = F.1 → yPt F (ycln F) p → yIs F (ylv p) := fun p hl hq => ((yrws_mem S.w).mp ((yss_mem F.1 [] p yPt.nil).mpr ⟨by simp [hl], by simp, hq⟩)).2
    have ey : (yss F (ycln F) F.1 []).flatMap (yfs F) = ycps F := rfl
    have len : (ycps F).length ≤ 48 := by
      have := congrArg List.length (ycps_ord S.w h3)
      rw [List.length_map, (yord_perm F).length_eq] at this
      rw [this]; exact yops_48 S.w
    have call := g_seats (e := e) (d := d + 12 - F.1) (x := x) hd h3 hI (fun k hk => by have := (ycln_bd hp hk).2; omega) F.1 [] [] h3' φ4 ψ2 α3 (by simp) yPt.nil GK3 K3 W (by rw [ey, List.nil_append]; exact len)
    rw [show d + 12 - F.1 + 6 + F.1 = d + 18 by omega, ey, List.nil_append] at call
    rw [r410_36]
    simp (disch := omega) only [r410_0, r410_1, r410_2, r410_5, r410_6, r410_7, r410_10, r410_11, r410_14, r410_15, r410_18, r410_19, r410_22, r410_23, r410_24, r410_27, r410_28, r410_31, r410_34, r410_35, r410_37, r410_39, r410_42, r410_43, r410_46, r410_47, r410_48, r410_49, r410_52, r410_55, r410_56, r410_57, r410_60, r410_63, znl_i, znl_r, znl_j, znl_l, List.length_cons, List.length_nil, Option.some.injEq, Sum.inl.injEq, Sum.inr.injEq, Prod.mk.injEq, true_and, and_true, exists_eq_left', zK_sI, zA_sI, zL_sI, zK_sL, zA_sL, zI_sL, zK_fI, zA_fI, zL_fI, zK_fL, zA_fL, zI_fL, Nat.reduceAdd, Nat.reduceLeDiff, forall_eq', zl_lt, zl_gt, zl_eq, zl_le, zl_ge, zm_0, zaft_n, zaft_v, zb_eq, Decidable.not_not, zK_rH, zI_rH, zL_rH, zA_rH, zsI_rH, zsL_rH, zsA_rH, zcpI_rH, zn_b, zm_b, Int.toNat_natCast, Int.toNat_zero, Int.reduceToNat, GK3.K0, GA3.A3]
    refine ⟨fun _ => ?_, fun z => absurd z (by omega)⟩
    refine zc_mono call ?_
    rintro _ _ ⟨rfl, h4, φ5, ψ5, α5, rfl, W5, R5⟩
    simp (disch := omega) only [r410_0, r410_1, r410_2, r410_5, r410_6, r410_7, r410_10, r410_11, r410_14, r410_15, r410_18, r410_19, r410_22, r410_23, r410_24, r410_27, r410_28, r410_31, r410_34, r410_35, r410_37, r410_39, r410_42, r410_43, r410_46, r410_47, r410_48, r410_49, r410_52, r410_55, r410_56, r410_57, r410_60, r410_63, znl_i, znl_r, znl_j, znl_l, List.length_cons, List.length_nil, Option.some.injEq, Sum.inl.injEq, Sum.inr.injEq, Prod.mk.injEq, true_and, and_true, exists_eq_left', zK_sI, zA_sI, zL_sI, zK_sL, zA_sL, zI_sL, zK_fI, zA_fI, zL_fI, zK_fL, zA_fL, zI_fL, Nat.reduceAdd, Nat.reduceLeDiff, forall_eq', zl_lt, zl_gt, zl_eq, zl_le, zl_ge, zm_0, zaft_n, zaft_v, zb_eq, Decidable.not_not, zK_rH, zI_rH, zL_rH, zA_rH, zsI_rH, zsL_rH, zsA_rH, zcpI_rH, zn_b, zm_b, Int.toNat_natCast, Int.toNat_zero, Int.reduceToNat, GK3.K0]
    refine ⟨h4, φ5, ψ5, α5, rfl, ⟨?_, fun i i1 i2 => ?_, fun i i1 i2 => ?_, fun i i1 i2 => ?_, W5.S, W5.V, W5.A, W5.GA, ⟨W5.at', W5.th⟩, W5.fr, W5.B, W5.L.tab S.w h3⟩⟩
    · obtain ⟨c, X, k⟩ := C3.c
      obtain ⟨c', X', k'⟩ := R5.c
      have := fnl_12 f α
      exact ⟨c + c', (X.trans X').mono (by omega) (by omega), by omega⟩
    · rw [R5.i i (by omega) i2, r1 _ (by omega) (by omega), C3.i i (by omega) (by omega) (by omega), q2 _ (by omega), oth1 _ (by omega)]
    · rw [R5.l i i1 i2, ql i i1 (by omega)]
    · rw [R5.a i i1 i2, C3.a i i1, a2 _ (by omega), ota1 _ (by omega)]
  · rw [r410_36]
    simp (disch := omega) only [r410_0, r410_1, r410_2, r410_5, r410_6, r410_7, r410_10, r410_11, r410_14, r410_15, r410_18, r410_19, r410_22, r410_23, r410_24, r410_27, r410_28, r410_31, r410_34, r410_35, r410_37, r410_39, r410_42, r410_43, r410_46, r410_47, r410_48, r410_49, r410_52, r410_55, r410_56, r410_57, r410_60, r410_63, znl_i, znl_r, znl_j, znl_l, List.length_cons, List.length_nil, Option.some.injEq, Sum.inl.injEq, Sum.inr.injEq, Prod.mk.injEq, true_and, and_true, exists_eq_left', zK_sI, zA_sI, zL_sI, zK_sL, zA_sL, zI_sL, zK_fI, zA_fI, zL_fI, zK_fL, zA_fL, zI_fL, Nat.reduceAdd, Nat.reduceLeDiff, forall_eq', zl_lt, zl_gt, zl_eq, zl_le, zl_ge, zm_0, zaft_n, zaft_v, zb_eq, Decidable.not_not, zK_rH, zI_rH, zL_rH, zA_rH, zsI_rH, zsL_rH, zsA_rH, zcpI_rH, zn_b, zm_b, Int.toNat_natCast, Int.toNat_zero, Int.reduceToNat, GK3.K0, GK3.K28, GA3.A5, show zi2z 0 = 0 from by decide]
    refine ⟨fun z => absurd z (by omega), fun _ => ?_⟩
    repeat (refine And.intro (by omega) ?_)
    refine ih _ (fun i h1 h2 => ?_) ?_ ?_ (fun j hj => ?_)
    · rw [zu_cell _ _ _ h1]; exact r1 i h1 h2
    · rw [zu_cell _ _ _ (by omega)]; exact r2
    · rw [zu_cell _ _ _ (by omega)]; exact r3
    · by_cases c : j = k
      · subst c; rw [zu_same]
      · rw [zu_slot _ _ _ c]; exact r4 j (by omega)
end
