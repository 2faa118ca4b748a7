/-! ===== the component's laws: layout; a layer lies at l ===== -/
structure lyK (e : zEv) (h : zH) (x l : Nat) : Prop where
  b : e.1 ≤ x
  n : l + 40 ≤ 1134
  s : x + 1134 ≤ zsz h
  K0 : zK h (x + l) = some (Sum.inl 9)
  K1 : zK h (x + (l + 1)) = some (Sum.inr (.array .int, 12))
  K2 : ∀ r, r < 12 → zK h (x + (l + 2 + r)) = some (Sum.inr (.int, 12))
  K14 : zK h (x + (l + 14)) = some (Sum.inr (.array .int, 12))
  K15 : ∀ r, r < 12 → zK h (x + (l + 15 + r)) = some (Sum.inr (.int, 12))
  K27 : zK h (x + (l + 27)) = some (Sum.inr (.array .int, 12))
  K28 : ∀ r, r < 12 → zK h (x + (l + 28 + r)) = some (Sum.inr (.int, 12))
/-- rows that are changed about -/
def yPm (σ : Nat → Nat) : Prop := (∀ r, r < 12 → σ r < 12) ∧ ∀ r s, r < 12 → s < 12 → σ r = σ s → r = s
structure lyA (x l : Nat) (α : Nat → Nat → Option Nat) (σ τ : Nat → Nat) : Prop where
  A0 : α l 0 = some (x + (l + 1))
  A1 : α l 1 = some (x + (l + 14))
  A2 : α l 2 = some (x + (l + 27))
  R1 : ∀ r, r < 12 → α (l + 1) r = some (x + (l + 2 + r))
  R14 : ∀ r, r < 12 → α (l + 14) r = some (x + (l + 15 + σ r))
  R27 : ∀ r, r < 12 → α (l + 27) r = some (x + (l + 28 + τ r))
  P : yPm σ
  Q : yPm τ
/-- the group that the laws ask: K classes -/
structure lgK (e : zEv) (h : zH) (x w g K : Nat) (φ : Nat → Nat → Int) (α : Nat → Nat → Option Nat) : Prop where
  b : e.1 ≤ x
  w0 : zK h (x + w) = some (Sum.inl 8)
  wl : w < 1134
  gl : g + 185 ≤ 1134
  g0 : zK h (x + g) = some (Sum.inl 3)
  a : α w 0 = some (x + g)
  k : φ g 14 = (K : Int)
  K12 : K ≤ 12
section
variable {e : zEv} {d x l w g K : Nat} {h h1 h2 : zH} {φ φ' φ'' ψ ψ' ψ'' : Nat → Nat → Int} {α α' α'' : Nat → Nat → Option Nat} {T : yT} {σ τ : Nat → Nat}
theorem yPm.swap {σ : Nat → Nat} (P : yPm σ) {a b : Nat} (ha : a < 12) (hb : b < 12) : yPm (fun r => σ (yswp a b r)) := by
  have inv : ∀ r, yswp a b (yswp a b r) = r := fun r => by unfold yswp; grind
  have lt : ∀ r, r < 12 → yswp a b r < 12 := fun r hr => by unfold yswp; grind
  exact ⟨fun r hr => P.1 _ (lt r hr), fun r s hr hs e => by
    have := P.2 _ _ (lt r hr) (lt s hs) e
    rw [← inv r, this, inv]⟩
theorem l_changesAbout {q s0 : Nat} (eb : e.1 ≤ x) (ks : x + 1134 ≤ zsz h) (hq : q < 1134) (Kq : zK h (x + q) = some (Sum.inr (.array .int, 12))) (P : yPm σ) (s0l : s0 + 12 ≤ 1134) (Kr : ∀ r, r < 12 → zK h (x + (s0 + r)) = some (Sum.inr (.int, 12))) (R : ∀ r, r < 12 → α q r = some (x + (s0 + σ r))) {a b : Nat} (ha : a < 12) (hb : b < 12) : zc e (d + 1) 463 [zr (some (x + q)), zi (a : Int), zi (b : Int)] (cH h x φ ψ α)
    (fun ov h' => ov = Sum.inl none ∧ ∃ α', h' = cH h x φ ψ α' ∧ (∀ i, i ≠ q → α' i = α i) ∧ ∀ r, r < 12 → α' q r = some (x + (s0 + σ (yswp a b r)))) := by
  have pa := P.1 a ha
  have pb := P.1 b hb
  have ra := R a ha
  have rb := R b hb
  simp (disch := omega) only [n463, r463_0, r463_1, r463_2, r463_3, r463_4, r463_5, r463_6, r463_7, r463_8, r463_9, r463_10, r463_11, r463_12, r463_13, r463_14, znl_i, znl_r, znl_j, znl_l, List.length_cons, List.length_nil, Option.some.injEq, Sum.inl.injEq, Sum.inr.injEq, Prod.mk.injEq, true_and, and_true, exists_eq_left', zK_sI, zA_sI, zL_sI, zK_sL, zA_sL, zI_sL, zK_fI, zA_fI, zL_fI, zK_fL, zA_fL, zI_fL, Nat.reduceAdd, Nat.reduceLeDiff, forall_eq', zl_lt, zl_gt, zl_eq, zl_le, zl_ge, zm_0, zaft_n, zaft_v, zb_eq, Decidable.not_not, zK_rH, zI_rH, zL_rH, zA_rH, zsI_rH, zsL_rH, zsA_rH, zcpI_rH, zn_b, zm_b, Int.toNat_natCast, Int.toNat_zero, Int.reduceToNat, Kq, ra, rb]
  refine ⟨by omega, by omega, by omega, by omega, ⟨by omega, by omega, by omega⟩, ⟨by omega, _, Kr _ pb, rfl⟩, ⟨by omega, by omega, by omega⟩, ⟨by omega, _, Kr _ pa, rfl⟩, _, rfl, fun i hi => ?_, fun r hr => ?_⟩
  · rw [zu_cell _ _ _ hi, zu_cell _ _ _ hi]
  · unfold yswp
    by_cases c2 : r = b
    · subst c2
      rw [zu_same]
      by_cases c1 : r = a
      · subst c1; rw [if_pos rfl]
      · rw [if_neg c1, if_pos rfl]
    · rw [zu_slot _ _ _ c2]
      by_cases c1 : r = a
      · subst c1; rw [zu_same, if_pos rfl]
      · rw [zu_slot _ _ _ c1, if_neg c1, if_neg c2]; exact R r hr
theorem l_takes (LK : lyK e h x l) (LA : lyA x l α σ τ) (LG : lgK e h x w g K φ α) (hgl : g + 185 ≤ l) {r o : Nat} (hr : r < 12) (ho : o < 12) (hro : r ≠ o) {t : Nat} (ht : t < 97)
    (i1 : ∀ c, c < K → 0 ≤ φ (l + 15 + σ r) c ∧ φ (l + 15 + σ r) c < 97) (i2 : ∀ c, c < K → 0 ≤ φ (l + 15 + σ o) c ∧ φ (l + 15 + σ o) c < 97) (w1 : ∀ c, c < K → 0 ≤ φ (l + 28 + τ r) c ∧ φ (l + 28 + τ r) c < 97) (w2 : ∀ c, c < K → 0 ≤ φ (l + 28 + τ o) c ∧ φ (l + 28 + τ o) c < 97) :
    zc e (d + 3) 464 [zr (some (x + w)), zr (some (x + l)), zi (r : Int), zi (o : Int), zi (t : Int)] (cH h x φ ψ α)
    (fun ov h' => ov = Sum.inl none ∧ ∃ φ', h' = cH h x φ' ψ α ∧ (∀ i, i ≠ l + 15 + σ r → i ≠ l + 28 + τ r → φ' i = φ i) ∧ ∀ c, c < K → φ' (l + 15 + σ r) c = (φ (l + 15 + σ r) c - (t : Int) * φ (l + 15 + σ o) c) % 97 ∧ φ' (l + 28 + τ r) c = (φ (l + 28 + τ r) c - (t : Int) * φ (l + 28 + τ o) c) % 97) := by
  have ln := LK.n
  have eb := LK.b
  have gl := LG.gl
  have wl := LG.wl
  have k12 := LG.K12
  have sr := LA.P.1 r hr
  have so := LA.P.1 o ho
  have tr := LA.Q.1 r hr
  have to := LA.Q.1 o ho
  have sne : σ r ≠ σ o := fun z => hro (LA.P.2 r o hr ho z)
  have tne : τ r ≠ τ o := fun z => hro (LA.Q.2 r o hr ho z)
  have R1 := LA.R14 r hr
  have R2 := LA.R14 o ho
  have R3 := LA.R27 r hr
  have R4 := LA.R27 o ho
  have Kr1 := LK.K15 _ sr
  have Ko1 := LK.K15 _ so
  have Kr2 := LK.K28 _ tr
  have Ko2 := LK.K28 _ to
  have loop := zdown0 (fun c => ∀ φ1 : Nat → Nat → Int, (∀ i, i ≠ l + 15 + σ r → i ≠ l + 28 + τ r → φ1 i = φ i) → (∀ c', c' < K → φ1 (l + 15 + σ r) c' = (if c' < c then (φ (l + 15 + σ r) c' - (t : Int) * φ (l + 15 + σ o) c') % 97 else φ (l + 15 + σ r) c') ∧ φ1 (l + 28 + τ r) c' = (if c' < c then (φ (l + 28 + τ r) c' - (t : Int) * φ (l + 28 + τ o) c') % 97 else φ (l + 28 + τ r) c')) → zg e 464 (d + 2) 3 [zr (some (x + w)), zr (some (x + l)), zi (r : Int), zi (o : Int), zi (t : Int), zi (c : Int)] [] (cH h x φ1 ψ α) (fun ov h' => ov = Sum.inl none ∧ ∃ φ', h' = cH h x φ' ψ α ∧ (∀ i, i ≠ l + 15 + σ r → i ≠ l + 28 + τ r → φ' i = φ i) ∧ ∀ c, c < K → φ' (l + 15 + σ r) c = (φ (l + 15 + σ r) c - (t : Int) * φ (l + 15 + σ o) c) % 97 ∧ φ' (l + 28 + τ r) c = (φ (l + 28 + τ r) c - (t : Int) * φ (l + 28 + τ o) c) % 97)) K (fun φ1 q1 q2 => ?_) (fun c hc ih φ1 q1 q2 => ?_)
  · simp (disch := omega) only [n464, r464_0, r464_1, r464_5, r464_6, r464_9, r464_12, r464_15, r464_16, r464_19, r464_20, r464_21, r464_23, r464_24, r464_27, r464_28, r464_29, r464_31, r464_32, r464_33, r464_35, r464_36, r464_37, r464_40, r464_41, r464_42, r464_44, r464_45, r464_46, r464_47, r464_48, r464_51, r464_52, r464_53, r464_56, r464_57, r464_58, r464_60, r464_61, r464_64, r464_65, r464_66, r464_68, r464_69, r464_70, r464_72, r464_73, r464_74, r464_77, r464_78, r464_79, r464_81, r464_82, r464_83, r464_84, r464_85, r464_88, r464_89, r464_92, r464_95, znl_i, znl_r, znl_j, znl_l, List.length_cons, List.length_nil, Option.some.injEq, Sum.inl.injEq, Sum.inr.injEq, Prod.mk.injEq, true_and, and_true, exists_eq_left', zK_sI, zA_sI, zL_sI, zK_sL, zA_sL, zI_sL, zK_fI, zA_fI, zL_fI, zK_fL, zA_fL, zI_fL, Nat.reduceAdd, Nat.reduceLeDiff, forall_eq', zl_lt, zl_gt, zl_eq, zl_le, zl_ge, zm_0, zaft_n, zaft_v, zb_eq, Decidable.not_not, zK_rH, zI_rH, zL_rH, zA_rH, zsI_rH, zsL_rH, zsA_rH, zcpI_rH, zn_b, zm_b, Int.toNat_natCast, Int.toNat_zero, Int.reduceToNat, LG.w0]
    exact loop φ (fun _ _ _ => rfl) (fun c' hc' => by rw [if_neg (by omega), if_neg (by omega)]; exact ⟨rfl, rfl⟩)
  · have gk : φ1 g 14 = (K : Int) := by rw [q1 _ (by omega) (by omega)]; exact LG.k
    rw [r464_3]
    simp (disch := omega) only [r464_0, r464_1, r464_5, r464_6, r464_9, r464_12, r464_15, r464_16, r464_19, r464_20, r464_21, r464_23, r464_24, r464_27, r464_28, r464_29, r464_31, r464_32, r464_33, r464_35, r464_36, r464_37, r464_40, r464_41, r464_42, r464_44, r464_45, r464_46, r464_47, r464_48, r464_51, r464_52, r464_53, r464_56, r464_57, r464_58, r464_60, r464_61, r464_64, r464_65, r464_66, r464_68, r464_69, r464_70, r464_72, r464_73, r464_74, r464_77, r464_78, r464_79, r464_81, r464_82, r464_83, r464_84, r464_85, r464_88, r464_89, r464_92, r464_95, znl_i, znl_r, znl_j, znl_l, List.length_cons, List.length_nil, Option.some.injEq, Sum.inl.injEq, Sum.inr.injEq, Prod.mk.injEq, true_and, and_true, exists_eq_left', zK_sI, zA_sI, zL_sI, zK_sL, zA_sL, zI_sL, zK_fI, zA_fI, zL_fI, zK_fL, zA_fL, zI_fL, Nat.reduceAdd, Nat.reduceLeDiff, forall_eq', zl_lt, zl_gt, zl_eq, zl_le, zl_ge, zm_0, zaft_n, zaft_v, zb_eq, Decidable.not_not, zK_rH, zI_rH, zL_rH, zA_rH, zsI_rH, zsL_rH, zsA_rH, zcpI_rH, zn_b, zm_b, Int.toNat_natCast, Int.toNat_zero, Int.reduceToNat, LG.w0, LG.g0, LG.a, gk]
    refine ⟨fun _ => ⟨φ1, rfl, q1, fun c hc => ?_⟩, fun z => absurd z (by omega)⟩
    have := q2 c hc
    rw [if_pos hc, if_pos hc] at this; exact this
  · have gk : φ1 g 14 = (K : Int) := by rw [q1 _ (by omega) (by omega)]; exact LG.k
    have v := q2 c hc
    rw [if_neg (by omega), if_neg (by omega)] at v
    have vo : φ1 (l + 15 + σ o) c = φ (l + 15 + σ o) c := by rw [q1 _ (by omega) (by omega)]
    have vo2 : φ1 (l + 28 + τ o) c = φ (l + 28 + τ o) c := by rw [q1 _ (by omega) (by omega)]
    have b1 := i1 c hc
    have b2 := i2 c hc
    have b3 := w1 c hc
    have b4 := w2 c hc
    have p1 := ymul_b (x := (t : Int)) (y := φ (l + 15 + σ o) c) (A := 97) (B := 97) (by omega) (by omega)
    have p2 := ymul_b (x := (t : Int)) (y := φ (l + 28 + τ o) c) (A := 97) (B := 97) (by omega) (by omega)
    rw [r464_3]
    simp (disch := omega) only [r464_0, r464_1, r464_5, r464_6, r464_9, r464_12, r464_15, r464_16, r464_19, r464_20, r464_21, r464_23, r464_24, r464_27, r464_28, r464_29, r464_31, r464_32, r464_33, r464_35, r464_36, r464_37, r464_40, r464_41, r464_42, r464_44, r464_45, r464_46, r464_47, r464_48, r464_51, r464_52, r464_53, r464_56, r464_57, r464_58, r464_60, r464_61, r464_64, r464_65, r464_66, r464_68, r464_69, r464_70, r464_72, r464_73, r464_74, r464_77, r464_78, r464_79, r464_81, r464_82, r464_83, r464_84, r464_85, r464_88, r464_89, r464_92, r464_95, znl_i, znl_r, znl_j, znl_l, List.length_cons, List.length_nil, Option.some.injEq, Sum.inl.injEq, Sum.inr.injEq, Prod.mk.injEq, true_and, and_true, exists_eq_left', zK_sI, zA_sI, zL_sI, zK_sL, zA_sL, zI_sL, zK_fI, zA_fI, zL_fI, zK_fL, zA_fL, zI_fL, Nat.reduceAdd, Nat.reduceLeDiff, forall_eq', zl_lt, zl_gt, zl_eq, zl_le, zl_ge, zm_0, zaft_n, zaft_v, zb_eq, Decidable.not_not, zK_rH, zI_rH, zL_rH, zA_rH, zsI_rH, zsL_rH, zsA_rH, zcpI_rH, zn_b, zm_b, Int.toNat_natCast, Int.toNat_zero, Int.reduceToNat, LG.w0, LG.g0, LG.a, gk, LK.K0, LK.K14, LK.K27, LA.A1, LA.A2, R1, R2, R3, R4, Kr1, Ko1, Kr2, Ko2, v.1, vo]
    refine ⟨fun z => absurd z (by omega), fun _ => ?_⟩
    repeat (refine And.intro (by omega) ?_)
    refine zc_w (x_left (d := d) (by omega)) ?_
    have z1 : zu φ1 (l + 15 + σ r) c ((φ (l + 15 + σ r) c - (t : Int) * φ (l + 15 + σ o) c) % 97) (l + 28 + τ r) c = φ (l + 28 + τ r) c := by rw [zu_cell _ _ _ (by omega)]; exact v.2
    have z2 : zu φ1 (l + 15 + σ r) c ((φ (l + 15 + σ r) c - (t : Int) * φ (l + 15 + σ o) c) % 97) (l + 28 + τ o) c = φ (l + 28 + τ o) c := by rw [zu_cell _ _ _ (by omega)]; exact vo2
    simp (disch := omega) only [r464_0, r464_1, r464_5, r464_6, r464_9, r464_12, r464_15, r464_16, r464_19, r464_20, r464_21, r464_23, r464_24, r464_27, r464_28, r464_29, r464_31, r464_32, r464_33, r464_35, r464_36, r464_37, r464_40, r464_41, r464_42, r464_44, r464_45, r464_46, r464_47, r464_48, r464_51, r464_52, r464_53, r464_56, r464_57, r464_58, r464_60, r464_61, r464_64, r464_65, r464_66, r464_68, r464_69, r464_70, r464_72, r464_73, r464_74, r464_77, r464_78, r464_79, r464_81, r464_82, r464_83, r464_84, r464_85, r464_88, r464_89, r464_92, r464_95, znl_i, znl_r, znl_j, znl_l, List.length_cons, List.length_nil, Option.some.injEq, Sum.inl.injEq, Sum.inr.injEq, Prod.mk.injEq, true_and, and_true, exists_eq_left', zK_sI, zA_sI, zL_sI, zK_sL, zA_sL, zI_sL, zK_fI, zA_fI, zL_fI, zK_fL, zA_fL, zI_fL, Nat.reduceAdd, Nat.reduceLeDiff, forall_eq', zl_lt, zl_gt, zl_eq, zl_le, zl_ge, zm_0, zaft_n, zaft_v, zb_eq, Decidable.not_not, zK_rH, zI_rH, zL_rH, zA_rH, zsI_rH, zsL_rH, zsA_rH, zcpI_rH, zn_b, zm_b, Int.toNat_natCast, Int.toNat_zero, Int.reduceToNat, LG.w0, LK.K0, LK.K14, LK.K27, LA.A1, LA.A2, R1, R2, R3, R4, Kr1, Ko1, Kr2, Ko2, z1, z2]
    repeat (refine And.intro (by omega) ?_)
    refine zc_w (x_left (d := d) (by omega)) ?_
    simp (disch := omega) only [r464_0, r464_1, r464_5, r464_6, r464_9, r464_12, r464_15, r464_16, r464_19, r464_20, r464_21, r464_23, r464_24, r464_27, r464_28, r464_29, r464_31, r464_32, r464_33, r464_35, r464_36, r464_37, r464_40, r464_41, r464_42, r464_44, r464_45, r464_46, r464_47, r464_48, r464_51, r464_52, r464_53, r464_56, r464_57, r464_58, r464_60, r464_61, r464_64, r464_65, r464_66, r464_68, r464_69, r464_70, r464_72, r464_73, r464_74, r464_77, r464_78, r464_79, r464_81, r464_82, r464_83, r464_84, r464_85, r464_88, r464_89, r464_92, r464_95, znl_i, znl_r, znl_j, znl_l, List.length_cons, List.length_nil, Option.some.injEq, Sum.inl.injEq, Sum.inr.injEq, Prod.mk.injEq, true_and, and_true, exists_eq_left', zK_sI, zA_sI, zL_sI, zK_sL, zA_sL, zI_sL, zK_fI, zA_fI, zL_fI, zK_fL, zA_fL, zI_fL, Nat.reduceAdd, Nat.reduceLeDiff, forall_eq', zl_lt, zl_gt, zl_eq, zl_le, zl_ge, zm_0, zaft_n, zaft_v, zb_eq, Decidable.not_not, zK_rH, zI_rH, zL_rH, zA_rH, zsI_rH, zsL_rH, zsA_rH, zcpI_rH, zn_b, zm_b, Int.toNat_natCast, Int.toNat_zero, Int.reduceToNat, LK.K0, Kr2]
    repeat (refine And.intro (by omega) ?_)
    refine ih _ (fun i h1 h2 => by rw [zu_cell _ _ _ h2, zu_cell _ _ _ h1]; exact q1 i h1 h2) (fun c' hc' => ?_)
    by_cases q : c' = c
    · subst q
      rw [zu_cell _ _ _ (show l + 15 + σ r ≠ l + 28 + τ r by omega), zu_same, zu_same, if_pos (by omega), if_pos (by omega)]
      exact ⟨rfl, rfl⟩
    · rw [zu_cell _ _ _ (show l + 15 + σ r ≠ l + 28 + τ r by omega), zu_slot _ _ _ q, zu_slot _ _ _ q, zu_cell _ _ _ (show l + 28 + τ r ≠ l + 15 + σ r by omega)]
      have := q2 c' hc'
      by_cases q3 : c' < c
      · rw [if_pos (show c' < c + 1 by omega), if_pos (show c' < c + 1 by omega)]
        rw [if_pos q3, if_pos q3] at this; exact this
      · rw [if_neg (show ¬ c' < c + 1 by omega), if_neg (show ¬ c' < c + 1 by omega)]
        rw [if_neg q3, if_neg q3] at this; exact this
end
