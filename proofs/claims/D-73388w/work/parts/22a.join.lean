/-! ===== the component's tables of joined maps ===== -/
section
variable {e : zEv} {d x f o r n g b : Nat} {h h1 h2 : zH} {φ φ' φ'' ψ ψ' ψ'' : Nat → Nat → Int} {α α' α'' : Nat → Nat → Option Nat} {F : yF} {π ρ : Nat → Nat} {sg sh : Int} {T : yT}
theorem gT.O (G : gT T g φ) (V : yV T) (GK : gK e h x g) (GA : gA x g α) {i : Nat} (hi : i < Tm T) : oS h x φ α (g + 89 + 2 * i) (g + 90 + 2 * i) (Tn T) (TR T i) (Tg T i) := by
  have gn := GK.n
  have m := V.m
  exact ⟨by omega, by omega, V.n.2, GK.K89 i (by omega), GK.K90 i (by omega), GA.O i (by omega), G.n i hi, G.hg i hi, G.r i hi, fun k hk => V.R hi hk, by rcases V.g hi with q | q <;> rw [q] <;> omega⟩
theorem gT.of (G : gT T g φ) (m : Tm T ≤ 48) (q0 : φ' g 2 = φ g 2) (q : ∀ i, g + 89 ≤ i → i < g + 185 → φ' i = φ i) : gT T g φ' :=
  ⟨by rw [q0]; exact G.m, fun i hi => by rw [q _ (by omega) (by omega)]; exact G.n i hi, fun i hi => by rw [q _ (by omega) (by omega)]; exact G.hg i hi, fun i hi => by rw [q _ (by omega) (by omega)]; exact G.t i hi, fun i hi k hk => by rw [q _ (by omega) (by omega)]; exact G.r i hi k hk⟩
theorem g_numberOf (GK : gK e h x g) (GA : gA x g α) (V : yV T) (G : gT T g φ) {i j : Nat} (hi : i < Tm T) (hj : j < Tm T) (a0 : α (g + 86) 0 = some (x + (g + 89 + 2 * i))) (a1 : α (g + 86) 1 = some (x + (g + 89 + 2 * j))) : zc e (d + 4) 415 [zr (some (x + g)), zr (some (x + (g + 86)))] (cH h x φ ψ α) (fun ov h' => ov = Sum.inl (some (zi (yth T i j : Int))) ∧ h' = cH h x φ ψ α) := by
  have gn := GK.n
  have m := V.m
  have B : bS h x φ α (g + 86) (g + 89 + 2 * i) (g + 90 + 2 * i) (g + 89 + 2 * j) (g + 90 + 2 * j) (Tn T) (TR T i) (TR T j) (Tg T i) (Tg T j) := ⟨by omega, GK.K86, a0, a1, G.O V GK GA hi, G.O V GK GA hj⟩
  obtain ⟨t1, t2, t3, _⟩ := yfn_spec (V.cl hi hj)
  have t1 : yth T i j < Tm T := t1
  have t3 : ∀ k, k < yth T i j → ythq T i j k = false := t3
  have loop := zdown (fun k => k ≤ yth T i j → zg e 415 (d + 3) 2 [zr (some (x + g)), zr (some (x + (g + 86))), zi (k : Int)] [] (cH h x φ ψ α) (fun ov h' => ov = Sum.inl (some (zi (yth T i j : Int))) ∧ h' = cH h x φ ψ α)) (yth T i j + 1) (fun z => absurd z (by omega)) (fun k hk ih hk2 => by
    rw [r415_2]
    simp (disch := omega) only [r415_0, r415_1, r415_3, r415_4, r415_7, r415_8, r415_9, r415_12, r415_13, r415_16, r415_17, r415_18, r415_19, r415_22, r415_25, r415_28, r415_31, r415_32, znl_i, znl_r, znl_j, znl_l, List.length_cons, List.length_nil, Option.some.injEq, Sum.inl.injEq, Sum.inr.injEq, Prod.mk.injEq, true_and, and_true, exists_eq_left', zK_sI, zA_sI, zL_sI, zK_sL, zA_sL, zI_sL, zK_fI, zA_fI, zL_fI, zK_fL, zA_fL, zI_fL, Nat.reduceAdd, Nat.reduceLeDiff, forall_eq', zl_lt, zl_gt, zl_eq, zl_le, zl_ge, zm_0, zaft_n, zaft_v, zb_eq, Decidable.not_not, zK_rH, zI_rH, zL_rH, zA_rH, zsI_rH, zsL_rH, zsA_rH, zcpI_rH, zn_b, zm_b, Int.toNat_natCast, Int.toNat_zero, Int.reduceToNat, GK.K0, GK.K1, GA.A1, GA.R1, G.m]
    refine ⟨fun z => ?_, fun z => ?_⟩
    · have : yth T i j = k := by omega
      rw [this]
    · repeat (refine And.intro (by omega) ?_)
      refine zc_w (m_same (d := d) (G.O V GK GA (i := k) (by omega)) B) ?_
      show zaft 22 zh0 _ _ (Sum.inl (some (zi (yb (ythq T i j k))))) _ _ _
      by_cases c : k = yth T i j
      · rw [c, show ythq T i j (yth T i j) = true from t2]
        simp (disch := omega) only [r415_0, r415_1, r415_3, r415_4, r415_7, r415_8, r415_9, r415_12, r415_13, r415_16, r415_17, r415_18, r415_19, r415_22, r415_25, r415_28, r415_31, r415_32, znl_i, znl_r, znl_j, znl_l, List.length_cons, List.length_nil, Option.some.injEq, Sum.inl.injEq, Sum.inr.injEq, Prod.mk.injEq, true_and, and_true, exists_eq_left', zK_sI, zA_sI, zL_sI, zK_sL, zA_sL, zI_sL, zK_fI, zA_fI, zL_fI, zK_fL, zA_fL, zI_fL, Nat.reduceAdd, Nat.reduceLeDiff, forall_eq', zl_lt, zl_gt, zl_eq, zl_le, zl_ge, zm_0, zaft_n, zaft_v, zb_eq, Decidable.not_not, zK_rH, zI_rH, zL_rH, zA_rH, zsI_rH, zsL_rH, zsA_rH, zcpI_rH, zn_b, zm_b, Int.toNat_natCast, Int.toNat_zero, Int.reduceToNat, show yb true = 1 from rfl]
        exact ⟨fun _ => trivial, fun z => absurd z (by decide)⟩
      · rw [t3 k (by omega)]
        simp (disch := omega) only [r415_0, r415_1, r415_3, r415_4, r415_7, r415_8, r415_9, r415_12, r415_13, r415_16, r415_17, r415_18, r415_19, r415_22, r415_25, r415_28, r415_31, r415_32, znl_i, znl_r, znl_j, znl_l, List.length_cons, List.length_nil, Option.some.injEq, Sum.inl.injEq, Sum.inr.injEq, Prod.mk.injEq, true_and, and_true, exists_eq_left', zK_sI, zA_sI, zL_sI, zK_sL, zA_sL, zI_sL, zK_fI, zA_fI, zL_fI, zK_fL, zA_fL, zI_fL, Nat.reduceAdd, Nat.reduceLeDiff, forall_eq', zl_lt, zl_gt, zl_eq, zl_le, zl_ge, zm_0, zaft_n, zaft_v, zb_eq, Decidable.not_not, zK_rH, zI_rH, zL_rH, zA_rH, zsI_rH, zsL_rH, zsA_rH, zcpI_rH, zn_b, zm_b, Int.toNat_natCast, Int.toNat_zero, Int.reduceToNat, show yb false = 0 from rfl]
        exact ⟨fun z => absurd trivial z, fun _ => ih (by omega)⟩) 0 (by omega)
  simp (disch := omega) only [n415, r415_0, r415_1, r415_3, r415_4, r415_7, r415_8, r415_9, r415_12, r415_13, r415_16, r415_17, r415_18, r415_19, r415_22, r415_25, r415_28, r415_31, r415_32, znl_i, znl_r, znl_j, znl_l, List.length_cons, List.length_nil, Option.some.injEq, Sum.inl.injEq, Sum.inr.injEq, Prod.mk.injEq, true_and, and_true, exists_eq_left', zK_sI, zA_sI, zL_sI, zK_sL, zA_sL, zI_sL, zK_fI, zA_fI, zL_fI, zK_fL, zA_fL, zI_fL, Nat.reduceAdd, Nat.reduceLeDiff, forall_eq', zl_lt, zl_gt, zl_eq, zl_le, zl_ge, zm_0, zaft_n, zaft_v, zb_eq, Decidable.not_not, zK_rH, zI_rH, zL_rH, zA_rH, zsI_rH, zsL_rH, zsA_rH, zcpI_rH, zn_b, zm_b, Int.toNat_natCast, Int.toNat_zero, Int.reduceToNat, GK.K0]
  exact loop (by omega)
/-- joined, back -/
structure gJ1 (T : yT) (g : Nat) (φ : Nat → Nat → Int) : Prop where
  j : ∀ a c, a < Tm T → c < Tm T → φ (g + 32 + a) c = (yth T a c : Int)
  b : ∀ a, a < Tm T → φ (g + 80) a = (yiv T a : Int)
theorem gJ1.of (J : gJ1 T g φ) (m : Tm T ≤ 48) (q : ∀ i, g + 32 ≤ i → i < g + 81 → φ' i = φ i) : gJ1 T g φ' :=
  ⟨fun a c ha hc => by rw [q _ (by omega) (by omega)]; exact J.j a c ha hc, fun a ha => by rw [q _ (by omega) (by omega)]; exact J.b a ha⟩
theorem g_turned (GK : gK e h x g) (GA : gA x g α) (V : yV T) (J : gJ1 T g φ) {a c : Nat} (ha : a < Tm T) (hc : c < Tm T) : zc e (d + 1) 417 [zr (some (x + g)), zi (a : Int), zi (c : Int)] (cH h x φ ψ α) (fun ov h' => ov = Sum.inl (some (zi (ycj T c a : Int))) ∧ h' = cH h x φ ψ α) := by
  have gn := GK.n
  have m := V.m
  have t1 := V.th hc ha
  have t2 := V.iv hc
  have t3 := V.cj hc ha
  have j1 := J.j c a hc ha
  have j2 := J.b c hc
  have j3 := J.j _ _ t1 t2
  simp (disch := omega) only [n417, r417_0, r417_1, r417_4, r417_5, r417_8, r417_9, r417_10, r417_11, r417_12, r417_13, r417_14, r417_17, r417_18, r417_19, r417_20, znl_i, znl_r, znl_j, znl_l, List.length_cons, List.length_nil, Option.some.injEq, Sum.inl.injEq, Sum.inr.injEq, Prod.mk.injEq, true_and, and_true, exists_eq_left', zK_sI, zA_sI, zL_sI, zK_sL, zA_sL, zI_sL, zK_fI, zA_fI, zL_fI, zK_fL, zA_fL, zI_fL, Nat.reduceAdd, Nat.reduceLeDiff, forall_eq', zl_lt, zl_gt, zl_eq, zl_le, zl_ge, zm_0, zaft_n, zaft_v, zb_eq, Decidable.not_not, zK_rH, zI_rH, zL_rH, zA_rH, zsI_rH, zsL_rH, zsA_rH, zcpI_rH, zn_b, zm_b, Int.toNat_natCast, Int.toNat_zero, Int.reduceToNat, GK.K0, GK.K31, GK.K32, GK.K80, GA.A7, GA.A8, GA.R31, j1, j2, j3]
  repeat (refine And.intro (by omega) ?_)
  rfl
end
