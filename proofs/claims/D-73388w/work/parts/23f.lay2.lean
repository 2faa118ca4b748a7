section
variable {e : zEv} {d x l w g : Nat} {h h1 h2 : zH} {φ φ' φ'' ψ ψ' ψ'' : Nat → Nat → Int} {α α' α'' : Nat → Nat → Option Nat} {T : yT} {σ τ : Nat → Nat}
/-- the laws' own cells: they ask the group at g -/
structure lwK (e : zEv) (h : zH) (x w g : Nat) (T : yT) (φ : Nat → Nat → Int) (α : Nat → Nat → Option Nat) : Prop where
  GK : gK e h x g
  GA : gA x g α
  V : yV T
  G : gT T g φ
  J : gJ T g φ
  w0 : zK h (x + w) = some (Sum.inl 8)
  wl : w + 548 ≤ 1134
  a : α w 0 = some (x + g)
  gw : g + 185 ≤ w
theorem lwK.lg (D : lwK e h x w g T φ α) : lgK e h x w g (yK T) φ α := ⟨D.GK.b, D.w0, by have := D.wl; omega, D.GK.n, D.GK.K0, D.a, D.J.b.k, D.V.K⟩
theorem lwK.of (D : lwK e h x w g T φ α) (q : ∀ i, i < w → φ' i = φ i) (qa : ∀ i, i < w → α' i = α i) (q0 : α' w 0 = α w 0) : lwK e h x w g T φ' α' := by
  have m := D.V.m
  have gw := D.gw
  exact ⟨D.GK, D.GA.of fun i j h1 h2 _ => by rw [qa i (by omega)], D.V, D.G.of m.2 (by rw [q _ (by omega)]) (fun i h1 h2 => q i (by omega)), ⟨D.J.a.of m.2 fun i h1 h2 => q i (by omega), D.J.b.of (by rw [q _ (by omega)]) fun i h1 h2 => q i (by omega), fun i j k hi hj hk => by rw [q _ (by omega)]; exact D.J.n i j k hi hj hk⟩, D.w0, D.wl, by rw [q0]; exact D.a, D.gw⟩
theorem yjn_bd (V : yV T) {i j k : Nat} (hk : k < yK T) : 0 ≤ yjn T i j k ∧ yjn T i j k ≤ 48 := by
  have m := V.m
  rw [V.jn1 hk]
  have := ycnt_bd (fun x => decide (ykl T x = i ∧ ykl T (yth T (yiv T x) (yls T k)) = j)) (Tm T)
  omega
theorem l_laysImages (LK : lyK e h x l) (LA : lyA x l α σ τ) (D : lwK e h x w g T φ α) (hwl : w < l) {n by' v : Nat} (hn : n ≤ 12) (hm : φ l 3 = (n : Int)) (hb : by' < yK T) (hv : v < 97) (R : Nat → Nat → Int) (hR : ∀ r, r < n → ∀ c, c < yK T → φ (l + 2 + r) c = R r c ∧ 0 ≤ R r c ∧ R r c < 97) :
    zc e (d + 3) 461 [zr (some (x + w)), zr (some (x + l)), zi (by' : Int), zi (v : Int)] (cH h x φ ψ α)
    (fun ov h' => ov = Sum.inl none ∧ ∃ φ', h' = cH h x φ' ψ α ∧ (∀ i, (i < l + 15 ∨ l + 40 ≤ i) → φ' i = φ i) ∧ ∀ r, r < n → ∀ c, c < yK T → φ' (l + 15 + σ r) c = (yop T by' (R r) c - (v : Int) * R r c) % 97 ∧ φ' (l + 28 + τ r) c = R r c) := by
  have ln := LK.n
  have eb := LK.b
  have wl := D.wl
  have gw := D.gw
  have GK := D.GK
  have GA := D.GA
  have gn := GK.n
  have V := D.V
  have hK := V.K
  generalize hQ : (fun ov h' => ov = Sum.inl none ∧ ∃ φ', h' = cH h x φ' ψ α ∧ (∀ i, (i < l + 15 ∨ l + 40 ≤ i) → φ' i = φ i) ∧ ∀ r, r < n → ∀ c, c < yK T → φ' (l + 15 + σ r) c = (yop T by' (R r) c - (v : Int) * R r c) % 97 ∧ φ' (l + 28 + τ r) c = R r c : zEt) = Q
  have outer := zdown0 (fun r => ∀ φ1 : Nat → Nat → Int, (∀ i, (i < l + 15 ∨ l + 40 ≤ i) → φ1 i = φ i) → (∀ r', r' < r → ∀ c, c < yK T → φ1 (l + 15 + σ r') c = (yop T by' (R r') c - (v : Int) * R r' c) % 97 ∧ φ1 (l + 28 + τ r') c = R r' c) → ∀ w5 w6 w7 w8, zg e 461 (d + 2) 3 [zr (some (x + w)), zr (some (x + l)), zi (by' : Int), zi (v : Int), zi (r : Int), w5, w6, w7, w8] [] (cH h x φ1 ψ α) Q) n (fun φ1 q1 q2 w5 w6 w7 w8 => ?_) (fun r hr ih φ1 q1 q2 w5 w6 w7 w8 => ?_)
  · simp (disch := omega) only [n461, r461_0, r461_1, r461_5, r461_6, r461_9, r461_12, r461_13, r461_17, r461_18, r461_21, r461_24, r461_27, r461_28, r461_29, r461_30, r461_31, r461_34, r461_36, r461_37, r461_39, r461_40, r461_41, r461_42, r461_44, r461_45, r461_49, r461_50, r461_53, r461_56, r461_59, r461_61, r461_62, r461_65, r461_68, r461_69, r461_72, r461_73, r461_75, r461_77, r461_80, r461_81, r461_82, r461_85, r461_87, r461_88, r461_90, r461_91, r461_92, r461_93, r461_94, r461_96, r461_99, r461_102, r461_103, r461_106, r461_108, r461_109, r461_111, r461_113, r461_116, r461_117, r461_118, r461_121, r461_123, r461_124, r461_126, r461_127, r461_130, r461_132, r461_133, r461_135, r461_136, r461_137, r461_140, r461_143, r461_146, r461_149, znl_i, znl_r, znl_j, znl_l, List.length_cons, List.length_nil, Option.some.injEq, Sum.inl.injEq, Sum.inr.injEq, Prod.mk.injEq, true_and, and_true, exists_eq_left', zK_sI, zA_sI, zL_sI, zK_sL, zA_sL, zI_sL, zK_fI, zA_fI, zL_fI, zK_fL, zA_fL, zI_fL, Nat.reduceAdd, Nat.reduceLeDiff, forall_eq', zl_lt, zl_gt, zl_eq, zl_le, zl_ge, zm_0, zaft_n, zaft_v, zb_eq, Decidable.not_not, zK_rH, zI_rH, zL_rH, zA_rH, zsI_rH, zsL_rH, zsA_rH, zcpI_rH, zn_b, zm_b, Int.toNat_natCast, Int.toNat_zero, Int.reduceToNat, D.w0]
    exact outer φ (fun _ _ => rfl) (fun r' h => absurd h (by omega)) _ _ _ _
  · have m1 : φ1 l 3 = (n : Int) := by rw [q1 _ (by omega)]; exact hm
    rw [r461_3]
    simp (disch := omega) only [r461_0, r461_1, r461_5, r461_6, r461_9, r461_12, r461_13, r461_17, r461_18, r461_21, r461_24, r461_27, r461_28, r461_29, r461_30, r461_31, r461_34, r461_36, r461_37, r461_39, r461_40, r461_41, r461_42, r461_44, r461_45, r461_49, r461_50, r461_53, r461_56, r461_59, r461_61, r461_62, r461_65, r461_68, r461_69, r461_72, r461_73, r461_75, r461_77, r461_80, r461_81, r461_82, r461_85, r461_87, r461_88, r461_90, r461_91, r461_92, r461_93, r461_94, r461_96, r461_99, r461_102, r461_103, r461_106, r461_108, r461_109, r461_111, r461_113, r461_116, r461_117, r461_118, r461_121, r461_123, r461_124, r461_126, r461_127, r461_130, r461_132, r461_133, r461_135, r461_136, r461_137, r461_140, r461_143, r461_146, r461_149, znl_i, znl_r, znl_j, znl_l, List.length_cons, List.length_nil, Option.some.injEq, Sum.inl.injEq, Sum.inr.injEq, Prod.mk.injEq, true_and, and_true, exists_eq_left', zK_sI, zA_sI, zL_sI, zK_sL, zA_sL, zI_sL, zK_fI, zA_fI, zL_fI, zK_fL, zA_fL, zI_fL, Nat.reduceAdd, Nat.reduceLeDiff, forall_eq', zl_lt, zl_gt, zl_eq, zl_le, zl_ge, zm_0, zaft_n, zaft_v, zb_eq, Decidable.not_not, zK_rH, zI_rH, zL_rH, zA_rH, zsI_rH, zsL_rH, zsA_rH, zcpI_rH, zn_b, zm_b, Int.toNat_natCast, Int.toNat_zero, Int.reduceToNat, LK.K0, m1]
    refine ⟨fun _ => ?_, fun z => absurd z (by omega)⟩
    rw [← hQ]; exact ⟨rfl, φ1, rfl, q1, q2⟩
  · have sr := LA.P.1 r (by omega)
    have tr := LA.Q.1 r (by omega)
    have R1 := LA.R14 r (by omega)
    have R3 := LA.R27 r (by omega)
    have R0 := LA.R1 r (by omega)
    have Kr1 := LK.K15 _ sr
    have Kr2 := LK.K28 _ tr
    have Kr0 := LK.K2 r (by omega)
    have col := zdown0 (fun j => ∀ φ1 : Nat → Nat → Int, (∀ i, (i < l + 15 ∨ l + 40 ≤ i) → φ1 i = φ i) → (∀ r', r' < r → ∀ c, c < yK T → φ1 (l + 15 + σ r') c = (yop T by' (R r') c - (v : Int) * R r' c) % 97 ∧ φ1 (l + 28 + τ r') c = R r' c) → (∀ c, c < j → φ1 (l + 15 + σ r) c = (yop T by' (R r) c - (v : Int) * R r c) % 97 ∧ φ1 (l + 28 + τ r) c = R r c) → ∀ w6 w7 w8, zg e 461 (d + 2) 15 [zr (some (x + w)), zr (some (x + l)), zi (by' : Int), zi (v : Int), zi (r : Int), zi (j : Int), w6, w7, w8] [] (cH h x φ1 ψ α) Q) (yK T) (fun φ1 q1 q2 q3 w6 w7 w8 => ?_) (fun j hj ihj φ1 q1 q2 q3 w6 w7 w8 => ?_)
    · have m1 : φ1 l 3 = (n : Int) := by rw [q1 _ (by omega)]; exact hm
      rw [r461_3]
      simp (disch := omega) only [r461_0, r461_1, r461_5, r461_6, r461_9, r461_12, r461_13, r461_17, r461_18, r461_21, r461_24, r461_27, r461_28, r461_29, r461_30, r461_31, r461_34, r461_36, r461_37, r461_39, r461_40, r461_41, r461_42, r461_44, r461_45, r461_49, r461_50, r461_53, r461_56, r461_59, r461_61, r461_62, r461_65, r461_68, r461_69, r461_72, r461_73, r461_75, r461_77, r461_80, r461_81, r461_82, r461_85, r461_87, r461_88, r461_90, r461_91, r461_92, r461_93, r461_94, r461_96, r461_99, r461_102, r461_103, r461_106, r461_108, r461_109, r461_111, r461_113, r461_116, r461_117, r461_118, r461_121, r461_123, r461_124, r461_126, r461_127, r461_130, r461_132, r461_133, r461_135, r461_136, r461_137, r461_140, r461_143, r461_146, r461_149, znl_i, znl_r, znl_j, znl_l, List.length_cons, List.length_nil, Option.some.injEq, Sum.inl.injEq, Sum.inr.injEq, Prod.mk.injEq, true_and, and_true, exists_eq_left', zK_sI, zA_sI, zL_sI, zK_sL, zA_sL, zI_sL, zK_fI, zA_fI, zL_fI, zK_fL, zA_fL, zI_fL, Nat.reduceAdd, Nat.reduceLeDiff, forall_eq', zl_lt, zl_gt, zl_eq, zl_le, zl_ge, zm_0, zaft_n, zaft_v, zb_eq, Decidable.not_not, zK_rH, zI_rH, zL_rH, zA_rH, zsI_rH, zsL_rH, zsA_rH, zcpI_rH, zn_b, zm_b, Int.toNat_natCast, Int.toNat_zero, Int.reduceToNat, LK.K0, m1]
      refine ⟨fun z => absurd z (by omega), fun _ => col φ1 q1 q2 (fun c h => absurd h (by omega)) _ _ _⟩
    · have gk : φ1 g 14 = (yK T : Int) := by rw [q1 _ (by omega)]; exact D.J.b.k
      rw [r461_15]
      simp (disch := omega) only [r461_0, r461_1, r461_5, r461_6, r461_9, r461_12, r461_13, r461_17, r461_18, r461_21, r461_24, r461_27, r461_28, r461_29, r461_30, r461_31, r461_34, r461_36, r461_37, r461_39, r461_40, r461_41, r461_42, r461_44, r461_45, r461_49, r461_50, r461_53, r461_56, r461_59, r461_61, r461_62, r461_65, r461_68, r461_69, r461_72, r461_73, r461_75, r461_77, r461_80, r461_81, r461_82, r461_85, r461_87, r461_88, r461_90, r461_91, r461_92, r461_93, r461_94, r461_96, r461_99, r461_102, r461_103, r461_106, r461_108, r461_109, r461_111, r461_113, r461_116, r461_117, r461_118, r461_121, r461_123, r461_124, r461_126, r461_127, r461_130, r461_132, r461_133, r461_135, r461_136, r461_137, r461_140, r461_143, r461_146, r461_149, znl_i, znl_r, znl_j, znl_l, List.length_cons, List.length_nil, Option.some.injEq, Sum.inl.injEq, Sum.inr.injEq, Prod.mk.injEq, true_and, and_true, exists_eq_left', zK_sI, zA_sI, zL_sI, zK_sL, zA_sL, zI_sL, zK_fI, zA_fI, zL_fI, zK_fL, zA_fL, zI_fL, Nat.reduceAdd, Nat.reduceLeDiff, forall_eq', zl_lt, zl_gt, zl_eq, zl_le, zl_ge, zm_0, zaft_n, zaft_v, zb_eq, Decidable.not_not, zK_rH, zI_rH, zL_rH, zA_rH, zsI_rH, zsL_rH, zsA_rH, zcpI_rH, zn_b, zm_b, Int.toNat_natCast, Int.toNat_zero, Int.reduceToNat, D.w0, GK.K0, D.a, gk]
      refine ⟨fun _ => ih φ1 q1 (fun r' h1 c hc => ?_) _ _ _ _, fun z => absurd z (by omega)⟩
      by_cases q : r' = r
      · subst q; exact q3 c hc
      · exact q2 r' (by omega) c hc
    · have gk : φ1 g 14 = (yK T : Int) := by rw [q1 _ (by omega)]; exact D.J.b.k
      have rj := hR r hr j hj
      have f1 : ∀ c, c < yK T → φ1 (l + 2 + r) c = R r c := fun c hc => by rw [q1 _ (by omega)]; exact (hR r hr c hc).1
      have fj := f1 j hj
      have vb := ymul_b (x := -(v : Int)) (y := R r j) (A := 97) (B := 97) (by omega) (by omega)
      have sumb : ∀ k, k ≤ yK T → 0 ≤ ysum (fun k => yjn T by' j k * R r k) k ∧ ysum (fun k => yjn T by' j k * R r k) k ≤ 5000 * k := fun k => by
        induction k with
        | zero => intro _; simp [ysum]
        | succ k ih =>
          intro hk
          have := ih (by omega)
          have jb := yjn_bd V (i := by') (j := j) (k := k) (by omega)
          have rk := hR r hr k (by omega)
          have p := ymul_b (x := yjn T by' j k) (y := R r k) (A := 48) (B := 97) (by omega) (by omega)
          have p0 : 0 ≤ yjn T by' j k * R r k := Int.mul_nonneg jb.1 rk.2.1
          rw [ysum_s]; push_cast; omega
      have inner := zdown0 (fun k => zg e 461 (d + 2) 47 [zr (some (x + w)), zr (some (x + l)), zi (by' : Int), zi (v : Int), zi (r : Int), zi (j : Int), zl (-(v : Int) * R r j + ysum (fun k => yjn T by' j k * R r k) k), zj, zi (k : Int)] [] (cH h x φ1 ψ α) Q) (yK T) ?_ (fun k hk ihk => ?_)
      · rw [r461_15]
        simp (disch := omega) only [r461_0, r461_1, r461_5, r461_6, r461_9, r461_12, r461_13, r461_17, r461_18, r461_21, r461_24, r461_27, r461_28, r461_29, r461_30, r461_31, r461_34, r461_36, r461_37, r461_39, r461_40, r461_41, r461_42, r461_44, r461_45, r461_49, r461_50, r461_53, r461_56, r461_59, r461_61, r461_62, r461_65, r461_68, r461_69, r461_72, r461_73, r461_75, r461_77, r461_80, r461_81, r461_82, r461_85, r461_87, r461_88, r461_90, r461_91, r461_92, r461_93, r461_94, r461_96, r461_99, r461_102, r461_103, r461_106, r461_108, r461_109, r461_111, r461_113, r461_116, r461_117, r461_118, r461_121, r461_123, r461_124, r461_126, r461_127, r461_130, r461_132, r461_133, r461_135, r461_136, r461_137, r461_140, r461_143, r461_146, r461_149, znl_i, znl_r, znl_j, znl_l, List.length_cons, List.length_nil, Option.some.injEq, Sum.inl.injEq, Sum.inr.injEq, Prod.mk.injEq, true_and, and_true, exists_eq_left', zK_sI, zA_sI, zL_sI, zK_sL, zA_sL, zI_sL, zK_fI, zA_fI, zL_fI, zK_fL, zA_fL, zI_fL, Nat.reduceAdd, Nat.reduceLeDiff, forall_eq', zl_lt, zl_gt, zl_eq, zl_le, zl_ge, zm_0, zaft_n, zaft_v, zb_eq, Decidable.not_not, zK_rH, zI_rH, zL_rH, zA_rH, zsI_rH, zsL_rH, zsA_rH, zcpI_rH, zn_b, zm_b, Int.toNat_natCast, Int.toNat_zero, Int.reduceToNat, D.w0, GK.K0, D.a, gk, LK.K0, LK.K1, LA.A0, R0, Kr0, fj]
        refine ⟨fun z => absurd z (by omega), fun _ => ?_⟩
        repeat (refine And.intro (by omega) ?_)
        have g' := inner
        simp only [ysum, Int.add_zero] at g'
        exact g'
      · have sb := sumb (yK T) (Nat.le_refl _)
        have e1 : (-(v : Int) * R r j + ysum (fun k => yjn T by' j k * R r k) (yK T)) % 97 = (yop T by' (R r) j - (v : Int) * R r j) % 97 := by
          congr 1; unfold yop; rw [Int.neg_mul]; omega
        rw [r461_47]
        simp (disch := omega) only [r461_0, r461_1, r461_5, r461_6, r461_9, r461_12, r461_13, r461_17, r461_18, r461_21, r461_24, r461_27, r461_28, r461_29, r461_30, r461_31, r461_34, r461_36, r461_37, r461_39, r461_40, r461_41, r461_42, r461_44, r461_45, r461_49, r461_50, r461_53, r461_56, r461_59, r461_61, r461_62, r461_65, r461_68, r461_69, r461_72, r461_73, r461_75, r461_77, r461_80, r461_81, r461_82, r461_85, r461_87, r461_88, r461_90, r461_91, r461_92, r461_93, r461_94, r461_96, r461_99, r461_102, r461_103, r461_106, r461_108, r461_109, r461_111, r461_113, r461_116, r461_117, r461_118, r461_121, r461_123, r461_124, r461_126, r461_127, r461_130, r461_132, r461_133, r461_135, r461_136, r461_137, r461_140, r461_143, r461_146, r461_149, znl_i, znl_r, znl_j, znl_l, List.length_cons, List.length_nil, Option.some.injEq, Sum.inl.injEq, Sum.inr.injEq, Prod.mk.injEq, true_and, and_true, exists_eq_left', zK_sI, zA_sI, zL_sI, zK_sL, zA_sL, zI_sL, zK_fI, zA_fI, zL_fI, zK_fL, zA_fL, zI_fL, Nat.reduceAdd, Nat.reduceLeDiff, forall_eq', zl_lt, zl_gt, zl_eq, zl_le, zl_ge, zm_0, zaft_n, zaft_v, zb_eq, Decidable.not_not, zK_rH, zI_rH, zL_rH, zA_rH, zsI_rH, zsL_rH, zsA_rH, zcpI_rH, zn_b, zm_b, Int.toNat_natCast, Int.toNat_zero, Int.reduceToNat, D.w0, GK.K0, D.a, gk, LK.K0, LK.K14, LA.A1, R1]
        refine ⟨fun _ => ?_, fun z => absurd z (by omega)⟩
        repeat (refine And.intro (by omega) ?_)
        refine zc_w (x_left (d := d) (by omega)) ?_
        have f2 : zu φ1 (l + 15 + σ r) j ((-(v : Int) * R r j + ysum (fun k => yjn T by' j k * R r k) (yK T)) % 97) (l + 2 + r) j = R r j := by rw [zu_cell _ _ _ (by omega)]; exact fj
        simp (disch := omega) only [r461_0, r461_1, r461_5, r461_6, r461_9, r461_12, r461_13, r461_17, r461_18, r461_21, r461_24, r461_27, r461_28, r461_29, r461_30, r461_31, r461_34, r461_36, r461_37, r461_39, r461_40, r461_41, r461_42, r461_44, r461_45, r461_49, r461_50, r461_53, r461_56, r461_59, r461_61, r461_62, r461_65, r461_68, r461_69, r461_72, r461_73, r461_75, r461_77, r461_80, r461_81, r461_82, r461_85, r461_87, r461_88, r461_90, r461_91, r461_92, r461_93, r461_94, r461_96, r461_99, r461_102, r461_103, r461_106, r461_108, r461_109, r461_111, r461_113, r461_116, r461_117, r461_118, r461_121, r461_123, r461_124, r461_126, r461_127, r461_130, r461_132, r461_133, r461_135, r461_136, r461_137, r461_140, r461_143, r461_146, r461_149, znl_i, znl_r, znl_j, znl_l, List.length_cons, List.length_nil, Option.some.injEq, Sum.inl.injEq, Sum.inr.injEq, Prod.mk.injEq, true_and, and_true, exists_eq_left', zK_sI, zA_sI, zL_sI, zK_sL, zA_sL, zI_sL, zK_fI, zA_fI, zL_fI, zK_fL, zA_fL, zI_fL, Nat.reduceAdd, Nat.reduceLeDiff, forall_eq', zl_lt, zl_gt, zl_eq, zl_le, zl_ge, zm_0, zaft_n, zaft_v, zb_eq, Decidable.not_not, zK_rH, zI_rH, zL_rH, zA_rH, zsI_rH, zsL_rH, zsA_rH, zcpI_rH, zn_b, zm_b, Int.toNat_natCast, Int.toNat_zero, Int.reduceToNat, LK.K0, LK.K1, LK.K27, LA.A0, LA.A2, R0, R3, Kr0, Kr1, Kr2, f2]
        repeat (refine And.intro (by omega) ?_)
        refine ihj _ (fun i hi => by rw [zu_cell _ _ _ (by omega), zu_cell _ _ _ (by omega)]; exact q1 i hi) (fun r' h1 c hc => ?_) (fun c hc => ?_) _ _ _
        · have n1 : σ r' ≠ σ r := fun z => absurd (LA.P.2 r' r (by omega) (by omega) z) (by omega)
          have n2 : τ r' ≠ τ r := fun z => absurd (LA.Q.2 r' r (by omega) (by omega) z) (by omega)
          have b1 := LA.P.1 r' (by omega)
          have b2 := LA.Q.1 r' (by omega)
          rw [zu_cell _ _ _ (show l + 15 + σ r' ≠ l + 28 + τ r by omega), zu_cell _ _ _ (show l + 15 + σ r' ≠ l + 15 + σ r by omega), zu_cell _ _ _ (show l + 28 + τ r' ≠ l + 28 + τ r by omega), zu_cell _ _ _ (show l + 28 + τ r' ≠ l + 15 + σ r by omega)]
          exact q2 r' h1 c hc
        · rw [zu_cell _ _ _ (show l + 15 + σ r ≠ l + 28 + τ r by omega)]
          by_cases q : c = j
          · subst q
            rw [zu_same, zu_same]; exact ⟨e1, rfl⟩
          · rw [zu_slot _ _ _ q, zu_slot _ _ _ q, zu_cell _ _ _ (show l + 28 + τ r ≠ l + 15 + σ r by omega)]
            exact q3 c (by omega)
      · have jv : φ1 (g + 85) ((by' * yK T + j) * yK T + k) = yjn T by' j k := by rw [q1 _ (by omega)]; exact D.J.n by' j k hb hj hk
        have jb := yjn_bd V (i := by') (j := j) (k := k) hk
        have rk := hR r hr k hk
        have p := ymul_b (x := yjn T by' j k) (y := R r k) (A := 48) (B := 97) (by omega) (by omega)
        have fk := f1 k hk
        have pl := yplc_lt hb hj hk
        have k3 : yK T * yK T * yK T ≤ 1728 := Nat.mul_le_mul (Nat.mul_le_mul hK hK) hK
        have sb := sumb k (by omega)
        rw [ysum_s, ← Int.add_assoc] at ihk
        rw [r461_47]
        simp (disch := omega) only [r461_0, r461_1, r461_5, r461_6, r461_9, r461_12, r461_13, r461_17, r461_18, r461_21, r461_24, r461_27, r461_28, r461_29, r461_30, r461_31, r461_34, r461_36, r461_37, r461_39, r461_40, r461_41, r461_42, r461_44, r461_45, r461_49, r461_50, r461_53, r461_56, r461_59, r461_61, r461_62, r461_65, r461_68, r461_69, r461_72, r461_73, r461_75, r461_77, r461_80, r461_81, r461_82, r461_85, r461_87, r461_88, r461_90, r461_91, r461_92, r461_93, r461_94, r461_96, r461_99, r461_102, r461_103, r461_106, r461_108, r461_109, r461_111, r461_113, r461_116, r461_117, r461_118, r461_121, r461_123, r461_124, r461_126, r461_127, r461_130, r461_132, r461_133, r461_135, r461_136, r461_137, r461_140, r461_143, r461_146, r461_149, znl_i, znl_r, znl_j, znl_l, List.length_cons, List.length_nil, Option.some.injEq, Sum.inl.injEq, Sum.inr.injEq, Prod.mk.injEq, true_and, and_true, exists_eq_left', zK_sI, zA_sI, zL_sI, zK_sL, zA_sL, zI_sL, zK_fI, zA_fI, zL_fI, zK_fL, zA_fL, zI_fL, Nat.reduceAdd, Nat.reduceLeDiff, forall_eq', zl_lt, zl_gt, zl_eq, zl_le, zl_ge, zm_0, zaft_n, zaft_v, zb_eq, Decidable.not_not, zK_rH, zI_rH, zL_rH, zA_rH, zsI_rH, zsL_rH, zsA_rH, zcpI_rH, zn_b, zm_b, Int.toNat_natCast, Int.toNat_zero, Int.reduceToNat, D.w0, GK.K0, D.a, gk, GA.A13]
        refine ⟨fun z => absurd z (by omega), fun _ => ?_⟩
        refine zc_w (g_place (d := d + 1) GK hK gk hb hj hk) ?_
        simp (disch := omega) only [r461_0, r461_1, r461_5, r461_6, r461_9, r461_12, r461_13, r461_17, r461_18, r461_21, r461_24, r461_27, r461_28, r461_29, r461_30, r461_31, r461_34, r461_36, r461_37, r461_39, r461_40, r461_41, r461_42, r461_44, r461_45, r461_49, r461_50, r461_53, r461_56, r461_59, r461_61, r461_62, r461_65, r461_68, r461_69, r461_72, r461_73, r461_75, r461_77, r461_80, r461_81, r461_82, r461_85, r461_87, r461_88, r461_90, r461_91, r461_92, r461_93, r461_94, r461_96, r461_99, r461_102, r461_103, r461_106, r461_108, r461_109, r461_111, r461_113, r461_116, r461_117, r461_118, r461_121, r461_123, r461_124, r461_126, r461_127, r461_130, r461_132, r461_133, r461_135, r461_136, r461_137, r461_140, r461_143, r461_146, r461_149, znl_i, znl_r, znl_j, znl_l, List.length_cons, List.length_nil, Option.some.injEq, Sum.inl.injEq, Sum.inr.injEq, Prod.mk.injEq, true_and, and_true, exists_eq_left', zK_sI, zA_sI, zL_sI, zK_sL, zA_sL, zI_sL, zK_fI, zA_fI, zL_fI, zK_fL, zA_fL, zI_fL, Nat.reduceAdd, Nat.reduceLeDiff, forall_eq', zl_lt, zl_gt, zl_eq, zl_le, zl_ge, zm_0, zaft_n, zaft_v, zb_eq, Decidable.not_not, zK_rH, zI_rH, zL_rH, zA_rH, zsI_rH, zsL_rH, zsA_rH, zcpI_rH, zn_b, zm_b, Int.toNat_natCast, Int.toNat_zero, Int.reduceToNat, GK.K85, LK.K0, LK.K1, LA.A0, R0, Kr0, jv, fk]
        repeat (refine And.intro (by omega) ?_)
        exact ihk
end
