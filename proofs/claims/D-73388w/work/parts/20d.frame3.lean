/-! ===== the heap grows: c cells, s slots ===== -/
structure zX (c s : Nat) (h h1 : zH) : Prop where
  a : zsz h ≤ zsz h1
  b : zsz h1 ≤ zsz h + c
  n : zN h1 ≤ zN h + s
  K : ∀ q, q < zsz h → zK h1 q = zK h q
  I : ∀ q, q < zsz h → zI h1 q = zI h q
  L : ∀ q, q < zsz h → zL h1 q = zL h q
  A : ∀ q, q < zsz h → zA h1 q = zA h q
theorem zX.refl (h : zH) : zX 0 0 h h := ⟨Nat.le_refl _, by omega, by omega, fun _ _ => rfl, fun _ _ => rfl, fun _ _ => rfl, fun _ _ => rfl⟩
theorem zX.trans {c s c' s' : Nat} {h h1 h2 : zH} (X : zX c s h h1) (Y : zX c' s' h1 h2) : zX (c + c') (s + s') h h2 := by
  have a1 := X.a; have b1 := X.b; have n1 := X.n
  have a2 := Y.a; have b2 := Y.b; have n2 := Y.n
  exact ⟨by omega, by omega, by omega, fun q hq => (Y.K q (by omega)).trans (X.K q hq), fun q hq => (Y.I q (by omega)).trans (X.I q hq), fun q hq => (Y.L q (by omega)).trans (X.L q hq), fun q hq => (Y.A q (by omega)).trans (X.A q hq)⟩
theorem zX.mono {c s c' s' : Nat} {h h1 : zH} (X : zX c s h h1) (hc : c ≤ c') (hs : s ≤ s') : zX c' s' h h1 := by
  have b1 := X.b; have n1 := X.n
  exact ⟨X.a, by omega, by omega, X.K, X.I, X.L, X.A⟩
theorem zX.new (h : zH) (kd : zKd) (n : Nat) : zX 1 n h (znew h kd n) := ⟨Nat.le_succ _, Nat.le_refl _, Nat.le_refl _, fun _ hq => if_neg (Nat.ne_of_lt hq), fun _ hq => if_neg (Nat.ne_of_lt hq), fun _ hq => if_neg (Nat.ne_of_lt hq), fun _ hq => if_neg (Nat.ne_of_lt hq)⟩
theorem rH_new {n b : Nat} {h : zH} {φ ψ : Nat → Nat → Int} {α : Nat → Nat → Option Nat} (kd : zKd) (m : Nat) (hn : b + n ≤ zsz h) : znew (rH n h b φ ψ α) kd m = rH n (znew h kd m) b φ ψ α := by
  refine zeq rfl rfl ?_ ?_ ?_ rfl
  all_goals
    funext c
    show (if c = zsz h then _ else if b ≤ c ∧ c < b + n then _ else _) = (if b ≤ c ∧ c < b + n then _ else if c = zsz h then _ else _)
    by_cases hc : b ≤ c ∧ c < b + n
    · rw [if_neg (by omega), if_pos hc, if_pos hc]
    · rw [if_neg hc, if_neg hc]
section
variable {e : zEv} {d x f o : Nat} {h h1 h2 : zH} {φ φ' φ'' ψ : Nat → Nat → Int} {α α' α'' : Nat → Nat → Option Nat} {F : yF}
theorem fK.X {c s : Nat} (K : fK e h x f) (X : zX c s h h1) : fK e h1 x f := by
  have k1 := K.s
  have k2 := K.n
  have k3 := X.a
  refine ⟨K.b, K.n, by omega, ?_, ?_, ?_, fun i hi => ?_, ?_, ?_, fun i hi => ?_, ?_, ?_, ?_, ?_, ?_, ?_⟩
  all_goals rw [X.K _ (by omega)]
  · exact K.K0
  · exact K.K1
  · exact K.K2
  · exact K.K3 i hi
  · exact K.K6
  · exact K.K7
  · exact K.K8 i hi
  · exact K.K20
  · exact K.K21
  · exact K.K22
  · exact K.K23
  · exact K.K24
  · exact K.K25
/-- how many rows are not laid -/
def fnl (f : Nat) (α : Nat → Nat → Option Nat) : Nat := (ycnt (fun k => (α (f + 6) k).isNone) 12).toNat
theorem fnl_12 (f : Nat) (α : Nat → Nat → Option Nat) : fnl f α ≤ 12 := by
  have := ycnt_bd (fun k => (α (f + 6) k).isNone) 12
  unfold fnl; omega
/-- rows may have been laid -/
structure fP (F : yF) (x f : Nat) (h : zH) (φ : Nat → Nat → Int) (α : Nat → Nat → Option Nat) (h1 : zH) (φ' : Nat → Nat → Int) (α' : Nat → Nat → Option Nat) : Prop where
  c : ∃ c, zX c (8 * c) h h1 ∧ c + fnl f α' ≤ fnl f α
  i : ∀ i, (i < f + 8 ∨ f + 20 ≤ i) → φ' i = φ i
  a : ∀ i, i ≠ f + 6 → α' i = α i
  v : fV F x f φ' α'
theorem fP.refl (v : fV F x f φ α) : fP F x f h φ α h φ α := ⟨⟨0, zX.refl h, by omega⟩, fun _ _ => rfl, fun _ _ => rfl, v⟩
theorem fP.trans (p : fP F x f h φ α h1 φ' α') (q : fP F x f h1 φ' α' h2 φ'' α'') : fP F x f h φ α h2 φ'' α'' := by
  obtain ⟨c, X, k⟩ := p.c
  obtain ⟨c', X', k'⟩ := q.c
  exact ⟨⟨c + c', (X.trans X').mono (by omega) (by omega), by omega⟩, fun i hi => (q.i i hi).trans (p.i i hi), fun i hi => (q.a i hi).trans (p.a i hi), q.v⟩
theorem fP.K (p : fP F x f h φ α h1 φ' α') {f' : Nat} (K : fK e h x f') : fK e h1 x f' := K.X p.c.choose_spec.1
theorem fP.A (p : fP F x f h φ α h1 φ' α') (A : fA x f α) : fA x f α' := A.of fun i hi _ _ => p.a i hi
theorem fP.S (p : fP F x f h φ α h1 φ' α') (S : fS F f φ) : fS F f φ' := S.of fun i _ h2 => p.i i (by omega)
theorem f_apart (K : fK e h x f) (A : fA x f α) (S : fS F f φ) (V : fV F x f φ α) (k j : Nat) (hk : k < F.1) (hj : j < F.1) : zc e (d + 2) 400 [zr (some (x + f)), zi (k : Int), zi (j : Int)] (cH h x φ ψ α)
    (fun ov h' => ov = Sum.inl (some (zi (ydist F k j))) ∧ ∃ h1 φ' α', h' = cH h1 x φ' ψ α' ∧ fP F x f h φ α h1 φ' α') := by
  have kn := K.n
  have kb := K.b
  have ks := K.s
  have hm := S.w.1
  rcases V k (by omega) with v | ⟨_, v, w⟩
  · have X := zX.new h (Sum.inl 15) 8
    have K' := K.X X
    simp (disch := omega) only [n400, r400_0, r400_1, r400_4, r400_5, r400_6, r400_7, r400_7n, r400_8, r400_9, r400_10, r400_11, r400_12, r400_15, r400_16, r400_19, r400_20, r400_21, r400_22, r400_23, znl_i, znl_r, znl_j, znl_l, List.length_cons, List.length_nil, Option.some.injEq, Sum.inl.injEq, Sum.inr.injEq, Prod.mk.injEq, true_and, and_true, exists_eq_left', zK_sI, zA_sI, zL_sI, zK_sL, zA_sL, zI_sL, zK_fI, zA_fI, zL_fI, zK_fL, zA_fL, zI_fL, Nat.reduceAdd, Nat.reduceLeDiff, forall_eq', zl_lt, zl_gt, zl_eq, zl_le, zl_ge, zm_0, zaft_n, zaft_v, zb_eq, Decidable.not_not, zK_rH, zI_rH, zL_rH, zA_rH, zsI_rH, zsL_rH, zsA_rH, zcpI_rH, zn_b, zm_b, Int.toNat_natCast, Int.toNat_zero, Int.reduceToNat, K.K0, K.K1, K.K2, K.K3, K.K6, K.K7, K.K8, K.K20, K.K21, K.K22, K.K23, K.K24, K.K25, A.A1, A.A2, A.A3, A.A4, A.A5, A.A6, A.A7, A.A8, A.A9, A.A10, A.R2, A.R7, v, rH_new]
    refine ⟨by omega, by omega, ?_⟩
    refine ⟨K'.K0, ?_⟩
    refine zc_mono (f_laysRow (d := d) K' A S k hk) ?_
    rintro _ _ ⟨rfl, φ', rfl, q1, q2⟩
    have A' := A.u k (some (x + (f + 8 + k)))
    simp (disch := omega) only [r400_0, r400_1, r400_4, r400_5, r400_6, r400_7, r400_7n, r400_8, r400_9, r400_10, r400_11, r400_12, r400_15, r400_16, r400_19, r400_20, r400_21, r400_22, r400_23, znl_i, znl_r, znl_j, znl_l, List.length_cons, List.length_nil, Option.some.injEq, Sum.inl.injEq, Sum.inr.injEq, Prod.mk.injEq, true_and, and_true, exists_eq_left', zK_sI, zA_sI, zL_sI, zK_sL, zA_sL, zI_sL, zK_fI, zA_fI, zL_fI, zK_fL, zA_fL, zI_fL, Nat.reduceAdd, Nat.reduceLeDiff, forall_eq', zl_lt, zl_gt, zl_eq, zl_le, zl_ge, zm_0, zaft_n, zaft_v, zb_eq, Decidable.not_not, zK_rH, zI_rH, zL_rH, zA_rH, zsI_rH, zsL_rH, zsA_rH, zcpI_rH, zn_b, zm_b, Int.toNat_natCast, Int.toNat_zero, Int.reduceToNat, K'.K0, K'.K1, K'.K2, K'.K3, K'.K6, K'.K7, K'.K8, K'.K20, K'.K21, K'.K22, K'.K23, K'.K24, K'.K25, A'.A1, A'.A2, A'.A3, A'.A4, A'.A5, A'.A6, A'.A7, A'.A8, A'.A9, A'.A10, A'.R2, A'.R7, q2]
    refine ⟨by omega, by omega, by omega, by omega, _, _, _, rfl, ⟨1, X, ?_⟩, fun i hi => q1 i (by omega), fun i hi => zu_cell _ _ _ hi, fun i hi => ?_⟩
    · have h9 := ycnt_add (q := fun i => (zu α (f + 6) k (some (x + (f + 8 + k))) (f + 6) i).isNone) (r := fun i => (α (f + 6) i).isNone) (b := k) (by simp only [zu_same]; rfl) (by simp only [v]; rfl) (fun i hi => by simp only [zu_slot _ _ _ hi]) 12
      have b1 := ycnt_bd (fun i => (zu α (f + 6) k (some (x + (f + 8 + k))) (f + 6) i).isNone) 12
      rw [if_pos (by omega)] at h9
      unfold fnl
      omega
    · by_cases c : i = k
      · subst c; exact Or.inr ⟨hk, zu_same _ _ _ _, q2⟩
      · rw [zu_slot _ _ _ c]
        rcases V i hi with z | ⟨z1, z2, z3⟩
        · exact Or.inl z
        · refine Or.inr ⟨z1, z2, fun j hj => ?_⟩
          rw [q1 _ (by omega)]; exact z3 j hj
  · simp (disch := omega) only [n400, r400_0, r400_1, r400_4, r400_5, r400_6, r400_7, r400_7n, r400_8, r400_9, r400_10, r400_11, r400_12, r400_15, r400_16, r400_19, r400_20, r400_21, r400_22, r400_23, znl_i, znl_r, znl_j, znl_l, List.length_cons, List.length_nil, Option.some.injEq, Sum.inl.injEq, Sum.inr.injEq, Prod.mk.injEq, true_and, and_true, exists_eq_left', zK_sI, zA_sI, zL_sI, zK_sL, zA_sL, zI_sL, zK_fI, zA_fI, zL_fI, zK_fL, zA_fL, zI_fL, Nat.reduceAdd, Nat.reduceLeDiff, forall_eq', zl_lt, zl_gt, zl_eq, zl_le, zl_ge, zm_0, zaft_n, zaft_v, zb_eq, Decidable.not_not, zK_rH, zI_rH, zL_rH, zA_rH, zsI_rH, zsL_rH, zsA_rH, zcpI_rH, zn_b, zm_b, Int.toNat_natCast, Int.toNat_zero, Int.reduceToNat, K.K0, K.K1, K.K2, K.K3, K.K6, K.K7, K.K8, K.K20, K.K21, K.K22, K.K23, K.K24, K.K25, A.A1, A.A2, A.A3, A.A4, A.A5, A.A6, A.A7, A.A8, A.A9, A.A10, A.R2, A.R7, v, w]
    exact ⟨by omega, by omega, by omega, by omega, h, φ, α, rfl, fP.refl V⟩
end
