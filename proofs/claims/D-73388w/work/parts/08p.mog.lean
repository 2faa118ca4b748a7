/-! ===== the reference: shape, cells ===== -/
noncomputable def ycb (F : yF) (k o : Nat) : Bool := @decide (yC F k o) (Classical.propDecidable _)
/-- the least atom of an atom's cell -/
noncomputable def ycl (F : yF) (k : Nat) : Int := yfind (ycb F k) F.1 0
noncomputable def s_cellMany (s : yS) : yS × Int := (yst 0 s, ycnt (fun k => decide (ycl s.1 k = (k : Int))) s.1.1)
noncomputable def s_cellOf (s : yS) (k : Int) : yS × Int := if k < 0 then (yst 1 s, -1) else if ¬ k < (s.1.1 : Int) then (yst 3 s, -1) else (yst 0 s, ycl s.1 k.toNat)
def s_shape (s : yS) : yS × Int := (yst 0 s, yshape s.1)
theorem yit_refl (F : yF) (t k : Nat) : yit F t k k = true := by
  induction t with
  | zero => simp [yit]
  | succ t ih =>
    show yref F (yit F t) k k = true
    simp only [yref, ih, Bool.true_and, decide_eq_true_iff]
    rw [yfind_none]
    intro z _ _
    simp [ylike]
theorem ycb_eq {F : yF} {t : Nat} (h : yfix F (yit F t)) {k o : Nat} (hk : k < F.1) (ho : o < F.1) : ycb F k o = yit F t k o := by
  have := yC_iff h hk ho
  cases hq : yit F t k o with
  | true => rw [hq] at this; simp only [ycb]; exact @decide_eq_true _ (Classical.propDecidable _) (this.mp rfl)
  | false => rw [hq] at this; simp only [ycb]; exact @decide_eq_false _ (Classical.propDecidable _) (fun z => by have := this.mpr z; cases this)
theorem ycl_eq {F : yF} {t : Nat} (h : yfix F (yit F t)) {k : Nat} (hk : k < F.1) : ycl F k = yfind (yit F t k) F.1 0 := yfind_congr (fun o _ ho => ycb_eq h hk (by omega))
/-- cells that a question may change -/
def mScr (a b : Nat) : Prop := b = a ∨ b = a + 2 ∨ (a + 4 ≤ b ∧ b ≤ a + 9)
def mQ1 (e : zEv) (a : Nat) (h : zH) (r : yS × Int) (o : zO) (h' : zH) : Prop := o = Sum.inl (some (zi r.2)) ∧ mB e a h' r.1 ∧ zonly (mScr a) h h' ∧ (∀ j, j ≠ 2 → j ≠ 7 → j ≠ 20 → j ≠ 21 → zI h' a j = zI h a j) ∧ ∀ j, j ≠ 3 → j ≠ 4 → zL h' a j = zL h a j
theorem mB.scr {e : zEv} {a : Nat} {h h' : zH} {s : yS} (B : mB e a h s) {v : Int} (ho : zonly (fun b => b = a ∨ (a + 4 ≤ b ∧ b ≤ a + 9)) h h') (h2 : zI h' a 2 = v) (hI : ∀ j, j ≠ 2 → j ≠ 20 → j ≠ 21 → zI h' a j = zI h a j) (hL : zL h' a = zL h a) : mB e a h' (yst v s) := by
  obtain ⟨H, hF, b1, b2, b3, b4, b5, b6, b7, b8, b9⟩ := B
  obtain ⟨o1, o2, o3, o4, o5⟩ := ho
  have q1 := (o5 (a + 1) (by omega)).1
  have q2 := (o5 (a + 2) (by omega)).1
  refine ⟨zmo.of o2 o3 H, by rw [q1]; exact hF, ?_, h2, ?_, ?_, ?_, b6, fun j hj => ?_, ?_, ?_⟩
  · rw [hI 1 (by decide) (by decide) (by decide)]; exact b1
  · rw [hL]; exact b3
  · rw [hL]; exact b4
  · rw [hI 7 (by decide) (by decide) (by decide)]; exact b5
  · rw [q2]; exact b7 j hj
  · rw [hI 15 (by decide) (by decide) (by decide)]; exact b8
  · rw [hI 14 (by decide) (by decide) (by decide)]; exact b9
theorem mQ1.scr {e : zEv} {a : Nat} {h h' : zH} {s : yS} (B : mB e a h s) {v w : Int} (ho : zonly (fun b => b = a ∨ (a + 4 ≤ b ∧ b ≤ a + 9)) h h') (h2 : zI h' a 2 = v) (hI : ∀ j, j ≠ 2 → j ≠ 20 → j ≠ 21 → zI h' a j = zI h a j) (hL : zL h' a = zL h a) : mQ1 e a h (yst v s, w) (Sum.inl (some (zi w))) h' :=
  ⟨rfl, B.scr ho h2 hI hL, ho.mono (fun b q => by rcases q with q | q; exact Or.inl q; exact Or.inr (Or.inr q)), fun j q1 _ q3 q4 => hI j q1 q3 q4, fun j _ _ => by rw [hL]⟩
section
variable {e : zEv} {a d : Nat} {h : zH} {s : yS}
theorem mQ1_ref (B : mB e a h s) (v w : Int) : mQ1 e a h (yst v s, w) (Sum.inl (some (zi w))) (zsI h a 2 v) :=
  mQ1.scr B (zonly.sI (Or.inl rfl)) (by rw [zI_sI, zu_same]) (fun j q _ _ => by rw [zI_sI, zu_slot _ _ _ q]) rfl
theorem mW3_only (h : zH) (a : Nat) (f S X) : zonly (fun b => b = a ∨ (a + 4 ≤ b ∧ b ≤ a + 9)) h (mW3 h a f S X) :=
  ((zonly.fI (Or.inl rfl)).trans (zonly.fL (Or.inr ⟨by omega, by omega⟩))).trans (zonly.fL (Or.inr ⟨by omega, by omega⟩))
theorem mW2_only (h : zH) (a : Nat) (B C) : zonly (fun b => b = a ∨ (a + 4 ≤ b ∧ b ≤ a + 9)) h (mW2 h a B C) :=
  (zonly.fI (Or.inr ⟨by omega, by omega⟩)).trans (zonly.fI (Or.inr ⟨by omega, by omega⟩))
theorem m_shape (B : mB e a h s) : zc e (d + 4) 255 [zr (some a)] h (mQ1 e a h (s_shape s)) := by
  have H := B.1
  have hF := B.2.1
  simp only [n255, r255_0, r255_1, r255_2, r255_5, r255_8, znl_i, znl_r, znl_j, znl_l, List.length_cons, List.length_nil, Option.some.injEq, Sum.inl.injEq, Sum.inr.injEq, Prod.mk.injEq, true_and, and_true, exists_eq_left', zK_sI, zA_sI, zL_sI, zK_sL, zA_sL, zI_sL, zK_fI, zA_fI, zL_fI, zK_fL, zA_fL, zI_fL, Nat.reduceAdd, Nat.reduceLeDiff, forall_eq', zl_lt, zl_gt, zl_eq, zl_le, zl_ge, zm_0, zaft_n, zaft_v, zb_eq, Decidable.not_not, H.K]
  refine zc_mono (m_shapeNow H s.1 hF.2.1 hF.1.1 hF.1.2.2.1) ?_
  rintro _ _ ⟨rfl, S, X, rfl⟩
  simp only [r255_0, r255_1, r255_2, r255_5, r255_8, znl_i, znl_r, znl_j, znl_l, List.length_cons, List.length_nil, Option.some.injEq, Sum.inl.injEq, Sum.inr.injEq, Prod.mk.injEq, true_and, and_true, exists_eq_left', zK_sI, zA_sI, zL_sI, zK_sL, zA_sL, zI_sL, zK_fI, zA_fI, zL_fI, zK_fL, zA_fL, zI_fL, Nat.reduceAdd, Nat.reduceLeDiff, forall_eq', zl_lt, zl_gt, zl_eq, zl_le, zl_ge, zm_0, zaft_n, zaft_v, zb_eq, Decidable.not_not]
  refine ⟨H.K, zc_w (m_gives (h := mW3 h a _ S X) H _) ?_⟩
  simp only [r255_0, r255_1, r255_2, r255_5, r255_8, znl_i, znl_r, znl_j, znl_l, List.length_cons, List.length_nil, Option.some.injEq, Sum.inl.injEq, Sum.inr.injEq, Prod.mk.injEq, true_and, and_true, exists_eq_left', zK_sI, zA_sI, zL_sI, zK_sL, zA_sL, zI_sL, zK_fI, zA_fI, zL_fI, zK_fL, zA_fL, zI_fL, Nat.reduceAdd, Nat.reduceLeDiff, forall_eq', zl_lt, zl_gt, zl_eq, zl_le, zl_ge, zm_0, zaft_n, zaft_v, zb_eq, Decidable.not_not]
  refine mQ1.scr B ((mW3_only h a _ S X).trans (zonly.sI (Or.inl rfl))) (by rw [zI_sI, zu_same]) (fun j q1 q2 q3 => ?_) ?_
  · rw [zI_sI, zu_slot _ _ _ q1, mW3_vf]; simp [zup, q2, q3]
  · rw [zL_sI]; unfold mW3; rw [zL_fL_n _ _ (by omega), zL_fL_n _ _ (by omega)]; rfl
theorem m_firstOf (H : zmo e a h) (F : yF) (S : yP) (k : Nat) (hn : F.1 ≤ 12) (hS : mP F.1 (zI h (a + 8)) S) (hk : k < F.1) (hr : S k k = true) : zc e (d + 1) 265 [zr (some a), zi k] h (fun ov h' => ov = Sum.inl (some (zi (yfind (S k) F.1 0))) ∧ h' = h) := by
  have loop : ∀ (j o : Nat), o + j = F.1 → o ≤ k → zg e 265 d 2 [zr (some a), zi k, zi o] [] h (fun ov h' => ov = Sum.inl (some (zi (yfind (S k) j o))) ∧ h' = h) := by
    intro j
    induction j with
    | zero => intro o ho hok; omega
    | succ j ih =>
      intro o ho hok
      have hb := hS k o hk (by omega)
      rw [r265_2]
      simp only [r265_0, r265_1, r265_3, r265_6, r265_8, r265_9, r265_10, r265_11, r265_12, r265_13, r265_16, r265_19, r265_22, r265_23, znl_i, znl_r, znl_j, znl_l, List.length_cons, List.length_nil, Option.some.injEq, Sum.inl.injEq, Sum.inr.injEq, Prod.mk.injEq, true_and, and_true, exists_eq_left', zK_sI, zA_sI, zL_sI, zK_sL, zA_sL, zI_sL, zK_fI, zA_fI, zL_fI, zK_fL, zA_fL, zI_fL, Nat.reduceAdd, Nat.reduceLeDiff, forall_eq', zl_lt, zl_gt, zl_eq, zl_le, zl_ge, zm_0, zaft_n, zaft_v, zb_eq, Decidable.not_not, H.K, H.A25, H.K8]
      cases hq : S k o with
      | true =>
        rw [hq] at hb
        simp (disch := omega) only [zn_b, show ((12 : Int) * k + o).toNat = 12 * k + o by omega, hb, show zn (yb true) = 1 by decide]
        rw [yfind_t hq]
        exact ⟨by omega, by omega, fun _ => rfl, fun z => absurd z (by decide)⟩
      | false =>
        rw [hq] at hb
        have hne : o ≠ k := fun z => by rw [z, hr] at hq; cases hq
        simp (disch := omega) only [zn_b, show ((12 : Int) * k + o).toNat = 12 * k + o by omega, hb, show zn (yb false) = 0 by decide]
        rw [yfind_f hq]
        exact ⟨by omega, by omega, fun z => absurd trivial z, fun _ => ih (o + 1) (by omega) (by omega)⟩
  simp only [n265, r265_0, r265_1, r265_3, r265_6, r265_8, r265_9, r265_10, r265_11, r265_12, r265_13, r265_16, r265_19, r265_22, r265_23, znl_i, znl_r, znl_j, znl_l, List.length_cons, List.length_nil, Option.some.injEq, Sum.inl.injEq, Sum.inr.injEq, Prod.mk.injEq, true_and, and_true, exists_eq_left', zK_sI, zA_sI, zL_sI, zK_sL, zA_sL, zI_sL, zK_fI, zA_fI, zL_fI, zK_fL, zA_fL, zI_fL, Nat.reduceAdd, Nat.reduceLeDiff, forall_eq', zl_lt, zl_gt, zl_eq, zl_le, zl_ge, zm_0, zaft_n, zaft_v, zb_eq, Decidable.not_not]
  exact loop F.1 0 (by omega) (by omega)
theorem m_cellMany (B : mB e a h s) : zc e (d + 5) 262 [zr (some a)] h (mQ1 e a h (s_cellMany s)) := by
  have H := B.1
  have hF := B.2.1
  have hn := hF.1.1
  have e0 : zn 0 = 0 := by decide
  simp only [n262, r262_0, r262_1, r262_2, r262_3, r262_6, r262_7, r262_9, r262_10, r262_13, r262_14, r262_15, r262_18, r262_19, r262_20, r262_21, r262_24, r262_25, r262_28, r262_29, r262_32, r262_33, r262_34, r262_35, r262_38, r262_41, r262_42, r262_43, r262_46, znl_i, znl_r, znl_j, znl_l, List.length_cons, List.length_nil, Option.some.injEq, Sum.inl.injEq, Sum.inr.injEq, Prod.mk.injEq, true_and, and_true, exists_eq_left', zK_sI, zA_sI, zL_sI, zK_sL, zA_sL, zI_sL, zK_fI, zA_fI, zL_fI, zK_fL, zA_fL, zI_fL, Nat.reduceAdd, Nat.reduceLeDiff, forall_eq', zl_lt, zl_gt, zl_eq, zl_le, zl_ge, zm_0, zaft_n, zaft_v, zb_eq, Decidable.not_not, H.K]
  refine zc_mono (m_laysCells H s.1 hF.2.1 hn hF.1) ?_
  rintro _ _ ⟨rfl, B8, C, t, rfl, hP, hfx⟩
  have F2 : mF (zI (mW2 h a B8 C) (a + 1)) 0 s.1 := by rw [mW2_v _ _ _ _ (by omega) (by omega)]; exact hF.2.1
  have a0 : zI (mW2 h a B8 C) (a + 1) 0 = (s.1.1 : Int) := F2.1
  have K2 : zK (mW2 h a B8 C) = zK h := rfl
  have A2 : zA (mW2 h a B8 C) = zA h := rfl
  have loop : ∀ (j k : Nat), k + j = s.1.1 → zg e 262 (d + 4) 8 [zr (some a), zi (ycnt (fun k => decide (ycl s.1 k = (k : Int))) k), zi k] [] (mW2 h a B8 C) (mQ1 e a h (s_cellMany s)) := by
    intro j
    induction j with
    | zero =>
      intro k hk
      obtain rfl : k = s.1.1 := by omega
      rw [r262_8]
      simp only [r262_0, r262_1, r262_2, r262_3, r262_6, r262_7, r262_9, r262_10, r262_13, r262_14, r262_15, r262_18, r262_19, r262_20, r262_21, r262_24, r262_25, r262_28, r262_29, r262_32, r262_33, r262_34, r262_35, r262_38, r262_41, r262_42, r262_43, r262_46, znl_i, znl_r, znl_j, znl_l, List.length_cons, List.length_nil, Option.some.injEq, Sum.inl.injEq, Sum.inr.injEq, Prod.mk.injEq, true_and, and_true, exists_eq_left', zK_sI, zA_sI, zL_sI, zK_sL, zA_sL, zI_sL, zK_fI, zA_fI, zL_fI, zK_fL, zA_fL, zI_fL, Nat.reduceAdd, Nat.reduceLeDiff, forall_eq', zl_lt, zl_gt, zl_eq, zl_le, zl_ge, zm_0, zaft_n, zaft_v, zb_eq, Decidable.not_not, K2, A2, H.K, H.A0, H.K1, e0, Int.toNat_zero, a0]
      simp (disch := omega) only [zn_b, zm_b, Int.toNat_natCast]
      refine ⟨by omega, by omega, fun _ => ?_, fun z => by omega⟩
      refine zc_w (m_gives (h := mW2 h a B8 C) H _) ?_
      simp only [r262_0, r262_1, r262_2, r262_3, r262_6, r262_7, r262_9, r262_10, r262_13, r262_14, r262_15, r262_18, r262_19, r262_20, r262_21, r262_24, r262_25, r262_28, r262_29, r262_32, r262_33, r262_34, r262_35, r262_38, r262_41, r262_42, r262_43, r262_46, znl_i, znl_r, znl_j, znl_l, List.length_cons, List.length_nil, Option.some.injEq, Sum.inl.injEq, Sum.inr.injEq, Prod.mk.injEq, true_and, and_true, exists_eq_left', zK_sI, zA_sI, zL_sI, zK_sL, zA_sL, zI_sL, zK_fI, zA_fI, zL_fI, zK_fL, zA_fL, zI_fL, Nat.reduceAdd, Nat.reduceLeDiff, forall_eq', zl_lt, zl_gt, zl_eq, zl_le, zl_ge, zm_0, zaft_n, zaft_v, zb_eq, Decidable.not_not]
      refine mQ1.scr B ((mW2_only h a B8 C).trans (zonly.sI (Or.inl rfl))) (by rw [zI_sI, zu_same]) (fun j q1 q2 q3 => ?_) rfl
      rw [zI_sI, zu_slot _ _ _ q1, mW2_v _ _ _ _ (by omega) (by omega)]
    | succ j ih =>
      intro k hk
      have nx := ih (k + 1) (by omega)
      rw [ycnt_s] at nx
      have hkn : k < s.1.1 := by omega
      have fb := yfind_bd (yit s.1 t k) s.1.1 0
      have hc := ycl_eq hfx hkn
      rw [r262_8]
      simp only [r262_0, r262_1, r262_2, r262_3, r262_6, r262_7, r262_9, r262_10, r262_13, r262_14, r262_15, r262_18, r262_19, r262_20, r262_21, r262_24, r262_25, r262_28, r262_29, r262_32, r262_34, r262_35, r262_38, r262_41, r262_42, r262_43, r262_46, znl_i, znl_r, znl_j, znl_l, List.length_cons, List.length_nil, Option.some.injEq, Sum.inl.injEq, Sum.inr.injEq, Prod.mk.injEq, true_and, and_true, exists_eq_left', zK_sI, zA_sI, zL_sI, zK_sL, zA_sL, zI_sL, zK_fI, zA_fI, zL_fI, zK_fL, zA_fL, zI_fL, Nat.reduceAdd, Nat.reduceLeDiff, forall_eq', zl_lt, zl_gt, zl_eq, zl_le, zl_ge, zm_0, zaft_n, zaft_v, zb_eq, Decidable.not_not, K2, A2, H.K, H.A0, H.K1, e0, Int.toNat_zero, a0]
      simp (disch := omega) only [zn_b, zm_b, Int.toNat_natCast]
      refine ⟨by omega, by omega, fun z => by omega, fun _ => ?_⟩
      refine zc_w (m_firstOf (h := mW2 h a B8 C) H s.1 (yit s.1 t) k hn (by rw [mW2_v8]; exact hP) hkn (yit_refl _ _ _)) ?_
      simp only [r262_0, r262_1, r262_2, r262_3, r262_6, r262_7, r262_9, r262_10, r262_13, r262_14, r262_15, r262_18, r262_19, r262_20, r262_21, r262_24, r262_25, r262_28, r262_29, r262_32, r262_34, r262_35, r262_38, r262_41, r262_42, r262_43, r262_46, znl_i, znl_r, znl_j, znl_l, List.length_cons, List.length_nil, Option.some.injEq, Sum.inl.injEq, Sum.inr.injEq, Prod.mk.injEq, true_and, and_true, exists_eq_left', zK_sI, zA_sI, zL_sI, zK_sL, zA_sL, zI_sL, zK_fI, zA_fI, zL_fI, zK_fL, zA_fL, zI_fL, Nat.reduceAdd, Nat.reduceLeDiff, forall_eq', zl_lt, zl_gt, zl_eq, zl_le, zl_ge, zm_0, zaft_n, zaft_v, zb_eq, Decidable.not_not]
      rw [zn_b (x := yfind _ _ _) (by omega) (by omega), zn_b (x := (k : Int)) (by omega) (by omega)]
      refine ⟨fun q => ?_, fun q => ?_⟩
      · rw [show decide (ycl s.1 k = (k : Int)) = false from decide_eq_false (by rw [hc]; exact q)] at nx
        simp only [r262_0, r262_1, r262_2, r262_3, r262_6, r262_7, r262_9, r262_10, r262_13, r262_14, r262_15, r262_18, r262_19, r262_20, r262_21, r262_24, r262_25, r262_28, r262_29, r262_32, r262_33, r262_34, r262_35, r262_38, r262_41, r262_42, r262_43, r262_46, znl_i, znl_r, znl_j, znl_l, List.length_cons, List.length_nil, Option.some.injEq, Sum.inl.injEq, Sum.inr.injEq, Prod.mk.injEq, true_and, and_true, exists_eq_left', zK_sI, zA_sI, zL_sI, zK_sL, zA_sL, zI_sL, zK_fI, zA_fI, zL_fI, zK_fL, zA_fL, zI_fL, Nat.reduceAdd, Nat.reduceLeDiff, forall_eq', zl_lt, zl_gt, zl_eq, zl_le, zl_ge, zm_0, zaft_n, zaft_v, zb_eq, Decidable.not_not]
        exact nx
      · rw [show decide (ycl s.1 k = (k : Int)) = true from decide_eq_true (by rw [hc]; exact q)] at nx
        simp only [r262_0, r262_1, r262_2, r262_3, r262_6, r262_7, r262_9, r262_10, r262_13, r262_14, r262_15, r262_18, r262_19, r262_20, r262_21, r262_24, r262_25, r262_28, r262_29, r262_32, r262_33, r262_34, r262_35, r262_38, r262_41, r262_42, r262_43, r262_46, znl_i, znl_r, znl_j, znl_l, List.length_cons, List.length_nil, Option.some.injEq, Sum.inl.injEq, Sum.inr.injEq, Prod.mk.injEq, true_and, and_true, exists_eq_left', zK_sI, zA_sI, zL_sI, zK_sL, zA_sL, zI_sL, zK_fI, zA_fI, zL_fI, zK_fL, zA_fL, zI_fL, Nat.reduceAdd, Nat.reduceLeDiff, forall_eq', zl_lt, zl_gt, zl_eq, zl_le, zl_ge, zm_0, zaft_n, zaft_v, zb_eq, Decidable.not_not]
        exact nx
  simp only [r262_0, r262_1, r262_2, r262_3, r262_6, r262_7, r262_9, r262_10, r262_13, r262_14, r262_15, r262_18, r262_19, r262_20, r262_21, r262_24, r262_25, r262_28, r262_29, r262_32, r262_33, r262_34, r262_35, r262_38, r262_41, r262_42, r262_43, r262_46, znl_i, znl_r, znl_j, znl_l, List.length_cons, List.length_nil, Option.some.injEq, Sum.inl.injEq, Sum.inr.injEq, Prod.mk.injEq, true_and, and_true, exists_eq_left', zK_sI, zA_sI, zL_sI, zK_sL, zA_sL, zI_sL, zK_fI, zA_fI, zL_fI, zK_fL, zA_fL, zI_fL, Nat.reduceAdd, Nat.reduceLeDiff, forall_eq', zl_lt, zl_gt, zl_eq, zl_le, zl_ge, zm_0, zaft_n, zaft_v, zb_eq, Decidable.not_not]
  exact loop s.1.1 0 (by omega)
theorem m_cellOf (B : mB e a h s) (k : Int) (hk : yi k) : zc e (d + 5) 266 [zr (some a), zi k] h (mQ1 e a h (s_cellOf s k)) := by
  have H := B.1
  have hF := B.2.1
  have hn := hF.1.1
  have e0 : zn 0 = 0 := by decide
  have fin : ∀ v, (v = 1 ∨ v = 3) → s_cellOf s k = (yst v s, -1) → zg e 266 (d + 4) 5 [zr (some a), zi k, zj] [zi v] h (mQ1 e a h (s_cellOf s k)) := fun v hv hs => by
    simp only [r266_0, r266_1, r266_2, r266_5, r266_6, r266_7, r266_10, r266_11, r266_12, r266_15, r266_16, r266_17, r266_20, r266_21, r266_22, r266_23, r266_26, r266_29, znl_i, znl_r, znl_j, znl_l, List.length_cons, List.length_nil, Option.some.injEq, Sum.inl.injEq, Sum.inr.injEq, Prod.mk.injEq, true_and, and_true, exists_eq_left', zK_sI, zA_sI, zL_sI, zK_sL, zA_sL, zI_sL, zK_fI, zA_fI, zL_fI, zK_fL, zA_fL, zI_fL, Nat.reduceAdd, Nat.reduceLeDiff, forall_eq', zl_lt, zl_gt, zl_eq, zl_le, zl_ge, zm_0, zaft_n, zaft_v, zb_eq, Decidable.not_not, H.K]
    rw [hs]
    refine ⟨fun q => ?_, fun _ => ?_⟩
    · rw [zn_b (by omega) (by omega)] at q; omega
    · refine zc_w (m_refuse H v) ?_
      simp only [r266_0, r266_1, r266_2, r266_5, r266_6, r266_7, r266_10, r266_11, r266_12, r266_15, r266_16, r266_17, r266_20, r266_21, r266_22, r266_23, r266_26, r266_29, znl_i, znl_r, znl_j, znl_l, List.length_cons, List.length_nil, Option.some.injEq, Sum.inl.injEq, Sum.inr.injEq, Prod.mk.injEq, true_and, and_true, exists_eq_left', zK_sI, zA_sI, zL_sI, zK_sL, zA_sL, zI_sL, zK_fI, zA_fI, zL_fI, zK_fL, zA_fL, zI_fL, Nat.reduceAdd, Nat.reduceLeDiff, forall_eq', zl_lt, zl_gt, zl_eq, zl_le, zl_ge, zm_0, zaft_n, zaft_v, zb_eq, Decidable.not_not, H.K]
      exact mQ1_ref B v (-1)
  simp only [n266, r266_0, r266_1, r266_2, r266_6, r266_7, r266_10, r266_11, r266_12, r266_15, r266_16, r266_17, r266_20, r266_21, r266_22, r266_23, r266_26, r266_29, znl_i, znl_r, znl_j, znl_l, List.length_cons, List.length_nil, Option.some.injEq, Sum.inl.injEq, Sum.inr.injEq, Prod.mk.injEq, true_and, and_true, exists_eq_left', zK_sI, zA_sI, zL_sI, zK_sL, zA_sL, zI_sL, zK_fI, zA_fI, zL_fI, zK_fL, zA_fL, zI_fL, Nat.reduceAdd, Nat.reduceLeDiff, forall_eq', zl_lt, zl_gt, zl_eq, zl_le, zl_ge, zm_0, zaft_n, zaft_v, zb_eq, Decidable.not_not, H.K]
  refine zc_w (m_wrongAtom H s.1 k hF.2.1 hn) ?_
  simp only [r266_0, r266_1, r266_2, r266_6, r266_7, r266_10, r266_11, r266_12, r266_15, r266_16, r266_17, r266_20, r266_21, r266_22, r266_23, r266_26, r266_29, znl_i, znl_r, znl_j, znl_l, List.length_cons, List.length_nil, Option.some.injEq, Sum.inl.injEq, Sum.inr.injEq, Prod.mk.injEq, true_and, and_true, exists_eq_left', zK_sI, zA_sI, zL_sI, zK_sL, zA_sL, zI_sL, zK_fI, zA_fI, zL_fI, zK_fL, zA_fL, zI_fL, Nat.reduceAdd, Nat.reduceLeDiff, forall_eq', zl_lt, zl_gt, zl_eq, zl_le, zl_ge, zm_0, zaft_n, zaft_v, zb_eq, Decidable.not_not, H.K]
  rw [zn_i hk]
  by_cases q3 : k < 0
  · rw [if_pos q3]; exact fin 1 (Or.inl rfl) (by rw [s_cellOf, if_pos q3])
  · rw [if_neg q3]
    by_cases q4 : k < (s.1.1 : Int)
    · rw [if_pos q4]
      have hs : s_cellOf s k = (yst 0 s, ycl s.1 k.toNat) := by rw [s_cellOf, if_neg q3, if_neg (by omega)]
      simp only [r266_0, r266_1, r266_2, r266_5, r266_6, r266_7, r266_10, r266_11, r266_12, r266_15, r266_16, r266_17, r266_20, r266_21, r266_22, r266_23, r266_26, r266_29, znl_i, znl_r, znl_j, znl_l, List.length_cons, List.length_nil, Option.some.injEq, Sum.inl.injEq, Sum.inr.injEq, Prod.mk.injEq, true_and, and_true, exists_eq_left', zK_sI, zA_sI, zL_sI, zK_sL, zA_sL, zI_sL, zK_fI, zA_fI, zL_fI, zK_fL, zA_fL, zI_fL, Nat.reduceAdd, Nat.reduceLeDiff, forall_eq', zl_lt, zl_gt, zl_eq, zl_le, zl_ge, zm_0, zaft_n, zaft_v, zb_eq, Decidable.not_not, H.K]
      rw [hs, e0]
      refine ⟨fun _ => ?_, fun q => absurd q (by decide)⟩
      obtain ⟨n, rfl⟩ : ∃ n : Nat, k = (n : Int) := ⟨k.toNat, by omega⟩
      rw [Int.toNat_natCast]
      refine zc_mono (m_laysCells H s.1 hF.2.1 hn hF.1) ?_
      rintro _ _ ⟨rfl, B8, C, t, rfl, hP, hfx⟩
      simp only [r266_0, r266_1, r266_2, r266_5, r266_6, r266_7, r266_10, r266_11, r266_12, r266_15, r266_16, r266_17, r266_20, r266_21, r266_22, r266_23, r266_26, r266_29, znl_i, znl_r, znl_j, znl_l, List.length_cons, List.length_nil, Option.some.injEq, Sum.inl.injEq, Sum.inr.injEq, Prod.mk.injEq, true_and, and_true, exists_eq_left', zK_sI, zA_sI, zL_sI, zK_sL, zA_sL, zI_sL, zK_fI, zA_fI, zL_fI, zK_fL, zA_fL, zI_fL, Nat.reduceAdd, Nat.reduceLeDiff, forall_eq', zl_lt, zl_gt, zl_eq, zl_le, zl_ge, zm_0, zaft_n, zaft_v, zb_eq, Decidable.not_not]
      refine ⟨H.K, zc_w (m_firstOf (h := mW2 h a B8 C) H s.1 (yit s.1 t) n hn (by rw [mW2_v8]; exact hP) (by omega) (yit_refl _ _ _)) ?_⟩
      rw [← ycl_eq hfx (by omega)]
      simp only [r266_0, r266_1, r266_2, r266_5, r266_6, r266_7, r266_10, r266_11, r266_12, r266_15, r266_16, r266_17, r266_20, r266_21, r266_22, r266_23, r266_26, r266_29, znl_i, znl_r, znl_j, znl_l, List.length_cons, List.length_nil, Option.some.injEq, Sum.inl.injEq, Sum.inr.injEq, Prod.mk.injEq, true_and, and_true, exists_eq_left', zK_sI, zA_sI, zL_sI, zK_sL, zA_sL, zI_sL, zK_fI, zA_fI, zL_fI, zK_fL, zA_fL, zI_fL, Nat.reduceAdd, Nat.reduceLeDiff, forall_eq', zl_lt, zl_gt, zl_eq, zl_le, zl_ge, zm_0, zaft_n, zaft_v, zb_eq, Decidable.not_not]
      refine ⟨H.K, zc_w (m_gives (h := mW2 h a B8 C) H _) ?_⟩
      simp only [r266_0, r266_1, r266_2, r266_5, r266_6, r266_7, r266_10, r266_11, r266_12, r266_15, r266_16, r266_17, r266_20, r266_21, r266_22, r266_23, r266_26, r266_29, znl_i, znl_r, znl_j, znl_l, List.length_cons, List.length_nil, Option.some.injEq, Sum.inl.injEq, Sum.inr.injEq, Prod.mk.injEq, true_and, and_true, exists_eq_left', zK_sI, zA_sI, zL_sI, zK_sL, zA_sL, zI_sL, zK_fI, zA_fI, zL_fI, zK_fL, zA_fL, zI_fL, Nat.reduceAdd, Nat.reduceLeDiff, forall_eq', zl_lt, zl_gt, zl_eq, zl_le, zl_ge, zm_0, zaft_n, zaft_v, zb_eq, Decidable.not_not]
      refine mQ1.scr B ((mW2_only h a B8 C).trans (zonly.sI (Or.inl rfl))) (by rw [zI_sI, zu_same]) (fun j q1 q2 q3 => ?_) rfl
      rw [zI_sI, zu_slot _ _ _ q1, mW2_v _ _ _ _ (by omega) (by omega)]
    · rw [if_neg q4]; exact fin 3 (Or.inr rfl) (by rw [s_cellOf, if_neg q3, if_pos q4])
end
