/-! ===== the reference: stretch, back, far, feed, fault ===== -/
def s_far (s : yS) (k o : Int) : yS × Int :=
  if k < 0 ∨ o < 0 then (yst 1 s, -1) else if ¬ (k < (s.1.1 : Int) ∧ o < (s.1.1 : Int)) then (yst 3 s, -1) else (yst 0 s, ydist s.1 k.toNat o.toNat)
def s_fault (s : yS) (w : Int) : yS × Int := (s, if w = 0 then s.2.2.2.2.1 else if w = 1 then s.2.2.2.2.2 else -1)
/-- four bytes of a number come to a tape -/
def ybyte (v : Int) (k : Nat) : Int := zi2b (zi2b (zshr v (8 * (3 - (k : Int)))))
def yfour (t : Nat) (f : Nat → Int) (v : Int) : Nat → Int := fun j => if t ≤ j ∧ j < t + 4 then ybyte v (j - t) else f j
def s_feed (s : yS) (v1 v2 v3 v4 v5 : Int) : yS × Int :=
  if 580 < s.2.2.2.1.1 then (s, -1) else
  ((s.1, s.2.1, s.2.2.1, (s.2.2.2.1.1 + 20, yfour (s.2.2.2.1.1 + 16) (yfour (s.2.2.2.1.1 + 12) (yfour (s.2.2.2.1.1 + 8) (yfour (s.2.2.2.1.1 + 4) (yfour s.2.2.2.1.1 s.2.2.2.1.2 v1) v2) v3) v4) v5), s.2.2.2.2), (s.2.2.2.1.1 : Int) + 20)
/-- what a call leaves that touches the status, the tape and fractions alone -/
def mQ0 (e : zEv) (a : Nat) (h : zH) (r : yS × Int) (o : zO) (h' : zH) : Prop := o = Sum.inl (some (zi r.2)) ∧ mB e a h' r.1 ∧ zonly (fun b => b = a ∨ b = a + 2) h h' ∧ (∀ j, j ≠ 2 → j ≠ 7 → zI h' a j = zI h a j) ∧ ∀ j, j ≠ 3 → j ≠ 4 → zL h' a j = zL h a j
section
variable {e : zEv} {a d : Nat} {h : zH} {s : yS}
theorem mQ_back (B : mB e a h s) {G : yF} {ks : List yF} {A f : Nat → Int} {v : Int} (hA : mFr A G ks) (f1 : f 1 = (ks.length : Int)) (f17 : f 17 = 0) (f18 : f 18 = 0) (f19 : f 19 = 0) (fo : ∀ j, j ≠ 1 → j ≠ 17 → j ≠ 18 → j ≠ 19 → f j = zI h a j) :
    mQ e a h s ((G, ks, (0, s.2.2.1.2), s.2.2.2), v) (Sum.inl (some (zi v))) (zsI (zfI (zfI h a f) (a + 1) A) a 2 0) := by
  obtain ⟨H, hF, b1, b2, b3, b4, b5, b6, b7, b8, b9⟩ := B
  have hh : zsI (zfI (zfI h a f) (a + 1) A) a 2 0 = zfI (zfI h a (zup f 2 0)) (a + 1) A := by
    rw [zsI_f, zI_fI_n (c := a + 1) (b := a) _ _ (by omega), zI_fI_s, zfI_comm _ _ _ (by omega : a + 1 ≠ a), zfI_fI]
  have r : ∀ j, zI (zfI (zfI h a (zup f 2 0)) (a + 1) A) a j = zup f 2 0 j := fun j => by rw [zI_fI_n (c := a + 1) (b := a) _ _ (by omega), zI_fI_s]
  rw [hh]
  refine ⟨rfl, ⟨H, ?_, ?_, ?_, b3, b4, ?_, b6, fun j hj => ?_, ?_, ?_⟩, rfl, Or.inr ⟨?_, ?_, ?_, ?_⟩⟩
  · rw [zI_fI_s]; exact hA
  · rw [r]; simp only [zup]; rw [if_neg (by decide)]; exact f1
  · rw [r]; rfl
  · rw [r]; simp only [zup]; rw [if_neg (by decide), fo 7 (by decide) (by decide) (by decide) (by decide)]; exact b5
  · rw [zI_fI_n (c := a + 1) (b := a + 2) _ _ (by omega), zI_fI_n _ _ (by omega)]; exact b7 j hj
  · rw [r]; simp only [zup]; rw [if_neg (by decide), fo 15 (by decide) (by decide) (by decide) (by decide)]; exact b8
  · rw [r]; simp only [zup]; rw [if_neg (by decide), fo 14 (by decide) (by decide) (by decide) (by decide)]; exact b9
  · exact (zonly.fI (Or.inl rfl)).trans (zonly.fI (Or.inr rfl))
  · rw [r]; simp only [zup]; rw [if_neg (by decide)]; exact f17
  · rw [r]; simp only [zup]; rw [if_neg (by decide)]; exact f18
  · rw [r]; simp only [zup]; rw [if_neg (by decide)]; exact f19
theorem m_back (B : mB e a h s) : zc e (d + 2) 252 [zr (some a)] h (mQ e a h s (s_back s)) := by
  have H := B.1
  have hb := H.1
  have hF := B.2.1
  have hl6 := hF.2.2.1
  have k1 : zI h a 1 = (s.2.1.length : Int) := B.2.2.1
  simp only [n252, r252_0, r252_1, r252_4, r252_7, r252_8, r252_9, r252_12, r252_13, r252_14, r252_17, r252_18, r252_20, r252_21, r252_24, r252_25, r252_26, r252_29, r252_30, r252_31, r252_34, r252_35, r252_36, r252_39, r252_40, r252_41, r252_44, r252_47, znl_i, znl_r, znl_j, znl_l, List.length_cons, List.length_nil, Option.some.injEq, Sum.inl.injEq, Sum.inr.injEq, Prod.mk.injEq, true_and, and_true, exists_eq_left', zK_sI, zA_sI, zL_sI, zK_sL, zA_sL, zI_sL, zK_fI, zA_fI, zL_fI, zK_fL, zA_fL, zI_fL, Nat.reduceAdd, Nat.reduceLeDiff, forall_eq', zl_lt, zl_gt, zl_eq, zl_le, zl_ge, zm_0, zaft_n, zaft_v, zb_eq, Decidable.not_not, H.K]
  rw [k1, zn_b (by omega) (by omega)]
  refine ⟨fun q => ?_, fun q => ?_⟩
  · have hne : s.2.1 ≠ [] := fun z => q (by rw [z]; rfl)
    have hs : s_back s = ((s.2.1.getLast hne, s.2.1.dropLast, (0, s.2.2.1.2), s.2.2.2), (s.2.1.length : Int) - 1) := by rw [s_back, List.getLast?_eq_some_getLast hne]
    have hpos : 0 < s.2.1.length := List.length_pos_iff.mpr hne
    obtain ⟨m, hm⟩ : ∃ m, s.2.1.length = m + 1 := ⟨s.2.1.length - 1, by omega⟩
    rw [hs]
    refine zc_w (m_unlays H) ?_
    simp only [r252_0, r252_1, r252_4, r252_7, r252_8, r252_9, r252_12, r252_13, r252_14, r252_17, r252_18, r252_20, r252_21, r252_24, r252_25, r252_26, r252_29, r252_30, r252_31, r252_34, r252_35, r252_36, r252_39, r252_40, r252_41, r252_44, r252_47, znl_i, znl_r, znl_j, znl_l, List.length_cons, List.length_nil, Option.some.injEq, Sum.inl.injEq, Sum.inr.injEq, Prod.mk.injEq, true_and, and_true, exists_eq_left', zK_sI, zA_sI, zL_sI, zK_sL, zA_sL, zI_sL, zK_fI, zA_fI, zL_fI, zK_fL, zA_fL, zI_fL, Nat.reduceAdd, Nat.reduceLeDiff, forall_eq', zl_lt, zl_gt, zl_eq, zl_le, zl_ge, zm_0, zaft_n, zaft_v, zb_eq, Decidable.not_not, H.K]
    have u : zsI (zsI (zsI h a 17 0) a 18 0) a 19 0 = zfI h a (zup (zup (zup (zI h a) 17 0) 18 0) 19 0) := by simp only [zsI_f, zfI_fI, zI_fI_s]
    rw [u]
    generalize hf : zup (zup (zup (zI h a) 17 0) 18 0) 19 0 = f
    have f1 : f 1 = (s.2.1.length : Int) := by rw [← hf]; simp [zup]; exact k1
    have f17 : f 17 = 0 := by rw [← hf]; simp [zup]
    have f18 : f 18 = 0 := by rw [← hf]; simp [zup]
    have f19 : f 19 = 0 := by rw [← hf]; simp [zup]
    have fo : ∀ j, j ≠ 17 → j ≠ 18 → j ≠ 19 → f j = zI h a j := fun j q1 q2 q3 => by rw [← hf]; simp [zup, q1, q2, q3]
    rw [zI_fI_s, f1, hm, show (52 : Int) * ((m + 1 : Nat) : Int) = ((52 * (m + 1) : Nat) : Int) by omega]
    refine zc_w (m_copies (h := zfI h a f) H (52 * (m + 1)) 0 (by omega) (by omega) (by omega)) ?_
    simp only [r252_0, r252_1, r252_4, r252_7, r252_8, r252_9, r252_12, r252_13, r252_14, r252_17, r252_18, r252_20, r252_21, r252_24, r252_25, r252_26, r252_29, r252_30, r252_31, r252_34, r252_35, r252_36, r252_39, r252_40, r252_41, r252_44, r252_47, znl_i, znl_r, znl_j, znl_l, List.length_cons, List.length_nil, Option.some.injEq, Sum.inl.injEq, Sum.inr.injEq, Prod.mk.injEq, true_and, and_true, exists_eq_left', zK_sI, zA_sI, zL_sI, zK_sL, zA_sL, zI_sL, zK_fI, zA_fI, zL_fI, zK_fL, zA_fL, zI_fL, Nat.reduceAdd, Nat.reduceLeDiff, forall_eq', zl_lt, zl_gt, zl_eq, zl_le, zl_ge, zm_0, zaft_n, zaft_v, zb_eq, Decidable.not_not, H.K, H.1]
    rw [zI_fI_n (c := a) (b := a + 1) _ _ (by omega)]
    generalize hA : ycpy (zI h (a + 1)) (52 * (m + 1)) 0 = A
    have hh : ∀ v, zsI (zfI (zfI h a f) (a + 1) A) a 1 v = zfI (zfI h a (zup f 1 v)) (a + 1) A := fun v => by
      rw [zsI_f, zI_fI_n (c := a + 1) (b := a) _ _ (by omega), zI_fI_s, zfI_comm _ _ _ (by omega : a + 1 ≠ a), zfI_fI]
    rw [hh, zI_fI_n (c := a + 1) (b := a) _ _ (by omega), zI_fI_s, zI_fI_n (c := a + 1) (b := a) _ _ (by omega), zI_fI_s, f1]
    have e1 : zup f 1 ((s.2.1.length : Int) - 1) 1 = (s.2.1.length : Int) - 1 := by simp [zup]
    rw [e1]
    refine zc_w (m_gives (h := zfI (zfI h a _) (a + 1) A) H _) ?_
    simp only [r252_0, r252_1, r252_4, r252_7, r252_8, r252_9, r252_12, r252_13, r252_14, r252_17, r252_18, r252_20, r252_21, r252_24, r252_25, r252_26, r252_29, r252_30, r252_31, r252_34, r252_35, r252_36, r252_39, r252_40, r252_41, r252_44, r252_47, znl_i, znl_r, znl_j, znl_l, List.length_cons, List.length_nil, Option.some.injEq, Sum.inl.injEq, Sum.inr.injEq, Prod.mk.injEq, true_and, and_true, exists_eq_left', zK_sI, zA_sI, zL_sI, zK_sL, zA_sL, zI_sL, zK_fI, zA_fI, zL_fI, zK_fL, zA_fL, zI_fL, Nat.reduceAdd, Nat.reduceLeDiff, forall_eq', zl_lt, zl_gt, zl_eq, zl_le, zl_ge, zm_0, zaft_n, zaft_v, zb_eq, Decidable.not_not, H.K]
    have hlast : s.2.1[m]? = some (s.2.1.getLast hne) := by rw [← List.getLast?_eq_some_getLast hne, List.getLast?_eq_getElem?, hm]; rfl
    obtain ⟨w9, m9⟩ := hF.2.2.2 m _ hlast
    rw [hm]
    refine mQ_back B ⟨w9, by rw [← hA]; exact mF_cpy w9.1 m9, by rw [List.length_dropLast]; omega, fun j G hj => ?_⟩ ?_ ?_ ?_ ?_ (fun j q1 q2 q3 q4 => ?_)
    · have hjl := (List.getElem?_eq_some_iff.mp hj).1
      rw [List.length_dropLast] at hjl
      rw [List.getElem?_dropLast, if_pos (by omega)] at hj
      obtain ⟨w8, m8⟩ := hF.2.2.2 j G hj
      refine ⟨w8, mF_off w8.1 m8 (fun i hi _ => ?_)⟩
      rw [← hA]; simp only [ycpy]; rw [if_neg (by omega)]
    · simp only [zup, if_true]; rw [List.length_dropLast]; omega
    · simp only [zup]; rw [if_neg (by decide)]; exact f17
    · simp only [zup]; rw [if_neg (by decide)]; exact f18
    · simp only [zup]; rw [if_neg (by decide)]; exact f19
    · simp only [zup]; rw [if_neg q1]; exact fo j q2 q3 q4
  · have h0 : s.2.1 = [] := List.length_eq_zero_iff.mp (by omega)
    have hs : s_back s = (yst 3 s, -1) := by rw [s_back, h0]; rfl
    rw [hs]
    refine zc_w (m_refuse H 3) ?_
    simp only [r252_0, r252_1, r252_4, r252_7, r252_8, r252_9, r252_12, r252_13, r252_14, r252_17, r252_18, r252_20, r252_21, r252_24, r252_25, r252_26, r252_29, r252_30, r252_31, r252_34, r252_35, r252_36, r252_39, r252_40, r252_41, r252_44, r252_47, znl_i, znl_r, znl_j, znl_l, List.length_cons, List.length_nil, Option.some.injEq, Sum.inl.injEq, Sum.inr.injEq, Prod.mk.injEq, true_and, and_true, exists_eq_left', zK_sI, zA_sI, zL_sI, zK_sL, zA_sL, zI_sL, zK_fI, zA_fI, zL_fI, zK_fL, zA_fL, zI_fL, Nat.reduceAdd, Nat.reduceLeDiff, forall_eq', zl_lt, zl_gt, zl_eq, zl_le, zl_ge, zm_0, zaft_n, zaft_v, zb_eq, Decidable.not_not, H.K]
    exact mQ_ref B 3 (-1)
theorem m_farOf (H : zmo e a h) (F : yF) (k o : Nat) (hF : mF (zI h (a + 1)) 0 F) (hn : F.1 ≤ 12) (hk : k < F.1) (ho : o < F.1) : zc e (d + 2) 254 [zr (some a), zi k, zi o] h (fun ov h' => ov = Sum.inl (some (zi (ydist F k o))) ∧ h' = h) := by
  have step : ∀ (i : Nat) (n : Int) (P : zEt), 1 ≤ i → i < 4 → zg e 254 (d + 1) 5 [zr (some a), zi k, zi o, zi (n + (F.2 k i - F.2 o i) * (F.2 k i - F.2 o i)), zi ((i + 1 : Nat) : Int)] [] h P → zg e 254 (d + 1) 5 [zr (some a), zi k, zi o, zi n, zi i] [] h P := by
    intro i n P i1 i2 nx
    have v1 : zI h (a + 1) (4 + 4 * (k : Int) + i).toNat = F.2 k i := by
      rw [← hF.2 k hk i i2]; congr 1 <;> omega
    have v2 : zI h (a + 1) (4 + 4 * (o : Int) + i).toNat = F.2 o i := by
      rw [← hF.2 o ho i i2]; congr 1 <;> omega
    rw [r254_5]
    simp only [r254_0, r254_1, r254_2, r254_3, r254_7, r254_8, r254_11, r254_12, r254_13, r254_14, r254_16, r254_19, r254_20, r254_21, r254_23, r254_26, r254_27, r254_28, r254_29, r254_31, r254_34, r254_35, r254_36, r254_38, r254_41, r254_42, r254_43, r254_44, r254_45, r254_48, r254_51, r254_52, znl_i, znl_r, znl_j, znl_l, List.length_cons, List.length_nil, Option.some.injEq, Sum.inl.injEq, Sum.inr.injEq, Prod.mk.injEq, true_and, and_true, exists_eq_left', zK_sI, zA_sI, zL_sI, zK_sL, zA_sL, zI_sL, zK_fI, zA_fI, zL_fI, zK_fL, zA_fL, zI_fL, Nat.reduceAdd, Nat.reduceLeDiff, forall_eq', zl_lt, zl_gt, zl_eq, zl_le, zl_ge, zm_0, zaft_n, zaft_v, zb_eq, Decidable.not_not, H.K]
    simp (disch := omega) only [zn_b, zm_b, Int.toNat_natCast]
    have e4 : zn 4 = 4 := by decide
    refine ⟨fun z => by omega, fun _ => ?_⟩
    refine zc_w (m_of H k i (by omega) (by omega) (by omega) (by omega)) ?_
    simp only [r254_0, r254_1, r254_2, r254_3, r254_7, r254_8, r254_11, r254_12, r254_13, r254_14, r254_16, r254_19, r254_20, r254_21, r254_23, r254_26, r254_27, r254_28, r254_29, r254_31, r254_34, r254_35, r254_36, r254_38, r254_41, r254_42, r254_43, r254_44, r254_45, r254_48, r254_51, r254_52, znl_i, znl_r, znl_j, znl_l, List.length_cons, List.length_nil, Option.some.injEq, Sum.inl.injEq, Sum.inr.injEq, Prod.mk.injEq, true_and, and_true, exists_eq_left', zK_sI, zA_sI, zL_sI, zK_sL, zA_sL, zI_sL, zK_fI, zA_fI, zL_fI, zK_fL, zA_fL, zI_fL, Nat.reduceAdd, Nat.reduceLeDiff, forall_eq', zl_lt, zl_gt, zl_eq, zl_le, zl_ge, zm_0, zaft_n, zaft_v, zb_eq, Decidable.not_not, H.K]
    refine zc_w (m_of H o i (by omega) (by omega) (by omega) (by omega)) ?_
    simp only [r254_0, r254_1, r254_2, r254_3, r254_7, r254_8, r254_11, r254_12, r254_13, r254_14, r254_16, r254_19, r254_20, r254_21, r254_23, r254_26, r254_27, r254_28, r254_29, r254_31, r254_34, r254_35, r254_36, r254_38, r254_41, r254_42, r254_43, r254_44, r254_45, r254_48, r254_51, r254_52, znl_i, znl_r, znl_j, znl_l, List.length_cons, List.length_nil, Option.some.injEq, Sum.inl.injEq, Sum.inr.injEq, Prod.mk.injEq, true_and, and_true, exists_eq_left', zK_sI, zA_sI, zL_sI, zK_sL, zA_sL, zI_sL, zK_fI, zA_fI, zL_fI, zK_fL, zA_fL, zI_fL, Nat.reduceAdd, Nat.reduceLeDiff, forall_eq', zl_lt, zl_gt, zl_eq, zl_le, zl_ge, zm_0, zaft_n, zaft_v, zb_eq, Decidable.not_not, H.K]
    refine zc_w (m_of H k i (by omega) (by omega) (by omega) (by omega)) ?_
    simp only [r254_0, r254_1, r254_2, r254_3, r254_7, r254_8, r254_11, r254_12, r254_13, r254_14, r254_16, r254_19, r254_20, r254_21, r254_23, r254_26, r254_27, r254_28, r254_29, r254_31, r254_34, r254_35, r254_36, r254_38, r254_41, r254_42, r254_43, r254_44, r254_45, r254_48, r254_51, r254_52, znl_i, znl_r, znl_j, znl_l, List.length_cons, List.length_nil, Option.some.injEq, Sum.inl.injEq, Sum.inr.injEq, Prod.mk.injEq, true_and, and_true, exists_eq_left', zK_sI, zA_sI, zL_sI, zK_sL, zA_sL, zI_sL, zK_fI, zA_fI, zL_fI, zK_fL, zA_fL, zI_fL, Nat.reduceAdd, Nat.reduceLeDiff, forall_eq', zl_lt, zl_gt, zl_eq, zl_le, zl_ge, zm_0, zaft_n, zaft_v, zb_eq, Decidable.not_not, H.K]
    refine zc_w (m_of H o i (by omega) (by omega) (by omega) (by omega)) ?_
    simp only [r254_0, r254_1, r254_2, r254_3, r254_7, r254_8, r254_11, r254_12, r254_13, r254_14, r254_16, r254_19, r254_20, r254_21, r254_23, r254_26, r254_27, r254_28, r254_29, r254_31, r254_34, r254_35, r254_36, r254_38, r254_41, r254_42, r254_43, r254_44, r254_45, r254_48, r254_51, r254_52, znl_i, znl_r, znl_j, znl_l, List.length_cons, List.length_nil, Option.some.injEq, Sum.inl.injEq, Sum.inr.injEq, Prod.mk.injEq, true_and, and_true, exists_eq_left', zK_sI, zA_sI, zL_sI, zK_sL, zA_sL, zI_sL, zK_fI, zA_fI, zL_fI, zK_fL, zA_fL, zI_fL, Nat.reduceAdd, Nat.reduceLeDiff, forall_eq', zl_lt, zl_gt, zl_eq, zl_le, zl_ge, zm_0, zaft_n, zaft_v, zb_eq, Decidable.not_not, H.K]
    rw [v1, v2]
    exact nx
  simp only [n254, r254_0, r254_1, r254_2, r254_3, r254_7, r254_8, r254_11, r254_12, r254_13, r254_14, r254_16, r254_19, r254_20, r254_21, r254_23, r254_26, r254_27, r254_28, r254_29, r254_31, r254_34, r254_35, r254_36, r254_38, r254_41, r254_42, r254_43, r254_44, r254_45, r254_48, r254_51, r254_52, znl_i, znl_r, znl_j, znl_l, List.length_cons, List.length_nil, Option.some.injEq, Sum.inl.injEq, Sum.inr.injEq, Prod.mk.injEq, true_and, and_true, exists_eq_left', zK_sI, zA_sI, zL_sI, zK_sL, zA_sL, zI_sL, zK_fI, zA_fI, zL_fI, zK_fL, zA_fL, zI_fL, Nat.reduceAdd, Nat.reduceLeDiff, forall_eq', zl_lt, zl_gt, zl_eq, zl_le, zl_ge, zm_0, zaft_n, zaft_v, zb_eq, Decidable.not_not]
  refine step 1 0 _ (by omega) (by omega) (step 2 _ _ (by omega) (by omega) (step 3 _ _ (by omega) (by omega) ?_))
  rw [r254_5]
  simp only [r254_0, r254_1, r254_2, r254_3, r254_7, r254_8, r254_11, r254_12, r254_13, r254_14, r254_16, r254_19, r254_20, r254_21, r254_23, r254_26, r254_27, r254_28, r254_29, r254_31, r254_34, r254_35, r254_36, r254_38, r254_41, r254_42, r254_43, r254_44, r254_45, r254_48, r254_51, r254_52, znl_i, znl_r, znl_j, znl_l, List.length_cons, List.length_nil, Option.some.injEq, Sum.inl.injEq, Sum.inr.injEq, Prod.mk.injEq, true_and, and_true, exists_eq_left', zK_sI, zA_sI, zL_sI, zK_sL, zA_sL, zI_sL, zK_fI, zA_fI, zL_fI, zK_fL, zA_fL, zI_fL, Nat.reduceAdd, Nat.reduceLeDiff, forall_eq', zl_lt, zl_gt, zl_eq, zl_le, zl_ge, zm_0, zaft_n, zaft_v, zb_eq, Decidable.not_not, H.K]
  simp (disch := omega) only [zn_b, zm_b, Int.toNat_natCast]
  refine ⟨fun _ => ?_, fun z => by omega⟩
  simp only [ydist]; omega
theorem m_far (B : mB e a h s) (k o : Int) (hk : yi k) (ho : yi o) : zc e (d + 3) 253 [zr (some a), zi k, zi o] h (mQ e a h s (s_far s k o)) := by
  have H := B.1
  have hF := B.2.1
  have hn := hF.1.1
  have e0 : zn 0 = 0 := by decide
  have fin : ∀ v, (v = 1 ∨ v = 3) → s_far s k o = (yst v s, -1) → zg e 253 (d + 2) 25 [zr (some a), zi k, zi o, zj] [zi v] h (mQ e a h s (s_far s k o)) := fun v hv hs => by
    simp only [r253_0, r253_1, r253_4, r253_5, r253_8, r253_9, r253_12, r253_13, r253_14, r253_17, r253_18, r253_19, r253_22, r253_25, r253_26, r253_27, r253_30, r253_31, r253_32, r253_35, r253_38, r253_39, r253_40, r253_41, r253_42, r253_45, r253_48, znl_i, znl_r, znl_j, znl_l, List.length_cons, List.length_nil, Option.some.injEq, Sum.inl.injEq, Sum.inr.injEq, Prod.mk.injEq, true_and, and_true, exists_eq_left', zK_sI, zA_sI, zL_sI, zK_sL, zA_sL, zI_sL, zK_fI, zA_fI, zL_fI, zK_fL, zA_fL, zI_fL, Nat.reduceAdd, Nat.reduceLeDiff, forall_eq', zl_lt, zl_gt, zl_eq, zl_le, zl_ge, zm_0, zaft_n, zaft_v, zb_eq, Decidable.not_not, H.K]
    rw [hs]
    refine ⟨fun q => ?_, fun _ => ?_⟩
    · rw [zn_b (by omega) (by omega)] at q; omega
    · refine zc_w (m_refuse H v) ?_
      simp only [r253_0, r253_1, r253_4, r253_5, r253_8, r253_9, r253_12, r253_13, r253_14, r253_17, r253_18, r253_19, r253_22, r253_25, r253_26, r253_27, r253_30, r253_31, r253_32, r253_35, r253_38, r253_39, r253_40, r253_41, r253_42, r253_45, r253_48, znl_i, znl_r, znl_j, znl_l, List.length_cons, List.length_nil, Option.some.injEq, Sum.inl.injEq, Sum.inr.injEq, Prod.mk.injEq, true_and, and_true, exists_eq_left', zK_sI, zA_sI, zL_sI, zK_sL, zA_sL, zI_sL, zK_fI, zA_fI, zL_fI, zK_fL, zA_fL, zI_fL, Nat.reduceAdd, Nat.reduceLeDiff, forall_eq', zl_lt, zl_gt, zl_eq, zl_le, zl_ge, zm_0, zaft_n, zaft_v, zb_eq, Decidable.not_not, H.K]
      exact mQ_ref B v (-1)
  simp only [n253, r253_0, r253_1, r253_4, r253_5, r253_8, r253_9, r253_12, r253_13, r253_14, r253_17, r253_18, r253_19, r253_22, r253_26, r253_27, r253_30, r253_31, r253_32, r253_35, r253_38, r253_39, r253_40, r253_41, r253_42, r253_45, r253_48, znl_i, znl_r, znl_j, znl_l, List.length_cons, List.length_nil, Option.some.injEq, Sum.inl.injEq, Sum.inr.injEq, Prod.mk.injEq, true_and, and_true, exists_eq_left', zK_sI, zA_sI, zL_sI, zK_sL, zA_sL, zI_sL, zK_fI, zA_fI, zL_fI, zK_fL, zA_fL, zI_fL, Nat.reduceAdd, Nat.reduceLeDiff, forall_eq', zl_lt, zl_gt, zl_eq, zl_le, zl_ge, zm_0, zaft_n, zaft_v, zb_eq, Decidable.not_not, H.K]
  rw [zn_i hk, zn_i ho]
  refine ⟨fun q => fin 1 (Or.inl rfl) (by rw [s_far, if_pos (Or.inl q)]), fun q1 => ⟨fun q2 => ?_, fun q => fin 1 (Or.inl rfl) (by rw [s_far, if_pos (Or.inr q)])⟩⟩
  refine zc_w (m_wrongAtom H s.1 k hF.2.1 hn) ?_
  simp only [r253_0, r253_1, r253_4, r253_5, r253_8, r253_9, r253_12, r253_13, r253_14, r253_17, r253_18, r253_19, r253_22, r253_26, r253_27, r253_30, r253_31, r253_32, r253_35, r253_38, r253_39, r253_40, r253_41, r253_42, r253_45, r253_48, znl_i, znl_r, znl_j, znl_l, List.length_cons, List.length_nil, Option.some.injEq, Sum.inl.injEq, Sum.inr.injEq, Prod.mk.injEq, true_and, and_true, exists_eq_left', zK_sI, zA_sI, zL_sI, zK_sL, zA_sL, zI_sL, zK_fI, zA_fI, zL_fI, zK_fL, zA_fL, zI_fL, Nat.reduceAdd, Nat.reduceLeDiff, forall_eq', zl_lt, zl_gt, zl_eq, zl_le, zl_ge, zm_0, zaft_n, zaft_v, zb_eq, Decidable.not_not, H.K]
  refine zc_w (m_wrongAtom H s.1 o hF.2.1 hn) ?_
  simp only [r253_0, r253_1, r253_4, r253_5, r253_8, r253_9, r253_12, r253_13, r253_14, r253_17, r253_18, r253_19, r253_22, r253_26, r253_27, r253_30, r253_31, r253_32, r253_35, r253_38, r253_39, r253_40, r253_41, r253_42, r253_45, r253_48, znl_i, znl_r, znl_j, znl_l, List.length_cons, List.length_nil, Option.some.injEq, Sum.inl.injEq, Sum.inr.injEq, Prod.mk.injEq, true_and, and_true, exists_eq_left', zK_sI, zA_sI, zL_sI, zK_sL, zA_sL, zI_sL, zK_fI, zA_fI, zL_fI, zK_fL, zA_fL, zI_fL, Nat.reduceAdd, Nat.reduceLeDiff, forall_eq', zl_lt, zl_gt, zl_eq, zl_le, zl_ge, zm_0, zaft_n, zaft_v, zb_eq, Decidable.not_not, H.K]
  have w1 : ∀ v : Int, yi v → 0 ≤ v → (if zn v < 0 then (1 : Int) else if zn v < (s.1.1 : Int) then 0 else 3) = if v < (s.1.1 : Int) then 0 else 3 := fun v hv h0 => by rw [zn_i hv, if_neg (by omega)]
  rw [w1 k hk q1, w1 o ho q2]
  have hs0 : s_far s k o = _ := if_neg (fun z => by omega)
  refine zc_w (j_max (if k < (s.1.1 : Int) then 0 else 3) (if o < (s.1.1 : Int) then 0 else 3) (by split <;> omega) (by split <;> omega) (by split <;> omega) (by split <;> omega)) ?_
  simp only [r253_0, r253_1, r253_4, r253_5, r253_8, r253_9, r253_12, r253_13, r253_14, r253_17, r253_18, r253_19, r253_22, r253_26, r253_27, r253_30, r253_31, r253_32, r253_35, r253_38, r253_39, r253_40, r253_41, r253_42, r253_45, r253_48, znl_i, znl_r, znl_j, znl_l, List.length_cons, List.length_nil, Option.some.injEq, Sum.inl.injEq, Sum.inr.injEq, Prod.mk.injEq, true_and, and_true, exists_eq_left', zK_sI, zA_sI, zL_sI, zK_sL, zA_sL, zI_sL, zK_fI, zA_fI, zL_fI, zK_fL, zA_fL, zI_fL, Nat.reduceAdd, Nat.reduceLeDiff, forall_eq', zl_lt, zl_gt, zl_eq, zl_le, zl_ge, zm_0, zaft_n, zaft_v, zb_eq, Decidable.not_not, H.K]
  by_cases q3 : k < (s.1.1 : Int) ∧ o < (s.1.1 : Int)
  · rw [if_pos q3.1, if_pos q3.2]
    rw [if_neg (fun z => z q3)] at hs0
    simp only [show ((0 : Int) < 0) = False by simp, if_false]
    simp only [r253_0, r253_1, r253_4, r253_5, r253_8, r253_9, r253_12, r253_13, r253_14, r253_17, r253_18, r253_19, r253_22, r253_25, r253_26, r253_27, r253_30, r253_31, r253_32, r253_35, r253_38, r253_39, r253_40, r253_41, r253_42, r253_45, r253_48, znl_i, znl_r, znl_j, znl_l, List.length_cons, List.length_nil, Option.some.injEq, Sum.inl.injEq, Sum.inr.injEq, Prod.mk.injEq, true_and, and_true, exists_eq_left', zK_sI, zA_sI, zL_sI, zK_sL, zA_sL, zI_sL, zK_fI, zA_fI, zL_fI, zK_fL, zA_fL, zI_fL, Nat.reduceAdd, Nat.reduceLeDiff, forall_eq', zl_lt, zl_gt, zl_eq, zl_le, zl_ge, zm_0, zaft_n, zaft_v, zb_eq, Decidable.not_not, H.K]
    rw [hs0, e0]
    refine ⟨fun _ => ?_, fun q => absurd q (by decide)⟩
    obtain ⟨k', rfl⟩ : ∃ n : Nat, k = (n : Int) := ⟨k.toNat, by omega⟩
    obtain ⟨o', rfl⟩ : ∃ n : Nat, o = (n : Int) := ⟨o.toNat, by omega⟩
    refine zc_w (m_farOf H s.1 k' o' hF.2.1 hn (by omega) (by omega)) ?_
    simp only [r253_0, r253_1, r253_4, r253_5, r253_8, r253_9, r253_12, r253_13, r253_14, r253_17, r253_18, r253_19, r253_22, r253_25, r253_26, r253_27, r253_30, r253_31, r253_32, r253_35, r253_38, r253_39, r253_40, r253_41, r253_42, r253_45, r253_48, znl_i, znl_r, znl_j, znl_l, List.length_cons, List.length_nil, Option.some.injEq, Sum.inl.injEq, Sum.inr.injEq, Prod.mk.injEq, true_and, and_true, exists_eq_left', zK_sI, zA_sI, zL_sI, zK_sL, zA_sL, zI_sL, zK_fI, zA_fI, zL_fI, zK_fL, zA_fL, zI_fL, Nat.reduceAdd, Nat.reduceLeDiff, forall_eq', zl_lt, zl_gt, zl_eq, zl_le, zl_ge, zm_0, zaft_n, zaft_v, zb_eq, Decidable.not_not, H.K]
    refine zc_w (m_gives H _) ?_
    simp only [r253_0, r253_1, r253_4, r253_5, r253_8, r253_9, r253_12, r253_13, r253_14, r253_17, r253_18, r253_19, r253_22, r253_25, r253_26, r253_27, r253_30, r253_31, r253_32, r253_35, r253_38, r253_39, r253_40, r253_41, r253_42, r253_45, r253_48, znl_i, znl_r, znl_j, znl_l, List.length_cons, List.length_nil, Option.some.injEq, Sum.inl.injEq, Sum.inr.injEq, Prod.mk.injEq, true_and, and_true, exists_eq_left', zK_sI, zA_sI, zL_sI, zK_sL, zA_sL, zI_sL, zK_fI, zA_fI, zL_fI, zK_fL, zA_fL, zI_fL, Nat.reduceAdd, Nat.reduceLeDiff, forall_eq', zl_lt, zl_gt, zl_eq, zl_le, zl_ge, zm_0, zaft_n, zaft_v, zb_eq, Decidable.not_not, H.K]
    exact mQ_ref B 0 _
  · rw [if_pos q3] at hs0
    have ev : (if (if k < (s.1.1 : Int) then (0 : Int) else 3) < (if o < (s.1.1 : Int) then 0 else 3) then (if o < (s.1.1 : Int) then (0 : Int) else 3) else (if k < (s.1.1 : Int) then 0 else 3)) = 3 := by
      by_cases z1 : k < (s.1.1 : Int) <;> by_cases z2 : o < (s.1.1 : Int) <;> simp [z1, z2] <;> omega
    rw [ev]
    exact fin 3 (Or.inr rfl) hs0
theorem m_fault (B : mB e a h s) (w : Int) (hw : yi w) : zc e (d + 1) 238 [zr (some a), zi w] h (mQ0 e a h (s_fault s w)) := by
  have H := B.1
  have e1 : zn 1 = 1 := by decide
  have q : ∀ v, mQ0 e a h (s, v) (Sum.inl (some (zi v))) h := fun v => ⟨rfl, B, zonly.refl _ _, fun _ _ _ => rfl, fun _ _ _ => rfl⟩
  simp only [n238, r238_0, r238_1, r238_4, r238_5, r238_8, r238_11, r238_12, r238_13, r238_16, r238_17, r238_20, r238_23, r238_24, znl_i, znl_r, znl_j, znl_l, List.length_cons, List.length_nil, Option.some.injEq, Sum.inl.injEq, Sum.inr.injEq, Prod.mk.injEq, true_and, and_true, exists_eq_left', zK_sI, zA_sI, zL_sI, zK_sL, zA_sL, zI_sL, zK_fI, zA_fI, zL_fI, zK_fL, zA_fL, zI_fL, Nat.reduceAdd, Nat.reduceLeDiff, forall_eq', zl_lt, zl_gt, zl_eq, zl_le, zl_ge, zm_0, zaft_n, zaft_v, zb_eq, Decidable.not_not, H.K]
  rw [zn_i hw, e1, s_fault]
  refine ⟨fun q1 => ⟨fun q2 => ?_, fun q2 => ?_⟩, fun q1 => ?_⟩
  · rw [if_neg q1, if_neg q2]; exact q _
  · rw [if_neg q1, if_pos q2, ← show zI h a 14 = s.2.2.2.2.2 from B.2.2.2.2.2.2.2.2.2.2]; exact q _
  · rw [if_pos q1, ← show zI h a 15 = s.2.2.2.2.1 from B.2.2.2.2.2.2.2.2.2.1]; exact q _
end
