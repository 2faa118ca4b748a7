/-! ===== what both tell of: the state, as numbers and frames ===== -/
/-- the frame; those kept (the eldest first); status, top, bottom; the tape; the fault -/
abbrev yS : Type := yF × List yF × (Int × Int × Int) × (Nat × (Nat → Int)) × (Int × Int)
def yst (v : Int) (s : yS) : yS := (s.1, s.2.1, (v, s.2.2.1.2), s.2.2.2)
def ytell (t b : Int) (s : yS) : yS := (s.1, s.2.1, (0, t, b), s.2.2.2)
/-- a deed: the frame is kept, then there is another one -/
def ydeed (F : yF) (s : yS) : yS := (F, (if s.2.1.length = 6 then s.2.1.tail else s.2.1) ++ [s.1], (0, s.2.2.1.2), s.2.2.2)
/-- only these cells' numbers are changed -/
def zonly (S : Nat → Prop) (h h' : zH) : Prop := zsz h' = zsz h ∧ zK h' = zK h ∧ zA h' = zA h ∧ zN h' = zN h ∧ ∀ b, ¬ S b → zI h' b = zI h b ∧ zL h' b = zL h b
theorem zonly.refl (S : Nat → Prop) (h : zH) : zonly S h h := ⟨rfl, rfl, rfl, rfl, fun _ _ => ⟨rfl, rfl⟩⟩
theorem zonly.trans {S : Nat → Prop} {h1 h2 h3 : zH} (p : zonly S h1 h2) (q : zonly S h2 h3) : zonly S h1 h3 :=
  ⟨q.1.trans p.1, q.2.1.trans p.2.1, q.2.2.1.trans p.2.2.1, q.2.2.2.1.trans p.2.2.2.1, fun b hb => ⟨(q.2.2.2.2 b hb).1.trans (p.2.2.2.2 b hb).1, (q.2.2.2.2 b hb).2.trans (p.2.2.2.2 b hb).2⟩⟩
theorem zonly.mono {S T : Nat → Prop} {h1 h2 : zH} (p : zonly S h1 h2) (q : ∀ b, S b → T b) : zonly T h1 h2 :=
  ⟨p.1, p.2.1, p.2.2.1, p.2.2.2.1, fun b hb => p.2.2.2.2 b (fun z => hb (q b z))⟩
theorem zonly.sI {S : Nat → Prop} {h : zH} {c k : Nat} {x : Int} (hc : S c) : zonly S h (zsI h c k x) :=
  ⟨rfl, rfl, rfl, rfl, fun b hb => ⟨by rw [zI_sI]; exact zu_cell _ _ _ (fun z => hb (by rw [z]; exact hc)), rfl⟩⟩
theorem zonly.sL {S : Nat → Prop} {h : zH} {c k : Nat} {x : Int} (hc : S c) : zonly S h (zsL h c k x) :=
  ⟨rfl, rfl, rfl, rfl, fun b hb => ⟨rfl, by rw [zL_sL]; exact zu_cell _ _ _ (fun z => hb (by rw [z]; exact hc))⟩⟩
theorem zonly.fI {S : Nat → Prop} {h : zH} {c : Nat} {f : Nat → Int} (hc : S c) : zonly S h (zfI h c f) :=
  ⟨rfl, rfl, rfl, rfl, fun b hb => ⟨zI_fI_n _ _ (fun z => hb (by rw [z]; exact hc)), rfl⟩⟩
theorem zonly.fL {S : Nat → Prop} {h : zH} {c : Nat} {f : Nat → Int} (hc : S c) : zonly S h (zfL h c f) :=
  ⟨rfl, rfl, rfl, rfl, fun b hb => ⟨rfl, zL_fL_n _ _ (fun z => hb (by rw [z]; exact hc))⟩⟩
/-- frames of the reference: the one now, those kept -/
def mFr (A : Nat → Int) (F : yF) (ks : List yF) : Prop := yW F ∧ mF A 0 F ∧ ks.length ≤ 6 ∧ ∀ j G, ks[j]? = some G → yW G ∧ mF A (52 * (j + 1)) G
/-- its own numbers -/
def mFd (h : zH) (a : Nat) (s : yS) : Prop := zI h a 1 = (s.2.1.length : Int) ∧ zI h a 2 = s.2.2.1.1 ∧ zL h a 3 = s.2.2.1.2.1 ∧ zL h a 4 = s.2.2.1.2.2 ∧ zI h a 7 = (s.2.2.2.1.1 : Int) ∧ s.2.2.2.1.1 ≤ 600 ∧ (∀ j, j < s.2.2.2.1.1 → zI h (a + 2) j = s.2.2.2.1.2 j) ∧ zI h a 15 = s.2.2.2.2.1 ∧ zI h a 14 = s.2.2.2.2.2
def mB (e : zEv) (a : Nat) (h : zH) (s : yS) : Prop := zmo e a h ∧ mFr (zI h (a + 1)) s.1 s.2.1 ∧ mFd h a s
/-- what was laid out is no longer held for laid out -/
def mUn (h : zH) (a : Nat) : Prop := zI h a 17 = 0 ∧ zI h a 18 = 0 ∧ zI h a 19 = 0
section
variable {e : zEv} {a d : Nat} {h : zH} {s : yS}
theorem mB.st (B : mB e a h s) (v : Int) : mB e a (zsI h a 2 v) (yst v s) := by
  obtain ⟨H, hF, b1, b2, b3, b4, b5, b6, b7, b8, b9⟩ := B
  refine ⟨H, ?_, ?_⟩
  · rw [zI_sI, zu_cell _ _ _ (by omega)]; exact hF
  · refine ⟨?_, ?_, b3, b4, ?_, b6, fun j hj => ?_, ?_, ?_⟩
    · rw [zI_sI, zu_slot _ _ _ (by decide)]; exact b1
    · rw [zI_sI, zu_same]; rfl
    · rw [zI_sI, zu_slot _ _ _ (by decide)]; exact b5
    · rw [zI_sI, zu_cell _ _ _ (by omega)]; exact b7 j hj
    · rw [zI_sI, zu_slot _ _ _ (by decide)]; exact b8
    · rw [zI_sI, zu_slot _ _ _ (by decide)]; exact b9
/-- the kept ones move on by one -/
theorem mFr_shift {A A1 : Nat → Int} {F : yF} {ks : List yF} (h : mFr A F ks) (hk : ks.length = 6) (h0 : ∀ j, j < 52 → A1 j = A j) (h1 : ∀ j, 52 ≤ j → j < 312 → A1 j = A (j + 52)) : mFr A1 F ks.tail := by
  obtain ⟨w, m, l, q⟩ := h
  refine ⟨w, mF_off w.1 m (fun j _ hj => h0 j (by omega)), by rw [List.length_tail]; omega, fun j G hj => ?_⟩
  have hj5 : j < 5 := by
    have := (List.getElem?_eq_some_iff.mp hj).1
    rw [List.length_tail] at this
    omega
  rw [List.getElem?_tail] at hj
  obtain ⟨w1, m1⟩ := q (j + 1) G hj
  refine ⟨w1, ?_⟩
  have hn := w1.1
  refine ⟨?_, fun k hk i hi => ?_⟩
  · rw [h1 _ (by omega) (by omega), show 52 * (j + 1) + 52 = 52 * (j + 1 + 1) by omega]; exact m1.1
  · rw [h1 _ (by omega) (by omega), show 52 * (j + 1) + 4 + 4 * k + i + 52 = 52 * (j + 1 + 1) + 4 + 4 * k + i by omega]; exact m1.2 k hk i hi
theorem mFr_push {A A1 : Nat → Int} {F : yF} {ks : List yF} (h : mFr A F ks) (hk : ks.length < 6) (h1 : A1 = ycpy A 0 (52 * (ks.length + 1))) : mFr A1 F (ks ++ [F]) := by
  obtain ⟨w, m, l, q⟩ := h
  subst h1
  have off : ∀ j, (j < 52 * (ks.length + 1) ∨ 52 * (ks.length + 1) + 52 ≤ j) → ycpy A 0 (52 * (ks.length + 1)) j = A j := fun j hj => by
    simp only [ycpy]; rw [if_neg (by omega)]
  refine ⟨w, mF_off w.1 m (fun j _ hj => off j (by omega)), by rw [List.length_append]; simp only [List.length_cons, List.length_nil]; omega, fun j G hj => ?_⟩
  by_cases hjl : j < ks.length
  · rw [List.getElem?_append_left hjl] at hj
    obtain ⟨w1, m1⟩ := q j G hj
    exact ⟨w1, mF_off w1.1 m1 (fun i _ hi => off i (by omega))⟩
  · rw [List.getElem?_append_right (by omega)] at hj
    have hz : j - ks.length < 1 := (List.getElem?_eq_some_iff.mp hj).1
    obtain rfl : j = ks.length := by omega
    simp only [Nat.sub_self, List.getElem?_cons_zero, Option.some.injEq] at hj
    subst hj
    exact ⟨w, mF_cpy w.1 m⟩
/-- done(): the frame is kept -/
theorem m_done (B : mB e a h s) : zc e (d + 2) 234 [zr (some a)] h (fun o h' => o = Sum.inl none ∧ ∃ (A f : Nat → Int), h' = zfI (zfI h a f) (a + 1) A ∧ mFr A s.1 ((if s.2.1.length = 6 then s.2.1.tail else s.2.1) ++ [s.1]) ∧ f 1 = (((if s.2.1.length = 6 then s.2.1.tail else s.2.1) ++ [s.1]).length : Int) ∧ f 17 = 0 ∧ f 18 = 0 ∧ f 19 = 0 ∧ (∀ j, j ≠ 1 → j ≠ 17 → j ≠ 18 → j ≠ 19 → f j = zI h a j) ∧ ∀ j, 364 ≤ j → A j = zI h (a + 1) j) := by
  obtain ⟨H, hF, b1, b2⟩ := B
  have hb := H.1
  have hl6 := hF.2.2.1
  simp only [n234, r234_0, r234_1, r234_4, r234_5, r234_8, r234_10, r234_13, r234_14, r234_16, r234_18, r234_21, r234_22, r234_24, r234_25, r234_26, r234_27, r234_28, r234_30, r234_31, r234_32, r234_35, r234_38, r234_41, r234_42, r234_44, r234_45, r234_48, r234_49, r234_50, r234_53, r234_56, r234_57, r234_58, r234_60, r234_61, r234_64, r234_65, r234_68, znl_i, znl_r, znl_j, znl_l, List.length_cons, List.length_nil, Option.some.injEq, Sum.inl.injEq, Sum.inr.injEq, Prod.mk.injEq, true_and, and_true, exists_eq_left', zK_sI, zA_sI, zL_sI, zK_sL, zA_sL, zI_sL, zK_fI, zA_fI, zL_fI, zK_fL, zA_fL, zI_fL, Nat.reduceAdd, Nat.reduceLeDiff, forall_eq', zl_lt, zl_gt, zl_eq, zl_le, zl_ge, zm_0, zaft_n, zaft_v, zb_eq, Decidable.not_not, H.K]
  refine zc_mono (m_unlays H) ?_
  rintro _ _ ⟨rfl, rfl⟩
  simp only [r234_0, r234_1, r234_4, r234_5, r234_8, r234_10, r234_13, r234_14, r234_16, r234_18, r234_21, r234_22, r234_24, r234_25, r234_26, r234_27, r234_28, r234_30, r234_31, r234_32, r234_35, r234_38, r234_42, r234_44, r234_45, r234_48, r234_49, r234_50, r234_53, r234_56, r234_57, r234_58, r234_60, r234_61, r234_64, r234_65, r234_68, znl_i, znl_r, znl_j, znl_l, List.length_cons, List.length_nil, Option.some.injEq, Sum.inl.injEq, Sum.inr.injEq, Prod.mk.injEq, true_and, and_true, exists_eq_left', zK_sI, zA_sI, zL_sI, zK_sL, zA_sL, zI_sL, zK_fI, zA_fI, zL_fI, zK_fL, zA_fL, zI_fL, Nat.reduceAdd, Nat.reduceLeDiff, forall_eq', zl_lt, zl_gt, zl_eq, zl_le, zl_ge, zm_0, zaft_n, zaft_v, zb_eq, Decidable.not_not, H.K]
  have u : zsI (zsI (zsI h a 17 0) a 18 0) a 19 0 = zfI h a (zup (zup (zup (zI h a) 17 0) 18 0) 19 0) := by simp only [zsI_f, zfI_fI, zI_fI_s]
  rw [u]
  generalize hf : zup (zup (zup (zI h a) 17 0) 18 0) 19 0 = f
  have f1 : f 1 = (s.2.1.length : Int) := by rw [← hf]; simp [zup]; exact b1
  have f17 : f 17 = 0 := by rw [← hf]; simp [zup]
  have f18 : f 18 = 0 := by rw [← hf]; simp [zup]
  have f19 : f 19 = 0 := by rw [← hf]; simp [zup]
  have fo : ∀ j, j ≠ 17 → j ≠ 18 → j ≠ 19 → f j = zI h a j := fun j q1 q2 q3 => by rw [← hf]; simp [zup, q1, q2, q3]
  have H1 : ∀ A, zmo e a (zfI (zfI h a f) (a + 1) A) := fun A => H
  rw [zI_fI_s, f1]
  have e6 : zn 6 = 6 := by decide
  rw [e6, zn_b (x := (s.2.1.length : Int)) (by omega) (by omega)]
  -- the end, from where there is room
  have fin : ∀ (ks : List yF) (A : Nat → Int), ks.length < 6 → mFr A s.1 ks → (∀ j, 364 ≤ j → A j = zI h (a + 1) j) → (ks.length = s.2.1.length ∨ (ks.length = 5 ∧ s.2.1.length = 6)) → ∀ w, zg e 234 (d + 1) 41 [zr (some a), w] [] (zfI (zfI h a f) (a + 1) A) (fun o h' => o = Sum.inl none ∧ ∃ (A f : Nat → Int), h' = zfI (zfI h a f) (a + 1) A ∧ mFr A s.1 (ks ++ [s.1]) ∧ f 1 = ((ks ++ [s.1]).length : Int) ∧ f 17 = 0 ∧ f 18 = 0 ∧ f 19 = 0 ∧ (∀ j, j ≠ 1 → j ≠ 17 → j ≠ 18 → j ≠ 19 → f j = zI h a j) ∧ ∀ j, 364 ≤ j → A j = zI h (a + 1) j) := by
    intro ks A hk hA hout hlen w
    simp only [r234_0, r234_1, r234_4, r234_5, r234_8, r234_10, r234_13, r234_14, r234_16, r234_18, r234_21, r234_22, r234_24, r234_25, r234_26, r234_27, r234_28, r234_30, r234_31, r234_32, r234_35, r234_38, r234_41, r234_42, r234_44, r234_45, r234_48, r234_49, r234_50, r234_53, r234_56, r234_57, r234_58, r234_60, r234_61, r234_64, r234_65, r234_68, znl_i, znl_r, znl_j, znl_l, List.length_cons, List.length_nil, Option.some.injEq, Sum.inl.injEq, Sum.inr.injEq, Prod.mk.injEq, true_and, and_true, exists_eq_left', zK_sI, zA_sI, zL_sI, zK_sL, zA_sL, zI_sL, zK_fI, zA_fI, zL_fI, zK_fL, zA_fL, zI_fL, Nat.reduceAdd, Nat.reduceLeDiff, forall_eq', zl_lt, zl_gt, zl_eq, zl_le, zl_ge, zm_0, zaft_n, zaft_v, zb_eq, Decidable.not_not, H.K]
    rw [zI_fI_n _ _ (by omega), zI_fI_s, f1]
    refine zc_mono (j_min 6 _ (by omega) (by omega) (by omega) (by omega)) ?_
    rintro _ _ ⟨rfl, rfl⟩
    simp only [r234_0, r234_1, r234_4, r234_5, r234_8, r234_10, r234_13, r234_14, r234_16, r234_18, r234_21, r234_22, r234_24, r234_25, r234_26, r234_27, r234_28, r234_30, r234_31, r234_32, r234_35, r234_38, r234_41, r234_42, r234_44, r234_45, r234_48, r234_49, r234_50, r234_53, r234_56, r234_57, r234_58, r234_60, r234_61, r234_64, r234_65, r234_68, znl_i, znl_r, znl_j, znl_l, List.length_cons, List.length_nil, Option.some.injEq, Sum.inl.injEq, Sum.inr.injEq, Prod.mk.injEq, true_and, and_true, exists_eq_left', zK_sI, zA_sI, zL_sI, zK_sL, zA_sL, zI_sL, zK_fI, zA_fI, zL_fI, zK_fL, zA_fL, zI_fL, Nat.reduceAdd, Nat.reduceLeDiff, forall_eq', zl_lt, zl_gt, zl_eq, zl_le, zl_ge, zm_0, zaft_n, zaft_v, zb_eq, Decidable.not_not, H.K, H.1]
    have ek : (if (s.2.1.length : Int) + 1 < 6 then (s.2.1.length : Int) + 1 else 6) = ((ks.length + 1 : Nat) : Int) := by
      rcases hlen with q | q
      · rw [q]; split <;> omega
      · rw [q.1, q.2]; rfl
    have hh : ∀ v, zsI (zfI (zfI h a f) (a + 1) A) a 1 v = zfI (zfI h a (zup f 1 v)) (a + 1) A := fun v => by
      rw [zsI_f, zI_fI_n (c := a + 1) (b := a) _ _ (by omega), zI_fI_s, zfI_comm _ _ _ (by omega : a + 1 ≠ a), zfI_fI]
    rw [ek, hh, zI_fI_n (c := a + 1) (b := a) _ _ (by omega), zI_fI_s]
    have e1 : zup f 1 ((ks.length + 1 : Nat) : Int) 1 = ((ks.length + 1 : Nat) : Int) := by simp [zup]
    rw [e1, show (52 : Int) * ((ks.length + 1 : Nat) : Int) = ((52 * (ks.length + 1) : Nat) : Int) by omega]
    refine zc_mono (m_copies (h := zfI (zfI h a (zup f 1 ((ks.length + 1 : Nat) : Int))) (a + 1) A) H 0 (52 * (ks.length + 1)) (by omega) (by omega) (by omega)) ?_
    rintro _ _ ⟨rfl, rfl⟩
    simp only [r234_0, r234_1, r234_4, r234_5, r234_8, r234_10, r234_13, r234_14, r234_16, r234_18, r234_21, r234_22, r234_24, r234_25, r234_26, r234_27, r234_28, r234_30, r234_31, r234_32, r234_35, r234_38, r234_41, r234_42, r234_44, r234_45, r234_48, r234_49, r234_50, r234_53, r234_56, r234_57, r234_58, r234_60, r234_61, r234_64, r234_65, r234_68, znl_i, znl_r, znl_j, znl_l, List.length_cons, List.length_nil, Option.some.injEq, Sum.inl.injEq, Sum.inr.injEq, Prod.mk.injEq, true_and, and_true, exists_eq_left', zK_sI, zA_sI, zL_sI, zK_sL, zA_sL, zI_sL, zK_fI, zA_fI, zL_fI, zK_fL, zA_fL, zI_fL, Nat.reduceAdd, Nat.reduceLeDiff, forall_eq', zl_lt, zl_gt, zl_eq, zl_le, zl_ge, zm_0, zaft_n, zaft_v, zb_eq, Decidable.not_not, H.K]
    rw [zfI_fI, zI_fI_s]
    refine ⟨_, _, rfl, mFr_push hA hk rfl, ?_, ?_, ?_, ?_, fun j q1 q2 q3 q4 => ?_, fun j hj => ?_⟩
    · rw [e1, List.length_append]; rfl
    · simp [zup, f17]
    · simp [zup, f18]
    · simp [zup, f19]
    · simp only [zup]; rw [if_neg q1]; exact fo j q2 q3 q4
    · simp only [ycpy]; rw [if_neg (by omega)]; exact hout j hj
  refine ⟨fun q => ?_, fun q => ?_⟩
  · rw [if_neg (by omega)]
    have := fin s.2.1 (zI h (a + 1)) (by omega) hF (fun _ _ => rfl) (Or.inl rfl) zj
    rw [show zfI (zfI h a f) (a + 1) (zI h (a + 1)) = zfI h a f by rw [← zI_fI_n (h := h) (c := a) f (by omega : a + 1 ≠ a), zfI_id]] at this
    exact this
  · rw [if_pos (by omega)]
    have loop : ∀ (j k : Nat), k + j = 6 → 1 ≤ k → zg e 234 (d + 1) 15 [zr (some a), zi k] [] (zfI (zfI h a f) (a + 1) (fun i => if 52 ≤ i ∧ i < 52 * k then zI h (a + 1) (i + 52) else zI h (a + 1) i)) (fun o h' => o = Sum.inl none ∧ ∃ (A f : Nat → Int), h' = zfI (zfI h a f) (a + 1) A ∧ mFr A s.1 (s.2.1.tail ++ [s.1]) ∧ f 1 = ((s.2.1.tail ++ [s.1]).length : Int) ∧ f 17 = 0 ∧ f 18 = 0 ∧ f 19 = 0 ∧ (∀ j, j ≠ 1 → j ≠ 17 → j ≠ 18 → j ≠ 19 → f j = zI h a j) ∧ ∀ j, 364 ≤ j → A j = zI h (a + 1) j) := by
      intro j
      induction j with
      | zero =>
        intro k hk h1
        obtain rfl : k = 6 := by omega
        rw [r234_15]
        simp only [r234_16, r234_18, znl_i, znl_r, znl_j, znl_l, List.length_cons, List.length_nil, Option.some.injEq, Sum.inl.injEq, Sum.inr.injEq, Prod.mk.injEq, true_and, and_true, exists_eq_left', zK_sI, zA_sI, zL_sI, zK_sL, zA_sL, zI_sL, zK_fI, zA_fI, zL_fI, zK_fL, zA_fL, zI_fL, Nat.reduceAdd, Nat.reduceLeDiff, forall_eq', zl_lt, zl_gt, zl_eq, zl_le, zl_ge, zm_0, zaft_n, zaft_v, zb_eq, Decidable.not_not]
        simp (disch := omega) only [zn_b, zm_b, Int.toNat_natCast]
        refine ⟨fun _ => ?_, fun z => by omega⟩
        refine fin s.2.1.tail _ (by rw [List.length_tail]; omega) (mFr_shift hF (by omega) (fun j hj => ?_) (fun j h1 h2 => ?_)) (fun j hj => ?_) (Or.inr ⟨by rw [List.length_tail]; omega, by omega⟩) _
        · rw [if_neg (by omega)]
        · rw [if_pos (by omega)]
        · rw [if_neg (by omega)]
      | succ j ih =>
        intro k hk h1
        have nx := ih (k + 1) (by omega) (by omega)
        rw [r234_15]
        simp only [r234_0, r234_1, r234_4, r234_5, r234_8, r234_10, r234_13, r234_14, r234_16, r234_18, r234_21, r234_22, r234_24, r234_25, r234_26, r234_27, r234_28, r234_30, r234_31, r234_32, r234_35, r234_38, r234_42, r234_44, r234_45, r234_48, r234_49, r234_50, r234_53, r234_56, r234_57, r234_58, r234_60, r234_61, r234_64, r234_65, r234_68, znl_i, znl_r, znl_j, znl_l, List.length_cons, List.length_nil, Option.some.injEq, Sum.inl.injEq, Sum.inr.injEq, Prod.mk.injEq, true_and, and_true, exists_eq_left', zK_sI, zA_sI, zL_sI, zK_sL, zA_sL, zI_sL, zK_fI, zA_fI, zL_fI, zK_fL, zA_fL, zI_fL, Nat.reduceAdd, Nat.reduceLeDiff, forall_eq', zl_lt, zl_gt, zl_eq, zl_le, zl_ge, zm_0, zaft_n, zaft_v, zb_eq, Decidable.not_not, H.K]
        simp (disch := omega) only [zn_b, zm_b, Int.toNat_natCast]
        refine ⟨fun z => by omega, fun _ => ?_⟩
        rw [show (52 : Int) * ((k : Int) + 1) = ((52 * (k + 1) : Nat) : Int) by omega, show (52 : Int) * (k : Int) = ((52 * k : Nat) : Int) by omega]
        refine zc_mono (m_copies (h := zfI (zfI h a f) (a + 1) _) H (52 * (k + 1)) (52 * k) (by omega) (by omega) (by omega)) ?_
        rintro _ _ ⟨rfl, rfl⟩
        simp only [r234_0, r234_1, r234_4, r234_5, r234_8, r234_10, r234_13, r234_14, r234_16, r234_18, r234_21, r234_22, r234_24, r234_25, r234_26, r234_27, r234_28, r234_30, r234_31, r234_32, r234_35, r234_38, r234_42, r234_44, r234_45, r234_48, r234_49, r234_50, r234_53, r234_56, r234_57, r234_58, r234_60, r234_61, r234_64, r234_65, r234_68, znl_i, znl_r, znl_j, znl_l, List.length_cons, List.length_nil, Option.some.injEq, Sum.inl.injEq, Sum.inr.injEq, Prod.mk.injEq, true_and, and_true, exists_eq_left', zK_sI, zA_sI, zL_sI, zK_sL, zA_sL, zI_sL, zK_fI, zA_fI, zL_fI, zK_fL, zA_fL, zI_fL, Nat.reduceAdd, Nat.reduceLeDiff, forall_eq', zl_lt, zl_gt, zl_eq, zl_le, zl_ge, zm_0, zaft_n, zaft_v, zb_eq, Decidable.not_not, H.K]
        rw [zfI_fI, zI_fI_s]
        have e3 : ycpy (fun i => if 52 ≤ i ∧ i < 52 * k then zI h (a + 1) (i + 52) else zI h (a + 1) i) (52 * (k + 1)) (52 * k) = (fun i => if 52 ≤ i ∧ i < 52 * (k + 1) then zI h (a + 1) (i + 52) else zI h (a + 1) i) := by
          funext i
          simp only [ycpy]
          by_cases q1 : 52 * k ≤ i ∧ i < 52 * k + 52
          · rw [if_pos q1, if_neg (by omega), if_pos (by omega), show 52 * (k + 1) + (i - 52 * k) = i + 52 by omega]
          · rw [if_neg q1]
            by_cases q2 : 52 ≤ i ∧ i < 52 * k
            · rw [if_pos q2, if_pos (by omega)]
            · rw [if_neg q2, if_neg (by omega)]
        rw [e3]
        exact nx
    have l0 := loop 5 1 rfl (Nat.le_refl _)
    rw [show (fun i => if 52 ≤ i ∧ i < 52 * 1 then zI h (a + 1) (i + 52) else zI h (a + 1) i) = zI h (a + 1) from funext fun i => if_neg (by omega), show zfI (zfI h a f) (a + 1) (zI h (a + 1)) = zfI h a f by rw [← zI_fI_n (h := h) (c := a) f (by omega : a + 1 ≠ a), zfI_id]] at l0
    exact l0
end
