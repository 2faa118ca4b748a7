/-! ===== by how few operations all are made ===== -/
section
variable {T : yT}
/-- steps so far: each is by so many, or 48 -/
def yst8 (T : yT) (n : Nat) (f st : Nat → Nat) : Prop := st 0 = 0 ∧ (∀ i, i < n → st i ≤ 48) ∧ ∀ i, i < n → st i < 48 → ∃ l : List Nat, l.length = st i ∧ (∀ x ∈ l, x < Tm T) ∧ ylst T (fun b => b ∈ l) (f i)
theorem yst8.upd {n : Nat} {f st : Nat → Nat} (h : yst8 T n f st) {i x o : Nat} (hi : i < n) (hx : x < Tm T) (ho : o < n) (hy : yisg T (f i) x (f o)) (hl : st i + 1 < st o) : yst8 T n f (fun j => if j = o then st i + 1 else st j) := by
  obtain ⟨h1, h2, h3⟩ := h
  refine ⟨?_, fun j hj => ?_, fun j hj hlt => ?_⟩
  · dsimp only
    by_cases c : 0 = o
    · rw [← c, h1] at hl; omega
    · rw [if_neg c]; exact h1
  · dsimp only
    have := h2 o ho
    split
    · omega
    · exact h2 j hj
  · dsimp only at hlt ⊢
    by_cases c : j = o
    · rw [if_pos c]
      have := h2 o ho
      obtain ⟨l, l1, l2, l3⟩ := h3 i hi (by omega)
      refine ⟨x :: l, by simp [l1], fun y hy => ?_, ?_⟩
      · rcases List.mem_cons.mp hy with q | q
        · rw [q]; exact hx
        · exact l2 y q
      · rw [c]
        exact l3.step hx hy (fun b => by rw [List.mem_cons]; exact Or.comm)
    · rw [if_neg c] at hlt ⊢; exact h3 j hj hlt
theorem ysum_upd {n : Nat} {st : Nat → Nat} {o v : Nat} (ho : o < n) (hv : v < st o) : ysum (fun j => ((if j = o then v else st j : Nat) : Int)) n < ysum (fun j => (st j : Int)) n := by
  refine ysum_lt (i := o) (fun k _ => ?_) ho ?_
  · by_cases c : k = o
    · rw [if_pos c, c]; omega
    · rw [if_neg c]; omega
  · rw [if_pos rfl]; omega
/-- a full set -/
theorem yfull (T : yT) (V : yV T) : ysg T (2 ^ Tm T - 1) = true := by
  refine ysg_iff.mpr ⟨?_, fun a b ha hb _ _ => ?_, ?_⟩
  · rw [Nat.testBit_two_pow_sub_one]; exact decide_eq_true V.m0
  · rw [Nat.testBit_two_pow_sub_one]; exact decide_eq_true (V.th ha hb)
  · have := Nat.two_pow_pos (Tm T); omega
theorem yfull_eq {x : Nat} (hx : ysg T x = true) (h : ∀ b, b < Tm T → x.testBit b = true) : x = 2 ^ Tm T - 1 := by
  refine Nat.eq_of_testBit_eq fun b => ?_
  rw [Nat.testBit_two_pow_sub_one]
  by_cases c : b < Tm T
  · rw [h b c, decide_eq_true c]
  · rw [decide_eq_false c]
    by_cases q : x.testBit b = true
    · exact absurd (ybit_lt (ysg_iff.mp hx).2.2 q) c
    · simpa using q
theorem yfull_last (V : yV T) {x : Nat} (hl : (ysl T)[(ysl T).length - 1]? = some x) : x = 2 ^ Tm T - 1 := by
  have hm := V.m
  obtain ⟨r, hr⟩ := List.getElem?_of_mem (ymem_sl.mpr (yfull T V))
  obtain ⟨r1, r2⟩ := List.getElem?_eq_some_iff.mp hr
  obtain ⟨l1, l2⟩ := List.getElem?_eq_some_iff.mp hl
  by_cases c : r = (ysl T).length - 1
  · subst c; rw [hr] at hl; exact (Option.some.inj hl).symm
  · exfalso
    have := List.pairwise_iff_getElem.mp (ysl_sorted T) r ((ysl T).length - 1) r1 l1 (by omega)
    rw [r2, l2, yslt_iff] at this
    have hx : x ∈ ysl T := List.mem_of_getElem? hl
    have xs := (ysg_iff.mp (ymem_sl.mp hx)).2.2
    have c1 : ycnt x.testBit 64 ≤ Tm T := ycnt_hi xs (by omega)
    have c2 : (Tm T : Int) ≤ ycnt (2 ^ Tm T - 1).testBit 64 := by
      have := ycnt_inj (p := fun _ => true) (q := (2 ^ Tm T - 1).testBit) (f := fun i => i) (Tm T) 64 (fun i hi _ => ⟨by omega, by rw [Nat.testBit_two_pow_sub_one]; exact decide_eq_true hi⟩) (fun i j _ _ _ _ e => e)
      have e : ∀ k, ycnt (fun _ => true) k = (k : Int) := fun k => by
        induction k with
        | zero => rfl
        | succ k ih => simp only [ycnt, if_true, ih]; omega
      rw [e] at this; exact this
    have b1 := ycnt_bd x.testBit 64
    have b2 := ycnt_bd (2 ^ Tm T - 1).testBit 64
    unfold ypc at this
    omega
/-- none can be made fewer: the steps are the fewest -/
theorem yst8.fin (V : yV T) {n : Nat} {f st : Nat → Nat} (hn : n = (ysl T).length) (f0 : f 0 = 1) (h0 : 0 < n) (f2 : ∀ i j, i < n → j < n → f i = f j → i = j) (h : yst8 T n f st) (hf : ∀ i, i < n → ysg T (f i) = true) (hc : ∀ i x, i < n → x < Tm T → ∃ o, o < n ∧ yisg T (f i) x (f o) ∧ st o ≤ st i + 1) {o : Nat} (ho : o < n) (hl : (ysl T)[n - 1]? = some (f o)) : yfw T = st o ∧ st o ≤ 48 := by
  subst hn
  have hm := V.m
  have efo := yfull_last V hl
  obtain ⟨h1, h2, h3⟩ := h
  have path : ∀ l : List Nat, (∀ x ∈ l, x < Tm T) → ∃ i, i < (ysl T).length ∧ ylst T (fun b => b ∈ l) (f i) ∧ st i ≤ l.length := by
    intro l
    induction l with
    | nil => intro _; exact ⟨0, h0, by rw [f0]; exact ylst.zero V (fun b hb => by cases hb), by rw [h1]; exact Nat.le_refl _⟩
    | cons x l ih =>
      intro hx
      obtain ⟨i, i1, i2, i3⟩ := ih (fun y hy => hx y (List.mem_cons_of_mem _ hy))
      obtain ⟨p, p1, p2, p3⟩ := hc i x i1 (hx x List.mem_cons_self)
      exact ⟨p, p1, i2.step (hx x List.mem_cons_self) p2 (fun b => by rw [List.mem_cons]; exact Or.comm), by rw [List.length_cons]; omega⟩
  have full : ∀ l : List Nat, (∀ x ∈ l, x < Tm T) → (∀ z, ysg T z = true → (∀ x ∈ l, z.testBit x = true) → ∀ b, b < Tm T → z.testBit b = true) → st o ≤ l.length := fun l l1 l2 => by
    obtain ⟨i, i1, i2, i3⟩ := path l l1
    have e : f i = f o := by
      rw [efo]
      exact yfull_eq (hf i i1) (l2 _ (hf i i1) (fun x hx => i2.2.1 x (l1 x hx) hx))
    rw [f2 i o i1 ho e] at i3
    exact i3
  have lt : st o < 48 := by
    have := full ((List.range (Tm T - 1)).map (· + 1)) (fun x hx => by
      obtain ⟨y, hy, rfl⟩ := List.mem_map.mp hx
      rw [List.mem_range] at hy; omega) (fun z hz hq b hb => by
      by_cases c : b = 0
      · rw [c]; exact (ysg_iff.mp hz).1
      · exact hq b (List.mem_map.mpr ⟨b - 1, by rw [List.mem_range]; omega, by omega⟩))
    rw [List.length_map, List.length_range] at this
    omega
  refine ⟨yfw_eq (by omega) ?_ (fun j hj ⟨l, l1, l2, l3⟩ => ?_), by omega⟩
  · obtain ⟨l, l1, l2, l3⟩ := h3 o ho lt
    refine ⟨l, l1, l2, fun z hz hq b hb => ?_⟩
    have := l3.2.2 z hz (fun x hx hm => hq x hm) b
    rw [efo, Nat.testBit_two_pow_sub_one] at this
    exact this (decide_eq_true hb)
  · have := full l l2 l3
    omega
end
section
variable {e : zEv} {a d : Nat} {h : zH} {φ ψ : Nat → Nat → Int} {s : yS} {T : yT}
theorem m_fewest (L : ∀ F, yW F → yLaw F) (H : zmo e a h) (S : mS s φ ψ) : zc e (d + 12) 320 [zr (some a)] (mH h a φ ψ) (mAn e a h φ ψ (s_fewest s)) := by
  have hb := H.1
  simp only [n320, r320_0, r320_1, r320_4, r320_7, r320_8, r320_9, r320_12, r320_13, r320_14, r320_16, r320_17, r320_20, r320_23, r320_24, r320_27, r320_28, r320_29, r320_32, r320_33, r320_36, r320_38, r320_39, r320_42, r320_45, r320_46, r320_48, r320_51, r320_52, r320_53, r320_54, r320_56, r320_57, r320_60, r320_63, r320_64, r320_66, r320_67, r320_70, r320_73, r320_74, r320_77, r320_79, r320_80, r320_81, r320_82, r320_83, r320_84, r320_86, r320_87, r320_90, r320_92, r320_93, r320_94, r320_97, r320_98, r320_99, r320_100, r320_101, r320_104, r320_107, r320_108, r320_111, r320_113, r320_114, r320_117, r320_118, r320_119, r320_120, r320_121, r320_122, r320_123, r320_124, r320_127, r320_130, r320_133, r320_136, r320_139, r320_140, r320_141, r320_144, r320_145, r320_148, r320_149, r320_152, r320_153, r320_154, r320_155, r320_156, r320_159, znl_i, znl_r, znl_j, znl_l, List.length_cons, List.length_nil, Option.some.injEq, Sum.inl.injEq, Sum.inr.injEq, Prod.mk.injEq, true_and, and_true, exists_eq_left', zK_sI, zA_sI, zL_sI, zK_sL, zA_sL, zI_sL, zK_fI, zA_fI, zL_fI, zK_fL, zA_fL, zI_fL, Nat.reduceAdd, Nat.reduceLeDiff, forall_eq', zl_lt, zl_gt, zl_eq, zl_le, zl_ge, zm_0, zaft_n, zaft_v, zb_eq, Decidable.not_not, H.K, H.A48, H.K28, H.A46, H.K26, H.A47, H.K27, zK_mH, zA_mH, zI_mH0, zL_mH0, zsI_mH0, zsL_mH0, zI_mH1, zL_mH1, zsI_mH1, zsL_mH1, zI_mH2, zL_mH2, zsI_mH2, zsL_mH2, zI_mH3, zL_mH3, zsI_mH3, zsL_mH3, zI_mH4, zL_mH4, zsI_mH4, zsL_mH4, zI_mH5, zL_mH5, zsI_mH5, zsL_mH5, zI_mH6, zL_mH6, zsI_mH6, zsL_mH6, zI_mH7, zL_mH7, zsI_mH7, zsL_mH7, zI_mH8, zL_mH8, zsI_mH8, zsL_mH8, zI_mH9, zL_mH9, zsI_mH9, zsL_mH9, zI_mH10, zL_mH10, zsI_mH10, zsL_mH10, zI_mH11, zL_mH11, zsI_mH11, zsL_mH11, zI_mH12, zL_mH12, zsI_mH12, zsL_mH12, zI_mH13, zL_mH13, zsI_mH13, zsL_mH13, zI_mH14, zL_mH14, zsI_mH14, zsL_mH14, zI_mH15, zL_mH15, zsI_mH15, zsL_mH15, zI_mH16, zL_mH16, zsI_mH16, zsL_mH16, zI_mH17, zL_mH17, zsI_mH17, zsL_mH17, zI_mH18, zL_mH18, zsI_mH18, zsL_mH18, zI_mH19, zL_mH19, zsI_mH19, zsL_mH19, zI_mH20, zL_mH20, zsI_mH20, zsL_mH20, zI_mH21, zL_mH21, zsI_mH21, zsL_mH21, zI_mH22, zL_mH22, zsI_mH22, zsL_mH22, zI_mH23, zL_mH23, zsI_mH23, zsL_mH23, zI_mH24, zL_mH24, zsI_mH24, zsL_mH24, zI_mH25, zL_mH25, zsI_mH25, zsL_mH25, zI_mH26, zL_mH26, zsI_mH26, zsL_mH26, zI_mH27, zL_mH27, zsI_mH27, zsL_mH27, zI_mH28, zL_mH28, zsI_mH28, zsL_mH28, zI_mH29, zL_mH29, zsI_mH29, zsL_mH29, zI_mH30, zL_mH30, zsI_mH30, zsL_mH30, zI_mH31, zL_mH31, zsI_mH31, zsL_mH31, zI_mH32, zL_mH32, zsI_mH32, zsL_mH32, zI_mH33, zL_mH33, zsI_mH33, zsL_mH33, zI_mH34, zL_mH34, zsI_mH34, zsL_mH34, zI_mH35, zL_mH35, zsI_mH35, zsL_mH35, zI_mH36, zL_mH36, zsI_mH36, zsL_mH36, zI_mH37, zL_mH37, zsI_mH37, zsL_mH37, zI_mH38, zL_mH38, zsI_mH38, zsL_mH38, zI_mH39, zL_mH39, zsI_mH39, zsL_mH39, zI_mH40, zL_mH40, zsI_mH40, zsL_mH40, zI_mH41, zL_mH41, zsI_mH41, zsL_mH41]
  refine zc_mono (m_laysSets L H S) ?_
  rintro _ _ ⟨rfl, φ1, ψ1, rfl, S1, k1, k2⟩
  simp only [r320_0, r320_1, r320_4, r320_7, r320_8, r320_9, r320_12, r320_13, r320_14, r320_16, r320_17, r320_20, r320_23, r320_24, r320_27, r320_28, r320_29, r320_32, r320_33, r320_36, r320_38, r320_39, r320_42, r320_45, r320_46, r320_48, r320_51, r320_52, r320_53, r320_54, r320_56, r320_57, r320_60, r320_63, r320_64, r320_66, r320_67, r320_70, r320_73, r320_74, r320_77, r320_79, r320_80, r320_81, r320_82, r320_83, r320_84, r320_86, r320_87, r320_90, r320_92, r320_93, r320_94, r320_97, r320_98, r320_99, r320_100, r320_101, r320_104, r320_107, r320_108, r320_111, r320_113, r320_114, r320_117, r320_118, r320_119, r320_120, r320_121, r320_122, r320_123, r320_124, r320_127, r320_130, r320_133, r320_136, r320_139, r320_140, r320_141, r320_144, r320_145, r320_148, r320_149, r320_152, r320_153, r320_154, r320_155, r320_156, r320_159, znl_i, znl_r, znl_j, znl_l, List.length_cons, List.length_nil, Option.some.injEq, Sum.inl.injEq, Sum.inr.injEq, Prod.mk.injEq, true_and, and_true, exists_eq_left', zK_sI, zA_sI, zL_sI, zK_sL, zA_sL, zI_sL, zK_fI, zA_fI, zL_fI, zK_fL, zA_fL, zI_fL, Nat.reduceAdd, Nat.reduceLeDiff, forall_eq', zl_lt, zl_gt, zl_eq, zl_le, zl_ge, zm_0, zaft_n, zaft_v, zb_eq, Decidable.not_not, H.K, H.A48, H.K28, H.A46, H.K26, H.A47, H.K27, zK_mH, zA_mH, zI_mH0, zL_mH0, zsI_mH0, zsL_mH0, zI_mH1, zL_mH1, zsI_mH1, zsL_mH1, zI_mH2, zL_mH2, zsI_mH2, zsL_mH2, zI_mH3, zL_mH3, zsI_mH3, zsL_mH3, zI_mH4, zL_mH4, zsI_mH4, zsL_mH4, zI_mH5, zL_mH5, zsI_mH5, zsL_mH5, zI_mH6, zL_mH6, zsI_mH6, zsL_mH6, zI_mH7, zL_mH7, zsI_mH7, zsL_mH7, zI_mH8, zL_mH8, zsI_mH8, zsL_mH8, zI_mH9, zL_mH9, zsI_mH9, zsL_mH9, zI_mH10, zL_mH10, zsI_mH10, zsL_mH10, zI_mH11, zL_mH11, zsI_mH11, zsL_mH11, zI_mH12, zL_mH12, zsI_mH12, zsL_mH12, zI_mH13, zL_mH13, zsI_mH13, zsL_mH13, zI_mH14, zL_mH14, zsI_mH14, zsL_mH14, zI_mH15, zL_mH15, zsI_mH15, zsL_mH15, zI_mH16, zL_mH16, zsI_mH16, zsL_mH16, zI_mH17, zL_mH17, zsI_mH17, zsL_mH17, zI_mH18, zL_mH18, zsI_mH18, zsL_mH18, zI_mH19, zL_mH19, zsI_mH19, zsL_mH19, zI_mH20, zL_mH20, zsI_mH20, zsL_mH20, zI_mH21, zL_mH21, zsI_mH21, zsL_mH21, zI_mH22, zL_mH22, zsI_mH22, zsL_mH22, zI_mH23, zL_mH23, zsI_mH23, zsL_mH23, zI_mH24, zL_mH24, zsI_mH24, zsL_mH24, zI_mH25, zL_mH25, zsI_mH25, zsL_mH25, zI_mH26, zL_mH26, zsI_mH26, zsL_mH26, zI_mH27, zL_mH27, zsI_mH27, zsL_mH27, zI_mH28, zL_mH28, zsI_mH28, zsL_mH28, zI_mH29, zL_mH29, zsI_mH29, zsL_mH29, zI_mH30, zL_mH30, zsI_mH30, zsL_mH30, zI_mH31, zL_mH31, zsI_mH31, zsL_mH31, zI_mH32, zL_mH32, zsI_mH32, zsL_mH32, zI_mH33, zL_mH33, zsI_mH33, zsL_mH33, zI_mH34, zL_mH34, zsI_mH34, zsL_mH34, zI_mH35, zL_mH35, zsI_mH35, zsL_mH35, zI_mH36, zL_mH36, zsI_mH36, zsL_mH36, zI_mH37, zL_mH37, zsI_mH37, zsL_mH37, zI_mH38, zL_mH38, zsI_mH38, zsL_mH38, zI_mH39, zL_mH39, zsI_mH39, zsL_mH39, zI_mH40, zL_mH40, zsI_mH40, zsL_mH40, zI_mH41, zL_mH41, zsI_mH41, zsL_mH41]
  rw [zn_yb, yb_0]
  refine ⟨fun z => ?_, fun z => ?_⟩
  · have hs : y3 s.1 ≠ -1 := by simpa using z
    have M3 := S1.sets hs (k2 hs)
    have hl := ((L _ S.1.1).2 hs).2.2.2.1
    have V := yLaw.V L S hs
    have hm := V.m
    obtain ⟨T1, T2, T3⟩ := S1.T k1 hs
    have w0 : w_all s.1 = 0 := by unfold w_all; rw [if_neg hs]
    have S2 : ∀ φ2 : Nat → Nat → Int, (∀ i, i ≠ 28 → φ2 i = φ1 i) → mS s φ2 ψ1 := fun φ2 p => by
      obtain ⟨s1, s2, s3⟩ := S1
      refine ⟨by rw [p 1 (by omega)]; exact s1, ?_, s3.cg (fun j _ => by rw [p 0 (by omega)]) (fun i hi => p i (by omega)) rfl rfl rfl⟩
      unfold mFe at *
      rw [p 0 (by omega), p 2 (by omega)]; exact s2
    unfold s_fewest
    generalize yTF s.1 = T at *
    obtain ⟨g1, f, f0, f1, f2, f3, f4⟩ := M3
    have fs : ∀ i, i < (ysl T).length → ysg T (f i) = true := fun i hi => ymem_sl.mp (f1 i hi).1
    have h0 : 0 < (ysl T).length := by
      obtain ⟨i, hi⟩ := List.getElem?_of_mem (ymem_sl.mpr (ysg_one V))
      have := (List.getElem?_eq_some_iff.mp hi).1
      omega
    -- at the end of the search
    have fin : ∀ (φ2 : Nat → Nat → Int) (st : Nat → Nat) w2 w3 w4, (∀ i, i ≠ 28 → φ2 i = φ1 i) → (∀ i, i < (ysl T).length → φ2 28 i = (st i : Int)) → yst8 T (ysl T).length f st → (∀ i x, i < (ysl T).length → x < Tm T → ∃ o, o < (ysl T).length ∧ yisg T (f i) x (f o) ∧ st o ≤ st i + 1) → zg e 320 (d + 11) 47 [zr (some a), zi 0, w2, w3, w4] [] (mH h a φ2 ψ1) (mAn e a h φ ψ (yans s (w_all s.1) (yfw T))) := fun φ2 st w2 w3 w4 p1 p2 p3 p4 => by
      obtain ⟨o, o1, o2, o3⟩ := f3 ((ysl T).length - 1) (by omega)
      obtain ⟨e1, e2⟩ := p3.fin V rfl f0 h0 f2 fs p4 o1 o3
      have g50 : φ2 0 50 = ((ysl T).length : Int) := by rw [p1 0 (by omega)]; exact g1
      have g27 : φ2 27 ((ysl T).length - 1) = (o : Int) := by rw [p1 27 (by omega)]; exact o2
      rw [r320_47]
      simp only [r320_0, r320_1, r320_4, r320_7, r320_8, r320_9, r320_12, r320_13, r320_14, r320_16, r320_17, r320_20, r320_23, r320_24, r320_27, r320_28, r320_29, r320_32, r320_33, r320_36, r320_38, r320_39, r320_42, r320_45, r320_46, r320_48, r320_51, r320_52, r320_53, r320_54, r320_56, r320_57, r320_60, r320_63, r320_64, r320_66, r320_67, r320_70, r320_73, r320_74, r320_77, r320_79, r320_80, r320_81, r320_82, r320_83, r320_84, r320_86, r320_87, r320_90, r320_92, r320_93, r320_94, r320_97, r320_98, r320_99, r320_100, r320_101, r320_104, r320_107, r320_108, r320_111, r320_113, r320_114, r320_117, r320_118, r320_119, r320_120, r320_121, r320_122, r320_123, r320_124, r320_127, r320_130, r320_133, r320_136, r320_139, r320_140, r320_141, r320_144, r320_145, r320_148, r320_149, r320_152, r320_153, r320_154, r320_155, r320_156, r320_159, znl_i, znl_r, znl_j, znl_l, List.length_cons, List.length_nil, Option.some.injEq, Sum.inl.injEq, Sum.inr.injEq, Prod.mk.injEq, true_and, and_true, exists_eq_left', zK_sI, zA_sI, zL_sI, zK_sL, zA_sL, zI_sL, zK_fI, zA_fI, zL_fI, zK_fL, zA_fL, zI_fL, Nat.reduceAdd, Nat.reduceLeDiff, forall_eq', zl_lt, zl_gt, zl_eq, zl_le, zl_ge, zm_0, zaft_n, zaft_v, zb_eq, Decidable.not_not, H.K, H.A48, H.K28, H.A46, H.K26, H.A47, H.K27, zK_mH, zA_mH, zI_mH0, zL_mH0, zsI_mH0, zsL_mH0, zI_mH1, zL_mH1, zsI_mH1, zsL_mH1, zI_mH2, zL_mH2, zsI_mH2, zsL_mH2, zI_mH3, zL_mH3, zsI_mH3, zsL_mH3, zI_mH4, zL_mH4, zsI_mH4, zsL_mH4, zI_mH5, zL_mH5, zsI_mH5, zsL_mH5, zI_mH6, zL_mH6, zsI_mH6, zsL_mH6, zI_mH7, zL_mH7, zsI_mH7, zsL_mH7, zI_mH8, zL_mH8, zsI_mH8, zsL_mH8, zI_mH9, zL_mH9, zsI_mH9, zsL_mH9, zI_mH10, zL_mH10, zsI_mH10, zsL_mH10, zI_mH11, zL_mH11, zsI_mH11, zsL_mH11, zI_mH12, zL_mH12, zsI_mH12, zsL_mH12, zI_mH13, zL_mH13, zsI_mH13, zsL_mH13, zI_mH14, zL_mH14, zsI_mH14, zsL_mH14, zI_mH15, zL_mH15, zsI_mH15, zsL_mH15, zI_mH16, zL_mH16, zsI_mH16, zsL_mH16, zI_mH17, zL_mH17, zsI_mH17, zsL_mH17, zI_mH18, zL_mH18, zsI_mH18, zsL_mH18, zI_mH19, zL_mH19, zsI_mH19, zsL_mH19, zI_mH20, zL_mH20, zsI_mH20, zsL_mH20, zI_mH21, zL_mH21, zsI_mH21, zsL_mH21, zI_mH22, zL_mH22, zsI_mH22, zsL_mH22, zI_mH23, zL_mH23, zsI_mH23, zsL_mH23, zI_mH24, zL_mH24, zsI_mH24, zsL_mH24, zI_mH25, zL_mH25, zsI_mH25, zsL_mH25, zI_mH26, zL_mH26, zsI_mH26, zsL_mH26, zI_mH27, zL_mH27, zsI_mH27, zsL_mH27, zI_mH28, zL_mH28, zsI_mH28, zsL_mH28, zI_mH29, zL_mH29, zsI_mH29, zsL_mH29, zI_mH30, zL_mH30, zsI_mH30, zsL_mH30, zI_mH31, zL_mH31, zsI_mH31, zsL_mH31, zI_mH32, zL_mH32, zsI_mH32, zsL_mH32, zI_mH33, zL_mH33, zsI_mH33, zsL_mH33, zI_mH34, zL_mH34, zsI_mH34, zsL_mH34, zI_mH35, zL_mH35, zsI_mH35, zsL_mH35, zI_mH36, zL_mH36, zsI_mH36, zsL_mH36, zI_mH37, zL_mH37, zsI_mH37, zsL_mH37, zI_mH38, zL_mH38, zsI_mH38, zsL_mH38, zI_mH39, zL_mH39, zsI_mH39, zsL_mH39, zI_mH40, zL_mH40, zsI_mH40, zsL_mH40, zI_mH41, zL_mH41, zsI_mH41, zsL_mH41]
      rw [g50]
      simp (disch := omega) only [zn_b, zm_b, Int.toNat_natCast, Int.toNat_zero, zt4, zt_4, zt6, zt_6, zt9, zt_9, zt12, zt_12, zt48, zt_48, zt97, zt_97, zt144, zt144b, show (((ysl T).length : Int) - 1).toNat = (ysl T).length - 1 by omega, g27, p2 o o1]
      refine ⟨fun _ => ?_, fun z => (by first | omega | exact absurd trivial z | exact absurd rfl z)⟩
      repeat (refine And.intro (by omega) ?_)
      refine zc_w (m_givesH H _) ?_
      simp only [r320_0, r320_1, r320_4, r320_7, r320_8, r320_9, r320_12, r320_13, r320_14, r320_16, r320_17, r320_20, r320_23, r320_24, r320_27, r320_28, r320_29, r320_32, r320_33, r320_36, r320_38, r320_39, r320_42, r320_45, r320_46, r320_48, r320_51, r320_52, r320_53, r320_54, r320_56, r320_57, r320_60, r320_63, r320_64, r320_66, r320_67, r320_70, r320_73, r320_74, r320_77, r320_79, r320_80, r320_81, r320_82, r320_83, r320_84, r320_86, r320_87, r320_90, r320_92, r320_93, r320_94, r320_97, r320_98, r320_99, r320_100, r320_101, r320_104, r320_107, r320_108, r320_111, r320_113, r320_114, r320_117, r320_118, r320_119, r320_120, r320_121, r320_122, r320_123, r320_124, r320_127, r320_130, r320_133, r320_136, r320_139, r320_140, r320_141, r320_144, r320_145, r320_148, r320_149, r320_152, r320_153, r320_154, r320_155, r320_156, r320_159, znl_i, znl_r, znl_j, znl_l, List.length_cons, List.length_nil, Option.some.injEq, Sum.inl.injEq, Sum.inr.injEq, Prod.mk.injEq, true_and, and_true, exists_eq_left', zK_sI, zA_sI, zL_sI, zK_sL, zA_sL, zI_sL, zK_fI, zA_fI, zL_fI, zK_fL, zA_fL, zI_fL, Nat.reduceAdd, Nat.reduceLeDiff, forall_eq', zl_lt, zl_gt, zl_eq, zl_le, zl_ge, zm_0, zaft_n, zaft_v, zb_eq, Decidable.not_not, H.K, H.A48, H.K28, H.A46, H.K26, H.A47, H.K27, zK_mH, zA_mH, zI_mH0, zL_mH0, zsI_mH0, zsL_mH0, zI_mH1, zL_mH1, zsI_mH1, zsL_mH1, zI_mH2, zL_mH2, zsI_mH2, zsL_mH2, zI_mH3, zL_mH3, zsI_mH3, zsL_mH3, zI_mH4, zL_mH4, zsI_mH4, zsL_mH4, zI_mH5, zL_mH5, zsI_mH5, zsL_mH5, zI_mH6, zL_mH6, zsI_mH6, zsL_mH6, zI_mH7, zL_mH7, zsI_mH7, zsL_mH7, zI_mH8, zL_mH8, zsI_mH8, zsL_mH8, zI_mH9, zL_mH9, zsI_mH9, zsL_mH9, zI_mH10, zL_mH10, zsI_mH10, zsL_mH10, zI_mH11, zL_mH11, zsI_mH11, zsL_mH11, zI_mH12, zL_mH12, zsI_mH12, zsL_mH12, zI_mH13, zL_mH13, zsI_mH13, zsL_mH13, zI_mH14, zL_mH14, zsI_mH14, zsL_mH14, zI_mH15, zL_mH15, zsI_mH15, zsL_mH15, zI_mH16, zL_mH16, zsI_mH16, zsL_mH16, zI_mH17, zL_mH17, zsI_mH17, zsL_mH17, zI_mH18, zL_mH18, zsI_mH18, zsL_mH18, zI_mH19, zL_mH19, zsI_mH19, zsL_mH19, zI_mH20, zL_mH20, zsI_mH20, zsL_mH20, zI_mH21, zL_mH21, zsI_mH21, zsL_mH21, zI_mH22, zL_mH22, zsI_mH22, zsL_mH22, zI_mH23, zL_mH23, zsI_mH23, zsL_mH23, zI_mH24, zL_mH24, zsI_mH24, zsL_mH24, zI_mH25, zL_mH25, zsI_mH25, zsL_mH25, zI_mH26, zL_mH26, zsI_mH26, zsL_mH26, zI_mH27, zL_mH27, zsI_mH27, zsL_mH27, zI_mH28, zL_mH28, zsI_mH28, zsL_mH28, zI_mH29, zL_mH29, zsI_mH29, zsL_mH29, zI_mH30, zL_mH30, zsI_mH30, zsL_mH30, zI_mH31, zL_mH31, zsI_mH31, zsL_mH31, zI_mH32, zL_mH32, zsI_mH32, zsL_mH32, zI_mH33, zL_mH33, zsI_mH33, zsL_mH33, zI_mH34, zL_mH34, zsI_mH34, zsL_mH34, zI_mH35, zL_mH35, zsI_mH35, zsL_mH35, zI_mH36, zL_mH36, zsI_mH36, zsL_mH36, zI_mH37, zL_mH37, zsI_mH37, zsL_mH37, zI_mH38, zL_mH38, zsI_mH38, zsL_mH38, zI_mH39, zL_mH39, zsI_mH39, zsL_mH39, zI_mH40, zL_mH40, zsI_mH40, zsL_mH40, zI_mH41, zL_mH41, zsI_mH41, zsL_mH41]
      rw [e1]
      exact mAn_yes H (S2 φ2 p1) w0
    -- a pass
    have pass : ∀ (N : Nat) (φ2 : Nat → Nat → Int) (st : Nat → Nat) w2 w3 w4, ysum (fun j => (st j : Int)) (ysl T).length ≤ (N : Int) → (∀ i, i ≠ 28 → φ2 i = φ1 i) → (∀ i, i < (ysl T).length → φ2 28 i = (st i : Int)) → yst8 T (ysl T).length f st → zg e 320 (d + 11) 47 [zr (some a), zi 1, w2, w3, w4] [] (mH h a φ2 ψ1) (mAn e a h φ ψ (yans s (w_all s.1) (yfw T))) := by
      intro N
      induction N using Nat.strongRecOn with
      | _ N IH =>
        intro φ2 st w2 w3 w4 hN p1 p2 p3
        rw [r320_47]
        simp only [r320_0, r320_1, r320_4, r320_7, r320_8, r320_9, r320_12, r320_13, r320_14, r320_16, r320_17, r320_20, r320_23, r320_24, r320_27, r320_28, r320_29, r320_32, r320_33, r320_36, r320_38, r320_39, r320_42, r320_45, r320_46, r320_48, r320_51, r320_52, r320_53, r320_54, r320_56, r320_57, r320_60, r320_63, r320_64, r320_66, r320_67, r320_70, r320_73, r320_74, r320_77, r320_79, r320_80, r320_81, r320_82, r320_83, r320_84, r320_86, r320_87, r320_90, r320_92, r320_93, r320_94, r320_97, r320_98, r320_99, r320_100, r320_101, r320_104, r320_107, r320_108, r320_111, r320_113, r320_114, r320_117, r320_118, r320_119, r320_120, r320_121, r320_122, r320_123, r320_124, r320_127, r320_130, r320_133, r320_136, r320_139, r320_140, r320_141, r320_144, r320_145, r320_148, r320_149, r320_152, r320_153, r320_154, r320_155, r320_156, r320_159, znl_i, znl_r, znl_j, znl_l, List.length_cons, List.length_nil, Option.some.injEq, Sum.inl.injEq, Sum.inr.injEq, Prod.mk.injEq, true_and, and_true, exists_eq_left', zK_sI, zA_sI, zL_sI, zK_sL, zA_sL, zI_sL, zK_fI, zA_fI, zL_fI, zK_fL, zA_fL, zI_fL, Nat.reduceAdd, Nat.reduceLeDiff, forall_eq', zl_lt, zl_gt, zl_eq, zl_le, zl_ge, zm_0, zaft_n, zaft_v, zb_eq, Decidable.not_not, H.K, H.A48, H.K28, H.A46, H.K26, H.A47, H.K27, zK_mH, zA_mH, zI_mH0, zL_mH0, zsI_mH0, zsL_mH0, zI_mH1, zL_mH1, zsI_mH1, zsL_mH1, zI_mH2, zL_mH2, zsI_mH2, zsL_mH2, zI_mH3, zL_mH3, zsI_mH3, zsL_mH3, zI_mH4, zL_mH4, zsI_mH4, zsL_mH4, zI_mH5, zL_mH5, zsI_mH5, zsL_mH5, zI_mH6, zL_mH6, zsI_mH6, zsL_mH6, zI_mH7, zL_mH7, zsI_mH7, zsL_mH7, zI_mH8, zL_mH8, zsI_mH8, zsL_mH8, zI_mH9, zL_mH9, zsI_mH9, zsL_mH9, zI_mH10, zL_mH10, zsI_mH10, zsL_mH10, zI_mH11, zL_mH11, zsI_mH11, zsL_mH11, zI_mH12, zL_mH12, zsI_mH12, zsL_mH12, zI_mH13, zL_mH13, zsI_mH13, zsL_mH13, zI_mH14, zL_mH14, zsI_mH14, zsL_mH14, zI_mH15, zL_mH15, zsI_mH15, zsL_mH15, zI_mH16, zL_mH16, zsI_mH16, zsL_mH16, zI_mH17, zL_mH17, zsI_mH17, zsL_mH17, zI_mH18, zL_mH18, zsI_mH18, zsL_mH18, zI_mH19, zL_mH19, zsI_mH19, zsL_mH19, zI_mH20, zL_mH20, zsI_mH20, zsL_mH20, zI_mH21, zL_mH21, zsI_mH21, zsL_mH21, zI_mH22, zL_mH22, zsI_mH22, zsL_mH22, zI_mH23, zL_mH23, zsI_mH23, zsL_mH23, zI_mH24, zL_mH24, zsI_mH24, zsL_mH24, zI_mH25, zL_mH25, zsI_mH25, zsL_mH25, zI_mH26, zL_mH26, zsI_mH26, zsL_mH26, zI_mH27, zL_mH27, zsI_mH27, zsL_mH27, zI_mH28, zL_mH28, zsI_mH28, zsL_mH28, zI_mH29, zL_mH29, zsI_mH29, zsL_mH29, zI_mH30, zL_mH30, zsI_mH30, zsL_mH30, zI_mH31, zL_mH31, zsI_mH31, zsL_mH31, zI_mH32, zL_mH32, zsI_mH32, zsL_mH32, zI_mH33, zL_mH33, zsI_mH33, zsL_mH33, zI_mH34, zL_mH34, zsI_mH34, zsL_mH34, zI_mH35, zL_mH35, zsI_mH35, zsL_mH35, zI_mH36, zL_mH36, zsI_mH36, zsL_mH36, zI_mH37, zL_mH37, zsI_mH37, zsL_mH37, zI_mH38, zL_mH38, zsI_mH38, zsL_mH38, zI_mH39, zL_mH39, zsI_mH39, zsL_mH39, zI_mH40, zL_mH40, zsI_mH40, zsL_mH40, zI_mH41, zL_mH41, zsI_mH41, zsL_mH41]
        refine ⟨fun z => absurd z (by decide), fun _ => ?_⟩
        suffices hG : ∀ i, i ≤ (ysl T).length → ∀ (φ3 : Nat → Nat → Int) (st' : Nat → Nat) (c : Bool) w3 w4, (∀ i, i ≠ 28 → φ3 i = φ1 i) → (∀ i, i < (ysl T).length → φ3 28 i = (st' i : Int)) → yst8 T (ysl T).length f st' → ((c = false ∧ st' = st ∧ ∀ j x, j < i → x < Tm T → ∃ o, o < (ysl T).length ∧ yisg T (f j) x (f o) ∧ st o ≤ st j + 1) ∨ (c = true ∧ ysum (fun j => (st' j : Int)) (ysl T).length < ysum (fun j => (st j : Int)) (ysl T).length)) → zg e 320 (d + 11) 55 [zr (some a), zi (yb c), zi i, w3, w4] [] (mH h a φ3 ψ1) (mAn e a h φ ψ (yans s (w_all s.1) (yfw T))) from
          hG 0 (Nat.zero_le _) φ2 st false w3 w4 p1 p2 p3 (Or.inl ⟨rfl, rfl, fun j x hj => absurd hj (Nat.not_lt_zero _)⟩)
        refine zdown _ (ysl T).length (fun φ3 st' c w3 w4 q1 q2 q3 q4 => ?_) (fun i hi ih φ3 st' c w3 w4 q1 q2 q3 q4 => ?_)
        · have g50 : φ3 0 50 = ((ysl T).length : Int) := by rw [q1 0 (by omega)]; exact g1
          rw [r320_55]
          simp only [r320_0, r320_1, r320_4, r320_7, r320_8, r320_9, r320_12, r320_13, r320_14, r320_16, r320_17, r320_20, r320_23, r320_24, r320_27, r320_28, r320_29, r320_32, r320_33, r320_36, r320_38, r320_39, r320_42, r320_45, r320_46, r320_48, r320_51, r320_52, r320_53, r320_54, r320_56, r320_57, r320_60, r320_63, r320_64, r320_66, r320_67, r320_70, r320_73, r320_74, r320_77, r320_79, r320_80, r320_81, r320_82, r320_83, r320_84, r320_86, r320_87, r320_90, r320_92, r320_93, r320_94, r320_97, r320_98, r320_99, r320_100, r320_101, r320_104, r320_107, r320_108, r320_111, r320_113, r320_114, r320_117, r320_118, r320_119, r320_120, r320_121, r320_122, r320_123, r320_124, r320_127, r320_130, r320_133, r320_136, r320_139, r320_140, r320_141, r320_144, r320_145, r320_148, r320_149, r320_152, r320_153, r320_154, r320_155, r320_156, r320_159, znl_i, znl_r, znl_j, znl_l, List.length_cons, List.length_nil, Option.some.injEq, Sum.inl.injEq, Sum.inr.injEq, Prod.mk.injEq, true_and, and_true, exists_eq_left', zK_sI, zA_sI, zL_sI, zK_sL, zA_sL, zI_sL, zK_fI, zA_fI, zL_fI, zK_fL, zA_fL, zI_fL, Nat.reduceAdd, Nat.reduceLeDiff, forall_eq', zl_lt, zl_gt, zl_eq, zl_le, zl_ge, zm_0, zaft_n, zaft_v, zb_eq, Decidable.not_not, H.K, H.A48, H.K28, H.A46, H.K26, H.A47, H.K27, zK_mH, zA_mH, zI_mH0, zL_mH0, zsI_mH0, zsL_mH0, zI_mH1, zL_mH1, zsI_mH1, zsL_mH1, zI_mH2, zL_mH2, zsI_mH2, zsL_mH2, zI_mH3, zL_mH3, zsI_mH3, zsL_mH3, zI_mH4, zL_mH4, zsI_mH4, zsL_mH4, zI_mH5, zL_mH5, zsI_mH5, zsL_mH5, zI_mH6, zL_mH6, zsI_mH6, zsL_mH6, zI_mH7, zL_mH7, zsI_mH7, zsL_mH7, zI_mH8, zL_mH8, zsI_mH8, zsL_mH8, zI_mH9, zL_mH9, zsI_mH9, zsL_mH9, zI_mH10, zL_mH10, zsI_mH10, zsL_mH10, zI_mH11, zL_mH11, zsI_mH11, zsL_mH11, zI_mH12, zL_mH12, zsI_mH12, zsL_mH12, zI_mH13, zL_mH13, zsI_mH13, zsL_mH13, zI_mH14, zL_mH14, zsI_mH14, zsL_mH14, zI_mH15, zL_mH15, zsI_mH15, zsL_mH15, zI_mH16, zL_mH16, zsI_mH16, zsL_mH16, zI_mH17, zL_mH17, zsI_mH17, zsL_mH17, zI_mH18, zL_mH18, zsI_mH18, zsL_mH18, zI_mH19, zL_mH19, zsI_mH19, zsL_mH19, zI_mH20, zL_mH20, zsI_mH20, zsL_mH20, zI_mH21, zL_mH21, zsI_mH21, zsL_mH21, zI_mH22, zL_mH22, zsI_mH22, zsL_mH22, zI_mH23, zL_mH23, zsI_mH23, zsL_mH23, zI_mH24, zL_mH24, zsI_mH24, zsL_mH24, zI_mH25, zL_mH25, zsI_mH25, zsL_mH25, zI_mH26, zL_mH26, zsI_mH26, zsL_mH26, zI_mH27, zL_mH27, zsI_mH27, zsL_mH27, zI_mH28, zL_mH28, zsI_mH28, zsL_mH28, zI_mH29, zL_mH29, zsI_mH29, zsL_mH29, zI_mH30, zL_mH30, zsI_mH30, zsL_mH30, zI_mH31, zL_mH31, zsI_mH31, zsL_mH31, zI_mH32, zL_mH32, zsI_mH32, zsL_mH32, zI_mH33, zL_mH33, zsI_mH33, zsL_mH33, zI_mH34, zL_mH34, zsI_mH34, zsL_mH34, zI_mH35, zL_mH35, zsI_mH35, zsL_mH35, zI_mH36, zL_mH36, zsI_mH36, zsL_mH36, zI_mH37, zL_mH37, zsI_mH37, zsL_mH37, zI_mH38, zL_mH38, zsI_mH38, zsL_mH38, zI_mH39, zL_mH39, zsI_mH39, zsL_mH39, zI_mH40, zL_mH40, zsI_mH40, zsL_mH40, zI_mH41, zL_mH41, zsI_mH41, zsL_mH41]
          simp (disch := omega) only [zn_b, zm_b, Int.toNat_natCast, Int.toNat_zero, zt4, zt_4, zt6, zt_6, zt9, zt_9, zt12, zt_12, zt48, zt_48, zt97, zt_97, zt144, zt144b, g50]
          refine ⟨fun _ => ?_, fun z => (by first | omega | exact absurd trivial z | exact absurd rfl z)⟩
          rcases q4 with ⟨c1, c2, c3⟩ | ⟨c1, c2⟩
          · subst c2; rw [c1]; exact fin φ3 st' _ _ _ q1 q2 q3 c3
          · rw [c1]
            have nn : 0 ≤ ysum (fun j => (st' j : Int)) (ysl T).length := by
              have := ysum_mono (f := fun j => (st' j : Int)) (fun i => by omega) (Nat.zero_le (ysl T).length)
              exact this
            exact IH (ysum (fun j => (st' j : Int)) (ysl T).length).toNat (by omega) φ3 st' _ _ _ (by omega) q1 q2 q3
        · have g50 : φ3 0 50 = ((ysl T).length : Int) := by rw [q1 0 (by omega)]; exact g1
          rw [r320_55]
          simp only [r320_0, r320_1, r320_4, r320_7, r320_8, r320_9, r320_12, r320_13, r320_14, r320_16, r320_17, r320_20, r320_23, r320_24, r320_27, r320_28, r320_29, r320_32, r320_33, r320_36, r320_38, r320_39, r320_42, r320_45, r320_46, r320_48, r320_51, r320_52, r320_53, r320_54, r320_56, r320_57, r320_60, r320_63, r320_64, r320_66, r320_67, r320_70, r320_73, r320_74, r320_77, r320_79, r320_80, r320_81, r320_82, r320_83, r320_84, r320_86, r320_87, r320_90, r320_92, r320_93, r320_94, r320_97, r320_98, r320_99, r320_100, r320_101, r320_104, r320_107, r320_108, r320_111, r320_113, r320_114, r320_117, r320_118, r320_119, r320_120, r320_121, r320_122, r320_123, r320_124, r320_127, r320_130, r320_133, r320_136, r320_139, r320_140, r320_141, r320_144, r320_145, r320_148, r320_149, r320_152, r320_153, r320_154, r320_155, r320_156, r320_159, znl_i, znl_r, znl_j, znl_l, List.length_cons, List.length_nil, Option.some.injEq, Sum.inl.injEq, Sum.inr.injEq, Prod.mk.injEq, true_and, and_true, exists_eq_left', zK_sI, zA_sI, zL_sI, zK_sL, zA_sL, zI_sL, zK_fI, zA_fI, zL_fI, zK_fL, zA_fL, zI_fL, Nat.reduceAdd, Nat.reduceLeDiff, forall_eq', zl_lt, zl_gt, zl_eq, zl_le, zl_ge, zm_0, zaft_n, zaft_v, zb_eq, Decidable.not_not, H.K, H.A48, H.K28, H.A46, H.K26, H.A47, H.K27, zK_mH, zA_mH, zI_mH0, zL_mH0, zsI_mH0, zsL_mH0, zI_mH1, zL_mH1, zsI_mH1, zsL_mH1, zI_mH2, zL_mH2, zsI_mH2, zsL_mH2, zI_mH3, zL_mH3, zsI_mH3, zsL_mH3, zI_mH4, zL_mH4, zsI_mH4, zsL_mH4, zI_mH5, zL_mH5, zsI_mH5, zsL_mH5, zI_mH6, zL_mH6, zsI_mH6, zsL_mH6, zI_mH7, zL_mH7, zsI_mH7, zsL_mH7, zI_mH8, zL_mH8, zsI_mH8, zsL_mH8, zI_mH9, zL_mH9, zsI_mH9, zsL_mH9, zI_mH10, zL_mH10, zsI_mH10, zsL_mH10, zI_mH11, zL_mH11, zsI_mH11, zsL_mH11, zI_mH12, zL_mH12, zsI_mH12, zsL_mH12, zI_mH13, zL_mH13, zsI_mH13, zsL_mH13, zI_mH14, zL_mH14, zsI_mH14, zsL_mH14, zI_mH15, zL_mH15, zsI_mH15, zsL_mH15, zI_mH16, zL_mH16, zsI_mH16, zsL_mH16, zI_mH17, zL_mH17, zsI_mH17, zsL_mH17, zI_mH18, zL_mH18, zsI_mH18, zsL_mH18, zI_mH19, zL_mH19, zsI_mH19, zsL_mH19, zI_mH20, zL_mH20, zsI_mH20, zsL_mH20, zI_mH21, zL_mH21, zsI_mH21, zsL_mH21, zI_mH22, zL_mH22, zsI_mH22, zsL_mH22, zI_mH23, zL_mH23, zsI_mH23, zsL_mH23, zI_mH24, zL_mH24, zsI_mH24, zsL_mH24, zI_mH25, zL_mH25, zsI_mH25, zsL_mH25, zI_mH26, zL_mH26, zsI_mH26, zsL_mH26, zI_mH27, zL_mH27, zsI_mH27, zsL_mH27, zI_mH28, zL_mH28, zsI_mH28, zsL_mH28, zI_mH29, zL_mH29, zsI_mH29, zsL_mH29, zI_mH30, zL_mH30, zsI_mH30, zsL_mH30, zI_mH31, zL_mH31, zsI_mH31, zsL_mH31, zI_mH32, zL_mH32, zsI_mH32, zsL_mH32, zI_mH33, zL_mH33, zsI_mH33, zsL_mH33, zI_mH34, zL_mH34, zsI_mH34, zsL_mH34, zI_mH35, zL_mH35, zsI_mH35, zsL_mH35, zI_mH36, zL_mH36, zsI_mH36, zsL_mH36, zI_mH37, zL_mH37, zsI_mH37, zsL_mH37, zI_mH38, zL_mH38, zsI_mH38, zsL_mH38, zI_mH39, zL_mH39, zsI_mH39, zsL_mH39, zI_mH40, zL_mH40, zsI_mH40, zsL_mH40, zI_mH41, zL_mH41, zsI_mH41, zsL_mH41]
          simp (disch := omega) only [zn_b, zm_b, Int.toNat_natCast, Int.toNat_zero, zt4, zt_4, zt6, zt_6, zt9, zt_9, zt12, zt_12, zt48, zt_48, zt97, zt_97, zt144, zt144b, g50]
          refine ⟨fun z => (by first | omega | exact absurd trivial z | exact absurd rfl z), fun _ => ?_⟩
          suffices hI : ∀ x, x ≤ Tm T → ∀ (φ3 : Nat → Nat → Int) (st' : Nat → Nat) (c : Bool) w4, (∀ i, i ≠ 28 → φ3 i = φ1 i) → (∀ i, i < (ysl T).length → φ3 28 i = (st' i : Int)) → yst8 T (ysl T).length f st' → ((c = false ∧ st' = st ∧ ∀ j y, (j < i ∧ y < Tm T ∨ j = i ∧ y < x) → ∃ o, o < (ysl T).length ∧ yisg T (f j) y (f o) ∧ st o ≤ st j + 1) ∨ (c = true ∧ ysum (fun j => (st' j : Int)) (ysl T).length < ysum (fun j => (st j : Int)) (ysl T).length)) → zg e 320 (d + 11) 65 [zr (some a), zi (yb c), zi i, zi x, w4] [] (mH h a φ3 ψ1) (mAn e a h φ ψ (yans s (w_all s.1) (yfw T))) from
            hI 0 (Nat.zero_le _) φ3 st' c w4 q1 q2 q3 (by
              rcases q4 with ⟨c1, c2, c3⟩ | q4
              · exact Or.inl ⟨c1, c2, fun j y hc => c3 j y (by omega) (by omega)⟩
              · exact Or.inr q4)
          clear q1 q2 q3 q4 g50
          refine zdown _ (Tm T) (fun φ3 st' c w4 q1 q2 q3 q4 => ?_) (fun x hx ihx φ3 st' c w4 q1 q2 q3 q4 => ?_)
          · have g27 : φ3 0 27 = (Tm T : Int) := by rw [q1 0 (by omega)]; exact T1.m
            rw [r320_65]
            simp only [r320_0, r320_1, r320_4, r320_7, r320_8, r320_9, r320_12, r320_13, r320_14, r320_16, r320_17, r320_20, r320_23, r320_24, r320_27, r320_28, r320_29, r320_32, r320_33, r320_36, r320_38, r320_39, r320_42, r320_45, r320_46, r320_48, r320_51, r320_52, r320_53, r320_54, r320_56, r320_57, r320_60, r320_63, r320_64, r320_66, r320_67, r320_70, r320_73, r320_74, r320_77, r320_79, r320_80, r320_81, r320_82, r320_83, r320_84, r320_86, r320_87, r320_90, r320_92, r320_93, r320_94, r320_97, r320_98, r320_99, r320_100, r320_101, r320_104, r320_107, r320_108, r320_111, r320_113, r320_114, r320_117, r320_118, r320_119, r320_120, r320_121, r320_122, r320_123, r320_124, r320_127, r320_130, r320_133, r320_136, r320_139, r320_140, r320_141, r320_144, r320_145, r320_148, r320_149, r320_152, r320_153, r320_154, r320_155, r320_156, r320_159, znl_i, znl_r, znl_j, znl_l, List.length_cons, List.length_nil, Option.some.injEq, Sum.inl.injEq, Sum.inr.injEq, Prod.mk.injEq, true_and, and_true, exists_eq_left', zK_sI, zA_sI, zL_sI, zK_sL, zA_sL, zI_sL, zK_fI, zA_fI, zL_fI, zK_fL, zA_fL, zI_fL, Nat.reduceAdd, Nat.reduceLeDiff, forall_eq', zl_lt, zl_gt, zl_eq, zl_le, zl_ge, zm_0, zaft_n, zaft_v, zb_eq, Decidable.not_not, H.K, H.A48, H.K28, H.A46, H.K26, H.A47, H.K27, zK_mH, zA_mH, zI_mH0, zL_mH0, zsI_mH0, zsL_mH0, zI_mH1, zL_mH1, zsI_mH1, zsL_mH1, zI_mH2, zL_mH2, zsI_mH2, zsL_mH2, zI_mH3, zL_mH3, zsI_mH3, zsL_mH3, zI_mH4, zL_mH4, zsI_mH4, zsL_mH4, zI_mH5, zL_mH5, zsI_mH5, zsL_mH5, zI_mH6, zL_mH6, zsI_mH6, zsL_mH6, zI_mH7, zL_mH7, zsI_mH7, zsL_mH7, zI_mH8, zL_mH8, zsI_mH8, zsL_mH8, zI_mH9, zL_mH9, zsI_mH9, zsL_mH9, zI_mH10, zL_mH10, zsI_mH10, zsL_mH10, zI_mH11, zL_mH11, zsI_mH11, zsL_mH11, zI_mH12, zL_mH12, zsI_mH12, zsL_mH12, zI_mH13, zL_mH13, zsI_mH13, zsL_mH13, zI_mH14, zL_mH14, zsI_mH14, zsL_mH14, zI_mH15, zL_mH15, zsI_mH15, zsL_mH15, zI_mH16, zL_mH16, zsI_mH16, zsL_mH16, zI_mH17, zL_mH17, zsI_mH17, zsL_mH17, zI_mH18, zL_mH18, zsI_mH18, zsL_mH18, zI_mH19, zL_mH19, zsI_mH19, zsL_mH19, zI_mH20, zL_mH20, zsI_mH20, zsL_mH20, zI_mH21, zL_mH21, zsI_mH21, zsL_mH21, zI_mH22, zL_mH22, zsI_mH22, zsL_mH22, zI_mH23, zL_mH23, zsI_mH23, zsL_mH23, zI_mH24, zL_mH24, zsI_mH24, zsL_mH24, zI_mH25, zL_mH25, zsI_mH25, zsL_mH25, zI_mH26, zL_mH26, zsI_mH26, zsL_mH26, zI_mH27, zL_mH27, zsI_mH27, zsL_mH27, zI_mH28, zL_mH28, zsI_mH28, zsL_mH28, zI_mH29, zL_mH29, zsI_mH29, zsL_mH29, zI_mH30, zL_mH30, zsI_mH30, zsL_mH30, zI_mH31, zL_mH31, zsI_mH31, zsL_mH31, zI_mH32, zL_mH32, zsI_mH32, zsL_mH32, zI_mH33, zL_mH33, zsI_mH33, zsL_mH33, zI_mH34, zL_mH34, zsI_mH34, zsL_mH34, zI_mH35, zL_mH35, zsI_mH35, zsL_mH35, zI_mH36, zL_mH36, zsI_mH36, zsL_mH36, zI_mH37, zL_mH37, zsI_mH37, zsL_mH37, zI_mH38, zL_mH38, zsI_mH38, zsL_mH38, zI_mH39, zL_mH39, zsI_mH39, zsL_mH39, zI_mH40, zL_mH40, zsI_mH40, zsL_mH40, zI_mH41, zL_mH41, zsI_mH41, zsL_mH41]
            simp (disch := omega) only [zn_b, zm_b, Int.toNat_natCast, Int.toNat_zero, zt4, zt_4, zt6, zt_6, zt9, zt_9, zt12, zt_12, zt48, zt_48, zt97, zt_97, zt144, zt144b, g27]
            refine ⟨fun _ => ?_, fun z => (by first | omega | exact absurd trivial z | exact absurd rfl z)⟩
            refine ih φ3 st' c _ _ q1 q2 q3 ?_
            rcases q4 with ⟨c1, c2, c3⟩ | q4
            · exact Or.inl ⟨c1, c2, fun j y hj hy => c3 j y (by omega)⟩
            · exact Or.inr q4
          · have g27 : φ3 0 27 = (Tm T : Int) := by rw [q1 0 (by omega)]; exact T1.m
            obtain ⟨o, o1, o2, o3⟩ := f4 i x hi hx
            have g26 : φ3 26 (48 * i + x) = (o : Int) := by rw [q1 26 (by omega)]; exact o2
            have bi := q3.2.1 i hi
            have bo := q3.2.1 o o1
            rw [r320_65]
            simp only [r320_0, r320_1, r320_4, r320_7, r320_8, r320_9, r320_12, r320_13, r320_14, r320_16, r320_17, r320_20, r320_23, r320_24, r320_27, r320_28, r320_29, r320_32, r320_33, r320_36, r320_38, r320_39, r320_42, r320_45, r320_46, r320_48, r320_51, r320_52, r320_53, r320_54, r320_56, r320_57, r320_60, r320_63, r320_64, r320_66, r320_67, r320_70, r320_73, r320_74, r320_77, r320_79, r320_80, r320_81, r320_82, r320_83, r320_84, r320_86, r320_87, r320_90, r320_92, r320_93, r320_94, r320_97, r320_98, r320_99, r320_100, r320_101, r320_104, r320_107, r320_108, r320_111, r320_113, r320_114, r320_117, r320_118, r320_119, r320_120, r320_121, r320_122, r320_123, r320_124, r320_127, r320_130, r320_133, r320_136, r320_139, r320_140, r320_141, r320_144, r320_145, r320_148, r320_149, r320_152, r320_153, r320_154, r320_155, r320_156, r320_159, znl_i, znl_r, znl_j, znl_l, List.length_cons, List.length_nil, Option.some.injEq, Sum.inl.injEq, Sum.inr.injEq, Prod.mk.injEq, true_and, and_true, exists_eq_left', zK_sI, zA_sI, zL_sI, zK_sL, zA_sL, zI_sL, zK_fI, zA_fI, zL_fI, zK_fL, zA_fL, zI_fL, Nat.reduceAdd, Nat.reduceLeDiff, forall_eq', zl_lt, zl_gt, zl_eq, zl_le, zl_ge, zm_0, zaft_n, zaft_v, zb_eq, Decidable.not_not, H.K, H.A48, H.K28, H.A46, H.K26, H.A47, H.K27, zK_mH, zA_mH, zI_mH0, zL_mH0, zsI_mH0, zsL_mH0, zI_mH1, zL_mH1, zsI_mH1, zsL_mH1, zI_mH2, zL_mH2, zsI_mH2, zsL_mH2, zI_mH3, zL_mH3, zsI_mH3, zsL_mH3, zI_mH4, zL_mH4, zsI_mH4, zsL_mH4, zI_mH5, zL_mH5, zsI_mH5, zsL_mH5, zI_mH6, zL_mH6, zsI_mH6, zsL_mH6, zI_mH7, zL_mH7, zsI_mH7, zsL_mH7, zI_mH8, zL_mH8, zsI_mH8, zsL_mH8, zI_mH9, zL_mH9, zsI_mH9, zsL_mH9, zI_mH10, zL_mH10, zsI_mH10, zsL_mH10, zI_mH11, zL_mH11, zsI_mH11, zsL_mH11, zI_mH12, zL_mH12, zsI_mH12, zsL_mH12, zI_mH13, zL_mH13, zsI_mH13, zsL_mH13, zI_mH14, zL_mH14, zsI_mH14, zsL_mH14, zI_mH15, zL_mH15, zsI_mH15, zsL_mH15, zI_mH16, zL_mH16, zsI_mH16, zsL_mH16, zI_mH17, zL_mH17, zsI_mH17, zsL_mH17, zI_mH18, zL_mH18, zsI_mH18, zsL_mH18, zI_mH19, zL_mH19, zsI_mH19, zsL_mH19, zI_mH20, zL_mH20, zsI_mH20, zsL_mH20, zI_mH21, zL_mH21, zsI_mH21, zsL_mH21, zI_mH22, zL_mH22, zsI_mH22, zsL_mH22, zI_mH23, zL_mH23, zsI_mH23, zsL_mH23, zI_mH24, zL_mH24, zsI_mH24, zsL_mH24, zI_mH25, zL_mH25, zsI_mH25, zsL_mH25, zI_mH26, zL_mH26, zsI_mH26, zsL_mH26, zI_mH27, zL_mH27, zsI_mH27, zsL_mH27, zI_mH28, zL_mH28, zsI_mH28, zsL_mH28, zI_mH29, zL_mH29, zsI_mH29, zsL_mH29, zI_mH30, zL_mH30, zsI_mH30, zsL_mH30, zI_mH31, zL_mH31, zsI_mH31, zsL_mH31, zI_mH32, zL_mH32, zsI_mH32, zsL_mH32, zI_mH33, zL_mH33, zsI_mH33, zsL_mH33, zI_mH34, zL_mH34, zsI_mH34, zsL_mH34, zI_mH35, zL_mH35, zsI_mH35, zsL_mH35, zI_mH36, zL_mH36, zsI_mH36, zsL_mH36, zI_mH37, zL_mH37, zsI_mH37, zsL_mH37, zI_mH38, zL_mH38, zsI_mH38, zsL_mH38, zI_mH39, zL_mH39, zsI_mH39, zsL_mH39, zI_mH40, zL_mH40, zsI_mH40, zsL_mH40, zI_mH41, zL_mH41, zsI_mH41, zsL_mH41]
            simp (disch := omega) only [zn_b, zm_b, Int.toNat_natCast, Int.toNat_zero, zt4, zt_4, zt6, zt_6, zt9, zt_9, zt12, zt_12, zt48, zt_48, zt97, zt_97, zt144, zt144b, g27, g26, q2 o o1, q2 i hi]
            refine ⟨fun z => (by first | omega | exact absurd trivial z | exact absurd rfl z), fun _ => ?_⟩
            repeat (refine And.intro (by omega) ?_)
            refine ⟨fun q => ?_, fun q => ?_⟩
            · -- fewer
              repeat (refine And.intro (by omega) ?_)
              rw [show (st' i : Int) + 1 = ((st' i + 1 : Nat) : Int) by omega]
              refine ihx (zu φ3 28 o ((st' i + 1 : Nat) : Int)) (fun j => if j = o then st' i + 1 else st' j) true _ (fun j hj => by rw [zu_fn hj]; exact q1 j hj) (fun j hj => ?_) (q3.upd hi hx o1 o3 (by omega)) (Or.inr ⟨rfl, ?_⟩)
              · by_cases cc : j = o
                · rw [zu_eq cc, if_pos cc]
                · rw [zu_sl cc, if_neg cc]; exact q2 j hj
              · have := ysum_upd (st := st') (v := st' i + 1) o1 (by omega)
                rcases q4 with ⟨_, c2, _⟩ | ⟨_, c2⟩
                · rw [← c2]; exact this
                · exact Int.lt_trans this c2
            · refine ihx φ3 st' c _ q1 q2 q3 ?_
              rcases q4 with ⟨c1, c2, c3⟩ | q4
              · refine Or.inl ⟨c1, c2, fun j y hc => ?_⟩
                by_cases cc : j = i ∧ y = x
                · rw [cc.1, cc.2]; exact ⟨o, o1, o3, by rw [← c2]; omega⟩
                · exact c3 j y (by omega)
              · exact Or.inr q4
    -- the start
    suffices hG : ∀ i, i ≤ (ysl T).length → ∀ φ2 : Nat → Nat → Int, (∀ i, i ≠ 28 → φ2 i = φ1 i) → (∀ j, j < i → φ2 28 j = ((if j = 0 then 0 else 48 : Nat) : Int)) → zg e 320 (d + 11) 15 [zr (some a), zi i, zj, zj, zj] [] (mH h a φ2 ψ1) (mAn e a h φ ψ (yans s (w_all s.1) (yfw T))) from
      hG 0 (Nat.zero_le _) φ1 (fun _ _ => rfl) (fun j hj => absurd hj (Nat.not_lt_zero _))
    refine zdown _ (ysl T).length (fun φ2 q1 q2 => ?_) (fun i hi ih φ2 q1 q2 => ?_)
    · have g50 : φ2 0 50 = ((ysl T).length : Int) := by rw [q1 0 (by omega)]; exact g1
      rw [r320_15]
      simp only [r320_0, r320_1, r320_4, r320_7, r320_8, r320_9, r320_12, r320_13, r320_14, r320_16, r320_17, r320_20, r320_23, r320_24, r320_27, r320_28, r320_29, r320_32, r320_33, r320_36, r320_38, r320_39, r320_42, r320_45, r320_46, r320_48, r320_51, r320_52, r320_53, r320_54, r320_56, r320_57, r320_60, r320_63, r320_64, r320_66, r320_67, r320_70, r320_73, r320_74, r320_77, r320_79, r320_80, r320_81, r320_82, r320_83, r320_84, r320_86, r320_87, r320_90, r320_92, r320_93, r320_94, r320_97, r320_98, r320_99, r320_100, r320_101, r320_104, r320_107, r320_108, r320_111, r320_113, r320_114, r320_117, r320_118, r320_119, r320_120, r320_121, r320_122, r320_123, r320_124, r320_127, r320_130, r320_133, r320_136, r320_139, r320_140, r320_141, r320_144, r320_145, r320_148, r320_149, r320_152, r320_153, r320_154, r320_155, r320_156, r320_159, znl_i, znl_r, znl_j, znl_l, List.length_cons, List.length_nil, Option.some.injEq, Sum.inl.injEq, Sum.inr.injEq, Prod.mk.injEq, true_and, and_true, exists_eq_left', zK_sI, zA_sI, zL_sI, zK_sL, zA_sL, zI_sL, zK_fI, zA_fI, zL_fI, zK_fL, zA_fL, zI_fL, Nat.reduceAdd, Nat.reduceLeDiff, forall_eq', zl_lt, zl_gt, zl_eq, zl_le, zl_ge, zm_0, zaft_n, zaft_v, zb_eq, Decidable.not_not, H.K, H.A48, H.K28, H.A46, H.K26, H.A47, H.K27, zK_mH, zA_mH, zI_mH0, zL_mH0, zsI_mH0, zsL_mH0, zI_mH1, zL_mH1, zsI_mH1, zsL_mH1, zI_mH2, zL_mH2, zsI_mH2, zsL_mH2, zI_mH3, zL_mH3, zsI_mH3, zsL_mH3, zI_mH4, zL_mH4, zsI_mH4, zsL_mH4, zI_mH5, zL_mH5, zsI_mH5, zsL_mH5, zI_mH6, zL_mH6, zsI_mH6, zsL_mH6, zI_mH7, zL_mH7, zsI_mH7, zsL_mH7, zI_mH8, zL_mH8, zsI_mH8, zsL_mH8, zI_mH9, zL_mH9, zsI_mH9, zsL_mH9, zI_mH10, zL_mH10, zsI_mH10, zsL_mH10, zI_mH11, zL_mH11, zsI_mH11, zsL_mH11, zI_mH12, zL_mH12, zsI_mH12, zsL_mH12, zI_mH13, zL_mH13, zsI_mH13, zsL_mH13, zI_mH14, zL_mH14, zsI_mH14, zsL_mH14, zI_mH15, zL_mH15, zsI_mH15, zsL_mH15, zI_mH16, zL_mH16, zsI_mH16, zsL_mH16, zI_mH17, zL_mH17, zsI_mH17, zsL_mH17, zI_mH18, zL_mH18, zsI_mH18, zsL_mH18, zI_mH19, zL_mH19, zsI_mH19, zsL_mH19, zI_mH20, zL_mH20, zsI_mH20, zsL_mH20, zI_mH21, zL_mH21, zsI_mH21, zsL_mH21, zI_mH22, zL_mH22, zsI_mH22, zsL_mH22, zI_mH23, zL_mH23, zsI_mH23, zsL_mH23, zI_mH24, zL_mH24, zsI_mH24, zsL_mH24, zI_mH25, zL_mH25, zsI_mH25, zsL_mH25, zI_mH26, zL_mH26, zsI_mH26, zsL_mH26, zI_mH27, zL_mH27, zsI_mH27, zsL_mH27, zI_mH28, zL_mH28, zsI_mH28, zsL_mH28, zI_mH29, zL_mH29, zsI_mH29, zsL_mH29, zI_mH30, zL_mH30, zsI_mH30, zsL_mH30, zI_mH31, zL_mH31, zsI_mH31, zsL_mH31, zI_mH32, zL_mH32, zsI_mH32, zsL_mH32, zI_mH33, zL_mH33, zsI_mH33, zsL_mH33, zI_mH34, zL_mH34, zsI_mH34, zsL_mH34, zI_mH35, zL_mH35, zsI_mH35, zsL_mH35, zI_mH36, zL_mH36, zsI_mH36, zsL_mH36, zI_mH37, zL_mH37, zsI_mH37, zsL_mH37, zI_mH38, zL_mH38, zsI_mH38, zsL_mH38, zI_mH39, zL_mH39, zsI_mH39, zsL_mH39, zI_mH40, zL_mH40, zsI_mH40, zsL_mH40, zI_mH41, zL_mH41, zsI_mH41, zsL_mH41]
      simp (disch := omega) only [zn_b, zm_b, Int.toNat_natCast, Int.toNat_zero, zt4, zt_4, zt6, zt_6, zt9, zt_9, zt12, zt_12, zt48, zt_48, zt97, zt_97, zt144, zt144b, g50]
      refine ⟨fun _ => ?_, fun z => (by first | omega | exact absurd trivial z | exact absurd rfl z)⟩
      have nn : 0 ≤ ysum (fun j => ((if j = 0 then 0 else 48 : Nat) : Int)) (ysl T).length := ysum_mono (f := fun j => ((if j = 0 then 0 else 48 : Nat) : Int)) (fun i => by omega) (Nat.zero_le (ysl T).length)
      refine pass (ysum (fun j => ((if j = 0 then 0 else 48 : Nat) : Int)) (ysl T).length).toNat φ2 (fun j => if j = 0 then 0 else 48) _ _ _ (by omega) q1 q2 ⟨rfl, fun j hj => by dsimp only; split <;> omega, fun j hj hlt => ?_⟩
      dsimp only at hlt ⊢
      by_cases cc : j = 0
      · rw [if_pos cc]
        refine ⟨[], rfl, fun x hx => (by cases hx), ?_⟩
        rw [cc, f0]; exact ylst.zero V (fun b hb => by cases hb)
      · rw [if_neg cc] at hlt; omega
    · have g50 : φ2 0 50 = ((ysl T).length : Int) := by rw [q1 0 (by omega)]; exact g1
      rw [r320_15]
      simp only [r320_0, r320_1, r320_4, r320_7, r320_8, r320_9, r320_12, r320_13, r320_14, r320_16, r320_17, r320_20, r320_23, r320_24, r320_27, r320_28, r320_29, r320_32, r320_33, r320_36, r320_38, r320_39, r320_42, r320_45, r320_46, r320_48, r320_51, r320_52, r320_53, r320_54, r320_56, r320_57, r320_60, r320_63, r320_64, r320_66, r320_67, r320_70, r320_73, r320_74, r320_77, r320_79, r320_80, r320_81, r320_82, r320_83, r320_84, r320_86, r320_87, r320_90, r320_92, r320_93, r320_94, r320_97, r320_98, r320_99, r320_100, r320_101, r320_104, r320_107, r320_108, r320_111, r320_113, r320_114, r320_117, r320_118, r320_119, r320_120, r320_121, r320_122, r320_123, r320_124, r320_127, r320_130, r320_133, r320_136, r320_139, r320_140, r320_141, r320_144, r320_145, r320_148, r320_149, r320_152, r320_153, r320_154, r320_155, r320_156, r320_159, znl_i, znl_r, znl_j, znl_l, List.length_cons, List.length_nil, Option.some.injEq, Sum.inl.injEq, Sum.inr.injEq, Prod.mk.injEq, true_and, and_true, exists_eq_left', zK_sI, zA_sI, zL_sI, zK_sL, zA_sL, zI_sL, zK_fI, zA_fI, zL_fI, zK_fL, zA_fL, zI_fL, Nat.reduceAdd, Nat.reduceLeDiff, forall_eq', zl_lt, zl_gt, zl_eq, zl_le, zl_ge, zm_0, zaft_n, zaft_v, zb_eq, Decidable.not_not, H.K, H.A48, H.K28, H.A46, H.K26, H.A47, H.K27, zK_mH, zA_mH, zI_mH0, zL_mH0, zsI_mH0, zsL_mH0, zI_mH1, zL_mH1, zsI_mH1, zsL_mH1, zI_mH2, zL_mH2, zsI_mH2, zsL_mH2, zI_mH3, zL_mH3, zsI_mH3, zsL_mH3, zI_mH4, zL_mH4, zsI_mH4, zsL_mH4, zI_mH5, zL_mH5, zsI_mH5, zsL_mH5, zI_mH6, zL_mH6, zsI_mH6, zsL_mH6, zI_mH7, zL_mH7, zsI_mH7, zsL_mH7, zI_mH8, zL_mH8, zsI_mH8, zsL_mH8, zI_mH9, zL_mH9, zsI_mH9, zsL_mH9, zI_mH10, zL_mH10, zsI_mH10, zsL_mH10, zI_mH11, zL_mH11, zsI_mH11, zsL_mH11, zI_mH12, zL_mH12, zsI_mH12, zsL_mH12, zI_mH13, zL_mH13, zsI_mH13, zsL_mH13, zI_mH14, zL_mH14, zsI_mH14, zsL_mH14, zI_mH15, zL_mH15, zsI_mH15, zsL_mH15, zI_mH16, zL_mH16, zsI_mH16, zsL_mH16, zI_mH17, zL_mH17, zsI_mH17, zsL_mH17, zI_mH18, zL_mH18, zsI_mH18, zsL_mH18, zI_mH19, zL_mH19, zsI_mH19, zsL_mH19, zI_mH20, zL_mH20, zsI_mH20, zsL_mH20, zI_mH21, zL_mH21, zsI_mH21, zsL_mH21, zI_mH22, zL_mH22, zsI_mH22, zsL_mH22, zI_mH23, zL_mH23, zsI_mH23, zsL_mH23, zI_mH24, zL_mH24, zsI_mH24, zsL_mH24, zI_mH25, zL_mH25, zsI_mH25, zsL_mH25, zI_mH26, zL_mH26, zsI_mH26, zsL_mH26, zI_mH27, zL_mH27, zsI_mH27, zsL_mH27, zI_mH28, zL_mH28, zsI_mH28, zsL_mH28, zI_mH29, zL_mH29, zsI_mH29, zsL_mH29, zI_mH30, zL_mH30, zsI_mH30, zsL_mH30, zI_mH31, zL_mH31, zsI_mH31, zsL_mH31, zI_mH32, zL_mH32, zsI_mH32, zsL_mH32, zI_mH33, zL_mH33, zsI_mH33, zsL_mH33, zI_mH34, zL_mH34, zsI_mH34, zsL_mH34, zI_mH35, zL_mH35, zsI_mH35, zsL_mH35, zI_mH36, zL_mH36, zsI_mH36, zsL_mH36, zI_mH37, zL_mH37, zsI_mH37, zsL_mH37, zI_mH38, zL_mH38, zsI_mH38, zsL_mH38, zI_mH39, zL_mH39, zsI_mH39, zsL_mH39, zI_mH40, zL_mH40, zsI_mH40, zsL_mH40, zI_mH41, zL_mH41, zsI_mH41, zsL_mH41]
      simp (disch := omega) only [zn_b, zm_b, Int.toNat_natCast, Int.toNat_zero, zt4, zt_4, zt6, zt_6, zt9, zt_9, zt12, zt_12, zt48, zt_48, zt97, zt_97, zt144, zt144b, g50]
      refine ⟨fun z => (by first | omega | exact absurd trivial z | exact absurd rfl z), fun _ => ⟨fun q => ?_, fun q => ?_⟩⟩
      · repeat (refine And.intro (by omega) ?_)
        refine ih (zu φ2 28 i 48) (fun j hj => by rw [zu_fn hj]; exact q1 j hj) (fun j hj => ?_)
        by_cases cc : j = i
        · rw [zu_eq cc, if_neg (by omega)]; rfl
        · rw [zu_sl cc]; exact q2 j (by omega)
      · repeat (refine And.intro (by omega) ?_)
        refine ih (zu φ2 28 i 0) (fun j hj => by rw [zu_fn hj]; exact q1 j hj) (fun j hj => ?_)
        by_cases cc : j = i
        · rw [zu_eq cc, if_pos (by omega)]; rfl
        · rw [zu_sl cc]; exact q2 j (by omega)
  · have hs : y3 s.1 = -1 := by simpa using z
    refine zc_w (m_refuseH H 2) ?_
    simp only [r320_0, r320_1, r320_4, r320_7, r320_8, r320_9, r320_12, r320_13, r320_14, r320_16, r320_17, r320_20, r320_23, r320_24, r320_27, r320_28, r320_29, r320_32, r320_33, r320_36, r320_38, r320_39, r320_42, r320_45, r320_46, r320_48, r320_51, r320_52, r320_53, r320_54, r320_56, r320_57, r320_60, r320_63, r320_64, r320_66, r320_67, r320_70, r320_73, r320_74, r320_77, r320_79, r320_80, r320_81, r320_82, r320_83, r320_84, r320_86, r320_87, r320_90, r320_92, r320_93, r320_94, r320_97, r320_98, r320_99, r320_100, r320_101, r320_104, r320_107, r320_108, r320_111, r320_113, r320_114, r320_117, r320_118, r320_119, r320_120, r320_121, r320_122, r320_123, r320_124, r320_127, r320_130, r320_133, r320_136, r320_139, r320_140, r320_141, r320_144, r320_145, r320_148, r320_149, r320_152, r320_153, r320_154, r320_155, r320_156, r320_159, znl_i, znl_r, znl_j, znl_l, List.length_cons, List.length_nil, Option.some.injEq, Sum.inl.injEq, Sum.inr.injEq, Prod.mk.injEq, true_and, and_true, exists_eq_left', zK_sI, zA_sI, zL_sI, zK_sL, zA_sL, zI_sL, zK_fI, zA_fI, zL_fI, zK_fL, zA_fL, zI_fL, Nat.reduceAdd, Nat.reduceLeDiff, forall_eq', zl_lt, zl_gt, zl_eq, zl_le, zl_ge, zm_0, zaft_n, zaft_v, zb_eq, Decidable.not_not, H.K, H.A48, H.K28, H.A46, H.K26, H.A47, H.K27, zK_mH, zA_mH, zI_mH0, zL_mH0, zsI_mH0, zsL_mH0, zI_mH1, zL_mH1, zsI_mH1, zsL_mH1, zI_mH2, zL_mH2, zsI_mH2, zsL_mH2, zI_mH3, zL_mH3, zsI_mH3, zsL_mH3, zI_mH4, zL_mH4, zsI_mH4, zsL_mH4, zI_mH5, zL_mH5, zsI_mH5, zsL_mH5, zI_mH6, zL_mH6, zsI_mH6, zsL_mH6, zI_mH7, zL_mH7, zsI_mH7, zsL_mH7, zI_mH8, zL_mH8, zsI_mH8, zsL_mH8, zI_mH9, zL_mH9, zsI_mH9, zsL_mH9, zI_mH10, zL_mH10, zsI_mH10, zsL_mH10, zI_mH11, zL_mH11, zsI_mH11, zsL_mH11, zI_mH12, zL_mH12, zsI_mH12, zsL_mH12, zI_mH13, zL_mH13, zsI_mH13, zsL_mH13, zI_mH14, zL_mH14, zsI_mH14, zsL_mH14, zI_mH15, zL_mH15, zsI_mH15, zsL_mH15, zI_mH16, zL_mH16, zsI_mH16, zsL_mH16, zI_mH17, zL_mH17, zsI_mH17, zsL_mH17, zI_mH18, zL_mH18, zsI_mH18, zsL_mH18, zI_mH19, zL_mH19, zsI_mH19, zsL_mH19, zI_mH20, zL_mH20, zsI_mH20, zsL_mH20, zI_mH21, zL_mH21, zsI_mH21, zsL_mH21, zI_mH22, zL_mH22, zsI_mH22, zsL_mH22, zI_mH23, zL_mH23, zsI_mH23, zsL_mH23, zI_mH24, zL_mH24, zsI_mH24, zsL_mH24, zI_mH25, zL_mH25, zsI_mH25, zsL_mH25, zI_mH26, zL_mH26, zsI_mH26, zsL_mH26, zI_mH27, zL_mH27, zsI_mH27, zsL_mH27, zI_mH28, zL_mH28, zsI_mH28, zsL_mH28, zI_mH29, zL_mH29, zsI_mH29, zsL_mH29, zI_mH30, zL_mH30, zsI_mH30, zsL_mH30, zI_mH31, zL_mH31, zsI_mH31, zsL_mH31, zI_mH32, zL_mH32, zsI_mH32, zsL_mH32, zI_mH33, zL_mH33, zsI_mH33, zsL_mH33, zI_mH34, zL_mH34, zsI_mH34, zsL_mH34, zI_mH35, zL_mH35, zsI_mH35, zsL_mH35, zI_mH36, zL_mH36, zsI_mH36, zsL_mH36, zI_mH37, zL_mH37, zsI_mH37, zsL_mH37, zI_mH38, zL_mH38, zsI_mH38, zsL_mH38, zI_mH39, zL_mH39, zsI_mH39, zsL_mH39, zI_mH40, zL_mH40, zsI_mH40, zsL_mH40, zI_mH41, zL_mH41, zsI_mH41, zsL_mH41]
    have := mAn_no (φ := φ) (ψ := ψ) H S1 (w := w_all s.1) (v := (yfw (yTF s.1) : Int)) (by unfold w_all; rw [if_pos hs]; omega)
    unfold s_fewest
    have e2 : w_all s.1 = 2 := by unfold w_all; rw [if_pos hs]
    rw [e2] at this ⊢
    exact this
end
