theorem yslt_tri {x y : Nat} (h : x ≠ y) (n : yslt x y = false) : yslt y x = true := by
  have : ¬ (ypc x < ypc y ∨ (ypc x = ypc y ∧ x < y)) := fun z => by rw [yslt_iff.mpr z] at n; cases n
  exact yslt_iff.mpr (by omega)
theorem yslt_tr {x y z : Nat} (a : yslt x y = true) (b : yslt y z = true) : yslt x z = true := by
  have := yslt_iff.mp a
  have := yslt_iff.mp b
  exact yslt_iff.mpr (by omega)
/-- a set comes to its place in a sorted list -/
theorem yins {P : List Nat} {s j : Nat} (hs : P.Pairwise (fun x y => yslt x y = true)) (hj : j ≤ P.length) (h1 : ∀ b ∈ P.drop j, yslt s b = true) (h2 : ∀ a, 0 < j → P[j - 1]? = some a → yslt a s = true) : (P.take j ++ s :: P.drop j).Pairwise (fun x y => yslt x y = true) := by
  have hd : (P.take j ++ P.drop j).Pairwise (fun x y => yslt x y = true) := by rw [List.take_append_drop]; exact hs
  obtain ⟨p1, p2, p3⟩ := List.pairwise_append.mp hd
  have bef : ∀ a ∈ P.take j, yslt a s = true := fun a ha => by
    obtain ⟨i, hi, e⟩ := List.mem_iff_getElem.mp ha
    rw [List.length_take] at hi
    have hij : i < j := by omega
    have hip : i < P.length := by omega
    have e : P[i] = a := by rw [← e, List.getElem_take]
    have hl : j - 1 < P.length := by omega
    have la := h2 P[j - 1] (by omega) (List.getElem?_eq_getElem hl)
    by_cases q : i = j - 1
    · subst q; rw [← e]; exact la
    · exact yslt_tr (by rw [← e]; exact List.pairwise_iff_getElem.mp hs i (j - 1) hip hl (by omega)) la
  exact List.pairwise_append.mpr ⟨p1, List.pairwise_cons.mpr ⟨h1, p2⟩, fun a ha b hb => by
    rcases List.mem_cons.mp hb with q | q
    · rw [q]; exact bef a ha
    · exact p3 a ha b q⟩
/-- the sets that a group holds -/
structure gSt (g : Nat) (φ ψ : Nat → Nat → Int) (L : List Nat) : Prop where
  m : φ g 18 = (L.length : Int)
  v : ∀ i v : Nat, L[i]? = some v → ψ (g + 88) i = (v : Int)
section
variable {e : zEv} {d x f o r n g b : Nat} {h h1 h2 : zH} {φ φ' φ'' ψ ψ' ψ'' : Nat → Nat → Int} {α α' α'' : Nat → Nat → Option Nat} {F : yF} {T : yT}
theorem g_isAhead {X Y : Nat} (hX : X < 2 ^ 48) (hY : Y < 2 ^ 48) : zc e (d + 2) 435 [zr (some (x + g)), zl (X : Int), zl (Y : Int)] h (fun ov h' => ov = Sum.inl (some (zi (yb (yslt X Y)))) ∧ h' = h) := by
  have b1 : ypc X ≤ 64 := by have := ycnt_bd X.testBit 64; unfold ypc; omega
  have b2 : ypc Y ≤ 64 := by have := ycnt_bd Y.testBit 64; unfold ypc; omega
  simp (disch := omega) only [n435, r435_0, r435_1, r435_4, r435_6, r435_7, r435_10, r435_12, r435_14, r435_16, r435_19, r435_21, r435_23, r435_26, r435_27, r435_28, r435_29, r435_32, r435_33, r435_36, r435_37, znl_i, znl_r, znl_j, znl_l, List.length_cons, List.length_nil, Option.some.injEq, Sum.inl.injEq, Sum.inr.injEq, Prod.mk.injEq, true_and, and_true, exists_eq_left', zK_sI, zA_sI, zL_sI, zK_sL, zA_sL, zI_sL, zK_fI, zA_fI, zL_fI, zK_fL, zA_fL, zI_fL, Nat.reduceAdd, Nat.reduceLeDiff, forall_eq', zl_lt, zl_gt, zl_eq, zl_le, zl_ge, zm_0, zaft_n, zaft_v, zb_eq, Decidable.not_not, zK_rH, zI_rH, zL_rH, zA_rH, zsI_rH, zsL_rH, zsA_rH, zcpI_rH, zn_b, zm_b, Int.toNat_natCast, Int.toNat_zero, Int.reduceToNat]
  refine zc_w (j_bitCount (d := d) hX) ?_
  simp (disch := omega) only [r435_0, r435_1, r435_4, r435_6, r435_7, r435_10, r435_12, r435_14, r435_16, r435_19, r435_21, r435_23, r435_26, r435_27, r435_28, r435_29, r435_32, r435_33, r435_36, r435_37, znl_i, znl_r, znl_j, znl_l, List.length_cons, List.length_nil, Option.some.injEq, Sum.inl.injEq, Sum.inr.injEq, Prod.mk.injEq, true_and, and_true, exists_eq_left', zK_sI, zA_sI, zL_sI, zK_sL, zA_sL, zI_sL, zK_fI, zA_fI, zL_fI, zK_fL, zA_fL, zI_fL, Nat.reduceAdd, Nat.reduceLeDiff, forall_eq', zl_lt, zl_gt, zl_eq, zl_le, zl_ge, zm_0, zaft_n, zaft_v, zb_eq, Decidable.not_not, zK_rH, zI_rH, zL_rH, zA_rH, zsI_rH, zsL_rH, zsA_rH, zcpI_rH, zn_b, zm_b, Int.toNat_natCast, Int.toNat_zero, Int.reduceToNat]
  refine zc_w (j_bitCount (d := d) hY) ?_
  simp (disch := omega) only [r435_0, r435_1, r435_4, r435_6, r435_7, r435_10, r435_12, r435_14, r435_16, r435_19, r435_21, r435_23, r435_26, r435_27, r435_28, r435_29, r435_32, r435_33, r435_36, r435_37, znl_i, znl_r, znl_j, znl_l, List.length_cons, List.length_nil, Option.some.injEq, Sum.inl.injEq, Sum.inr.injEq, Prod.mk.injEq, true_and, and_true, exists_eq_left', zK_sI, zA_sI, zL_sI, zK_sL, zA_sL, zI_sL, zK_fI, zA_fI, zL_fI, zK_fL, zA_fL, zI_fL, Nat.reduceAdd, Nat.reduceLeDiff, forall_eq', zl_lt, zl_gt, zl_eq, zl_le, zl_ge, zm_0, zaft_n, zaft_v, zb_eq, Decidable.not_not, zK_rH, zI_rH, zL_rH, zA_rH, zsI_rH, zsL_rH, zsA_rH, zcpI_rH, zn_b, zm_b, Int.toNat_natCast, Int.toNat_zero, Int.reduceToNat]
  have yes : (ypc X < ypc Y ∨ (ypc X = ypc Y ∧ X < Y)) → (1 : Int) = yb (yslt X Y) := fun z => by rw [yslt_iff.mpr z]; rfl
  have no : ¬ (ypc X < ypc Y ∨ (ypc X = ypc Y ∧ X < Y)) → (0 : Int) = yb (yslt X Y) := fun z => by
    cases q : yslt X Y with
    | false => rfl
    | true => exact absurd (yslt_iff.mp q) z
  refine ⟨fun z => ?_, fun z => ⟨fun z2 => ?_, fun z2 => ⟨fun z3 => ?_, fun z3 => ?_⟩⟩⟩
  · exact ⟨by decide, by decide, yes (by omega)⟩
  · exact ⟨by decide, by decide, no (by omega)⟩
  · exact ⟨by decide, by decide, no (by omega)⟩
  · exact ⟨by decide, by decide, yes (by omega)⟩
theorem g_isSet (GK : gK e h x g) (GA : gA x g α) {L : List Nat} (S : gSt g φ ψ L) (hl : L.length ≤ 128) (hb : ∀ v ∈ L, v < 2 ^ 48) {s : Nat} (hs : s < 2 ^ 48) : zc e (d + 1) 434 [zr (some (x + g)), zl (s : Int)] (cH h x φ ψ α) (fun ov h' => ov = Sum.inl (some (zi (yb (L.contains s)))) ∧ h' = cH h x φ ψ α) := by
  have gn := GK.n
  have loop := zdown0 (fun k => (∀ i v : Nat, i < k → L[i]? = some v → v ≠ s) → zg e 434 d 2 [zr (some (x + g)), zl (s : Int), zj, zi (k : Int)] [] (cH h x φ ψ α) (fun ov h' => ov = Sum.inl (some (zi (yb (L.contains s)))) ∧ h' = cH h x φ ψ α)) L.length (fun q => ?_) (fun k hk ih q => ?_)
  · simp (disch := omega) only [n434, r434_0, r434_1, r434_3, r434_4, r434_7, r434_10, r434_11, r434_14, r434_15, r434_16, r434_17, r434_18, r434_21, r434_22, r434_23, r434_26, r434_29, r434_30, znl_i, znl_r, znl_j, znl_l, List.length_cons, List.length_nil, Option.some.injEq, Sum.inl.injEq, Sum.inr.injEq, Prod.mk.injEq, true_and, and_true, exists_eq_left', zK_sI, zA_sI, zL_sI, zK_sL, zA_sL, zI_sL, zK_fI, zA_fI, zL_fI, zK_fL, zA_fL, zI_fL, Nat.reduceAdd, Nat.reduceLeDiff, forall_eq', zl_lt, zl_gt, zl_eq, zl_le, zl_ge, zm_0, zaft_n, zaft_v, zb_eq, Decidable.not_not, zK_rH, zI_rH, zL_rH, zA_rH, zsI_rH, zsL_rH, zsA_rH, zcpI_rH, zn_b, zm_b, Int.toNat_natCast, Int.toNat_zero, Int.reduceToNat, GK.K0]
    exact loop (fun i v hi => absurd hi (by omega))
  · rw [r434_2]
    simp (disch := omega) only [r434_0, r434_1, r434_3, r434_4, r434_7, r434_10, r434_11, r434_14, r434_15, r434_16, r434_17, r434_18, r434_21, r434_22, r434_23, r434_26, r434_29, r434_30, znl_i, znl_r, znl_j, znl_l, List.length_cons, List.length_nil, Option.some.injEq, Sum.inl.injEq, Sum.inr.injEq, Prod.mk.injEq, true_and, and_true, exists_eq_left', zK_sI, zA_sI, zL_sI, zK_sL, zA_sL, zI_sL, zK_fI, zA_fI, zL_fI, zK_fL, zA_fL, zI_fL, Nat.reduceAdd, Nat.reduceLeDiff, forall_eq', zl_lt, zl_gt, zl_eq, zl_le, zl_ge, zm_0, zaft_n, zaft_v, zb_eq, Decidable.not_not, zK_rH, zI_rH, zL_rH, zA_rH, zsI_rH, zsL_rH, zsA_rH, zcpI_rH, zn_b, zm_b, Int.toNat_natCast, Int.toNat_zero, Int.reduceToNat, GK.K0, S.m]
    refine ⟨fun _ => ⟨by decide, by decide, ?_⟩, fun z => absurd z (by omega)⟩
    have : L.contains s = false := by
      rw [List.contains_eq_mem, decide_eq_false_iff_not]
      intro z
      obtain ⟨i, hi, e1⟩ := List.mem_iff_getElem.mp z
      exact q i _ hi (List.getElem?_eq_getElem hi) e1
    rw [this]; rfl
  · have ev := S.v k _ (List.getElem?_eq_getElem hk)
    have vb := hb _ (List.getElem_mem hk)
    rw [r434_2]
    simp (disch := omega) only [r434_0, r434_1, r434_3, r434_4, r434_7, r434_10, r434_11, r434_14, r434_15, r434_16, r434_17, r434_18, r434_21, r434_22, r434_23, r434_26, r434_29, r434_30, znl_i, znl_r, znl_j, znl_l, List.length_cons, List.length_nil, Option.some.injEq, Sum.inl.injEq, Sum.inr.injEq, Prod.mk.injEq, true_and, and_true, exists_eq_left', zK_sI, zA_sI, zL_sI, zK_sL, zA_sL, zI_sL, zK_fI, zA_fI, zL_fI, zK_fL, zA_fL, zI_fL, Nat.reduceAdd, Nat.reduceLeDiff, forall_eq', zl_lt, zl_gt, zl_eq, zl_le, zl_ge, zm_0, zaft_n, zaft_v, zb_eq, Decidable.not_not, zK_rH, zI_rH, zL_rH, zA_rH, zsI_rH, zsL_rH, zsA_rH, zcpI_rH, zn_b, zm_b, Int.toNat_natCast, Int.toNat_zero, Int.reduceToNat, GK.K0, GK.K88, GA.A17, S.m, ev, zlq_eq]
    refine ⟨fun z => absurd z (by omega), fun _ => ⟨by omega, by omega, fun z => ih fun i v hi hv => ?_, fun z => ⟨by decide, by decide, ?_⟩⟩⟩
    · by_cases w : i = k
      · subst w
        rw [List.getElem?_eq_getElem hk] at hv
        have hv := Option.some.inj hv
        intro z2; rw [← hv] at z2; omega
      · exact q i v (by omega) hv
    · have : L.contains s = true := by
        rw [List.contains_eq_mem, decide_eq_true_iff, show s = L[k] by omega]; exact List.getElem_mem hk
      rw [this]; rfl
/-- a set more -/
def yas (L : List Nat) (s : Nat) : List Nat := if s ∈ L then L else L ++ [s]
theorem g_addsSet (GK : gK e h x g) (GA : gA x g α) (V : yV T) (hl : (ysl T).length ≤ 128) {L : List Nat} (G : yGs T L) (S : gSt g φ ψ L) {s : Nat} (hs : ysg T s = true) : zc e (d + 2) 433 [zr (some (x + g)), zl (s : Int)] (cH h x φ ψ α)
    (fun ov h' => ov = Sum.inl none ∧ ∃ φ' ψ', h' = cH h x φ' ψ' α ∧ gSt g φ' ψ' (yas L s) ∧ yGs T (yas L s) ∧ (∀ i, i ≠ g → φ' i = φ i) ∧ (∀ j, j ≠ 18 → φ' g j = φ g j) ∧ ∀ i, i ≠ g + 88 → ψ' i = ψ i) := by
  have gn := GK.n
  have kb := GK.b
  have m := V.m
  have le := G.le
  have lb : ∀ v, ysg T v = true → v < 2 ^ 48 := fun v hv => ypw2_lt (b := 0) m.2 (ysg_iff.mp hv).2.2
  have old : s ∈ L → ∃ φ' ψ', cH h x φ ψ α = cH h x φ' ψ' α ∧ gSt g φ' ψ' (yas L s) ∧ yGs T (yas L s) ∧ (∀ i, i ≠ g → φ' i = φ i) ∧ (∀ j, j ≠ 18 → φ' g j = φ g j) ∧ ∀ i, i ≠ g + 88 → ψ' i = ψ i := fun z => by
    have : yas L s = L := if_pos z
    rw [this]
    exact ⟨φ, ψ, rfl, S, G, fun _ _ => rfl, fun _ _ => rfl, fun _ _ => rfl⟩
  simp (disch := omega) only [n433, r433_0, r433_1, r433_4, r433_7, r433_10, r433_11, r433_12, r433_15, r433_18, r433_19, r433_20, r433_23, r433_24, r433_27, r433_28, r433_29, r433_30, r433_31, r433_34, r433_35, r433_36, r433_39, znl_i, znl_r, znl_j, znl_l, List.length_cons, List.length_nil, Option.some.injEq, Sum.inl.injEq, Sum.inr.injEq, Prod.mk.injEq, true_and, and_true, exists_eq_left', zK_sI, zA_sI, zL_sI, zK_sL, zA_sL, zI_sL, zK_fI, zA_fI, zL_fI, zK_fL, zA_fL, zI_fL, Nat.reduceAdd, Nat.reduceLeDiff, forall_eq', zl_lt, zl_gt, zl_eq, zl_le, zl_ge, zm_0, zaft_n, zaft_v, zb_eq, Decidable.not_not, zK_rH, zI_rH, zL_rH, zA_rH, zsI_rH, zsL_rH, zsA_rH, zcpI_rH, zn_b, zm_b, Int.toNat_natCast, Int.toNat_zero, Int.reduceToNat, GK.K0, S.m]
  refine ⟨fun z => ?_, fun z => ?_⟩
  · exact old (G.full (by omega) hs)
  · refine zc_w (g_isSet (d := d) GK GA S (by omega) (fun v hv => lb v (G.sg v hv)) (lb s hs)) ?_
    by_cases c : s ∈ L
    · rw [show L.contains s = true by rw [List.contains_eq_mem]; exact decide_eq_true c]
      simp (disch := omega) only [r433_0, r433_1, r433_4, r433_7, r433_10, r433_11, r433_12, r433_15, r433_18, r433_19, r433_20, r433_23, r433_24, r433_27, r433_28, r433_29, r433_30, r433_31, r433_34, r433_35, r433_36, r433_39, znl_i, znl_r, znl_j, znl_l, List.length_cons, List.length_nil, Option.some.injEq, Sum.inl.injEq, Sum.inr.injEq, Prod.mk.injEq, true_and, and_true, exists_eq_left', zK_sI, zA_sI, zL_sI, zK_sL, zA_sL, zI_sL, zK_fI, zA_fI, zL_fI, zK_fL, zA_fL, zI_fL, Nat.reduceAdd, Nat.reduceLeDiff, forall_eq', zl_lt, zl_gt, zl_eq, zl_le, zl_ge, zm_0, zaft_n, zaft_v, zb_eq, Decidable.not_not, zK_rH, zI_rH, zL_rH, zA_rH, zsI_rH, zsL_rH, zsA_rH, zcpI_rH, zn_b, zm_b, Int.toNat_natCast, Int.toNat_zero, Int.reduceToNat, show yb true = 1 from rfl]
      exact ⟨fun z => absurd z (by decide), fun _ => old c⟩
    · rw [show L.contains s = false by rw [List.contains_eq_mem]; exact decide_eq_false c]
      have ya : yas L s = L ++ [s] := if_neg c
      rw [ya]
      simp (disch := omega) only [r433_0, r433_1, r433_4, r433_7, r433_10, r433_11, r433_12, r433_15, r433_18, r433_19, r433_20, r433_23, r433_24, r433_27, r433_28, r433_29, r433_30, r433_31, r433_34, r433_35, r433_36, r433_39, znl_i, znl_r, znl_j, znl_l, List.length_cons, List.length_nil, Option.some.injEq, Sum.inl.injEq, Sum.inr.injEq, Prod.mk.injEq, true_and, and_true, exists_eq_left', zK_sI, zA_sI, zL_sI, zK_sL, zA_sL, zI_sL, zK_fI, zA_fI, zL_fI, zK_fL, zA_fL, zI_fL, Nat.reduceAdd, Nat.reduceLeDiff, forall_eq', zl_lt, zl_gt, zl_eq, zl_le, zl_ge, zm_0, zaft_n, zaft_v, zb_eq, Decidable.not_not, zK_rH, zI_rH, zL_rH, zA_rH, zsI_rH, zsL_rH, zsA_rH, zcpI_rH, zn_b, zm_b, Int.toNat_natCast, Int.toNat_zero, Int.reduceToNat, show yb false = 0 from rfl, GK.K0, GK.K88, GA.A17, S.m]
      refine ⟨fun _ => ?_, fun z => absurd trivial z⟩
      repeat (refine And.intro (by omega) ?_)
      refine ⟨_, _, rfl, ⟨?_, fun i v hv => ?_⟩, ⟨fun y hy => ?_, ?_⟩, fun i hi => zu_cell _ _ _ hi, fun j hj => zu_slot _ _ _ hj, fun i hi => zu_cell _ _ _ hi⟩
      · rw [zu_same, List.length_append]; rfl
      · by_cases w : i < L.length
        · rw [List.getElem?_append_left w] at hv
          rw [zu_slot _ _ _ (by omega)]; exact S.v i v hv
        · rw [List.getElem?_append_right (by omega)] at hv
          have hi : i = L.length := by
            have := (List.getElem?_eq_some_iff.mp hv).1
            simp at this; omega
          subst hi
          rw [Nat.sub_self] at hv
          have hv : s = v := Option.some.inj hv
          rw [zu_same, hv]
      · rcases List.mem_append.mp hy with q | q
        · exact G.sg y q
        · rw [List.mem_singleton.mp q]; exact hs
      · refine List.nodup_append.mpr ⟨G.nd, by simp, fun a ha b hb z => ?_⟩
        have : b = s := by simpa using hb
        rw [this] at z; rw [z] at ha; exact c ha
theorem yas_mem {L : List Nat} {s y : Nat} : y ∈ yas L s ↔ y ∈ L ∨ y = s := by
  unfold yas
  split
  · rename_i c
    exact ⟨Or.inl, fun z => z.elim id fun q => by rw [q]; exact c⟩
  · rw [List.mem_append, List.mem_singleton]
theorem yas_pre {L : List Nat} {s i v : Nat} (h : L[i]? = some v) : (yas L s)[i]? = some v := by
  unfold yas
  split
  · exact h
  · have hi := (List.getElem?_eq_some_iff.mp h).1
    rw [List.getElem?_append_left hi]; exact h
end
