/-! ===== the reference: maps by the images of three or four atoms ===== -/
/-- a map: its row, its sign, its matrix -/
abbrev yO : Type := (Nat → Int) × Int × (Nat → Int)
theorem yln_congr {F : yF} {M N : Nat → Int} (h : ∀ r, r < 9 → M r = N r) {k i : Nat} (hi : i < 3) : yln F M k i = yln F N k i := by
  simp only [yln]; rw [h _ (by omega), h _ (by omega), h _ (by omega)]
theorem ycm_congr {F : yF} {W : Int} {M N : Nat → Int} {t : Nat} (h : ∀ r, r < 9 → M r = N r) (k : Nat) : ycm F W M t k = ycm F W N t k := by
  refine yfind_congr (fun o _ _ => ?_)
  simp only [ycq, yhit]
  rw [yln_congr h (by omega), yln_congr h (by omega), yln_congr h (by omega)]
theorem yall_congr {F : yF} {W : Int} {M N : Nat → Int} {t : Nat} (h : ∀ r, r < 9 → M r = N r) : yall F W M t ↔ yall F W N t := by
  constructor <;> intro q k hk <;> have := q k hk
  · rw [ycm_congr h k] at this; exact this
  · rw [ycm_congr h k]; exact this
noncomputable def ytr (F : yF) (W : Int) (M : Nat → Int) (t : Nat) (sg : Int) : List yO := @ite _ (yall F W M t) (Classical.propDecidable _) [(ycm F W M t, sg, M)] []
def mOp (n : Nat) (R G M : Nat → Int) (l : List yO) : Prop := ∀ i op, l[i]? = some op → (∀ k, k < n → R (12 * i + k) = op.1 k) ∧ G i = op.2.1 ∧ ∀ r, r < 9 → M (9 * i + r) = op.2.2 r
theorem zup_id {f : Nat → Int} {k : Nat} {v : Int} (h : f k = v) : zup f k v = f := funext fun i => by simp only [zup]; split; (rename_i q; rw [q, h]); rfl
theorem zup_up (f : Nat → Int) (k : Nat) (v w : Int) : zup (zup f k v) k w = zup f k w := funext fun i => by simp only [zup]; split <;> rfl
def yJ (u v w : Nat → Int) : Nat → Int := fun j => if j < 3 then u j else if j < 6 then v (j - 3) else w (j - 6)
theorem ymt_congr {J K X : Nat → Int} (h : ∀ j, j < 9 → J j = K j) : ∀ r, r < 9 → ymt J X r = ymt K X r := by
  intro r hr
  simp only [ymt]
  rw [h _ (by omega), h _ (by omega), h _ (by omega)]
theorem ymt_bd {J X : Nat → Int} (hJ : ∀ j, j < 9 → -20000 ≤ J j ∧ J j ≤ 20000) (hX : ∀ j, j < 9 → -4000000 ≤ X j ∧ X j ≤ 4000000) : ∀ r, r < 9 → -1000000000000 ≤ ymt J X r ∧ ymt J X r ≤ 1000000000000 := by
  intro r hr
  have m1 := ymul_b (A := 20000) (B := 4000000) (hJ (r / 3) (by omega)) (hX (r % 3) (by omega))
  have m2 := ymul_b (A := 20000) (B := 4000000) (hJ (3 + r / 3) (by omega)) (hX (3 + r % 3) (by omega))
  have m3 := ymul_b (A := 20000) (B := 4000000) (hJ (6 + r / 3) (by omega)) (hX (6 + r % 3) (by omega))
  simp only [ymt]; omega
section
variable {e : zEv} {a d : Nat} {h : zH}
theorem m_canBe (H : zmo e a h) (F : yF) (hF : mF (zI h (a + 1)) 0 F) (hW : yW F) (k o : Nat) (hk : k < F.1) (ho : o < F.1) : zc e (d + 2) 271 [zr (some a), zi k, zi o] h (fun ov h' => ov = Sum.inl (some (zi (if F.2 k 0 = F.2 o 0 then 1 else 0))) ∧ h' = h) := by
  have hn := hW.1
  have b1 := hW.2.1 k hk
  have b2 := hW.2.1 o ho
  have v1 : zI h (a + 1) (4 + 4 * (k : Int) + 0).toNat = F.2 k 0 := by
    rw [← hF.2 k hk 0 (by omega)]; congr 1 <;> omega
  have v2 : zI h (a + 1) (4 + 4 * (o : Int) + 0).toNat = F.2 o 0 := by
    rw [← hF.2 o ho 0 (by omega)]; congr 1 <;> omega
  simp only [n271, r271_0, r271_1, r271_2, r271_3, r271_6, r271_7, r271_8, r271_9, r271_12, r271_15, r271_16, r271_19, r271_20, znl_i, znl_r, znl_j, znl_l, List.length_cons, List.length_nil, Option.some.injEq, Sum.inl.injEq, Sum.inr.injEq, Prod.mk.injEq, true_and, and_true, exists_eq_left', zK_sI, zA_sI, zL_sI, zK_sL, zA_sL, zI_sL, zK_fI, zA_fI, zL_fI, zK_fL, zA_fL, zI_fL, Nat.reduceAdd, Nat.reduceLeDiff, forall_eq', zl_lt, zl_gt, zl_eq, zl_le, zl_ge, zm_0, zaft_n, zaft_v, zb_eq, Decidable.not_not, H.K]
  refine zc_w (m_of H k 0 (by omega) (by omega) (by omega) (by omega)) ?_
  simp only [r271_0, r271_1, r271_2, r271_3, r271_6, r271_7, r271_8, r271_9, r271_12, r271_15, r271_16, r271_19, r271_20, znl_i, znl_r, znl_j, znl_l, List.length_cons, List.length_nil, Option.some.injEq, Sum.inl.injEq, Sum.inr.injEq, Prod.mk.injEq, true_and, and_true, exists_eq_left', zK_sI, zA_sI, zL_sI, zK_sL, zA_sL, zI_sL, zK_fI, zA_fI, zL_fI, zK_fL, zA_fL, zI_fL, Nat.reduceAdd, Nat.reduceLeDiff, forall_eq', zl_lt, zl_gt, zl_eq, zl_le, zl_ge, zm_0, zaft_n, zaft_v, zb_eq, Decidable.not_not, H.K]
  refine zc_w (m_of H o 0 (by omega) (by omega) (by omega) (by omega)) ?_
  simp only [r271_0, r271_1, r271_2, r271_3, r271_6, r271_7, r271_8, r271_9, r271_12, r271_15, r271_16, r271_19, r271_20, znl_i, znl_r, znl_j, znl_l, List.length_cons, List.length_nil, Option.some.injEq, Sum.inl.injEq, Sum.inr.injEq, Prod.mk.injEq, true_and, and_true, exists_eq_left', zK_sI, zA_sI, zL_sI, zK_sL, zA_sL, zI_sL, zK_fI, zA_fI, zL_fI, zK_fL, zA_fL, zI_fL, Nat.reduceAdd, Nat.reduceLeDiff, forall_eq', zl_lt, zl_gt, zl_eq, zl_le, zl_ge, zm_0, zaft_n, zaft_v, zb_eq, Decidable.not_not, H.K]
  rw [v1, v2, zn_b (x := F.2 k 0) (by omega) (by omega), zn_b (x := F.2 o 0) (by omega) (by omega)]
  refine ⟨fun q => ?_, fun q => ?_⟩
  · rw [if_neg q]; exact ⟨by decide, by decide, rfl⟩
  · rw [if_pos q]; exact ⟨by decide, by decide, rfl⟩
/-- a map is tried: the list grows by it, if each atom comes to one of its kind -/
theorem m_triesL (H : zmo e a h) (F : yF) (hF : mF (zI h (a + 1)) 0 F) (hW : yW F) (t : Nat) (sg : Int) (ht : t < F.1) (l : List yO) (f R G M N : Nat → Int) (hl : l.length ≤ 48) (fm : f 27 = (l.length : Int)) (hO : mOp F.1 R G M l)
    (hN : ∀ r, r < 9 → ymt (zL h (a + 7)) (zL h (a + 6)) r = N r) (hB : ∀ r, r < 9 → -1000000000000 ≤ N r ∧ N r ≤ 1000000000000) (hw : -1000000000000 ≤ zL h a 35 ∧ zL h a 35 ≤ 1000000000000) :
    zc e (d + 3) 273 [zr (some a), zi t, zi sg] (mWf h a f R G M) (fun ov h' => ov = Sum.inl none ∧ ∃ R' G' M', h' = mWf h a (zup f 27 ((l ++ ytr F (zL h a 35) N t sg).length : Int)) R' G' M' ∧ mOp F.1 R' G' M' (l ++ ytr F (zL h a 35) N t sg)) := by
  refine zc_mono (m_tries H F hF hW.1 hW t l.length sg ht hl f R G M fm (fun r hr => by rw [hN r hr]; exact hB r hr) hw) ?_
  rintro _ _ ⟨rfl, R', M', m1, m2, m3, h9⟩
  have old : ∀ G' : Nat → Int, (∀ i, i < l.length → G' i = G i) → ∀ i op, i < l.length → l[i]? = some op → (∀ k, k < F.1 → R' (12 * i + k) = op.1 k) ∧ G' i = op.2.1 ∧ ∀ r, r < 9 → M' (9 * i + r) = op.2.2 r := fun G' hG i op hi hop => by
    obtain ⟨q1, q2, q3⟩ := hO i op hop
    have hn := hW.1
    refine ⟨fun k hk => ?_, by rw [hG i hi]; exact q2, fun r hr => ?_⟩
    · rw [m3 _ (by omega)]; exact q1 k hk
    · rw [m2 _ (by omega)]; exact q3 r hr
  rcases h9 with ⟨ha, hr, rfl⟩ | ⟨ha, rfl⟩
  · have ht9 : ytr F (zL h a 35) N t sg = [(ycm F (zL h a 35) N t, sg, N)] := if_pos ((yall_congr hN).mp ha)
    rw [ht9]
    refine ⟨rfl, R', zup G l.length sg, M', ?_, fun i op hop => ?_⟩
    · rw [List.length_append]; rfl
    · by_cases hi : i < l.length
      · rw [List.getElem?_append_left hi] at hop
        exact old _ (fun j hj => by simp only [zup]; rw [if_neg (by omega)]) i op hi hop
      · rw [List.getElem?_append_right (by omega)] at hop
        have hz : i - l.length < 1 := (List.getElem?_eq_some_iff.mp hop).1
        obtain rfl : i = l.length := by omega
        simp only [Nat.sub_self, List.getElem?_cons_zero, Option.some.injEq] at hop
        subst hop
        refine ⟨fun k hk => ?_, by simp [zup], fun r hr' => ?_⟩
        · rw [hr k hk]; exact ycm_congr hN k
        · rw [m1 r hr', hN r hr']
  · have ht9 : ytr F (zL h a 35) N t sg = [] := if_neg (fun z => ha ((yall_congr hN).mpr z))
    rw [ht9, List.append_nil]
    refine ⟨rfl, R', G, M', by rw [zup_id fm], fun i op hop => old G (fun _ _ => rfl) i op (List.getElem?_eq_some_iff.mp hop).1 hop⟩
end
