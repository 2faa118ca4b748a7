section
variable {e : zEv} {d x f o r n g b : Nat} {h h1 h2 : zH} {φ φ' φ'' ψ ψ' ψ'' : Nat → Nat → Int} {α α' α'' : Nat → Nat → Option Nat} {F : yF} {T : yT}
theorem gD.of (D : gD e h x f g T φ α) (q1 : ∀ i, i ≠ g → φ' i = φ i) (q2 : ∀ j, j ≠ 18 → φ' g j = φ g j) : gD e h x f g T φ' α := by
  have m := D.V.m
  have fg : f ≠ g := fun z => by
    have a := D.fk
    rw [z, D.GK.K0] at a; cases a
  refine ⟨D.GK, D.GA, D.V, D.G.of m.2 (q2 2 (by omega)) (fun i h1 h2 => q1 i (by omega)), ⟨D.J.a.of m.2 fun i h1 h2 => q1 i (by omega), D.J.b.of (q2 14 (by omega)) fun i h1 h2 => q1 i (by omega), fun i j k hi hj hk => by rw [q1 _ (by omega)]; exact D.J.n i j k hi hj hk⟩, D.fr, D.fl, D.fk, by rw [q1 _ fg]; exact D.fm⟩
theorem g_laysSets (D : gD e h x f g T φ α) (hl : (ysl T).length ≤ 128) : zc e (d + 4) 432 [zr (some (x + g))] (cH h x φ ψ α)
    (fun ov h' => ov = Sum.inl none ∧ ∃ φ' ψ', h' = cH h x φ' ψ' α ∧ gSt g φ' ψ' (ysl T) ∧ (∀ i, i ≠ g → φ' i = φ i) ∧ (∀ j, j ≠ 18 → φ' g j = φ g j) ∧ ∀ i, i ≠ g + 88 → ψ' i = ψ i) := by
  have GK := D.GK
  have GA := D.GA
  have V := D.V
  have gn := GK.n
  have kb := GK.b
  have m := V.m
  have lb : ∀ v, ysg T v = true → v < 2 ^ 48 := fun v hv => ypw2_lt (b := 0) m.2 (ysg_iff.mp hv).2.2
  generalize hQ : (fun ov h' => ov = Sum.inl none ∧ ∃ φ' ψ', h' = cH h x φ' ψ' α ∧ gSt g φ' ψ' (ysl T) ∧ (∀ i, i ≠ g → φ' i = φ i) ∧ (∀ j, j ≠ 18 → φ' g j = φ g j) ∧ ∀ i, i ≠ g + 88 → ψ' i = ψ i : zEt) = Q
  -- the order
  have sort : ∀ (L : List Nat) (φ1 : Nat → Nat → Int), yGs T L → (∀ z, ysg T z = true → z ∈ L) → φ1 g 18 = (L.length : Int) → (∀ i, i ≠ g → φ1 i = φ i) → (∀ j, j ≠ 18 → φ1 g j = φ g j) → 1 ≤ L.length → ∀ (k : Nat), k ≤ L.length → 1 ≤ k → ∀ (P : List Nat) (ψ1 : Nat → Nat → Int), P.length = k → P.Pairwise (fun x y => yslt x y = true) → (P ++ L.drop k).Perm L → (∀ i, i ≠ g + 88 → ψ1 i = ψ i) → (∀ i v : Nat, (P ++ L.drop k)[i]? = some v → ψ1 (g + 88) i = (v : Int)) → ∀ w2 w3 w4, zg e 432 (d + 3) 75 [zr (some (x + g)), zi (k : Int), w2, w3, w4] [] (cH h x φ1 ψ1 α) Q := by
    intro L φ1 G all m1 q1 q2 l1
    have le := G.le
    refine zdown (fun k => 1 ≤ k → ∀ (P : List Nat) (ψ1 : Nat → Nat → Int), P.length = k → P.Pairwise (fun x y => yslt x y = true) → (P ++ L.drop k).Perm L → (∀ i, i ≠ g + 88 → ψ1 i = ψ i) → (∀ i v : Nat, (P ++ L.drop k)[i]? = some v → ψ1 (g + 88) i = (v : Int)) → ∀ w2 w3 w4, zg e 432 (d + 3) 75 [zr (some (x + g)), zi (k : Int), w2, w3, w4] [] (cH h x φ1 ψ1 α) Q) L.length ?_ (fun k hk ih => ?_)
    · intro _ P ψ1 pl ps pp r1 r2 w2 w3 w4
      have dn : L.drop L.length = [] := List.drop_length
      rw [dn, List.append_nil] at pp r2
      have PE : P = ysl T := ysl_uniq (fun y => ⟨fun hy => G.sg y (pp.mem_iff.mp hy), fun hy => pp.mem_iff.mpr (all y hy)⟩) ps
      rw [r432_75]
      simp (disch := omega) only [r432_0, r432_1, r432_2, r432_5, r432_6, r432_7, r432_10, r432_11, r432_13, r432_14, r432_17, r432_20, r432_21, r432_23, r432_24, r432_27, r432_30, r432_31, r432_34, r432_35, r432_36, r432_37, r432_40, r432_43, r432_44, r432_45, r432_46, r432_49, r432_50, r432_51, r432_52, r432_53, r432_54, r432_55, r432_58, r432_61, r432_64, r432_67, r432_70, r432_73, r432_74, r432_76, r432_77, r432_80, r432_83, r432_84, r432_87, r432_88, r432_89, r432_90, r432_91, r432_95, r432_98, r432_99, r432_100, r432_101, r432_104, r432_106, r432_107, r432_108, r432_109, r432_112, r432_115, r432_116, r432_119, r432_121, r432_122, r432_125, r432_127, r432_128, r432_129, r432_130, r432_131, r432_134, r432_137, r432_138, r432_141, r432_143, r432_144, r432_145, r432_148, r432_151, znl_i, znl_r, znl_j, znl_l, List.length_cons, List.length_nil, Option.some.injEq, Sum.inl.injEq, Sum.inr.injEq, Prod.mk.injEq, true_and, and_true, exists_eq_left', zK_sI, zA_sI, zL_sI, zK_sL, zA_sL, zI_sL, zK_fI, zA_fI, zL_fI, zK_fL, zA_fL, zI_fL, Nat.reduceAdd, Nat.reduceLeDiff, forall_eq', zl_lt, zl_gt, zl_eq, zl_le, zl_ge, zm_0, zaft_n, zaft_v, zb_eq, Decidable.not_not, zK_rH, zI_rH, zL_rH, zA_rH, zsI_rH, zsL_rH, zsA_rH, zcpI_rH, zn_b, zm_b, Int.toNat_natCast, Int.toNat_zero, Int.reduceToNat, GK.K0, m1]
      refine ⟨fun _ => ?_, fun z => absurd z (by omega)⟩
      rw [← hQ]
      refine ⟨rfl, φ1, ψ1, rfl, ⟨?_, ?_⟩, q1, q2, r1⟩
      · rw [m1, ← PE, pp.length_eq]
      · rw [← PE]; exact r2
    · intro k1 P ψ1 pl ps pp r1 r2 w2 w3 w4
      have dc : L.drop k = L[k] :: L.drop (k + 1) := List.drop_eq_getElem_cons hk
      have nd : (P ++ L.drop k).Nodup := pp.nodup_iff.mpr G.nd
      rw [dc] at pp r2 nd
      have at1 : ∀ i, i < k → ∀ v, P[i]? = some v → ψ1 (g + 88) i = (v : Int) := fun i hi v hv => r2 i v (by rw [List.getElem?_append_left (by omega)]; exact hv)
      have ak : ψ1 (g + 88) k = (L[k] : Int) := r2 k _ (by rw [List.getElem?_append_right (by omega), pl, Nat.sub_self]; rfl)
      have ar : ∀ i v : Nat, k < i → (L.drop (k + 1))[i - (k + 1)]? = some v → ψ1 (g + 88) i = (v : Int) := fun i v hi hv => r2 i v (by
        rw [List.getElem?_append_right (by omega), pl, show i - k = (i - (k + 1)) + 1 by omega]; exact hv)
      have sb := lb _ (G.sg _ (List.getElem_mem hk))
      have pb : ∀ v ∈ P, v < 2 ^ 48 ∧ v ≠ L[k] := fun v hv => ⟨lb v (G.sg v (pp.mem_iff.mp (List.mem_append_left _ hv))), fun z => (List.nodup_append.mp nd).2.2 v hv _ List.mem_cons_self z⟩
      have inner : ∀ j, j ≤ k → ∀ ψ2 : Nat → Nat → Int, (∀ i, i ≠ g + 88 → ψ2 i = ψ i) → (∀ i v : Nat, i < j → P[i]? = some v → ψ2 (g + 88) i = (v : Int)) → (∀ i v : Nat, j ≤ i → P[i]? = some v → ψ2 (g + 88) (i + 1) = (v : Int)) → (∀ i v : Nat, k < i → (L.drop (k + 1))[i - (k + 1)]? = some v → ψ2 (g + 88) i = (v : Int)) → (∀ b ∈ P.drop j, yslt L[k] b = true) → zg e 432 (d + 3) 93 [zr (some (x + g)), zi (k : Int), zl (L[k] : Int), zj, zi (j : Int)] [] (cH h x φ1 ψ2 α) Q := by
        intro j
        induction j with
        | zero =>
          intro _ ψ2 s1 s2 s3 s4 s5
          have ord := yins (s := L[k]) (j := 0) ps (by omega) (by simpa using s5) (fun a z => absurd z (by omega))
          rw [r432_93]
          simp (disch := omega) only [r432_0, r432_1, r432_2, r432_5, r432_6, r432_7, r432_10, r432_11, r432_13, r432_14, r432_17, r432_20, r432_21, r432_23, r432_24, r432_27, r432_30, r432_31, r432_34, r432_35, r432_36, r432_37, r432_40, r432_43, r432_44, r432_45, r432_46, r432_49, r432_50, r432_51, r432_52, r432_53, r432_54, r432_55, r432_58, r432_61, r432_64, r432_67, r432_70, r432_73, r432_74, r432_76, r432_77, r432_80, r432_83, r432_84, r432_87, r432_88, r432_89, r432_90, r432_91, r432_95, r432_98, r432_99, r432_100, r432_101, r432_104, r432_106, r432_107, r432_108, r432_109, r432_112, r432_115, r432_116, r432_119, r432_121, r432_122, r432_125, r432_127, r432_128, r432_129, r432_130, r432_131, r432_134, r432_137, r432_138, r432_141, r432_143, r432_144, r432_145, r432_148, r432_151, znl_i, znl_r, znl_j, znl_l, List.length_cons, List.length_nil, Option.some.injEq, Sum.inl.injEq, Sum.inr.injEq, Prod.mk.injEq, true_and, and_true, exists_eq_left', zK_sI, zA_sI, zL_sI, zK_sL, zA_sL, zI_sL, zK_fI, zA_fI, zL_fI, zK_fL, zA_fL, zI_fL, Nat.reduceAdd, Nat.reduceLeDiff, forall_eq', zl_lt, zl_gt, zl_eq, zl_le, zl_ge, zm_0, zaft_n, zaft_v, zb_eq, Decidable.not_not, zK_rH, zI_rH, zL_rH, zA_rH, zsI_rH, zsL_rH, zsA_rH, zcpI_rH, zn_b, zm_b, Int.toNat_natCast, Int.toNat_zero, Int.reduceToNat, GK.K0, GK.K88, GA.A17]
          refine ⟨fun _ => ?_, fun z => absurd z (by omega)⟩
          repeat (refine And.intro (by omega) ?_)
          have g' := ih (by omega) (P.take 0 ++ L[k] :: P.drop 0) (zu ψ2 (g + 88) 0 (L[k] : Int)) (by simp; omega) ord ?_ (fun i hi => by rw [zu_cell _ _ _ hi]; exact s1 i hi) ?_ (zl (L[k] : Int)) zj (zi ((0 : Nat) : Int))
          · exact g'
          · refine List.Perm.trans ?_ pp
            simp only [List.take_zero, List.drop_zero, List.nil_append, List.cons_append]
            exact (List.perm_middle).symm
          · intro i v hv
            simp only [List.take_zero, List.drop_zero, List.nil_append, List.cons_append] at hv
            cases i with
            | zero =>
              have hv : L[k] = v := Option.some.inj hv
              rw [zu_same, hv]
            | succ i =>
              have hv : (P ++ L.drop (k + 1))[i]? = some v := hv
              rw [zu_slot _ _ _ (by omega)]
              by_cases w : i < P.length
              · rw [List.getElem?_append_left w] at hv
                exact s3 i v (by omega) hv
              · rw [List.getElem?_append_right (by omega)] at hv
                exact s4 (i + 1) v (by omega) (by rw [show i + 1 - (k + 1) = i - P.length by omega]; exact hv)
        | succ j ihj =>
          intro hjk ψ2 s1 s2 s3 s4 s5
          have hjp : j < P.length := by omega
          have pv := s2 j _ (by omega) (List.getElem?_eq_getElem hjp)
          have pj := pb _ (List.getElem_mem hjp)
          rw [r432_93]
          have e1 : ((j + 1 : Nat) : Int) - 1 = (j : Int) := by omega
          simp (disch := omega) only [r432_0, r432_1, r432_2, r432_5, r432_6, r432_7, r432_10, r432_11, r432_13, r432_14, r432_17, r432_20, r432_21, r432_23, r432_24, r432_27, r432_30, r432_31, r432_34, r432_35, r432_36, r432_37, r432_40, r432_43, r432_44, r432_45, r432_46, r432_49, r432_50, r432_51, r432_52, r432_53, r432_54, r432_55, r432_58, r432_61, r432_64, r432_67, r432_70, r432_73, r432_74, r432_76, r432_77, r432_80, r432_83, r432_84, r432_87, r432_88, r432_89, r432_90, r432_91, r432_95, r432_98, r432_99, r432_100, r432_101, r432_104, r432_106, r432_107, r432_108, r432_109, r432_112, r432_115, r432_116, r432_119, r432_121, r432_122, r432_125, r432_127, r432_128, r432_129, r432_130, r432_131, r432_134, r432_137, r432_138, r432_141, r432_143, r432_144, r432_145, r432_148, r432_151, znl_i, znl_r, znl_j, znl_l, List.length_cons, List.length_nil, Option.some.injEq, Sum.inl.injEq, Sum.inr.injEq, Prod.mk.injEq, true_and, and_true, exists_eq_left', zK_sI, zA_sI, zL_sI, zK_sL, zA_sL, zI_sL, zK_fI, zA_fI, zL_fI, zK_fL, zA_fL, zI_fL, Nat.reduceAdd, Nat.reduceLeDiff, forall_eq', zl_lt, zl_gt, zl_eq, zl_le, zl_ge, zm_0, zaft_n, zaft_v, zb_eq, Decidable.not_not, zK_rH, zI_rH, zL_rH, zA_rH, zsI_rH, zsL_rH, zsA_rH, zcpI_rH, zn_b, zm_b, Int.toNat_natCast, Int.toNat_zero, Int.reduceToNat, GK.K0, GK.K88, GA.A17, e1, pv]
          refine ⟨fun z => absurd z (by omega), fun _ => ?_⟩
          repeat (refine And.intro (by omega) ?_)
          refine zc_w (g_isAhead (d := d + 1) sb pj.1) ?_
          cases hq : yslt L[k] P[j] with
          | true =>
            have g' := ihj (by omega) (zu ψ2 (g + 88) (j + 1) (P[j] : Int)) (fun i hi => by rw [zu_cell _ _ _ hi]; exact s1 i hi) (fun i v hi hv => by rw [zu_slot _ _ _ (by omega)]; exact s2 i v (by omega) hv) (fun i v hi hv => by
              by_cases w : i = j
              · subst w
                rw [List.getElem?_eq_getElem hjp] at hv
                rw [zu_same, Option.some.inj hv]
              · rw [zu_slot _ _ _ (by omega)]; exact s3 i v (by omega) hv) (fun i v hi hv => by rw [zu_slot _ _ _ (by omega)]; exact s4 i v hi hv) (fun b hb => by
              rw [List.drop_eq_getElem_cons hjp] at hb
              rcases List.mem_cons.mp hb with w | w
              · rw [w]; exact hq
              · exact s5 b w)
            simp (disch := omega) only [r432_0, r432_1, r432_2, r432_5, r432_6, r432_7, r432_10, r432_11, r432_13, r432_14, r432_17, r432_20, r432_21, r432_23, r432_24, r432_27, r432_30, r432_31, r432_34, r432_35, r432_36, r432_37, r432_40, r432_43, r432_44, r432_45, r432_46, r432_49, r432_50, r432_51, r432_52, r432_53, r432_54, r432_55, r432_58, r432_61, r432_64, r432_67, r432_70, r432_73, r432_74, r432_76, r432_77, r432_80, r432_83, r432_84, r432_87, r432_88, r432_89, r432_90, r432_91, r432_95, r432_98, r432_99, r432_100, r432_101, r432_104, r432_106, r432_107, r432_108, r432_109, r432_112, r432_115, r432_116, r432_119, r432_121, r432_122, r432_125, r432_127, r432_128, r432_129, r432_130, r432_131, r432_134, r432_137, r432_138, r432_141, r432_143, r432_144, r432_145, r432_148, r432_151, znl_i, znl_r, znl_j, znl_l, List.length_cons, List.length_nil, Option.some.injEq, Sum.inl.injEq, Sum.inr.injEq, Prod.mk.injEq, true_and, and_true, exists_eq_left', zK_sI, zA_sI, zL_sI, zK_sL, zA_sL, zI_sL, zK_fI, zA_fI, zL_fI, zK_fL, zA_fL, zI_fL, Nat.reduceAdd, Nat.reduceLeDiff, forall_eq', zl_lt, zl_gt, zl_eq, zl_le, zl_ge, zm_0, zaft_n, zaft_v, zb_eq, Decidable.not_not, zK_rH, zI_rH, zL_rH, zA_rH, zsI_rH, zsL_rH, zsA_rH, zcpI_rH, zn_b, zm_b, Int.toNat_natCast, Int.toNat_zero, Int.reduceToNat, show yb true = 1 from rfl, GK.K0, GK.K88, GA.A17, e1, pv]
            refine ⟨fun z => absurd z (by decide), fun _ => ?_⟩
            repeat (refine And.intro (by omega) ?_)
            rw [show ((j + 1 : Nat) : Int) + -1 = (j : Int) by omega]
            exact g'
          | false =>
            have ord := yins (s := L[k]) (j := j + 1) ps (by omega) s5 (fun a _ ha => by
              rw [show j + 1 - 1 = j by omega, List.getElem?_eq_getElem hjp] at ha
              rw [← Option.some.inj ha]
              exact yslt_tri (fun z => pj.2 z.symm) hq)
            simp (disch := omega) only [r432_0, r432_1, r432_2, r432_5, r432_6, r432_7, r432_10, r432_11, r432_13, r432_14, r432_17, r432_20, r432_21, r432_23, r432_24, r432_27, r432_30, r432_31, r432_34, r432_35, r432_36, r432_37, r432_40, r432_43, r432_44, r432_45, r432_46, r432_49, r432_50, r432_51, r432_52, r432_53, r432_54, r432_55, r432_58, r432_61, r432_64, r432_67, r432_70, r432_73, r432_74, r432_76, r432_77, r432_80, r432_83, r432_84, r432_87, r432_88, r432_89, r432_90, r432_91, r432_95, r432_98, r432_99, r432_100, r432_101, r432_104, r432_106, r432_107, r432_108, r432_109, r432_112, r432_115, r432_116, r432_119, r432_121, r432_122, r432_125, r432_127, r432_128, r432_129, r432_130, r432_131, r432_134, r432_137, r432_138, r432_141, r432_143, r432_144, r432_145, r432_148, r432_151, znl_i, znl_r, znl_j, znl_l, List.length_cons, List.length_nil, Option.some.injEq, Sum.inl.injEq, Sum.inr.injEq, Prod.mk.injEq, true_and, and_true, exists_eq_left', zK_sI, zA_sI, zL_sI, zK_sL, zA_sL, zI_sL, zK_fI, zA_fI, zL_fI, zK_fL, zA_fL, zI_fL, Nat.reduceAdd, Nat.reduceLeDiff, forall_eq', zl_lt, zl_gt, zl_eq, zl_le, zl_ge, zm_0, zaft_n, zaft_v, zb_eq, Decidable.not_not, zK_rH, zI_rH, zL_rH, zA_rH, zsI_rH, zsL_rH, zsA_rH, zcpI_rH, zn_b, zm_b, Int.toNat_natCast, Int.toNat_zero, Int.reduceToNat, show yb false = 0 from rfl, GK.K0, GK.K88, GA.A17]
            refine ⟨fun _ => ?_, fun z => absurd trivial z⟩
            repeat (refine And.intro (by omega) ?_)
            have g' := ih (by omega) (P.take (j + 1) ++ L[k] :: P.drop (j + 1)) (zu ψ2 (g + 88) (j + 1) (L[k] : Int)) (by simp; omega) ord ?_ (fun i hi => by rw [zu_cell _ _ _ hi]; exact s1 i hi) ?_ (zl (L[k] : Int)) zj (zi ((j + 1 : Nat) : Int))
            · exact g'
            · refine List.Perm.trans ?_ pp
              rw [List.append_assoc, List.cons_append]
              refine List.Perm.trans List.perm_middle ?_
              rw [← List.append_assoc, List.take_append_drop]
              exact List.perm_middle.symm
            · intro i v hv
              have tl : (P.take (j + 1)).length = j + 1 := by rw [List.length_take]; omega
              rw [List.append_assoc, List.cons_append] at hv
              by_cases w : i < j + 1
              · rw [List.getElem?_append_left (by omega), List.getElem?_take_of_lt w] at hv
                rw [zu_slot _ _ _ (by omega)]; exact s2 i v w hv
              · rw [List.getElem?_append_right (by omega), tl] at hv
                by_cases w2 : i = j + 1
                · subst w2
                  rw [Nat.sub_self] at hv
                  have hv : L[k] = v := Option.some.inj hv
                  rw [zu_same, hv]
                · rw [zu_slot _ _ _ (by omega)]
                  rw [show i - (j + 1) = (i - (j + 2)) + 1 by omega] at hv
                  have hv : (P.drop (j + 1) ++ L.drop (k + 1))[i - (j + 2)]? = some v := hv
                  by_cases w3 : i - (j + 2) < (P.drop (j + 1)).length
                  · rw [List.getElem?_append_left w3, List.getElem?_drop] at hv
                    have := s3 (j + 1 + (i - (j + 2))) v (by omega) hv
                    rw [show j + 1 + (i - (j + 2)) + 1 = i by omega] at this
                    exact this
                  · rw [List.getElem?_append_right (by omega), List.length_drop] at hv
                    rw [List.length_drop] at w3
                    exact s4 i v (by omega) (by rw [show i - (k + 1) = i - (j + 2) - (P.length - (j + 1)) by omega]; exact hv)
      have g' := inner k (Nat.le_refl _) ψ1 r1 (fun i v hi hv => at1 i hi v hv) (fun i v hi hv => by
        have := (List.getElem?_eq_some_iff.mp hv).1
        omega) ar (fun b hb => by rw [← pl, List.drop_length] at hb; exact absurd hb List.not_mem_nil)
      rw [r432_75]
      simp (disch := omega) only [r432_0, r432_1, r432_2, r432_5, r432_6, r432_7, r432_10, r432_11, r432_13, r432_14, r432_17, r432_20, r432_21, r432_23, r432_24, r432_27, r432_30, r432_31, r432_34, r432_35, r432_36, r432_37, r432_40, r432_43, r432_44, r432_45, r432_46, r432_49, r432_50, r432_51, r432_52, r432_53, r432_54, r432_55, r432_58, r432_61, r432_64, r432_67, r432_70, r432_73, r432_74, r432_76, r432_77, r432_80, r432_83, r432_84, r432_87, r432_88, r432_89, r432_90, r432_91, r432_95, r432_98, r432_99, r432_100, r432_101, r432_104, r432_106, r432_107, r432_108, r432_109, r432_112, r432_115, r432_116, r432_119, r432_121, r432_122, r432_125, r432_127, r432_128, r432_129, r432_130, r432_131, r432_134, r432_137, r432_138, r432_141, r432_143, r432_144, r432_145, r432_148, r432_151, znl_i, znl_r, znl_j, znl_l, List.length_cons, List.length_nil, Option.some.injEq, Sum.inl.injEq, Sum.inr.injEq, Prod.mk.injEq, true_and, and_true, exists_eq_left', zK_sI, zA_sI, zL_sI, zK_sL, zA_sL, zI_sL, zK_fI, zA_fI, zL_fI, zK_fL, zA_fL, zI_fL, Nat.reduceAdd, Nat.reduceLeDiff, forall_eq', zl_lt, zl_gt, zl_eq, zl_le, zl_ge, zm_0, zaft_n, zaft_v, zb_eq, Decidable.not_not, zK_rH, zI_rH, zL_rH, zA_rH, zsI_rH, zsL_rH, zsA_rH, zcpI_rH, zn_b, zm_b, Int.toNat_natCast, Int.toNat_zero, Int.reduceToNat, GK.K0, GK.K88, GA.A17, m1, ak]
      refine ⟨fun z => absurd z (by omega), fun _ => ?_⟩
      repeat (refine And.intro (by omega) ?_)
      exact g'
  -- all sets
  have grow : ∀ (N k : Nat), k + N = 129 → ∀ (L : List Nat) (φ1 ψ1 : Nat → Nat → Int), yGs T L → gSt g φ1 ψ1 L → L[0]? = some 1 → (∀ i v : Nat, i < k → L[i]? = some v → ∀ a, a < Tm T → v.testBit a = false → yad T v a ∈ L) → (∀ i, i ≠ g → φ1 i = φ i) → (∀ j, j ≠ 18 → φ1 g j = φ g j) → (∀ i, i ≠ g + 88 → ψ1 i = ψ i) → ∀ w2 w3 w4, zg e 432 (d + 3) 12 [zr (some (x + g)), zi (k : Int), w2, w3, w4] [] (cH h x φ1 ψ1 α) Q := by
    have fin : ∀ (k : Nat) (L : List Nat) (φ1 ψ1 : Nat → Nat → Int), L.length ≤ k → k ≤ 129 → yGs T L → gSt g φ1 ψ1 L → L[0]? = some 1 → (∀ i v : Nat, i < k → L[i]? = some v → ∀ a, a < Tm T → v.testBit a = false → yad T v a ∈ L) → (∀ i, i ≠ g → φ1 i = φ i) → (∀ j, j ≠ 18 → φ1 g j = φ g j) → (∀ i, i ≠ g + 88 → ψ1 i = ψ i) → ∀ w2 w3 w4, zg e 432 (d + 3) 12 [zr (some (x + g)), zi (k : Int), w2, w3, w4] [] (cH h x φ1 ψ1 α) Q := by
      intro k L φ1 ψ1 hlk hk9 G S l0 q1 q2 q3 q4 w2 w3 w4
      have l1 : 1 ≤ L.length := (List.getElem?_eq_some_iff.mp l0).1
      have le := G.le
      have all : ∀ z, ysg T z = true → z ∈ L := fun z hz => G.all V (List.mem_of_getElem? l0) (fun v hv a ha hb => by
        obtain ⟨i, hi, e1⟩ := List.mem_iff_getElem.mp hv
        exact q1 i v (by omega) (by rw [List.getElem?_eq_getElem hi, e1]) a ha hb) hz
      have tk : L.take 1 ++ L.drop 1 = L := List.take_append_drop 1 L
      rw [r432_12]
      simp (disch := omega) only [r432_0, r432_1, r432_2, r432_5, r432_6, r432_7, r432_10, r432_11, r432_13, r432_14, r432_17, r432_20, r432_21, r432_23, r432_24, r432_27, r432_30, r432_31, r432_34, r432_35, r432_36, r432_37, r432_40, r432_43, r432_44, r432_45, r432_46, r432_49, r432_50, r432_51, r432_52, r432_53, r432_54, r432_55, r432_58, r432_61, r432_64, r432_67, r432_70, r432_73, r432_74, r432_76, r432_77, r432_80, r432_83, r432_84, r432_87, r432_88, r432_89, r432_90, r432_91, r432_95, r432_98, r432_99, r432_100, r432_101, r432_104, r432_106, r432_107, r432_108, r432_109, r432_112, r432_115, r432_116, r432_119, r432_121, r432_122, r432_125, r432_127, r432_128, r432_129, r432_130, r432_131, r432_134, r432_137, r432_138, r432_141, r432_143, r432_144, r432_145, r432_148, r432_151, znl_i, znl_r, znl_j, znl_l, List.length_cons, List.length_nil, Option.some.injEq, Sum.inl.injEq, Sum.inr.injEq, Prod.mk.injEq, true_and, and_true, exists_eq_left', zK_sI, zA_sI, zL_sI, zK_sL, zA_sL, zI_sL, zK_fI, zA_fI, zL_fI, zK_fL, zA_fL, zI_fL, Nat.reduceAdd, Nat.reduceLeDiff, forall_eq', zl_lt, zl_gt, zl_eq, zl_le, zl_ge, zm_0, zaft_n, zaft_v, zb_eq, Decidable.not_not, zK_rH, zI_rH, zL_rH, zA_rH, zsI_rH, zsL_rH, zsA_rH, zcpI_rH, zn_b, zm_b, Int.toNat_natCast, Int.toNat_zero, Int.reduceToNat, GK.K0, S.m]
      refine ⟨fun _ => ?_, fun z => absurd z (by omega)⟩
      refine sort L φ1 G all S.m q2 q3 l1 1 l1 (Nat.le_refl _) (L.take 1) ψ1 (by rw [List.length_take]; omega) ?_ (by rw [tk]) q4 (by rw [tk]; exact S.v) _ _ _
      have : (L.take 1).length = 1 := by rw [List.length_take]; omega
      obtain ⟨y, hy⟩ := List.length_eq_one_iff.mp this
      rw [hy]; exact List.pairwise_singleton _ _
    intro N
    induction N with
    | zero =>
      intro k hk L φ1 ψ1 G S l0 q1 q2 q3 q4 w2 w3 w4
      have le := G.le
      exact fin k L φ1 ψ1 (by omega) (by omega) G S l0 q1 q2 q3 q4 _ _ _
    | succ N ih =>
      intro k hk L φ1 ψ1 G S l0 q1 q2 q3 q4 w2 w3 w4
      have le := G.le
      by_cases c : L.length ≤ k
      · exact fin k L φ1 ψ1 c (by omega) G S l0 q1 q2 q3 q4 _ _ _
      · have hkl : k < L.length := by omega
        have inner := zdown0 (fun a => ∀ (L' : List Nat) (φ2 ψ2 : Nat → Nat → Int), yGs T L' → gSt g φ2 ψ2 L' → L'[0]? = some 1 → L'[k]? = some L[k] → (∀ i v : Nat, i < k → L'[i]? = some v → ∀ a, a < Tm T → v.testBit a = false → yad T v a ∈ L') → (∀ a', a' < a → L[k].testBit a' = false → yad T L[k] a' ∈ L') → (∀ i, i ≠ g → φ2 i = φ i) → (∀ j, j ≠ 18 → φ2 g j = φ g j) → (∀ i, i ≠ g + 88 → ψ2 i = ψ i) → ∀ w3 w4, zg e 432 (d + 3) 22 [zr (some (x + g)), zi (k : Int), zi (a : Int), w3, w4] [] (cH h x φ2 ψ2 α) Q) (Tm T) (fun L' φ2 ψ2 G' S' l0' lk s1 s2 s3 s4 s5 w3 w4 => ?_) (fun a ha iha L' φ2 ψ2 G' S' l0' lk s1 s2 s3 s4 s5 w3 w4 => ?_)
        · rw [r432_12]
          simp (disch := omega) only [r432_0, r432_1, r432_2, r432_5, r432_6, r432_7, r432_10, r432_11, r432_13, r432_14, r432_17, r432_20, r432_21, r432_23, r432_24, r432_27, r432_30, r432_31, r432_34, r432_35, r432_36, r432_37, r432_40, r432_43, r432_44, r432_45, r432_46, r432_49, r432_50, r432_51, r432_52, r432_53, r432_54, r432_55, r432_58, r432_61, r432_64, r432_67, r432_70, r432_73, r432_74, r432_76, r432_77, r432_80, r432_83, r432_84, r432_87, r432_88, r432_89, r432_90, r432_91, r432_95, r432_98, r432_99, r432_100, r432_101, r432_104, r432_106, r432_107, r432_108, r432_109, r432_112, r432_115, r432_116, r432_119, r432_121, r432_122, r432_125, r432_127, r432_128, r432_129, r432_130, r432_131, r432_134, r432_137, r432_138, r432_141, r432_143, r432_144, r432_145, r432_148, r432_151, znl_i, znl_r, znl_j, znl_l, List.length_cons, List.length_nil, Option.some.injEq, Sum.inl.injEq, Sum.inr.injEq, Prod.mk.injEq, true_and, and_true, exists_eq_left', zK_sI, zA_sI, zL_sI, zK_sL, zA_sL, zI_sL, zK_fI, zA_fI, zL_fI, zK_fL, zA_fL, zI_fL, Nat.reduceAdd, Nat.reduceLeDiff, forall_eq', zl_lt, zl_gt, zl_eq, zl_le, zl_ge, zm_0, zaft_n, zaft_v, zb_eq, Decidable.not_not, zK_rH, zI_rH, zL_rH, zA_rH, zsI_rH, zsL_rH, zsA_rH, zcpI_rH, zn_b, zm_b, Int.toNat_natCast, Int.toNat_zero, Int.reduceToNat, GK.K0, S.m]
          refine ⟨fun z => absurd z (by omega), fun _ => ?_⟩
          exact inner L φ1 ψ1 G S l0 (List.getElem?_eq_getElem hkl) q1 (fun a' h => absurd h (by omega)) q2 q3 q4 _ _
        · have g2 : φ2 g 2 = (Tm T : Int) := by rw [s4 2 (by omega)]; exact D.G.m
          rw [r432_22]
          simp (disch := omega) only [r432_0, r432_1, r432_2, r432_5, r432_6, r432_7, r432_10, r432_11, r432_13, r432_14, r432_17, r432_20, r432_21, r432_23, r432_24, r432_27, r432_30, r432_31, r432_34, r432_35, r432_36, r432_37, r432_40, r432_43, r432_44, r432_45, r432_46, r432_49, r432_50, r432_51, r432_52, r432_53, r432_54, r432_55, r432_58, r432_61, r432_64, r432_67, r432_70, r432_73, r432_74, r432_76, r432_77, r432_80, r432_83, r432_84, r432_87, r432_88, r432_89, r432_90, r432_91, r432_95, r432_98, r432_99, r432_100, r432_101, r432_104, r432_106, r432_107, r432_108, r432_109, r432_112, r432_115, r432_116, r432_119, r432_121, r432_122, r432_125, r432_127, r432_128, r432_129, r432_130, r432_131, r432_134, r432_137, r432_138, r432_141, r432_143, r432_144, r432_145, r432_148, r432_151, znl_i, znl_r, znl_j, znl_l, List.length_cons, List.length_nil, Option.some.injEq, Sum.inl.injEq, Sum.inr.injEq, Prod.mk.injEq, true_and, and_true, exists_eq_left', zK_sI, zA_sI, zL_sI, zK_sL, zA_sL, zI_sL, zK_fI, zA_fI, zL_fI, zK_fL, zA_fL, zI_fL, Nat.reduceAdd, Nat.reduceLeDiff, forall_eq', zl_lt, zl_gt, zl_eq, zl_le, zl_ge, zm_0, zaft_n, zaft_v, zb_eq, Decidable.not_not, zK_rH, zI_rH, zL_rH, zA_rH, zsI_rH, zsL_rH, zsA_rH, zcpI_rH, zn_b, zm_b, Int.toNat_natCast, Int.toNat_zero, Int.reduceToNat, GK.K0, g2]
          refine ⟨fun _ => ?_, fun z => absurd z (by omega)⟩
          refine ih (k + 1) (by omega) L' φ2 ψ2 G' S' l0' (fun i v hi hv a ha hb => ?_) s3 s4 s5 _ _ _
          by_cases w : i = k
          · subst w
            rw [lk] at hv
            have hv := Option.some.inj hv
            rw [← hv] at hb ⊢
            exact s2 a ha hb
          · exact s1 i v (by omega) hv a ha hb
        · have g2 : φ2 g 2 = (Tm T : Int) := by rw [s4 2 (by omega)]; exact D.G.m
          have le' := G'.le
          have kl' : k < L'.length := (List.getElem?_eq_some_iff.mp lk).1
          have vk := S'.v k _ lk
          have sgk : ysg T L[k] = true := G.sg _ (List.getElem_mem hkl)
          have k48 := lb _ sgk
          have km := (ysg_iff.mp sgk).2.2
          rw [r432_22]
          simp (disch := omega) only [r432_0, r432_1, r432_2, r432_5, r432_6, r432_7, r432_10, r432_11, r432_13, r432_14, r432_17, r432_20, r432_21, r432_23, r432_24, r432_27, r432_30, r432_31, r432_34, r432_35, r432_36, r432_37, r432_40, r432_43, r432_44, r432_45, r432_46, r432_49, r432_50, r432_51, r432_52, r432_53, r432_54, r432_55, r432_58, r432_61, r432_64, r432_67, r432_70, r432_73, r432_74, r432_76, r432_77, r432_80, r432_83, r432_84, r432_87, r432_88, r432_89, r432_90, r432_91, r432_95, r432_98, r432_99, r432_100, r432_101, r432_104, r432_106, r432_107, r432_108, r432_109, r432_112, r432_115, r432_116, r432_119, r432_121, r432_122, r432_125, r432_127, r432_128, r432_129, r432_130, r432_131, r432_134, r432_137, r432_138, r432_141, r432_143, r432_144, r432_145, r432_148, r432_151, znl_i, znl_r, znl_j, znl_l, List.length_cons, List.length_nil, Option.some.injEq, Sum.inl.injEq, Sum.inr.injEq, Prod.mk.injEq, true_and, and_true, exists_eq_left', zK_sI, zA_sI, zL_sI, zK_sL, zA_sL, zI_sL, zK_fI, zA_fI, zL_fI, zK_fL, zA_fL, zI_fL, Nat.reduceAdd, Nat.reduceLeDiff, forall_eq', zl_lt, zl_gt, zl_eq, zl_le, zl_ge, zm_0, zaft_n, zaft_v, zb_eq, Decidable.not_not, zK_rH, zI_rH, zL_rH, zA_rH, zsI_rH, zsL_rH, zsA_rH, zcpI_rH, zn_b, zm_b, Int.toNat_natCast, Int.toNat_zero, Int.reduceToNat, GK.K0, GK.K88, GA.A17, g2, vk]
          refine ⟨fun z => absurd z (by omega), fun _ => ?_⟩
          repeat (refine And.intro (by omega) ?_)
          refine zc_w (g_isIn (d := d + 2) L[k] a (by omega) (by omega)) ?_
          cases hb : L[k].testBit a with
          | true =>
            simp (disch := omega) only [r432_0, r432_1, r432_2, r432_5, r432_6, r432_7, r432_10, r432_11, r432_13, r432_14, r432_17, r432_20, r432_21, r432_23, r432_24, r432_27, r432_30, r432_31, r432_34, r432_35, r432_36, r432_37, r432_40, r432_43, r432_44, r432_45, r432_46, r432_49, r432_50, r432_51, r432_52, r432_53, r432_54, r432_55, r432_58, r432_61, r432_64, r432_67, r432_70, r432_73, r432_74, r432_76, r432_77, r432_80, r432_83, r432_84, r432_87, r432_88, r432_89, r432_90, r432_91, r432_95, r432_98, r432_99, r432_100, r432_101, r432_104, r432_106, r432_107, r432_108, r432_109, r432_112, r432_115, r432_116, r432_119, r432_121, r432_122, r432_125, r432_127, r432_128, r432_129, r432_130, r432_131, r432_134, r432_137, r432_138, r432_141, r432_143, r432_144, r432_145, r432_148, r432_151, znl_i, znl_r, znl_j, znl_l, List.length_cons, List.length_nil, Option.some.injEq, Sum.inl.injEq, Sum.inr.injEq, Prod.mk.injEq, true_and, and_true, exists_eq_left', zK_sI, zA_sI, zL_sI, zK_sL, zA_sL, zI_sL, zK_fI, zA_fI, zL_fI, zK_fL, zA_fL, zI_fL, Nat.reduceAdd, Nat.reduceLeDiff, forall_eq', zl_lt, zl_gt, zl_eq, zl_le, zl_ge, zm_0, zaft_n, zaft_v, zb_eq, Decidable.not_not, zK_rH, zI_rH, zL_rH, zA_rH, zsI_rH, zsL_rH, zsA_rH, zcpI_rH, zn_b, zm_b, Int.toNat_natCast, Int.toNat_zero, Int.reduceToNat, show yb true = 1 from rfl]
            refine ⟨fun _ => iha L' φ2 ψ2 G' S' l0' lk s1 (fun a' h1 h2 => ?_) s3 s4 s5 _ _, fun z => absurd z (by decide)⟩
            by_cases w : a' = a
            · rw [w, hb] at h2; cases h2
            · exact s2 a' (by omega) h2
          | false =>
            have lo := zlo_n L[k] a k48 (by omega)
            have D2 := D.of s3 s4
            have Bm : L[k] ||| 2 ^ a < 2 ^ Tm T := Nat.or_lt_two_pow km (Nat.pow_lt_pow_right (by omega) ha)
            simp (disch := omega) only [r432_0, r432_1, r432_2, r432_5, r432_6, r432_7, r432_10, r432_11, r432_13, r432_14, r432_17, r432_20, r432_21, r432_23, r432_24, r432_27, r432_30, r432_31, r432_34, r432_35, r432_36, r432_37, r432_40, r432_43, r432_44, r432_45, r432_46, r432_49, r432_50, r432_51, r432_52, r432_53, r432_54, r432_55, r432_58, r432_61, r432_64, r432_67, r432_70, r432_73, r432_74, r432_76, r432_77, r432_80, r432_83, r432_84, r432_87, r432_88, r432_89, r432_90, r432_91, r432_95, r432_98, r432_99, r432_100, r432_101, r432_104, r432_106, r432_107, r432_108, r432_109, r432_112, r432_115, r432_116, r432_119, r432_121, r432_122, r432_125, r432_127, r432_128, r432_129, r432_130, r432_131, r432_134, r432_137, r432_138, r432_141, r432_143, r432_144, r432_145, r432_148, r432_151, znl_i, znl_r, znl_j, znl_l, List.length_cons, List.length_nil, Option.some.injEq, Sum.inl.injEq, Sum.inr.injEq, Prod.mk.injEq, true_and, and_true, exists_eq_left', zK_sI, zA_sI, zL_sI, zK_sL, zA_sL, zI_sL, zK_fI, zA_fI, zL_fI, zK_fL, zA_fL, zI_fL, Nat.reduceAdd, Nat.reduceLeDiff, forall_eq', zl_lt, zl_gt, zl_eq, zl_le, zl_ge, zm_0, zaft_n, zaft_v, zb_eq, Decidable.not_not, zK_rH, zI_rH, zL_rH, zA_rH, zsI_rH, zsL_rH, zsA_rH, zcpI_rH, zn_b, zm_b, Int.toNat_natCast, Int.toNat_zero, Int.reduceToNat, show yb false = 0 from rfl, GK.K0, GK.K88, GA.A17, vk, lo]
            refine ⟨fun z => absurd trivial z, fun _ => ?_⟩
            repeat (refine And.intro (by omega) ?_)
            refine zc_w (g_closes (d := d) D2 Bm) ?_
            have ya := yad_sp V km ha
            have yb1 := zm_b (x := ((yad T L[k] a : Nat) : Int)) (by omega) (by have := lb _ ya.1; omega)
            simp (disch := omega) only [r432_0, r432_1, r432_2, r432_5, r432_6, r432_7, r432_10, r432_11, r432_13, r432_14, r432_17, r432_20, r432_21, r432_23, r432_24, r432_27, r432_30, r432_31, r432_34, r432_35, r432_36, r432_37, r432_40, r432_43, r432_44, r432_45, r432_46, r432_49, r432_50, r432_51, r432_52, r432_53, r432_54, r432_55, r432_58, r432_61, r432_64, r432_67, r432_70, r432_73, r432_74, r432_76, r432_77, r432_80, r432_83, r432_84, r432_87, r432_88, r432_89, r432_90, r432_91, r432_95, r432_98, r432_99, r432_100, r432_101, r432_104, r432_106, r432_107, r432_108, r432_109, r432_112, r432_115, r432_116, r432_119, r432_121, r432_122, r432_125, r432_127, r432_128, r432_129, r432_130, r432_131, r432_134, r432_137, r432_138, r432_141, r432_143, r432_144, r432_145, r432_148, r432_151, znl_i, znl_r, znl_j, znl_l, List.length_cons, List.length_nil, Option.some.injEq, Sum.inl.injEq, Sum.inr.injEq, Prod.mk.injEq, true_and, and_true, exists_eq_left', zK_sI, zA_sI, zL_sI, zK_sL, zA_sL, zI_sL, zK_fI, zA_fI, zL_fI, zK_fL, zA_fL, zI_fL, Nat.reduceAdd, Nat.reduceLeDiff, forall_eq', zl_lt, zl_gt, zl_eq, zl_le, zl_ge, zm_0, zaft_n, zaft_v, zb_eq, Decidable.not_not, zK_rH, zI_rH, zL_rH, zA_rH, zsI_rH, zsL_rH, zsA_rH, zcpI_rH, zn_b, zm_b, Int.toNat_natCast, Int.toNat_zero, Int.reduceToNat, GK.K0]
            refine zc_mono (g_addsSet (d := d + 1) (s := yad T L[k] a) GK GA V hl G' S' ya.1) ?_
            rintro _ _ ⟨rfl, φ3, ψ3, rfl, S3, G3, t1, t2, t3⟩
            simp (disch := omega) only [r432_0, r432_1, r432_2, r432_5, r432_6, r432_7, r432_10, r432_11, r432_13, r432_14, r432_17, r432_20, r432_21, r432_23, r432_24, r432_27, r432_30, r432_31, r432_34, r432_35, r432_36, r432_37, r432_40, r432_43, r432_44, r432_45, r432_46, r432_49, r432_50, r432_51, r432_52, r432_53, r432_54, r432_55, r432_58, r432_61, r432_64, r432_67, r432_70, r432_73, r432_74, r432_76, r432_77, r432_80, r432_83, r432_84, r432_87, r432_88, r432_89, r432_90, r432_91, r432_95, r432_98, r432_99, r432_100, r432_101, r432_104, r432_106, r432_107, r432_108, r432_109, r432_112, r432_115, r432_116, r432_119, r432_121, r432_122, r432_125, r432_127, r432_128, r432_129, r432_130, r432_131, r432_134, r432_137, r432_138, r432_141, r432_143, r432_144, r432_145, r432_148, r432_151, znl_i, znl_r, znl_j, znl_l, List.length_cons, List.length_nil, Option.some.injEq, Sum.inl.injEq, Sum.inr.injEq, Prod.mk.injEq, true_and, and_true, exists_eq_left', zK_sI, zA_sI, zL_sI, zK_sL, zA_sL, zI_sL, zK_fI, zA_fI, zL_fI, zK_fL, zA_fL, zI_fL, Nat.reduceAdd, Nat.reduceLeDiff, forall_eq', zl_lt, zl_gt, zl_eq, zl_le, zl_ge, zm_0, zaft_n, zaft_v, zb_eq, Decidable.not_not, zK_rH, zI_rH, zL_rH, zA_rH, zsI_rH, zsL_rH, zsA_rH, zcpI_rH, zn_b, zm_b, Int.toNat_natCast, Int.toNat_zero, Int.reduceToNat, GK.K0]
            refine iha _ φ3 ψ3 G3 S3 (yas_pre l0') (yas_pre lk) (fun i v hi hv a' ha' hb' => ?_) (fun a' h1 h2 => ?_) (fun i hi => by rw [t1 i hi]; exact s3 i hi) (fun j hj => by rw [t2 j hj]; exact s4 j hj) (fun i hi => by rw [t3 i hi]; exact s5 i hi) _ _
            · have hv' : L'[i]? = some v := by
                have hi' : i < L'.length := by omega
                have := yas_pre (s := yad T L[k] a) (List.getElem?_eq_getElem hi')
                rw [this] at hv
                rw [List.getElem?_eq_getElem hi', Option.some.inj hv]
              exact yas_mem.mpr (Or.inl (s1 i v hi hv' a' ha' hb'))
            · by_cases w : a' = a
              · rw [w]; exact yas_mem.mpr (Or.inr rfl)
              · exact yas_mem.mpr (Or.inl (s2 a' (by omega) h2))
  simp (disch := omega) only [n432, r432_0, r432_1, r432_2, r432_5, r432_6, r432_7, r432_10, r432_11, r432_13, r432_14, r432_17, r432_20, r432_21, r432_23, r432_24, r432_27, r432_30, r432_31, r432_34, r432_35, r432_36, r432_37, r432_40, r432_43, r432_44, r432_45, r432_46, r432_49, r432_50, r432_51, r432_52, r432_53, r432_54, r432_55, r432_58, r432_61, r432_64, r432_67, r432_70, r432_73, r432_74, r432_76, r432_77, r432_80, r432_83, r432_84, r432_87, r432_88, r432_89, r432_90, r432_91, r432_95, r432_98, r432_99, r432_100, r432_101, r432_104, r432_106, r432_107, r432_108, r432_109, r432_112, r432_115, r432_116, r432_119, r432_121, r432_122, r432_125, r432_127, r432_128, r432_129, r432_130, r432_131, r432_134, r432_137, r432_138, r432_141, r432_143, r432_144, r432_145, r432_148, r432_151, znl_i, znl_r, znl_j, znl_l, List.length_cons, List.length_nil, Option.some.injEq, Sum.inl.injEq, Sum.inr.injEq, Prod.mk.injEq, true_and, and_true, exists_eq_left', zK_sI, zA_sI, zL_sI, zK_sL, zA_sL, zI_sL, zK_fI, zA_fI, zL_fI, zK_fL, zA_fL, zI_fL, Nat.reduceAdd, Nat.reduceLeDiff, forall_eq', zl_lt, zl_gt, zl_eq, zl_le, zl_ge, zm_0, zaft_n, zaft_v, zb_eq, Decidable.not_not, zK_rH, zI_rH, zL_rH, zA_rH, zsI_rH, zsL_rH, zsA_rH, zcpI_rH, zn_b, zm_b, Int.toNat_natCast, Int.toNat_zero, Int.reduceToNat, GK.K0]
  refine ⟨by omega, ?_⟩
  have S0 : gSt g (zu φ g 18 0) ψ [] := ⟨zu_same _ _ _ _, fun i v hv => by simp at hv⟩
  have G0 : yGs T [] := ⟨fun x hx => absurd hx List.not_mem_nil, List.nodup_nil⟩
  refine zc_mono (g_addsSet (d := d + 1) (s := 1) GK GA V hl G0 S0 (ysg_one V)) ?_
  rintro _ _ ⟨rfl, φ3, ψ3, rfl, S3, G3, t1, t2, t3⟩
  simp (disch := omega) only [r432_0, r432_1, r432_2, r432_5, r432_6, r432_7, r432_10, r432_11, r432_13, r432_14, r432_17, r432_20, r432_21, r432_23, r432_24, r432_27, r432_30, r432_31, r432_34, r432_35, r432_36, r432_37, r432_40, r432_43, r432_44, r432_45, r432_46, r432_49, r432_50, r432_51, r432_52, r432_53, r432_54, r432_55, r432_58, r432_61, r432_64, r432_67, r432_70, r432_73, r432_74, r432_76, r432_77, r432_80, r432_83, r432_84, r432_87, r432_88, r432_89, r432_90, r432_91, r432_95, r432_98, r432_99, r432_100, r432_101, r432_104, r432_106, r432_107, r432_108, r432_109, r432_112, r432_115, r432_116, r432_119, r432_121, r432_122, r432_125, r432_127, r432_128, r432_129, r432_130, r432_131, r432_134, r432_137, r432_138, r432_141, r432_143, r432_144, r432_145, r432_148, r432_151, znl_i, znl_r, znl_j, znl_l, List.length_cons, List.length_nil, Option.some.injEq, Sum.inl.injEq, Sum.inr.injEq, Prod.mk.injEq, true_and, and_true, exists_eq_left', zK_sI, zA_sI, zL_sI, zK_sL, zA_sL, zI_sL, zK_fI, zA_fI, zL_fI, zK_fL, zA_fL, zI_fL, Nat.reduceAdd, Nat.reduceLeDiff, forall_eq', zl_lt, zl_gt, zl_eq, zl_le, zl_ge, zm_0, zaft_n, zaft_v, zb_eq, Decidable.not_not, zK_rH, zI_rH, zL_rH, zA_rH, zsI_rH, zsL_rH, zsA_rH, zcpI_rH, zn_b, zm_b, Int.toNat_natCast, Int.toNat_zero, Int.reduceToNat, GK.K0]
  have ya : yas [] 1 = [1] := rfl
  rw [ya] at S3 G3
  exact grow 129 0 (by omega) [1] φ3 ψ3 G3 S3 rfl (fun i v hi => absurd hi (by omega)) (fun i hi => by rw [t1 i hi, zu_cell _ _ _ hi]) (fun j hj => by rw [t2 j hj, zu_slot _ _ _ hj]) t3 _ _ _
end
