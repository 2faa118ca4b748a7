section
variable {e : zEv} {d x f o r n g b : Nat} {h h1 h2 : zH} {φ φ' φ'' ψ ψ' ψ'' : Nat → Nat → Int} {α α' α'' : Nat → Nat → Option Nat} {F : yF} {π ρ : Nat → Nat} {sg sh : Int} {T : yT} {cl : Nat → Nat} {p : List Nat} {L : List (List Nat × Int)}
theorem gW.P (W : gW F x f g cl φ ψ α p L) (hL : L.length ≤ 48) (hd : f + 26 ≤ g ∨ g + 185 ≤ f) (P : fP F x f h φ α h1 φ' α') : gW F x f g cl φ' ψ α' p L := by
  have pl := W.pl
  have hm := W.S.w.1
  refine ⟨pl, P.S W.S, P.v, P.A W.A, W.GA.of fun i j h1 h2 _ => by rw [P.a i (by omega)], by rw [P.a g (by omega)]; exact W.fr, ⟨by rw [P.a _ (by omega)]; exact W.B.fr, by rw [P.i _ (by omega)]; exact W.B.t, by rw [P.i _ (by omega)]; exact W.B.q, W.B.a, W.B.w⟩, fun k hk => by rw [P.i _ (by omega)]; exact W.cl k hk, by rw [P.i _ (by omega)]; exact W.tm, by rw [P.i _ (by omega)]; exact W.th, fun i hi => by rw [P.i _ (by omega)]; exact W.at' i hi, fun i hi => by rw [P.i _ (by omega)]; exact W.tk i hi, fun k hk => by rw [P.i _ (by omega)]; exact W.us k hk, ⟨by rw [P.i _ (by omega)]; exact W.L.m, fun i q hq => ?_⟩⟩
  have hi : i < L.length := (List.getElem?_eq_some_iff.mp hq).1
  rw [P.i _ (by omega), P.i _ (by omega)]; exact W.L.q i q hq
theorem gR.ofP (P : fP F x f h φ α h1 φ' α') : gR x f g h φ ψ α h1 φ' ψ α' := ⟨P.c, fun i h1 _ => P.i i h1, fun _ _ _ => rfl, fun i h1 _ => P.a i h1⟩
theorem gW.push (W : gW F x f g cl φ ψ α p L) (hd : f + 26 ≤ g ∨ g + 185 ≤ f) {k : Nat} (hs : p.length < F.1) (hk : k < F.1) : gW F x f g cl (zu (zu φ (g + 2 + p.length) 2 (k : Int)) (g + 28) k 1) ψ α (p ++ [k]) L := by
  have hm := W.S.w.1
  have c1 : ∀ i, i ≠ g + 2 + p.length → i ≠ g + 28 → zu (zu φ (g + 2 + p.length) 2 (k : Int)) (g + 28) k 1 i = φ i := fun i h1 h2 => by rw [zu_cell _ _ _ h2, zu_cell _ _ _ h1]
  refine ⟨by simp; omega, W.S.of fun i h1 h2 => c1 i (by omega) (by omega), fun k' hk' => ?_, W.A, W.GA, W.fr, ⟨W.B.fr, by rw [c1 _ (by omega) (by omega)]; exact W.B.t, by rw [c1 _ (by omega) (by omega)]; exact W.B.q, W.B.a, W.B.w⟩, fun k hk => by rw [c1 _ (by omega) (by omega)]; exact W.cl k hk, by rw [c1 _ (by omega) (by omega)]; exact W.tm, by rw [c1 _ (by omega) (by omega)]; exact W.th, fun i hi => ?_, fun i hi => ?_, fun j hj => ?_, ⟨by rw [c1 _ (by omega) (by omega)]; exact W.L.m, fun i q hq => by rw [c1 _ (by omega) (by omega), c1 _ (by omega) (by omega)]; exact W.L.q i q hq⟩⟩
  · rcases W.V k' hk' with v | ⟨v1, v2, v3⟩
    · exact Or.inl v
    · exact Or.inr ⟨v1, v2, fun j hj => by rw [c1 _ (by omega) (by omega)]; exact v3 j hj⟩
  · rw [zu_cell _ _ _ (by omega)]
    by_cases c : i = p.length
    · subst c; rw [zu_slot _ _ _ (by omega)]; exact W.at' _ hi
    · rw [zu_cell _ _ _ (by omega)]; exact W.at' i hi
  · have hi : i < p.length + 1 := by simpa using hi
    rw [zu_cell _ _ _ (by omega), ylv_app1]
    by_cases c : i = p.length
    · subst c; rw [zu_same, if_neg (by omega), if_pos rfl]
    · rw [zu_cell _ _ _ (by omega), if_pos (by omega)]; exact W.tk i (by omega)
  · by_cases c : j = k
    · subst c; rw [zu_same]
      have : (p ++ [j]).contains j = true := by simp
      rw [this]; rfl
    · rw [zu_slot _ _ _ c, zu_cell _ _ _ (by omega), W.us j hj]
      have : (p ++ [k]).contains j = p.contains j := by simp [c]
      rw [this]
theorem gW.pop {k : Nat} (W : gW F x f g cl φ ψ α (p ++ [k]) L) (hd : f + 26 ≤ g ∨ g + 185 ≤ f) (nk : p.contains k = false) : gW F x f g cl (zu φ (g + 28) k 0) ψ α p L := by
  have hm := W.S.w.1
  have pl := W.pl
  have len : (p ++ [k]).length = p.length + 1 := by simp
  have c1 : ∀ i, i ≠ g + 28 → zu φ (g + 28) k 0 i = φ i := fun i h2 => zu_cell _ _ _ h2
  refine ⟨by omega, W.S.of fun i h1 h2 => c1 i (by omega), fun k' hk' => ?_, W.A, W.GA, W.fr, ⟨W.B.fr, by rw [c1 _ (by omega)]; exact W.B.t, by rw [c1 _ (by omega)]; exact W.B.q, W.B.a, W.B.w⟩, fun k hk => by rw [c1 _ (by omega)]; exact W.cl k hk, by rw [c1 _ (by omega)]; exact W.tm, by rw [c1 _ (by omega)]; exact W.th, fun i hi => by rw [c1 _ (by omega)]; exact W.at' i hi, fun i hi => ?_, fun j hj => ?_, ⟨by rw [c1 _ (by omega)]; exact W.L.m, fun i q hq => by rw [c1 _ (by omega), c1 _ (by omega)]; exact W.L.q i q hq⟩⟩
  · rcases W.V k' hk' with v | ⟨v1, v2, v3⟩
    · exact Or.inl v
    · exact Or.inr ⟨v1, v2, fun j hj => by rw [c1 _ (by omega)]; exact v3 j hj⟩
  · rw [c1 _ (by omega), W.tk i (by omega), ylv_app1, if_pos hi]
  · by_cases c : j = k
    · subst c; rw [zu_same, nk]; rfl
    · rw [zu_slot _ _ _ c, W.us j hj]
      have : (p ++ [k]).contains j = p.contains j := by simp [c]
      rw [this]
theorem g_seats (hd : f + 26 ≤ g ∨ g + 185 ≤ f) (h3 : y3 F ≠ -1) (hI : ∀ p, p.length = F.1 → yPt F cl p → yIs F (ylv p)) (cb : ∀ k, k < F.1 → cl k < 12) : ∀ (r : Nat) (p : List Nat) (L : List (List Nat × Int)) (h : zH) (φ ψ : Nat → Nat → Int) (α : Nat → Nat → Option Nat), p.length + r = F.1 → yPt F cl p → gK e h x g → fK e h x f → gW F x f g cl φ ψ α p L → (L ++ (yss F cl r p).flatMap (yfs F)).length ≤ 48 →
    zc e (d + 6 + r) 411 [zr (some (x + g)), zr (gse x g p.length)] (cH h x φ ψ α) (fun ov h' => ov = Sum.inl none ∧ ∃ h1 φ' ψ' α', h' = cH h1 x φ' ψ' α' ∧ gW F x f g cl φ' ψ' α' p (L ++ (yss F cl r p).flatMap (yfs F)) ∧ gR x f g h φ ψ α h1 φ' ψ' α') := by
  intro r
  induction r with
  | zero =>
    intro p L h φ ψ α hr hp GK K W hL
    have gn := GK.n
    have kn := K.n
    have hm := W.S.w.1
    have ey : (yss F cl 0 p).flatMap (yfs F) = yfs F p := by simp [yss]
    rw [ey] at hL ⊢
    have fd := g_found (d := d) GK K hd h3 W (by omega) (hI p (by omega) hp) hL
    have a1 : p.length < 12 → φ (g + 2 + p.length) 0 = (F.1 : Int) := fun c => by rw [W.at' _ c]; omega
    by_cases c : p.length < 12
    · rw [show gse x g p.length = some (x + (g + 2 + p.length)) from if_pos c]
      have a1 := a1 c
      simp (disch := omega) only [n411, r411_0, r411_1, r411_1s, r411_4, r411_5, r411_8, r411_9, r411_12, r411_15, r411_18, r411_19, r411_22, r411_23, r411_24, r411_26, r411_27, r411_30, r411_33, r411_36, r411_37, r411_40, r411_41, r411_42, r411_45, r411_46, r411_49, r411_52, r411_53, r411_54, r411_55, r411_58, r411_61, r411_62, r411_65, r411_66, r411_69, r411_72, r411_73, r411_76, r411_78, r411_79, r411_82, r411_83, r411_86, r411_87, r411_90, r411_91, r411_94, r411_97, r411_98, r411_101, r411_102, r411_105, r411_106, r411_109, r411_112, r411_115, r411_116, r411_119, r411_120, r411_123, r411_124, r411_125, r411_128, r411_129, r411_132, r411_133, r411_134, r411_135, r411_136, r411_137, r411_140, r411_143, r411_144, r411_147, r411_148, r411_149, r411_150, r411_153, r411_156, znl_i, znl_r, znl_j, znl_l, List.length_cons, List.length_nil, Option.some.injEq, Sum.inl.injEq, Sum.inr.injEq, Prod.mk.injEq, true_and, and_true, exists_eq_left', zK_sI, zA_sI, zL_sI, zK_sL, zA_sL, zI_sL, zK_fI, zA_fI, zL_fI, zK_fL, zA_fL, zI_fL, Nat.reduceAdd, Nat.reduceLeDiff, forall_eq', zl_lt, zl_gt, zl_eq, zl_le, zl_ge, zm_0, zaft_n, zaft_v, zb_eq, Decidable.not_not, zK_rH, zI_rH, zL_rH, zA_rH, zsI_rH, zsL_rH, zsA_rH, zcpI_rH, zn_b, zm_b, Int.toNat_natCast, Int.toNat_zero, Int.reduceToNat, GK.K0, GK.K2, K.K0, W.fr, W.S.m, a1]
      refine ⟨fun z => absurd trivial z, fun _ => zc_mono fd ?_⟩
      rintro _ _ ⟨rfl, φ1, ψ1, rfl, W1, R1⟩
      simp (disch := omega) only [r411_0, r411_1, r411_1s, r411_4, r411_5, r411_8, r411_9, r411_12, r411_15, r411_18, r411_19, r411_22, r411_23, r411_24, r411_26, r411_27, r411_30, r411_33, r411_36, r411_37, r411_40, r411_41, r411_42, r411_45, r411_46, r411_49, r411_52, r411_53, r411_54, r411_55, r411_58, r411_61, r411_62, r411_65, r411_66, r411_69, r411_72, r411_73, r411_76, r411_78, r411_79, r411_82, r411_83, r411_86, r411_87, r411_90, r411_91, r411_94, r411_97, r411_98, r411_101, r411_102, r411_105, r411_106, r411_109, r411_112, r411_115, r411_116, r411_119, r411_120, r411_123, r411_124, r411_125, r411_128, r411_129, r411_132, r411_133, r411_134, r411_135, r411_136, r411_137, r411_140, r411_143, r411_144, r411_147, r411_148, r411_149, r411_150, r411_153, r411_156, znl_i, znl_r, znl_j, znl_l, List.length_cons, List.length_nil, Option.some.injEq, Sum.inl.injEq, Sum.inr.injEq, Prod.mk.injEq, true_and, and_true, exists_eq_left', zK_sI, zA_sI, zL_sI, zK_sL, zA_sL, zI_sL, zK_fI, zA_fI, zL_fI, zK_fL, zA_fL, zI_fL, Nat.reduceAdd, Nat.reduceLeDiff, forall_eq', zl_lt, zl_gt, zl_eq, zl_le, zl_ge, zm_0, zaft_n, zaft_v, zb_eq, Decidable.not_not, zK_rH, zI_rH, zL_rH, zA_rH, zsI_rH, zsL_rH, zsA_rH, zcpI_rH, zn_b, zm_b, Int.toNat_natCast, Int.toNat_zero, Int.reduceToNat, GK.K0]
      exact ⟨_, _, _, _, rfl, W1, R1⟩
    · rw [show gse x g p.length = none from if_neg c]
      simp (disch := omega) only [n411, r411_0, r411_1, r411_1s, r411_4, r411_5, r411_8, r411_9, r411_12, r411_15, r411_18, r411_19, r411_22, r411_23, r411_24, r411_26, r411_27, r411_30, r411_33, r411_36, r411_37, r411_40, r411_41, r411_42, r411_45, r411_46, r411_49, r411_52, r411_53, r411_54, r411_55, r411_58, r411_61, r411_62, r411_65, r411_66, r411_69, r411_72, r411_73, r411_76, r411_78, r411_79, r411_82, r411_83, r411_86, r411_87, r411_90, r411_91, r411_94, r411_97, r411_98, r411_101, r411_102, r411_105, r411_106, r411_109, r411_112, r411_115, r411_116, r411_119, r411_120, r411_123, r411_124, r411_125, r411_128, r411_129, r411_132, r411_133, r411_134, r411_135, r411_136, r411_137, r411_140, r411_143, r411_144, r411_147, r411_148, r411_149, r411_150, r411_153, r411_156, znl_i, znl_r, znl_j, znl_l, List.length_cons, List.length_nil, Option.some.injEq, Sum.inl.injEq, Sum.inr.injEq, Prod.mk.injEq, true_and, and_true, exists_eq_left', zK_sI, zA_sI, zL_sI, zK_sL, zA_sL, zI_sL, zK_fI, zA_fI, zL_fI, zK_fL, zA_fL, zI_fL, Nat.reduceAdd, Nat.reduceLeDiff, forall_eq', zl_lt, zl_gt, zl_eq, zl_le, zl_ge, zm_0, zaft_n, zaft_v, zb_eq, Decidable.not_not, zK_rH, zI_rH, zL_rH, zA_rH, zsI_rH, zsL_rH, zsA_rH, zcpI_rH, zn_b, zm_b, Int.toNat_natCast, Int.toNat_zero, Int.reduceToNat, GK.K0]
      refine zc_mono fd ?_
      rintro _ _ ⟨rfl, φ1, ψ1, rfl, W1, R1⟩
      simp (disch := omega) only [r411_0, r411_1, r411_1s, r411_4, r411_5, r411_8, r411_9, r411_12, r411_15, r411_18, r411_19, r411_22, r411_23, r411_24, r411_26, r411_27, r411_30, r411_33, r411_36, r411_37, r411_40, r411_41, r411_42, r411_45, r411_46, r411_49, r411_52, r411_53, r411_54, r411_55, r411_58, r411_61, r411_62, r411_65, r411_66, r411_69, r411_72, r411_73, r411_76, r411_78, r411_79, r411_82, r411_83, r411_86, r411_87, r411_90, r411_91, r411_94, r411_97, r411_98, r411_101, r411_102, r411_105, r411_106, r411_109, r411_112, r411_115, r411_116, r411_119, r411_120, r411_123, r411_124, r411_125, r411_128, r411_129, r411_132, r411_133, r411_134, r411_135, r411_136, r411_137, r411_140, r411_143, r411_144, r411_147, r411_148, r411_149, r411_150, r411_153, r411_156, znl_i, znl_r, znl_j, znl_l, List.length_cons, List.length_nil, Option.some.injEq, Sum.inl.injEq, Sum.inr.injEq, Prod.mk.injEq, true_and, and_true, exists_eq_left', zK_sI, zA_sI, zL_sI, zK_sL, zA_sL, zI_sL, zK_fI, zA_fI, zL_fI, zK_fL, zA_fL, zI_fL, Nat.reduceAdd, Nat.reduceLeDiff, forall_eq', zl_lt, zl_gt, zl_eq, zl_le, zl_ge, zm_0, zaft_n, zaft_v, zb_eq, Decidable.not_not, zK_rH, zI_rH, zL_rH, zA_rH, zsI_rH, zsL_rH, zsA_rH, zcpI_rH, zn_b, zm_b, Int.toNat_natCast, Int.toNat_zero, Int.reduceToNat, GK.K0]
      exact ⟨_, _, _, _, rfl, W1, R1⟩
  | succ r ihr =>
    intro p L h φ ψ α hr hp GK K W hL
    have gn := GK.n
    have kn := K.n
    have kb := K.b
    have hm := W.S.w.1
    have hs : p.length < F.1 := by omega
    have se : gse x g p.length = some (x + (g + 2 + p.length)) := if_pos (by omega)
    rw [se]
    -- rows so far
    let ys : Nat → List (List Nat) := fun k => (List.range k).flatMap (fun k => if ysqq F cl p k = true then yss F cl r (p ++ [k]) else [])
    have ys_t : ∀ k, ysqq F cl p k = true → ys (k + 1) = ys k ++ yss F cl r (p ++ [k]) := fun k q => by
      show (List.range (k + 1)).flatMap _ = _
      rw [List.range_succ, List.flatMap_append]
      simp [q, ys]
    have ys_f : ∀ k, ysqq F cl p k = false → ys (k + 1) = ys k := fun k q => by
      show (List.range (k + 1)).flatMap _ = _
      rw [List.range_succ, List.flatMap_append]
      simp [q, ys]
    have ys_le : ∀ k, k ≤ F.1 → (L ++ (ys k).flatMap (yfs F)).length ≤ 48 := by
      have key : ∀ j k, k + j = F.1 → (L ++ (ys k).flatMap (yfs F)).length ≤ 48 := by
        intro j
        induction j with
        | zero => intro k hk; have : k = F.1 := by omega
                  subst this; exact hL
        | succ j ih =>
          intro k hk
          have := ih (k + 1) (by omega)
          cases q : ysqq F cl p k with
          | true => rw [ys_t k q, List.flatMap_append, ← List.append_assoc, List.length_append] at this; omega
          | false => rw [ys_f k q] at this; exact this
      exact fun k hk => key (F.1 - k) k (by omega)
    have ysF : ys F.1 = yss F cl (r + 1) p := rfl
    rw [← ysF]
    generalize hQ : (fun ov h' => ov = Sum.inl none ∧ ∃ h1 φ' ψ' α', h' = cH h1 x φ' ψ' α' ∧ gW F x f g cl φ' ψ' α' p (L ++ (ys F.1).flatMap (yfs F)) ∧ gR x f g h φ ψ α h1 φ' ψ' α' : zEt) = Q
    have loop := zdown0 (fun k => ∀ (h1 : zH) (φ1 ψ1 : Nat → Nat → Int) (α1 : Nat → Nat → Option Nat), gW F x f g cl φ1 ψ1 α1 p (L ++ (ys k).flatMap (yfs F)) → gR x f g h φ ψ α h1 φ1 ψ1 α1 → ∀ w3, zg e 411 (d + 6 + r) 25 [zr (some (x + g)), zr (some (x + (g + 2 + p.length))), zi (k : Int), w3] [] (cH h1 x φ1 ψ1 α1) Q) F.1 (fun h1 φ1 ψ1 α1 W1 R1 w3 => ?_) (fun k hk ih h1 φ1 ψ1 α1 W1 R1 w3 => ?_)
    · have a1 := W.at' p.length (by omega)
      show zc e ((d + 6 + r) + 1) _ _ _ _
      simp (disch := omega) only [n411, r411_0, r411_1, r411_1s, r411_4, r411_5, r411_8, r411_9, r411_12, r411_15, r411_18, r411_19, r411_22, r411_23, r411_24, r411_26, r411_27, r411_30, r411_33, r411_36, r411_37, r411_40, r411_41, r411_42, r411_45, r411_46, r411_49, r411_52, r411_53, r411_54, r411_55, r411_58, r411_61, r411_62, r411_65, r411_66, r411_69, r411_72, r411_73, r411_76, r411_78, r411_79, r411_82, r411_83, r411_86, r411_87, r411_90, r411_91, r411_94, r411_97, r411_98, r411_101, r411_102, r411_105, r411_106, r411_109, r411_112, r411_115, r411_116, r411_119, r411_120, r411_123, r411_124, r411_125, r411_128, r411_129, r411_132, r411_133, r411_134, r411_135, r411_136, r411_137, r411_140, r411_143, r411_144, r411_147, r411_148, r411_149, r411_150, r411_153, r411_156, znl_i, znl_r, znl_j, znl_l, List.length_cons, List.length_nil, Option.some.injEq, Sum.inl.injEq, Sum.inr.injEq, Prod.mk.injEq, true_and, and_true, exists_eq_left', zK_sI, zA_sI, zL_sI, zK_sL, zA_sL, zI_sL, zK_fI, zA_fI, zL_fI, zK_fL, zA_fL, zI_fL, Nat.reduceAdd, Nat.reduceLeDiff, forall_eq', zl_lt, zl_gt, zl_eq, zl_le, zl_ge, zm_0, zaft_n, zaft_v, zb_eq, Decidable.not_not, zK_rH, zI_rH, zL_rH, zA_rH, zsI_rH, zsL_rH, zsA_rH, zcpI_rH, zn_b, zm_b, Int.toNat_natCast, Int.toNat_zero, Int.reduceToNat, GK.K0, GK.K2, K.K0, W.fr, W.S.m, a1]
      refine ⟨fun _ => ?_, fun z => absurd z (by omega)⟩
      refine loop h φ ψ α ?_ gR.refl _
      have : ys 0 = [] := rfl
      rw [this, List.flatMap_nil, List.append_nil]; exact W
    · have GK1 := R1.GK GK
      have K1 := R1.K K
      rw [r411_25]
      simp (disch := omega) only [r411_0, r411_1, r411_1s, r411_4, r411_5, r411_8, r411_9, r411_12, r411_15, r411_18, r411_19, r411_22, r411_23, r411_24, r411_26, r411_27, r411_30, r411_33, r411_36, r411_37, r411_40, r411_41, r411_42, r411_45, r411_46, r411_49, r411_52, r411_53, r411_54, r411_55, r411_58, r411_61, r411_62, r411_65, r411_66, r411_69, r411_72, r411_73, r411_76, r411_78, r411_79, r411_82, r411_83, r411_86, r411_87, r411_90, r411_91, r411_94, r411_97, r411_98, r411_101, r411_102, r411_105, r411_106, r411_109, r411_112, r411_115, r411_116, r411_119, r411_120, r411_123, r411_124, r411_125, r411_128, r411_129, r411_132, r411_133, r411_134, r411_135, r411_136, r411_137, r411_140, r411_143, r411_144, r411_147, r411_148, r411_149, r411_150, r411_153, r411_156, znl_i, znl_r, znl_j, znl_l, List.length_cons, List.length_nil, Option.some.injEq, Sum.inl.injEq, Sum.inr.injEq, Prod.mk.injEq, true_and, and_true, exists_eq_left', zK_sI, zA_sI, zL_sI, zK_sL, zA_sL, zI_sL, zK_fI, zA_fI, zL_fI, zK_fL, zA_fL, zI_fL, Nat.reduceAdd, Nat.reduceLeDiff, forall_eq', zl_lt, zl_gt, zl_eq, zl_le, zl_ge, zm_0, zaft_n, zaft_v, zb_eq, Decidable.not_not, zK_rH, zI_rH, zL_rH, zA_rH, zsI_rH, zsL_rH, zsA_rH, zcpI_rH, zn_b, zm_b, Int.toNat_natCast, Int.toNat_zero, Int.reduceToNat, GK1.K0, K1.K0, W1.fr, W1.S.m]
      refine ⟨fun _ => ?_, fun z => absurd z (by omega)⟩
      rw [← hQ]
      exact ⟨rfl, _, _, _, _, rfl, W1, R1⟩
    · have GK1 := R1.GK GK
      have K1 := R1.K K
      have ck := cb k hk
      have cs := cb p.length hs
      have u1 := W1.us k (by omega)
      have sk : ysqq F cl p k = false → ∀ (h1 : zH) (φ1 ψ1 : Nat → Nat → Int) (α1 : Nat → Nat → Option Nat), gW F x f g cl φ1 ψ1 α1 p (L ++ (ys k).flatMap (yfs F)) → gR x f g h φ ψ α h1 φ1 ψ1 α1 → ∀ w3, zg e 411 (d + 6 + r) 150 [zr (some (x + g)), zr (some (x + (g + 2 + p.length))), zi (k : Int), w3] [] (cH h1 x φ1 ψ1 α1) Q := fun q h1 φ1 ψ1 α1 W1 R1 w3 => by
        have g' := ih h1 φ1 ψ1 α1 (by rw [ys_f k q]; exact W1) R1 w3
        simp (disch := omega) only [r411_0, r411_1, r411_1s, r411_4, r411_5, r411_8, r411_9, r411_12, r411_15, r411_18, r411_19, r411_22, r411_23, r411_24, r411_26, r411_27, r411_30, r411_33, r411_36, r411_37, r411_40, r411_41, r411_42, r411_45, r411_46, r411_49, r411_52, r411_53, r411_54, r411_55, r411_58, r411_61, r411_62, r411_65, r411_66, r411_69, r411_72, r411_73, r411_76, r411_78, r411_79, r411_82, r411_83, r411_86, r411_87, r411_90, r411_91, r411_94, r411_97, r411_98, r411_101, r411_102, r411_105, r411_106, r411_109, r411_112, r411_115, r411_116, r411_119, r411_120, r411_123, r411_124, r411_125, r411_128, r411_129, r411_132, r411_133, r411_134, r411_135, r411_136, r411_137, r411_140, r411_143, r411_144, r411_147, r411_148, r411_149, r411_150, r411_153, r411_156, znl_i, znl_r, znl_j, znl_l, List.length_cons, List.length_nil, Option.some.injEq, Sum.inl.injEq, Sum.inr.injEq, Prod.mk.injEq, true_and, and_true, exists_eq_left', zK_sI, zA_sI, zL_sI, zK_sL, zA_sL, zI_sL, zK_fI, zA_fI, zL_fI, zK_fL, zA_fL, zI_fL, Nat.reduceAdd, Nat.reduceLeDiff, forall_eq', zl_lt, zl_gt, zl_eq, zl_le, zl_ge, zm_0, zaft_n, zaft_v, zb_eq, Decidable.not_not, zK_rH, zI_rH, zL_rH, zA_rH, zsI_rH, zsL_rH, zsA_rH, zcpI_rH, zn_b, zm_b, Int.toNat_natCast, Int.toNat_zero, Int.reduceToNat, GK.K0]
        exact g'
      rw [r411_25]
      cases hc : p.contains k with
      | true =>
        rw [hc] at u1
        have q : ysqq F cl p k = false := by unfold ysqq; rw [hc]; rfl
        simp (disch := omega) only [r411_0, r411_1, r411_1s, r411_4, r411_5, r411_8, r411_9, r411_12, r411_15, r411_18, r411_19, r411_22, r411_23, r411_24, r411_26, r411_27, r411_30, r411_33, r411_36, r411_37, r411_40, r411_41, r411_42, r411_45, r411_46, r411_49, r411_52, r411_53, r411_54, r411_55, r411_58, r411_61, r411_62, r411_65, r411_66, r411_69, r411_72, r411_73, r411_76, r411_78, r411_79, r411_82, r411_83, r411_86, r411_87, r411_90, r411_91, r411_94, r411_97, r411_98, r411_101, r411_102, r411_105, r411_106, r411_109, r411_112, r411_115, r411_116, r411_119, r411_120, r411_123, r411_124, r411_125, r411_128, r411_129, r411_132, r411_133, r411_134, r411_135, r411_136, r411_137, r411_140, r411_143, r411_144, r411_147, r411_148, r411_149, r411_153, r411_156, znl_i, znl_r, znl_j, znl_l, List.length_cons, List.length_nil, Option.some.injEq, Sum.inl.injEq, Sum.inr.injEq, Prod.mk.injEq, true_and, and_true, exists_eq_left', zK_sI, zA_sI, zL_sI, zK_sL, zA_sL, zI_sL, zK_fI, zA_fI, zL_fI, zK_fL, zA_fL, zI_fL, Nat.reduceAdd, Nat.reduceLeDiff, forall_eq', zl_lt, zl_gt, zl_eq, zl_le, zl_ge, zm_0, zaft_n, zaft_v, zb_eq, Decidable.not_not, zK_rH, zI_rH, zL_rH, zA_rH, zsI_rH, zsL_rH, zsA_rH, zcpI_rH, zn_b, zm_b, Int.toNat_natCast, Int.toNat_zero, Int.reduceToNat, GK1.K0, GK1.K28, K1.K0, W1.fr, W1.S.m, W1.GA.A5, u1, show yb true = 1 from rfl]
        refine ⟨fun z => absurd z (by omega), fun _ => ⟨by omega, by omega, fun _ => sk q h1 φ1 ψ1 α1 W1 R1 _, fun z => absurd z (by decide)⟩⟩
      | false =>
        rw [hc] at u1
        have c1 := W1.cl k hk
        have c2 := W1.cl p.length hs
        have a1 := W1.at' p.length (by omega)
        simp (disch := omega) only [r411_0, r411_1, r411_1s, r411_4, r411_5, r411_8, r411_9, r411_12, r411_15, r411_18, r411_19, r411_22, r411_23, r411_24, r411_26, r411_27, r411_30, r411_33, r411_36, r411_37, r411_40, r411_41, r411_42, r411_45, r411_46, r411_49, r411_52, r411_53, r411_54, r411_55, r411_58, r411_61, r411_62, r411_65, r411_66, r411_69, r411_72, r411_73, r411_76, r411_78, r411_79, r411_82, r411_83, r411_86, r411_87, r411_90, r411_91, r411_94, r411_97, r411_98, r411_101, r411_102, r411_105, r411_106, r411_109, r411_112, r411_115, r411_116, r411_119, r411_120, r411_123, r411_124, r411_125, r411_128, r411_129, r411_132, r411_133, r411_134, r411_135, r411_136, r411_137, r411_140, r411_143, r411_144, r411_147, r411_148, r411_149, r411_153, r411_156, znl_i, znl_r, znl_j, znl_l, List.length_cons, List.length_nil, Option.some.injEq, Sum.inl.injEq, Sum.inr.injEq, Prod.mk.injEq, true_and, and_true, exists_eq_left', zK_sI, zA_sI, zL_sI, zK_sL, zA_sL, zI_sL, zK_fI, zA_fI, zL_fI, zK_fL, zA_fL, zI_fL, Nat.reduceAdd, Nat.reduceLeDiff, forall_eq', zl_lt, zl_gt, zl_eq, zl_le, zl_ge, zm_0, zaft_n, zaft_v, zb_eq, Decidable.not_not, zK_rH, zI_rH, zL_rH, zA_rH, zsI_rH, zsL_rH, zsA_rH, zcpI_rH, zn_b, zm_b, Int.toNat_natCast, Int.toNat_zero, Int.reduceToNat, GK1.K0, GK1.K2, GK1.K28, K1.K0, K1.K24, W1.A.A9, W1.fr, W1.S.m, W1.GA.A3, W1.GA.A5, u1, c1, c2, a1, show yb false = 0 from rfl]
        refine ⟨fun z => absurd z (by omega), fun _ => ⟨by omega, by omega, fun z => absurd trivial z, fun _ => ⟨by omega, by omega, by omega, by omega, fun z => ?_, fun z => ?_⟩⟩⟩
        · -- the distances
          have cc : cl k = cl p.length := by omega
          have inner := zdown0 (fun i => (∀ j, j < i → ydist F j p.length = ydist F (ylv p j) k) → ∀ (h1 : zH) (φ1 : Nat → Nat → Int) (α1 : Nat → Nat → Option Nat), gW F x f g cl φ1 ψ1 α1 p (L ++ (ys k).flatMap (yfs F)) → gR x f g h φ ψ α h1 φ1 ψ1 α1 → zg e 411 (d + 6 + r) 77 [zr (some (x + g)), zr (some (x + (g + 2 + p.length))), zi (k : Int), zr (some (x + (g + 2 + i)))] [] (cH h1 x φ1 ψ1 α1) Q) p.length (fun qd h1 φ1 α1 W1 R1 => ?_) (fun i hi ihi qd h1 φ1 α1 W1 R1 => ?_)
          · exact inner (fun j hj => absurd hj (by omega)) h1 φ1 α1 W1 R1
          · -- the seat is taken
            have GK1 := R1.GK GK
            have K1 := R1.K K
            have q : ysqq F cl p k = true := by
              unfold ysqq
              rw [hc, decide_eq_true cc]
              simp only [Bool.not_false, Bool.true_and]
              exact yallb_iff.mpr fun j hj => decide_eq_true (qd j hj)
            have hp' := yPt_snoc.mpr ⟨hp, hk, q⟩
            have W2 := W1.push hd hs hk
            have nx := W1.GA.nx (i := p.length) (by omega)
            have len : (p ++ [k]).length = p.length + 1 := by simp
            have le := ys_le (k + 1) (by omega)
            rw [ys_t k q, List.flatMap_append, ← List.append_assoc] at le
            rw [r411_77]
            simp (disch := omega) only [r411_0, r411_1, r411_1s, r411_4, r411_5, r411_8, r411_9, r411_12, r411_15, r411_18, r411_19, r411_22, r411_23, r411_24, r411_26, r411_27, r411_30, r411_33, r411_36, r411_37, r411_40, r411_41, r411_42, r411_45, r411_46, r411_49, r411_52, r411_53, r411_54, r411_55, r411_58, r411_61, r411_62, r411_65, r411_66, r411_69, r411_72, r411_73, r411_76, r411_78, r411_79, r411_82, r411_83, r411_86, r411_87, r411_90, r411_91, r411_94, r411_97, r411_98, r411_101, r411_102, r411_105, r411_106, r411_109, r411_112, r411_115, r411_116, r411_119, r411_120, r411_123, r411_124, r411_125, r411_128, r411_129, r411_132, r411_133, r411_134, r411_135, r411_136, r411_137, r411_140, r411_143, r411_144, r411_147, r411_148, r411_149, r411_153, r411_156, znl_i, znl_r, znl_j, znl_l, List.length_cons, List.length_nil, Option.some.injEq, Sum.inl.injEq, Sum.inr.injEq, Prod.mk.injEq, true_and, and_true, exists_eq_left', zK_sI, zA_sI, zL_sI, zK_sL, zA_sL, zI_sL, zK_fI, zA_fI, zL_fI, zK_fL, zA_fL, zI_fL, Nat.reduceAdd, Nat.reduceLeDiff, forall_eq', zl_lt, zl_gt, zl_eq, zl_le, zl_ge, zm_0, zaft_n, zaft_v, zb_eq, Decidable.not_not, zK_rH, zI_rH, zL_rH, zA_rH, zsI_rH, zsL_rH, zsA_rH, zcpI_rH, zn_b, zm_b, Int.toNat_natCast, Int.toNat_zero, Int.reduceToNat, GK1.K0, GK1.K2, GK1.K28, W1.GA.A5, nx, show zi2z 1 = 1 from by decide]
            refine ⟨fun _ => ?_, fun z => absurd trivial z⟩
            repeat (refine And.intro (by omega) ?_)
            have call := ihr (p ++ [k]) (L ++ (ys k).flatMap (yfs F)) h1 _ ψ1 α1 (by omega) hp' GK1 K1 W2 le
            rw [len] at call
            refine zc_mono call ?_
            rintro _ _ ⟨rfl, h2, φ2, ψ2, α2, rfl, W3, R3⟩
            have GK2 := R3.GK GK1
            have W4 := W3.pop hd hc
            have RR : gR x f g h1 φ1 ψ1 α1 h2 (zu φ2 (g + 28) k 0) ψ2 α2 := by
              refine ⟨R3.c, fun i i1 i2 => ?_, R3.l, R3.a⟩
              rw [zu_cell _ _ _ (by omega), R3.i i i1 i2, zu_cell _ _ _ (by omega), zu_cell _ _ _ (by omega)]
            simp (disch := omega) only [r411_0, r411_1, r411_1s, r411_4, r411_5, r411_8, r411_9, r411_12, r411_15, r411_18, r411_19, r411_22, r411_23, r411_24, r411_26, r411_27, r411_30, r411_33, r411_36, r411_37, r411_40, r411_41, r411_42, r411_45, r411_46, r411_49, r411_52, r411_53, r411_54, r411_55, r411_58, r411_61, r411_62, r411_65, r411_66, r411_69, r411_72, r411_73, r411_76, r411_78, r411_79, r411_82, r411_83, r411_86, r411_87, r411_90, r411_91, r411_94, r411_97, r411_98, r411_101, r411_102, r411_105, r411_106, r411_109, r411_112, r411_115, r411_116, r411_119, r411_120, r411_123, r411_124, r411_125, r411_128, r411_129, r411_132, r411_133, r411_134, r411_135, r411_136, r411_137, r411_140, r411_143, r411_144, r411_147, r411_148, r411_149, r411_153, r411_156, znl_i, znl_r, znl_j, znl_l, List.length_cons, List.length_nil, Option.some.injEq, Sum.inl.injEq, Sum.inr.injEq, Prod.mk.injEq, true_and, and_true, exists_eq_left', zK_sI, zA_sI, zL_sI, zK_sL, zA_sL, zI_sL, zK_fI, zA_fI, zL_fI, zK_fL, zA_fL, zI_fL, Nat.reduceAdd, Nat.reduceLeDiff, forall_eq', zl_lt, zl_gt, zl_eq, zl_le, zl_ge, zm_0, zaft_n, zaft_v, zb_eq, Decidable.not_not, zK_rH, zI_rH, zL_rH, zA_rH, zsI_rH, zsL_rH, zsA_rH, zcpI_rH, zn_b, zm_b, Int.toNat_natCast, Int.toNat_zero, Int.reduceToNat, GK2.K0, GK2.K28, W3.GA.A5, show zi2z 0 = 0 from by decide]
            repeat (refine And.intro (by omega) ?_)
            have g' := ih h2 _ ψ2 α2 (by rw [ys_t k q, List.flatMap_append, ← List.append_assoc]; exact W4) (R1.trans RR) (zr (some (x + (g + 2 + p.length))))
            simp (disch := omega) only [r411_0, r411_1, r411_1s, r411_4, r411_5, r411_8, r411_9, r411_12, r411_15, r411_18, r411_19, r411_22, r411_23, r411_24, r411_26, r411_27, r411_30, r411_33, r411_36, r411_37, r411_40, r411_41, r411_42, r411_45, r411_46, r411_49, r411_52, r411_53, r411_54, r411_55, r411_58, r411_61, r411_62, r411_65, r411_66, r411_69, r411_72, r411_73, r411_76, r411_78, r411_79, r411_82, r411_83, r411_86, r411_87, r411_90, r411_91, r411_94, r411_97, r411_98, r411_101, r411_102, r411_105, r411_106, r411_109, r411_112, r411_115, r411_116, r411_119, r411_120, r411_123, r411_124, r411_125, r411_128, r411_129, r411_132, r411_133, r411_134, r411_135, r411_136, r411_137, r411_140, r411_143, r411_144, r411_147, r411_148, r411_149, r411_150, r411_153, r411_156, znl_i, znl_r, znl_j, znl_l, List.length_cons, List.length_nil, Option.some.injEq, Sum.inl.injEq, Sum.inr.injEq, Prod.mk.injEq, true_and, and_true, exists_eq_left', zK_sI, zA_sI, zL_sI, zK_sL, zA_sL, zI_sL, zK_fI, zA_fI, zL_fI, zK_fL, zA_fL, zI_fL, Nat.reduceAdd, Nat.reduceLeDiff, forall_eq', zl_lt, zl_gt, zl_eq, zl_le, zl_ge, zm_0, zaft_n, zaft_v, zb_eq, Decidable.not_not, zK_rH, zI_rH, zL_rH, zA_rH, zsI_rH, zsL_rH, zsA_rH, zcpI_rH, zn_b, zm_b, Int.toNat_natCast, Int.toNat_zero, Int.reduceToNat, GK.K0]
            exact g'
          · have GK1 := R1.GK GK
            have K1 := R1.K K
            have b1 := W1.at' i (by omega)
            have b2 := W1.at' p.length (by omega)
            have b3 := W1.tk i hi
            have pb := hp.lt i hi
            have nx : α1 (g + 2 + i) 1 = some (x + (g + 2 + (i + 1))) := by rw [W1.GA.nx (by omega)]; exact if_pos (by omega)
            have hp9 : yplaced F := W.S.w.2.2.1
            have d1 := ydist_bd hp9 (k := i) (o := p.length) (by omega) hs
            have d2 := ydist_bd hp9 pb hk
            have Ll := ys_le k (by omega)
            rw [r411_77]
            simp (disch := omega) only [r411_0, r411_1, r411_1s, r411_4, r411_5, r411_8, r411_9, r411_12, r411_15, r411_18, r411_19, r411_22, r411_23, r411_24, r411_26, r411_27, r411_30, r411_33, r411_36, r411_37, r411_40, r411_41, r411_42, r411_45, r411_46, r411_49, r411_52, r411_53, r411_54, r411_55, r411_58, r411_61, r411_62, r411_65, r411_66, r411_69, r411_72, r411_73, r411_76, r411_78, r411_79, r411_82, r411_83, r411_86, r411_87, r411_90, r411_91, r411_94, r411_97, r411_98, r411_101, r411_102, r411_105, r411_106, r411_109, r411_112, r411_115, r411_116, r411_119, r411_120, r411_123, r411_124, r411_125, r411_128, r411_129, r411_132, r411_133, r411_134, r411_135, r411_136, r411_137, r411_140, r411_143, r411_144, r411_147, r411_148, r411_149, r411_153, r411_156, znl_i, znl_r, znl_j, znl_l, List.length_cons, List.length_nil, Option.some.injEq, Sum.inl.injEq, Sum.inr.injEq, Prod.mk.injEq, true_and, and_true, exists_eq_left', zK_sI, zA_sI, zL_sI, zK_sL, zA_sL, zI_sL, zK_fI, zA_fI, zL_fI, zK_fL, zA_fL, zI_fL, Nat.reduceAdd, Nat.reduceLeDiff, forall_eq', zl_lt, zl_gt, zl_eq, zl_le, zl_ge, zm_0, zaft_n, zaft_v, zb_eq, Decidable.not_not, zK_rH, zI_rH, zL_rH, zA_rH, zsI_rH, zsL_rH, zsA_rH, zcpI_rH, zn_b, zm_b, Int.toNat_natCast, Int.toNat_zero, Int.reduceToNat, GK1.K0, GK1.K2, K1.K0, W1.fr, b1, b2]
            refine ⟨fun z => absurd z (by omega), fun _ => ?_⟩
            have dp : d + 4 + r + 2 = d + 6 + r := by omega
            have fa := f_apart (d := d + 4 + r) (ψ := ψ1) K1 W1.A W1.S W1.V i p.length (by omega) hs
            rw [dp] at fa
            refine zc_mono fa ?_
            rintro _ _ ⟨rfl, h2, φ2, α2, rfl, P2⟩
            have W2 := W1.P Ll hd P2
            have R2 := R1.trans (gR.ofP (g := g) (ψ := ψ1) P2)
            have GK2 := R2.GK GK
            have K2 := R2.K K
            have b4 := W2.tk i hi
            simp (disch := omega) only [r411_0, r411_1, r411_1s, r411_4, r411_5, r411_8, r411_9, r411_12, r411_15, r411_18, r411_19, r411_22, r411_23, r411_24, r411_26, r411_27, r411_30, r411_33, r411_36, r411_37, r411_40, r411_41, r411_42, r411_45, r411_46, r411_49, r411_52, r411_53, r411_54, r411_55, r411_58, r411_61, r411_62, r411_65, r411_66, r411_69, r411_72, r411_73, r411_76, r411_78, r411_79, r411_82, r411_83, r411_86, r411_87, r411_90, r411_91, r411_94, r411_97, r411_98, r411_101, r411_102, r411_105, r411_106, r411_109, r411_112, r411_115, r411_116, r411_119, r411_120, r411_123, r411_124, r411_125, r411_128, r411_129, r411_132, r411_133, r411_134, r411_135, r411_136, r411_137, r411_140, r411_143, r411_144, r411_147, r411_148, r411_149, r411_153, r411_156, znl_i, znl_r, znl_j, znl_l, List.length_cons, List.length_nil, Option.some.injEq, Sum.inl.injEq, Sum.inr.injEq, Prod.mk.injEq, true_and, and_true, exists_eq_left', zK_sI, zA_sI, zL_sI, zK_sL, zA_sL, zI_sL, zK_fI, zA_fI, zL_fI, zK_fL, zA_fL, zI_fL, Nat.reduceAdd, Nat.reduceLeDiff, forall_eq', zl_lt, zl_gt, zl_eq, zl_le, zl_ge, zm_0, zaft_n, zaft_v, zb_eq, Decidable.not_not, zK_rH, zI_rH, zL_rH, zA_rH, zsI_rH, zsL_rH, zsA_rH, zcpI_rH, zn_b, zm_b, Int.toNat_natCast, Int.toNat_zero, Int.reduceToNat, GK2.K0, GK2.K2, K2.K0, W2.fr, b4]
            have fb := f_apart (d := d + 4 + r) (ψ := ψ1) K2 W2.A W2.S W2.V (ylv p i) k pb hk
            rw [dp] at fb
            refine zc_mono fb ?_
            rintro _ _ ⟨rfl, h3, φ3, α3, rfl, P3⟩
            have W3 := W2.P Ll hd P3
            have R3 := R2.trans (gR.ofP (g := g) (ψ := ψ1) P3)
            have GK3 := R3.GK GK
            have nx3 : α3 (g + 2 + i) 1 = some (x + (g + 2 + (i + 1))) := by rw [W3.GA.nx (by omega)]; exact if_pos (by omega)
            simp (disch := omega) only [r411_0, r411_1, r411_1s, r411_4, r411_5, r411_8, r411_9, r411_12, r411_15, r411_18, r411_19, r411_22, r411_23, r411_24, r411_26, r411_27, r411_30, r411_33, r411_36, r411_37, r411_40, r411_41, r411_42, r411_45, r411_46, r411_49, r411_52, r411_53, r411_54, r411_55, r411_58, r411_61, r411_62, r411_65, r411_66, r411_69, r411_72, r411_73, r411_76, r411_78, r411_79, r411_82, r411_83, r411_86, r411_87, r411_90, r411_91, r411_94, r411_97, r411_98, r411_101, r411_102, r411_105, r411_106, r411_109, r411_112, r411_115, r411_116, r411_119, r411_120, r411_123, r411_124, r411_125, r411_128, r411_129, r411_132, r411_133, r411_134, r411_135, r411_136, r411_137, r411_140, r411_143, r411_144, r411_147, r411_148, r411_149, r411_153, r411_156, znl_i, znl_r, znl_j, znl_l, List.length_cons, List.length_nil, Option.some.injEq, Sum.inl.injEq, Sum.inr.injEq, Prod.mk.injEq, true_and, and_true, exists_eq_left', zK_sI, zA_sI, zL_sI, zK_sL, zA_sL, zI_sL, zK_fI, zA_fI, zL_fI, zK_fL, zA_fL, zI_fL, Nat.reduceAdd, Nat.reduceLeDiff, forall_eq', zl_lt, zl_gt, zl_eq, zl_le, zl_ge, zm_0, zaft_n, zaft_v, zb_eq, Decidable.not_not, zK_rH, zI_rH, zL_rH, zA_rH, zsI_rH, zsL_rH, zsA_rH, zcpI_rH, zn_b, zm_b, Int.toNat_natCast, Int.toNat_zero, Int.reduceToNat, GK3.K0, GK3.K2, nx3]
            refine ⟨fun z => ihi (fun j hj => ?_) h3 φ3 α3 W3 R3, fun z => sk ?_ h3 φ3 ψ1 α3 W3 R3 _⟩
            · by_cases c2 : j = i
              · subst c2; exact z
              · exact qd j (by omega)
            · unfold ysqq
              have : yallb (fun i => decide (ydist F i p.length = ydist F (ylv p i) k)) p.length = false := by
                cases q : yallb (fun i => decide (ydist F i p.length = ydist F (ylv p i) k)) p.length with
                | false => rfl
                | true => exact absurd (of_decide_eq_true (yallb_iff.mp q i hi)) z
              rw [this, Bool.and_false]
        · refine sk ?_ h1 φ1 ψ1 α1 W1 R1 _
          unfold ysqq
          rw [decide_eq_false (by omega), Bool.and_false, Bool.false_and]
end
