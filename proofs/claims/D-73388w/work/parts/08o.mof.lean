/-! ===== the reference: cells ===== -/
def mW2 (h : zH) (a : Nat) (B C : Nat → Int) : zH := zfI (zfI h (a + 8) B) (a + 9) C
theorem mW2_B (h a B C) (k : Nat) (v : Int) : zsI (mW2 h a B C) (a + 8) k v = mW2 h a (zup B k v) C := by
  unfold mW2; rw [zsI_f, zI_fI_n (c := a + 9) (b := a + 8) _ _ (by omega), zI_fI_s, zfI_comm _ _ _ (by omega : a + 9 ≠ a + 8), zfI_fI]
theorem mW2_C (h a B C) (k : Nat) (v : Int) : zsI (mW2 h a B C) (a + 9) k v = mW2 h a B (zup C k v) := by
  unfold mW2; rw [zsI_f, zI_fI_s, zfI_fI]
theorem mW2_v8 (h a B C) : zI (mW2 h a B C) (a + 8) = B := by unfold mW2; rw [zI_fI_n (c := a + 9) (b := a + 8) _ _ (by omega), zI_fI_s]
theorem mW2_v9 (h a B C) : zI (mW2 h a B C) (a + 9) = C := by unfold mW2; rw [zI_fI_s]
theorem mW2_v (h a B C) {b : Nat} (h8 : b ≠ a + 8) (h9 : b ≠ a + 9) : zI (mW2 h a B C) b = zI h b := by unfold mW2; rw [zI_fI_n _ _ h9, zI_fI_n _ _ h8]
/-- up to a pair, T; from it on S -/
def ymix (S T : yP) (k o : Nat) : yP := fun k' o' => if k' < k ∨ (k' = k ∧ o' < o) then T k' o' else S k' o'
theorem ymix_t {S T : yP} {k o k' o' : Nat} (h : k' < k ∨ (k' = k ∧ o' < o)) : ymix S T k o k' o' = T k' o' := if_pos h
theorem ymix_f {S T : yP} {k o k' o' : Nat} (h : ¬ (k' < k ∨ (k' = k ∧ o' < o))) : ymix S T k o k' o' = S k' o' := if_neg h
theorem zi2z_b (c : Bool) : zi2z (yb c) = yb c := by cases c <;> decide
theorem yb_bd (c : Bool) : 0 ≤ yb c ∧ yb c ≤ 1 := by cases c <;> decide
theorem mP_up {n : Nat} {B : Nat → Int} {S T : yP} {k o : Nat} (hn : n ≤ 12) (hk : k < n) (ho : o < n) (h : mP n B (ymix S T k o)) : mP n (zup B (12 * k + o) (yb (T k o))) (ymix S T k (o + 1)) := by
  intro k' o' hk' ho'
  simp only [zup]
  by_cases q : 12 * k' + o' = 12 * k + o
  · have q1 : k' = k := by omega
    have q2 : o' = o := by omega
    rw [if_pos q, q1, q2, ymix_t (by omega)]
  · rw [if_neg q, h k' o' hk' ho']
    by_cases q3 : k' < k ∨ (k' = k ∧ o' < o)
    · rw [ymix_t q3, ymix_t (by omega)]
    · rw [ymix_f q3, ymix_f (by omega)]
theorem mP_row {n : Nat} {B : Nat → Int} {S T : yP} {k : Nat} (h : mP n B (ymix S T k n)) : mP n B (ymix S T (k + 1) 0) := by
  intro k' o' hk' ho'
  rw [h k' o' hk' ho']
  by_cases q3 : k' < k ∨ (k' = k ∧ o' < n)
  · rw [ymix_t q3, ymix_t (by omega)]
  · rw [ymix_f q3, ymix_f (by omega)]
theorem mP_congr {n : Nat} {B : Nat → Int} {S T : yP} (h : mP n B S) (hST : ∀ k o, k < n → o < n → S k o = T k o) : mP n B T := fun k o hk ho => by rw [h k o hk ho, hST k o hk ho]
section
variable {e : zEv} {a d : Nat} {h : zH}
theorem m_laysCells (H : zmo e a h) (F : yF) (hF : mF (zI h (a + 1)) 0 F) (hn : F.1 ≤ 12) (hW : yW F) : zc e (d + 4) 263 [zr (some a)] h (fun ov h' => ov = Sum.inl none ∧ ∃ B C t, h' = mW2 h a B C ∧ mP F.1 B (yit F t) ∧ yfix F (yit F t)) := by
  have hp : yplaced F := hW.2.2.1
  have hb := H.1
  have e0 : zn 0 = 0 := by decide
  have e1 : zn 1 = 1 := by decide
  have H2 : ∀ B C, zmo e a (mW2 h a B C) := fun _ _ => H
  have F2 : ∀ B C, mF (zI (mW2 h a B C) (a + 1)) 0 F := fun B C => by rw [mW2_v _ _ _ _ (by omega) (by omega)]; exact hF
  have K2 : ∀ B C, zK (mW2 h a B C) = zK h := fun _ _ => rfl
  have A2 : ∀ B C, zA (mW2 h a B C) = zA h := fun _ _ => rfl
  -- one pair: z
  have lz : ∀ (S : yP) (k o : Nat), k < F.1 → o < F.1 → ∀ (j z : Nat) (B C : Nat → Int) (pt : Bool) (w6 : zV) (P : zEt), z + j = F.1 → mP F.1 C S → B (12 * k + o) = 1 →
      (∀ w5 w6, zg e 263 (d + 3) 213 [zr (some a), zi F.1, zi (yb (pt || decide (¬ yfind (fun z => !ylike F S k o z) j z = -1))), zi k, zi o, w5, w6] [] (mW2 h a (zup B (12 * k + o) (yb (decide (yfind (fun z => !ylike F S k o z) j z = -1)))) C) P) →
      zg e 263 (d + 3) 118 [zr (some a), zi F.1, zi (yb pt), zi k, zi o, zi z, w6] [] (mW2 h a B C) P := by
    intro S k o hk ho j
    induction j with
    | zero =>
      intro z B C pt w6 P hz hC hB nx
      have nx := nx (zi z) w6
      rw [show yfind (fun z => !ylike F S k o z) 0 z = -1 from rfl] at nx
      simp only [decide_true, not_true, decide_false, Bool.or_false] at nx
      rw [show zup B (12 * k + o) (yb true) = B from funext fun i => by simp only [zup]; split; (rename_i q; rw [q, hB]; rfl); rfl] at nx
      rw [r263_118]
      simp only [r263_0, r263_1, r263_4, r263_5, r263_6, r263_7, r263_8, r263_10, r263_11, r263_14, r263_15, r263_17, r263_18, r263_21, r263_22, r263_25, r263_27, r263_28, r263_29, r263_30, r263_31, r263_32, r263_33, r263_34, r263_37, r263_38, r263_39, r263_40, r263_43, r263_46, r263_47, r263_50, r263_51, r263_52, r263_55, r263_58, r263_61, r263_64, r263_65, r263_67, r263_70, r263_71, r263_72, r263_73, r263_75, r263_78, r263_81, r263_82, r263_85, r263_86, r263_87, r263_90, r263_91, r263_92, r263_93, r263_96, r263_99, r263_100, r263_102, r263_103, r263_106, r263_107, r263_111, r263_112, r263_115, r263_116, r263_120, r263_121, r263_124, r263_125, r263_128, r263_130, r263_131, r263_132, r263_134, r263_135, r263_136, r263_139, r263_140, r263_141, r263_143, r263_144, r263_145, r263_147, r263_150, r263_153, r263_154, r263_156, r263_158, r263_159, r263_160, r263_162, r263_165, r263_168, r263_171, r263_172, r263_175, r263_176, r263_178, r263_179, r263_182, r263_184, r263_185, r263_186, r263_188, r263_189, r263_191, r263_192, r263_193, r263_196, r263_198, r263_201, r263_202, r263_205, r263_206, r263_207, r263_210, r263_216, r263_219, r263_222, r263_225, r263_228, znl_i, znl_r, znl_j, znl_l, List.length_cons, List.length_nil, Option.some.injEq, Sum.inl.injEq, Sum.inr.injEq, Prod.mk.injEq, true_and, and_true, exists_eq_left', zK_sI, zA_sI, zL_sI, zK_sL, zA_sL, zI_sL, zK_fI, zA_fI, zL_fI, zK_fL, zA_fL, zI_fL, Nat.reduceAdd, Nat.reduceLeDiff, forall_eq', zl_lt, zl_gt, zl_eq, zl_le, zl_ge, zm_0, zaft_n, zaft_v, zb_eq, Decidable.not_not]
      simp (disch := omega) only [zn_b, zm_b, Int.toNat_natCast]
      exact ⟨fun _ => nx, fun q => by omega⟩
    | succ j ih =>
      intro z B C pt w6 P hz hC hB nx
      have hzn : z < F.1 := by omega
      have db := ydist_bd hp hk hzn
      have hC9 : ∀ B, mP F.1 (zI (mW2 h a B C) (a + 9)) S := fun B => by rw [mW2_v9]; exact hC
      rw [r263_118]
      simp only [r263_0, r263_1, r263_4, r263_5, r263_6, r263_7, r263_8, r263_10, r263_11, r263_14, r263_15, r263_17, r263_18, r263_21, r263_22, r263_25, r263_27, r263_28, r263_29, r263_30, r263_31, r263_32, r263_33, r263_34, r263_37, r263_38, r263_39, r263_40, r263_43, r263_46, r263_47, r263_50, r263_51, r263_52, r263_55, r263_58, r263_61, r263_64, r263_65, r263_67, r263_70, r263_71, r263_72, r263_73, r263_75, r263_78, r263_81, r263_82, r263_85, r263_86, r263_87, r263_90, r263_91, r263_92, r263_93, r263_96, r263_99, r263_100, r263_102, r263_103, r263_106, r263_107, r263_111, r263_112, r263_115, r263_116, r263_120, r263_121, r263_124, r263_125, r263_128, r263_130, r263_131, r263_132, r263_134, r263_135, r263_136, r263_139, r263_140, r263_141, r263_143, r263_144, r263_145, r263_147, r263_150, r263_153, r263_154, r263_156, r263_158, r263_159, r263_160, r263_162, r263_165, r263_168, r263_171, r263_172, r263_175, r263_178, r263_179, r263_182, r263_184, r263_185, r263_186, r263_188, r263_189, r263_191, r263_192, r263_193, r263_196, r263_198, r263_201, r263_202, r263_205, r263_206, r263_207, r263_210, r263_216, r263_219, r263_222, r263_225, r263_228, znl_i, znl_r, znl_j, znl_l, List.length_cons, List.length_nil, Option.some.injEq, Sum.inl.injEq, Sum.inr.injEq, Prod.mk.injEq, true_and, and_true, exists_eq_left', zK_sI, zA_sI, zL_sI, zK_sL, zA_sL, zI_sL, zK_fI, zA_fI, zL_fI, zK_fL, zA_fL, zI_fL, Nat.reduceAdd, Nat.reduceLeDiff, forall_eq', zl_lt, zl_gt, zl_eq, zl_le, zl_ge, zm_0, zaft_n, zaft_v, zb_eq, Decidable.not_not, K2, A2, H.K, H.A25, H.K8, mW2_v8]
      simp (disch := omega) only [zn_b, show ((12 : Int) * k + o).toNat = 12 * k + o by omega, hB]
      refine ⟨fun q => by omega, fun _ => ⟨by omega, by omega, fun q => absurd q (by decide), fun _ => ?_⟩⟩
      refine zc_w (m_farOf (H2 B C) F k z (F2 B C) hn hk hzn) ?_
      simp only [r263_0, r263_1, r263_4, r263_5, r263_6, r263_7, r263_8, r263_10, r263_11, r263_14, r263_15, r263_17, r263_18, r263_21, r263_22, r263_25, r263_27, r263_28, r263_29, r263_30, r263_31, r263_32, r263_33, r263_34, r263_37, r263_38, r263_39, r263_40, r263_43, r263_46, r263_47, r263_50, r263_51, r263_52, r263_55, r263_58, r263_61, r263_64, r263_65, r263_67, r263_70, r263_71, r263_72, r263_73, r263_75, r263_78, r263_81, r263_82, r263_85, r263_86, r263_87, r263_90, r263_91, r263_92, r263_93, r263_96, r263_99, r263_100, r263_102, r263_103, r263_106, r263_107, r263_111, r263_112, r263_115, r263_116, r263_120, r263_121, r263_124, r263_125, r263_128, r263_130, r263_131, r263_132, r263_134, r263_135, r263_136, r263_139, r263_140, r263_141, r263_143, r263_144, r263_145, r263_147, r263_150, r263_153, r263_154, r263_156, r263_158, r263_159, r263_160, r263_162, r263_165, r263_168, r263_171, r263_172, r263_175, r263_178, r263_179, r263_182, r263_184, r263_185, r263_186, r263_188, r263_189, r263_191, r263_192, r263_193, r263_196, r263_198, r263_201, r263_202, r263_205, r263_206, r263_207, r263_210, r263_216, r263_219, r263_222, r263_225, r263_228, znl_i, znl_r, znl_j, znl_l, List.length_cons, List.length_nil, Option.some.injEq, Sum.inl.injEq, Sum.inr.injEq, Prod.mk.injEq, true_and, and_true, exists_eq_left', zK_sI, zA_sI, zL_sI, zK_sL, zA_sL, zI_sL, zK_fI, zA_fI, zL_fI, zK_fL, zA_fL, zI_fL, Nat.reduceAdd, Nat.reduceLeDiff, forall_eq', zl_lt, zl_gt, zl_eq, zl_le, zl_ge, zm_0, zaft_n, zaft_v, zb_eq, Decidable.not_not, K2, A2, H.K]
      refine zc_w (m_atFar (H2 B C) F S k z _ (F2 B C) hn hp (hC9 B) hk hzn db) ?_
      simp only [r263_0, r263_1, r263_4, r263_5, r263_6, r263_7, r263_8, r263_10, r263_11, r263_14, r263_15, r263_17, r263_18, r263_21, r263_22, r263_25, r263_27, r263_28, r263_29, r263_30, r263_31, r263_32, r263_33, r263_34, r263_37, r263_38, r263_39, r263_40, r263_43, r263_46, r263_47, r263_50, r263_51, r263_52, r263_55, r263_58, r263_61, r263_64, r263_65, r263_67, r263_70, r263_71, r263_72, r263_73, r263_75, r263_78, r263_81, r263_82, r263_85, r263_86, r263_87, r263_90, r263_91, r263_92, r263_93, r263_96, r263_99, r263_100, r263_102, r263_103, r263_106, r263_107, r263_111, r263_112, r263_115, r263_116, r263_120, r263_121, r263_124, r263_125, r263_128, r263_130, r263_131, r263_132, r263_134, r263_135, r263_136, r263_139, r263_140, r263_141, r263_143, r263_144, r263_145, r263_147, r263_150, r263_153, r263_154, r263_156, r263_158, r263_159, r263_160, r263_162, r263_165, r263_168, r263_171, r263_172, r263_175, r263_178, r263_179, r263_182, r263_184, r263_185, r263_186, r263_188, r263_189, r263_191, r263_192, r263_193, r263_196, r263_198, r263_201, r263_202, r263_205, r263_206, r263_207, r263_210, r263_216, r263_219, r263_222, r263_225, r263_228, znl_i, znl_r, znl_j, znl_l, List.length_cons, List.length_nil, Option.some.injEq, Sum.inl.injEq, Sum.inr.injEq, Prod.mk.injEq, true_and, and_true, exists_eq_left', zK_sI, zA_sI, zL_sI, zK_sL, zA_sL, zI_sL, zK_fI, zA_fI, zL_fI, zK_fL, zA_fL, zI_fL, Nat.reduceAdd, Nat.reduceLeDiff, forall_eq', zl_lt, zl_gt, zl_eq, zl_le, zl_ge, zm_0, zaft_n, zaft_v, zb_eq, Decidable.not_not, K2, A2, H.K]
      refine zc_w (m_farOf (H2 B C) F k z (F2 B C) hn hk hzn) ?_
      simp only [r263_0, r263_1, r263_4, r263_5, r263_6, r263_7, r263_8, r263_10, r263_11, r263_14, r263_15, r263_17, r263_18, r263_21, r263_22, r263_25, r263_27, r263_28, r263_29, r263_30, r263_31, r263_32, r263_33, r263_34, r263_37, r263_38, r263_39, r263_40, r263_43, r263_46, r263_47, r263_50, r263_51, r263_52, r263_55, r263_58, r263_61, r263_64, r263_65, r263_67, r263_70, r263_71, r263_72, r263_73, r263_75, r263_78, r263_81, r263_82, r263_85, r263_86, r263_87, r263_90, r263_91, r263_92, r263_93, r263_96, r263_99, r263_100, r263_102, r263_103, r263_106, r263_107, r263_111, r263_112, r263_115, r263_116, r263_120, r263_121, r263_124, r263_125, r263_128, r263_130, r263_131, r263_132, r263_134, r263_135, r263_136, r263_139, r263_140, r263_141, r263_143, r263_144, r263_145, r263_147, r263_150, r263_153, r263_154, r263_156, r263_158, r263_159, r263_160, r263_162, r263_165, r263_168, r263_171, r263_172, r263_175, r263_178, r263_179, r263_182, r263_184, r263_185, r263_186, r263_188, r263_189, r263_191, r263_192, r263_193, r263_196, r263_198, r263_201, r263_202, r263_205, r263_206, r263_207, r263_210, r263_216, r263_219, r263_222, r263_225, r263_228, znl_i, znl_r, znl_j, znl_l, List.length_cons, List.length_nil, Option.some.injEq, Sum.inl.injEq, Sum.inr.injEq, Prod.mk.injEq, true_and, and_true, exists_eq_left', zK_sI, zA_sI, zL_sI, zK_sL, zA_sL, zI_sL, zK_fI, zA_fI, zL_fI, zK_fL, zA_fL, zI_fL, Nat.reduceAdd, Nat.reduceLeDiff, forall_eq', zl_lt, zl_gt, zl_eq, zl_le, zl_ge, zm_0, zaft_n, zaft_v, zb_eq, Decidable.not_not, K2, A2, H.K]
      refine zc_w (m_atFar (H2 B C) F S o z _ (F2 B C) hn hp (hC9 B) ho hzn db) ?_
      simp only [r263_0, r263_1, r263_4, r263_5, r263_6, r263_7, r263_8, r263_10, r263_11, r263_14, r263_15, r263_17, r263_18, r263_21, r263_22, r263_25, r263_27, r263_28, r263_29, r263_30, r263_31, r263_32, r263_33, r263_34, r263_37, r263_38, r263_39, r263_40, r263_43, r263_46, r263_47, r263_50, r263_51, r263_52, r263_55, r263_58, r263_61, r263_64, r263_65, r263_67, r263_70, r263_71, r263_72, r263_73, r263_75, r263_78, r263_81, r263_82, r263_85, r263_86, r263_87, r263_90, r263_91, r263_92, r263_93, r263_96, r263_99, r263_100, r263_102, r263_103, r263_106, r263_107, r263_111, r263_112, r263_115, r263_116, r263_120, r263_121, r263_124, r263_125, r263_128, r263_130, r263_131, r263_132, r263_134, r263_135, r263_136, r263_139, r263_140, r263_141, r263_143, r263_144, r263_145, r263_147, r263_150, r263_153, r263_154, r263_156, r263_158, r263_159, r263_160, r263_162, r263_165, r263_168, r263_171, r263_172, r263_175, r263_178, r263_179, r263_182, r263_184, r263_185, r263_186, r263_188, r263_189, r263_191, r263_192, r263_193, r263_196, r263_198, r263_201, r263_202, r263_205, r263_206, r263_207, r263_210, r263_216, r263_219, r263_222, r263_225, r263_228, znl_i, znl_r, znl_j, znl_l, List.length_cons, List.length_nil, Option.some.injEq, Sum.inl.injEq, Sum.inr.injEq, Prod.mk.injEq, true_and, and_true, exists_eq_left', zK_sI, zA_sI, zL_sI, zK_sL, zA_sL, zI_sL, zK_fI, zA_fI, zL_fI, zK_fL, zA_fL, zI_fL, Nat.reduceAdd, Nat.reduceLeDiff, forall_eq', zl_lt, zl_gt, zl_eq, zl_le, zl_ge, zm_0, zaft_n, zaft_v, zb_eq, Decidable.not_not, K2, A2, H.K]
      have c1 := ycnt_bd (yfarq F S k z (ydist F k z)) F.1
      have c2 := ycnt_bd (yfarq F S o z (ydist F k z)) F.1
      rw [zn_b (x := ycnt (yfarq F S k z (ydist F k z)) F.1) (by omega) (by omega), zn_b (x := ycnt (yfarq F S o z (ydist F k z)) F.1) (by omega) (by omega)]
      refine ⟨fun q => ?_, fun q => ?_⟩
      · have hq : ylike F S k o z = false := decide_eq_false q
        have y1 : yfind (fun z => !ylike F S k o z) (j + 1) z = (z : Int) := yfind_t (by simp [hq])
        have nx := nx (zi ((z : Int) + 1)) (zi 0)
        rw [y1] at nx
        have hne : ¬ (z : Int) = -1 := by omega
        simp only [hne, not_false_eq_true, decide_true, decide_false, Bool.or_true, show yb true = 1 from rfl, show yb false = 0 from rfl] at nx
        have ex : zg e 263 (d + 3) 118 [zr (some a), zi F.1, zi 1, zi k, zi o, zi ((z : Int) + 1), zi 0] [] (mW2 h a (zup B (12 * k + o) 0) C) P := by
          rw [r263_118]
          simp only [r263_0, r263_1, r263_4, r263_5, r263_6, r263_7, r263_8, r263_10, r263_11, r263_14, r263_15, r263_17, r263_18, r263_21, r263_22, r263_25, r263_27, r263_28, r263_29, r263_30, r263_31, r263_32, r263_33, r263_34, r263_37, r263_38, r263_39, r263_40, r263_43, r263_46, r263_47, r263_50, r263_51, r263_52, r263_55, r263_58, r263_61, r263_64, r263_65, r263_67, r263_70, r263_71, r263_72, r263_73, r263_75, r263_78, r263_81, r263_82, r263_85, r263_86, r263_87, r263_90, r263_91, r263_92, r263_93, r263_96, r263_99, r263_100, r263_102, r263_103, r263_106, r263_107, r263_111, r263_112, r263_115, r263_116, r263_120, r263_121, r263_124, r263_125, r263_128, r263_130, r263_131, r263_132, r263_134, r263_135, r263_136, r263_139, r263_140, r263_141, r263_143, r263_144, r263_145, r263_147, r263_150, r263_153, r263_154, r263_156, r263_158, r263_159, r263_160, r263_162, r263_165, r263_168, r263_171, r263_172, r263_175, r263_178, r263_179, r263_182, r263_184, r263_185, r263_186, r263_188, r263_189, r263_191, r263_192, r263_193, r263_196, r263_198, r263_201, r263_202, r263_205, r263_206, r263_207, r263_210, r263_216, r263_219, r263_222, r263_225, r263_228, znl_i, znl_r, znl_j, znl_l, List.length_cons, List.length_nil, Option.some.injEq, Sum.inl.injEq, Sum.inr.injEq, Prod.mk.injEq, true_and, and_true, exists_eq_left', zK_sI, zA_sI, zL_sI, zK_sL, zA_sL, zI_sL, zK_fI, zA_fI, zL_fI, zK_fL, zA_fL, zI_fL, Nat.reduceAdd, Nat.reduceLeDiff, forall_eq', zl_lt, zl_gt, zl_eq, zl_le, zl_ge, zm_0, zaft_n, zaft_v, zb_eq, Decidable.not_not, K2, A2, H.K, H.A25, H.K8, mW2_v8]
          simp (disch := omega) only [zn_b, show ((12 : Int) * k + o).toNat = 12 * k + o by omega, zup_s]
          exact ⟨fun _ => nx, fun _ => ⟨by omega, by omega, fun _ => nx, fun z => absurd trivial z⟩⟩
        simp only [r263_0, r263_1, r263_4, r263_5, r263_6, r263_7, r263_8, r263_10, r263_11, r263_14, r263_15, r263_17, r263_18, r263_21, r263_22, r263_25, r263_27, r263_28, r263_29, r263_30, r263_31, r263_32, r263_33, r263_34, r263_37, r263_38, r263_39, r263_40, r263_43, r263_46, r263_47, r263_50, r263_51, r263_52, r263_55, r263_58, r263_61, r263_64, r263_65, r263_67, r263_70, r263_71, r263_72, r263_73, r263_75, r263_78, r263_81, r263_82, r263_85, r263_86, r263_87, r263_90, r263_91, r263_92, r263_93, r263_96, r263_99, r263_100, r263_102, r263_103, r263_106, r263_107, r263_111, r263_112, r263_115, r263_116, r263_120, r263_121, r263_124, r263_125, r263_128, r263_130, r263_131, r263_132, r263_134, r263_135, r263_136, r263_139, r263_140, r263_141, r263_143, r263_144, r263_145, r263_147, r263_150, r263_153, r263_154, r263_156, r263_158, r263_159, r263_160, r263_162, r263_165, r263_168, r263_171, r263_172, r263_175, r263_176, r263_178, r263_179, r263_182, r263_184, r263_185, r263_186, r263_188, r263_189, r263_191, r263_192, r263_193, r263_196, r263_198, r263_201, r263_202, r263_205, r263_206, r263_207, r263_210, r263_213, r263_216, r263_219, r263_222, r263_225, r263_228, znl_i, znl_r, znl_j, znl_l, List.length_cons, List.length_nil, Option.some.injEq, Sum.inl.injEq, Sum.inr.injEq, Prod.mk.injEq, true_and, and_true, exists_eq_left', zK_sI, zA_sI, zL_sI, zK_sL, zA_sL, zI_sL, zK_fI, zA_fI, zL_fI, zK_fL, zA_fL, zI_fL, Nat.reduceAdd, Nat.reduceLeDiff, forall_eq', zl_lt, zl_gt, zl_eq, zl_le, zl_ge, zm_0, zaft_n, zaft_v, zb_eq, Decidable.not_not, K2, A2, H.K, H.A25, H.K8, mW2_v8]
        simp (disch := omega) only [zn_b, show ((12 : Int) * k + o).toNat = 12 * k + o by omega]
        repeat (refine And.intro (by omega) ?_)
        rw [show zi2z 0 = 0 by decide, mW2_B]
        exact ⟨fun _ => ex, fun _ => ⟨fun q => absurd trivial q, fun _ => ex⟩⟩
      · have hq : ylike F S k o z = true := decide_eq_true q
        have y1 : yfind (fun z => !ylike F S k o z) (j + 1) z = yfind (fun z => !ylike F S k o z) j (z + 1) := yfind_f (by simp [hq])
        rw [y1] at nx
        have ex : zg e 263 (d + 3) 118 [zr (some a), zi F.1, zi (yb pt), zi k, zi o, zi ((z + 1 : Nat) : Int), zi 1] [] (mW2 h a (zup B (12 * k + o) 1) C) P := by
          refine ih (z + 1) _ C pt (zi 1) P (by omega) hC (by simp [zup]) (fun w5 w6 => ?_)
          rw [show ∀ v, zup (zup B (12 * k + o) 1) (12 * k + o) v = zup B (12 * k + o) v from fun v => funext fun i => by simp only [zup]; split <;> rfl]
          exact nx w5 w6
        simp only [r263_0, r263_1, r263_4, r263_5, r263_6, r263_7, r263_8, r263_10, r263_11, r263_14, r263_15, r263_17, r263_18, r263_21, r263_22, r263_25, r263_27, r263_28, r263_29, r263_30, r263_31, r263_32, r263_33, r263_34, r263_37, r263_38, r263_39, r263_40, r263_43, r263_46, r263_47, r263_50, r263_51, r263_52, r263_55, r263_58, r263_61, r263_64, r263_65, r263_67, r263_70, r263_71, r263_72, r263_73, r263_75, r263_78, r263_81, r263_82, r263_85, r263_86, r263_87, r263_90, r263_91, r263_92, r263_93, r263_96, r263_99, r263_100, r263_102, r263_103, r263_106, r263_107, r263_111, r263_112, r263_115, r263_116, r263_120, r263_121, r263_124, r263_125, r263_128, r263_130, r263_131, r263_132, r263_134, r263_135, r263_136, r263_139, r263_140, r263_141, r263_143, r263_144, r263_145, r263_147, r263_150, r263_153, r263_154, r263_156, r263_158, r263_159, r263_160, r263_162, r263_165, r263_168, r263_171, r263_172, r263_175, r263_176, r263_178, r263_179, r263_182, r263_184, r263_185, r263_186, r263_188, r263_189, r263_191, r263_192, r263_193, r263_196, r263_198, r263_201, r263_202, r263_205, r263_206, r263_207, r263_210, r263_213, r263_216, r263_219, r263_222, r263_225, r263_228, znl_i, znl_r, znl_j, znl_l, List.length_cons, List.length_nil, Option.some.injEq, Sum.inl.injEq, Sum.inr.injEq, Prod.mk.injEq, true_and, and_true, exists_eq_left', zK_sI, zA_sI, zL_sI, zK_sL, zA_sL, zI_sL, zK_fI, zA_fI, zL_fI, zK_fL, zA_fL, zI_fL, Nat.reduceAdd, Nat.reduceLeDiff, forall_eq', zl_lt, zl_gt, zl_eq, zl_le, zl_ge, zm_0, zaft_n, zaft_v, zb_eq, Decidable.not_not, K2, A2, H.K, H.A25, H.K8, mW2_v8]
        simp (disch := omega) only [zn_b, show ((12 : Int) * k + o).toNat = 12 * k + o by omega]
        repeat (refine And.intro (by omega) ?_)
        rw [show zi2z 1 = 1 by decide, mW2_B]
        cases pt
        · exact ⟨fun q => absurd (by decide : zn (yb false) = 0) q, fun _ => ⟨fun _ => ex, fun q => absurd q (by decide)⟩⟩
        · exact ⟨fun _ => ex, fun q => absurd q (by decide)⟩
  -- one row of pairs
  have lo : ∀ (S : yP) (k : Nat), k < F.1 → ∀ (j o : Nat) (B C : Nat → Int) (pt : Bool) (w5 w6 : zV) (P : zEt), o + j = F.1 → mP F.1 C S → mP F.1 B (ymix S (yref F S) k o) → (pt = true ↔ ∃ k' o', k' < F.1 ∧ o' < F.1 ∧ (k' < k ∨ (k' = k ∧ o' < o)) ∧ yref F S k' o' ≠ S k' o') →
      (∀ B pt w4 w5 w6, mP F.1 B (ymix S (yref F S) (k + 1) 0) → (pt = true ↔ ∃ k' o', k' < F.1 ∧ o' < F.1 ∧ (k' < k + 1 ∨ (k' = k + 1 ∧ o' < 0)) ∧ yref F S k' o' ≠ S k' o') → zg e 263 (d + 3) 219 [zr (some a), zi F.1, zi (yb pt), zi k, w4, w5, w6] [] (mW2 h a B C) P) →
      zg e 263 (d + 3) 109 [zr (some a), zi F.1, zi (yb pt), zi k, zi o, w5, w6] [] (mW2 h a B C) P := by
    intro S k hk j
    induction j with
    | zero =>
      intro o B C pt w5 w6 P ho hC hB hpt nx
      obtain rfl : o = F.1 := by omega
      rw [r263_109]
      simp only [r263_0, r263_1, r263_4, r263_5, r263_6, r263_7, r263_8, r263_10, r263_11, r263_14, r263_15, r263_17, r263_18, r263_21, r263_22, r263_25, r263_27, r263_28, r263_29, r263_30, r263_31, r263_32, r263_33, r263_34, r263_37, r263_38, r263_39, r263_40, r263_43, r263_46, r263_47, r263_50, r263_51, r263_52, r263_55, r263_58, r263_61, r263_64, r263_65, r263_67, r263_70, r263_71, r263_72, r263_73, r263_75, r263_78, r263_81, r263_82, r263_85, r263_86, r263_87, r263_90, r263_91, r263_92, r263_93, r263_96, r263_99, r263_100, r263_102, r263_103, r263_106, r263_107, r263_111, r263_112, r263_115, r263_116, r263_120, r263_121, r263_124, r263_125, r263_128, r263_130, r263_131, r263_132, r263_134, r263_135, r263_136, r263_139, r263_140, r263_141, r263_143, r263_144, r263_145, r263_147, r263_150, r263_153, r263_154, r263_156, r263_158, r263_159, r263_160, r263_162, r263_165, r263_168, r263_171, r263_172, r263_175, r263_176, r263_178, r263_179, r263_182, r263_184, r263_185, r263_186, r263_188, r263_189, r263_191, r263_192, r263_193, r263_196, r263_198, r263_201, r263_202, r263_205, r263_206, r263_207, r263_210, r263_213, r263_216, r263_222, r263_225, r263_228, znl_i, znl_r, znl_j, znl_l, List.length_cons, List.length_nil, Option.some.injEq, Sum.inl.injEq, Sum.inr.injEq, Prod.mk.injEq, true_and, and_true, exists_eq_left', zK_sI, zA_sI, zL_sI, zK_sL, zA_sL, zI_sL, zK_fI, zA_fI, zL_fI, zK_fL, zA_fL, zI_fL, Nat.reduceAdd, Nat.reduceLeDiff, forall_eq', zl_lt, zl_gt, zl_eq, zl_le, zl_ge, zm_0, zaft_n, zaft_v, zb_eq, Decidable.not_not]
      simp (disch := omega) only [zn_b, zm_b, Int.toNat_natCast]
      refine ⟨fun _ => nx B pt _ _ _ (mP_row hB) ?_, fun q => by omega⟩
      rw [hpt]
      constructor
      · rintro ⟨k', o', q1, q2, q3, q4⟩; exact ⟨k', o', q1, q2, by omega, q4⟩
      · rintro ⟨k', o', q1, q2, q3, q4⟩; exact ⟨k', o', q1, q2, by omega, q4⟩
    | succ j ih =>
      intro o B C pt w5 w6 P ho hC hB hpt nx
      have hon : o < F.1 := by omega
      have hBo : B (12 * k + o) = yb (S k o) := by rw [hB k o hk hon, ymix_f (by omega)]
      rw [r263_109]
      simp only [r263_0, r263_1, r263_4, r263_5, r263_6, r263_7, r263_8, r263_10, r263_11, r263_14, r263_15, r263_17, r263_18, r263_21, r263_22, r263_25, r263_27, r263_28, r263_29, r263_30, r263_31, r263_32, r263_33, r263_34, r263_37, r263_38, r263_39, r263_40, r263_43, r263_46, r263_47, r263_50, r263_51, r263_52, r263_55, r263_58, r263_61, r263_64, r263_65, r263_67, r263_70, r263_71, r263_72, r263_73, r263_75, r263_78, r263_81, r263_82, r263_85, r263_86, r263_87, r263_90, r263_91, r263_92, r263_93, r263_96, r263_99, r263_100, r263_102, r263_103, r263_106, r263_107, r263_111, r263_112, r263_115, r263_116, r263_120, r263_121, r263_124, r263_125, r263_128, r263_130, r263_131, r263_132, r263_134, r263_135, r263_136, r263_139, r263_140, r263_141, r263_143, r263_144, r263_145, r263_147, r263_150, r263_153, r263_154, r263_156, r263_158, r263_159, r263_160, r263_162, r263_165, r263_168, r263_171, r263_172, r263_175, r263_176, r263_178, r263_179, r263_182, r263_184, r263_185, r263_186, r263_188, r263_189, r263_191, r263_192, r263_193, r263_196, r263_198, r263_201, r263_202, r263_205, r263_206, r263_207, r263_210, r263_216, r263_219, r263_222, r263_225, r263_228, znl_i, znl_r, znl_j, znl_l, List.length_cons, List.length_nil, Option.some.injEq, Sum.inl.injEq, Sum.inr.injEq, Prod.mk.injEq, true_and, and_true, exists_eq_left', zK_sI, zA_sI, zL_sI, zK_sL, zA_sL, zI_sL, zK_fI, zA_fI, zL_fI, zK_fL, zA_fL, zI_fL, Nat.reduceAdd, Nat.reduceLeDiff, forall_eq', zl_lt, zl_gt, zl_eq, zl_le, zl_ge, zm_0, zaft_n, zaft_v, zb_eq, Decidable.not_not]
      simp (disch := omega) only [zn_b, zm_b, Int.toNat_natCast]
      refine ⟨fun q => by omega, fun _ => ?_⟩
      cases hS : S k o with
      | false =>
        rw [hS] at hBo
        have hR : yref F S k o = false := by simp [yref, hS]
        have ex : ∀ w5 w6, zg e 263 (d + 3) 213 [zr (some a), zi F.1, zi (yb pt), zi k, zi o, w5, w6] [] (mW2 h a B C) P := fun w5 w6 => by
          simp only [r263_0, r263_1, r263_4, r263_5, r263_6, r263_7, r263_8, r263_10, r263_11, r263_14, r263_15, r263_17, r263_18, r263_21, r263_22, r263_25, r263_27, r263_28, r263_29, r263_30, r263_31, r263_32, r263_33, r263_34, r263_37, r263_38, r263_39, r263_40, r263_43, r263_46, r263_47, r263_50, r263_51, r263_52, r263_55, r263_58, r263_61, r263_64, r263_65, r263_67, r263_70, r263_71, r263_72, r263_73, r263_75, r263_78, r263_81, r263_82, r263_85, r263_86, r263_87, r263_90, r263_91, r263_92, r263_93, r263_96, r263_99, r263_100, r263_102, r263_103, r263_106, r263_107, r263_111, r263_112, r263_115, r263_116, r263_120, r263_121, r263_124, r263_125, r263_128, r263_130, r263_131, r263_132, r263_134, r263_135, r263_136, r263_139, r263_140, r263_141, r263_143, r263_144, r263_145, r263_147, r263_150, r263_153, r263_154, r263_156, r263_158, r263_159, r263_160, r263_162, r263_165, r263_168, r263_171, r263_172, r263_175, r263_176, r263_178, r263_179, r263_182, r263_184, r263_185, r263_186, r263_188, r263_189, r263_191, r263_192, r263_193, r263_196, r263_198, r263_201, r263_202, r263_205, r263_206, r263_207, r263_210, r263_213, r263_216, r263_219, r263_222, r263_225, r263_228, znl_i, znl_r, znl_j, znl_l, List.length_cons, List.length_nil, Option.some.injEq, Sum.inl.injEq, Sum.inr.injEq, Prod.mk.injEq, true_and, and_true, exists_eq_left', zK_sI, zA_sI, zL_sI, zK_sL, zA_sL, zI_sL, zK_fI, zA_fI, zL_fI, zK_fL, zA_fL, zI_fL, Nat.reduceAdd, Nat.reduceLeDiff, forall_eq', zl_lt, zl_gt, zl_eq, zl_le, zl_ge, zm_0, zaft_n, zaft_v, zb_eq, Decidable.not_not]
          refine ih (o + 1) B C pt w5 w6 P (by omega) hC ?_ ?_ nx
          · have := mP_up hn hk hon hB
            rw [hR, show zup B (12 * k + o) (yb false) = B from funext fun i => by simp only [zup]; split; (rename_i q; rw [q, hBo]); rfl] at this
            exact this
          · rw [hpt]
            constructor
            · rintro ⟨k', o', q1, q2, q3, q4⟩; exact ⟨k', o', q1, q2, by omega, q4⟩
            · rintro ⟨k', o', q1, q2, q3, q4⟩
              refine ⟨k', o', q1, q2, ?_, q4⟩
              by_cases z : k' = k ∧ o' = o
              · rw [z.1, z.2, hR, hS] at q4; exact absurd rfl q4
              · omega
        rw [r263_118]
        simp only [r263_0, r263_1, r263_4, r263_5, r263_6, r263_7, r263_8, r263_10, r263_11, r263_14, r263_15, r263_17, r263_18, r263_21, r263_22, r263_25, r263_27, r263_28, r263_29, r263_30, r263_31, r263_32, r263_33, r263_34, r263_37, r263_38, r263_39, r263_40, r263_43, r263_46, r263_47, r263_50, r263_51, r263_52, r263_55, r263_58, r263_61, r263_64, r263_65, r263_67, r263_70, r263_71, r263_72, r263_73, r263_75, r263_78, r263_81, r263_82, r263_85, r263_86, r263_87, r263_90, r263_91, r263_92, r263_93, r263_96, r263_99, r263_100, r263_102, r263_103, r263_106, r263_107, r263_111, r263_112, r263_115, r263_116, r263_120, r263_121, r263_124, r263_125, r263_128, r263_130, r263_131, r263_132, r263_134, r263_135, r263_136, r263_139, r263_140, r263_141, r263_143, r263_144, r263_145, r263_147, r263_150, r263_153, r263_154, r263_156, r263_158, r263_159, r263_160, r263_162, r263_165, r263_168, r263_171, r263_172, r263_175, r263_176, r263_178, r263_179, r263_182, r263_184, r263_185, r263_186, r263_188, r263_189, r263_191, r263_192, r263_193, r263_196, r263_198, r263_201, r263_202, r263_205, r263_206, r263_207, r263_210, r263_216, r263_219, r263_222, r263_225, r263_228, znl_i, znl_r, znl_j, znl_l, List.length_cons, List.length_nil, Option.some.injEq, Sum.inl.injEq, Sum.inr.injEq, Prod.mk.injEq, true_and, and_true, exists_eq_left', zK_sI, zA_sI, zL_sI, zK_sL, zA_sL, zI_sL, zK_fI, zA_fI, zL_fI, zK_fL, zA_fL, zI_fL, Nat.reduceAdd, Nat.reduceLeDiff, forall_eq', zl_lt, zl_gt, zl_eq, zl_le, zl_ge, zm_0, zaft_n, zaft_v, zb_eq, Decidable.not_not, K2, A2, H.K, H.A25, H.K8, mW2_v8]
        simp (disch := omega) only [zn_b, show ((12 : Int) * k + o).toNat = 12 * k + o by omega, hBo, show zn (yb false) = 0 by decide]
        exact ⟨fun _ => ex _ _, fun _ => ⟨by omega, by omega, fun _ => ex _ _, fun q => absurd trivial q⟩⟩
      | true =>
        rw [hS] at hBo
        have hR : yref F S k o = decide (yfind (fun z => !ylike F S k o z) F.1 0 = -1) := by simp [yref, hS]
        refine lz S k o hk hon F.1 0 B C pt _ P (by omega) hC hBo (fun w5 w6 => ?_)
        simp only [r263_0, r263_1, r263_4, r263_5, r263_6, r263_7, r263_8, r263_10, r263_11, r263_14, r263_15, r263_17, r263_18, r263_21, r263_22, r263_25, r263_27, r263_28, r263_29, r263_30, r263_31, r263_32, r263_33, r263_34, r263_37, r263_38, r263_39, r263_40, r263_43, r263_46, r263_47, r263_50, r263_51, r263_52, r263_55, r263_58, r263_61, r263_64, r263_65, r263_67, r263_70, r263_71, r263_72, r263_73, r263_75, r263_78, r263_81, r263_82, r263_85, r263_86, r263_87, r263_90, r263_91, r263_92, r263_93, r263_96, r263_99, r263_100, r263_102, r263_103, r263_106, r263_107, r263_111, r263_112, r263_115, r263_116, r263_120, r263_121, r263_124, r263_125, r263_128, r263_130, r263_131, r263_132, r263_134, r263_135, r263_136, r263_139, r263_140, r263_141, r263_143, r263_144, r263_145, r263_147, r263_150, r263_153, r263_154, r263_156, r263_158, r263_159, r263_160, r263_162, r263_165, r263_168, r263_171, r263_172, r263_175, r263_176, r263_178, r263_179, r263_182, r263_184, r263_185, r263_186, r263_188, r263_189, r263_191, r263_192, r263_193, r263_196, r263_198, r263_201, r263_202, r263_205, r263_206, r263_207, r263_210, r263_213, r263_216, r263_219, r263_222, r263_225, r263_228, znl_i, znl_r, znl_j, znl_l, List.length_cons, List.length_nil, Option.some.injEq, Sum.inl.injEq, Sum.inr.injEq, Prod.mk.injEq, true_and, and_true, exists_eq_left', zK_sI, zA_sI, zL_sI, zK_sL, zA_sL, zI_sL, zK_fI, zA_fI, zL_fI, zK_fL, zA_fL, zI_fL, Nat.reduceAdd, Nat.reduceLeDiff, forall_eq', zl_lt, zl_gt, zl_eq, zl_le, zl_ge, zm_0, zaft_n, zaft_v, zb_eq, Decidable.not_not]
        have hm := mP_up hn hk hon hB
        rw [hR] at hm
        refine ih (o + 1) _ C _ w5 w6 P (by omega) hC hm ?_ nx
        rw [Bool.or_eq_true, hpt, decide_eq_true_iff]
        constructor
        · rintro (⟨k', o', q1, q2, q3, q4⟩ | q)
          · exact ⟨k', o', q1, q2, by omega, q4⟩
          · exact ⟨k, o, hk, hon, by omega, by rw [hR, hS]; simp [q]⟩
        · rintro ⟨k', o', q1, q2, q3, q4⟩
          by_cases z : k' = k ∧ o' = o
          · right
            rw [z.1, z.2, hR, hS] at q4
            intro q; rw [q] at q4; exact q4 rfl
          · left; exact ⟨k', o', q1, q2, by omega, q4⟩
  have lk : ∀ (S : yP) (j k : Nat) (B C : Nat → Int) (pt : Bool) (w4 w5 w6 : zV) (P : zEt), k + j = F.1 → mP F.1 C S → mP F.1 B (ymix S (yref F S) k 0) → (pt = true ↔ ∃ k' o', k' < F.1 ∧ o' < F.1 ∧ (k' < k ∨ (k' = k ∧ o' < 0)) ∧ yref F S k' o' ≠ S k' o') →
      (∀ B pt w3 w4 w5 w6, mP F.1 B (yref F S) → (pt = true ↔ ¬ yfix F S) → zg e 263 (d + 3) 66 [zr (some a), zi F.1, zi (yb pt), w3, w4, w5, w6] [] (mW2 h a B C) P) →
      zg e 263 (d + 3) 101 [zr (some a), zi F.1, zi (yb pt), zi k, w4, w5, w6] [] (mW2 h a B C) P := by
    intro S j
    induction j with
    | zero =>
      intro k B C pt w4 w5 w6 P hk hC hB hpt nx
      obtain rfl : k = F.1 := by omega
      rw [r263_101]
      simp only [r263_0, r263_1, r263_4, r263_5, r263_6, r263_7, r263_8, r263_10, r263_11, r263_14, r263_15, r263_17, r263_18, r263_21, r263_22, r263_25, r263_27, r263_28, r263_29, r263_30, r263_31, r263_32, r263_33, r263_34, r263_37, r263_38, r263_39, r263_40, r263_43, r263_46, r263_47, r263_50, r263_51, r263_52, r263_55, r263_58, r263_61, r263_64, r263_65, r263_67, r263_70, r263_71, r263_72, r263_73, r263_75, r263_78, r263_81, r263_82, r263_85, r263_86, r263_87, r263_90, r263_91, r263_92, r263_93, r263_96, r263_99, r263_100, r263_102, r263_103, r263_106, r263_107, r263_111, r263_112, r263_115, r263_116, r263_120, r263_121, r263_124, r263_125, r263_128, r263_130, r263_131, r263_132, r263_134, r263_135, r263_136, r263_139, r263_140, r263_141, r263_143, r263_144, r263_145, r263_147, r263_150, r263_153, r263_154, r263_156, r263_158, r263_159, r263_160, r263_162, r263_165, r263_168, r263_171, r263_172, r263_175, r263_176, r263_178, r263_179, r263_182, r263_184, r263_185, r263_186, r263_188, r263_189, r263_191, r263_192, r263_193, r263_196, r263_198, r263_201, r263_202, r263_205, r263_206, r263_207, r263_210, r263_213, r263_216, r263_219, r263_222, r263_225, r263_228, znl_i, znl_r, znl_j, znl_l, List.length_cons, List.length_nil, Option.some.injEq, Sum.inl.injEq, Sum.inr.injEq, Prod.mk.injEq, true_and, and_true, exists_eq_left', zK_sI, zA_sI, zL_sI, zK_sL, zA_sL, zI_sL, zK_fI, zA_fI, zL_fI, zK_fL, zA_fL, zI_fL, Nat.reduceAdd, Nat.reduceLeDiff, forall_eq', zl_lt, zl_gt, zl_eq, zl_le, zl_ge, zm_0, zaft_n, zaft_v, zb_eq, Decidable.not_not]
      simp (disch := omega) only [zn_b, zm_b, Int.toNat_natCast]
      refine ⟨fun _ => nx B pt _ _ _ _ (mP_congr hB (fun k o q1 q2 => ymix_t (Or.inl q1))) ?_, fun q => by omega⟩
      rw [hpt]
      constructor
      · rintro ⟨k', o', q1, q2, q3, q4⟩ q; exact q4 (q k' o' q1 q2)
      · intro q
        apply Classical.byContradiction
        intro q2
        apply q
        intro k' o' q3 q4
        apply Classical.byContradiction
        intro q5
        exact q2 ⟨k', o', q3, q4, Or.inl q3, q5⟩
    | succ j ih =>
      intro k B C pt w4 w5 w6 P hk hC hB hpt nx
      rw [r263_101]
      simp only [r263_0, r263_1, r263_4, r263_5, r263_6, r263_7, r263_8, r263_10, r263_11, r263_14, r263_15, r263_17, r263_18, r263_21, r263_22, r263_25, r263_27, r263_28, r263_29, r263_30, r263_31, r263_32, r263_33, r263_34, r263_37, r263_38, r263_39, r263_40, r263_43, r263_46, r263_47, r263_50, r263_51, r263_52, r263_55, r263_58, r263_61, r263_64, r263_65, r263_67, r263_70, r263_71, r263_72, r263_73, r263_75, r263_78, r263_81, r263_82, r263_85, r263_86, r263_87, r263_90, r263_91, r263_92, r263_93, r263_96, r263_99, r263_100, r263_102, r263_103, r263_106, r263_107, r263_111, r263_112, r263_115, r263_116, r263_120, r263_121, r263_124, r263_125, r263_128, r263_130, r263_131, r263_132, r263_134, r263_135, r263_136, r263_139, r263_140, r263_141, r263_143, r263_144, r263_145, r263_147, r263_150, r263_153, r263_154, r263_156, r263_158, r263_159, r263_160, r263_162, r263_165, r263_168, r263_171, r263_172, r263_175, r263_176, r263_178, r263_179, r263_182, r263_184, r263_185, r263_186, r263_188, r263_189, r263_191, r263_192, r263_193, r263_196, r263_198, r263_201, r263_202, r263_205, r263_206, r263_207, r263_210, r263_213, r263_216, r263_219, r263_222, r263_225, r263_228, znl_i, znl_r, znl_j, znl_l, List.length_cons, List.length_nil, Option.some.injEq, Sum.inl.injEq, Sum.inr.injEq, Prod.mk.injEq, true_and, and_true, exists_eq_left', zK_sI, zA_sI, zL_sI, zK_sL, zA_sL, zI_sL, zK_fI, zA_fI, zL_fI, zK_fL, zA_fL, zI_fL, Nat.reduceAdd, Nat.reduceLeDiff, forall_eq', zl_lt, zl_gt, zl_eq, zl_le, zl_ge, zm_0, zaft_n, zaft_v, zb_eq, Decidable.not_not]
      simp (disch := omega) only [zn_b, zm_b, Int.toNat_natCast]
      refine ⟨fun q => by omega, fun _ => ?_⟩
      refine lo S k (by omega) F.1 0 B C pt _ _ P (by omega) hC hB hpt (fun B pt w4 w5 w6 hB hpt => ?_)
      simp only [r263_0, r263_1, r263_4, r263_5, r263_6, r263_7, r263_8, r263_10, r263_11, r263_14, r263_15, r263_17, r263_18, r263_21, r263_22, r263_25, r263_27, r263_28, r263_29, r263_30, r263_31, r263_32, r263_33, r263_34, r263_37, r263_38, r263_39, r263_40, r263_43, r263_46, r263_47, r263_50, r263_51, r263_52, r263_55, r263_58, r263_61, r263_64, r263_65, r263_67, r263_70, r263_71, r263_72, r263_73, r263_75, r263_78, r263_81, r263_82, r263_85, r263_86, r263_87, r263_90, r263_91, r263_92, r263_93, r263_96, r263_99, r263_100, r263_102, r263_103, r263_106, r263_107, r263_111, r263_112, r263_115, r263_116, r263_120, r263_121, r263_124, r263_125, r263_128, r263_130, r263_131, r263_132, r263_134, r263_135, r263_136, r263_139, r263_140, r263_141, r263_143, r263_144, r263_145, r263_147, r263_150, r263_153, r263_154, r263_156, r263_158, r263_159, r263_160, r263_162, r263_165, r263_168, r263_171, r263_172, r263_175, r263_176, r263_178, r263_179, r263_182, r263_184, r263_185, r263_186, r263_188, r263_189, r263_191, r263_192, r263_193, r263_196, r263_198, r263_201, r263_202, r263_205, r263_206, r263_207, r263_210, r263_213, r263_216, r263_219, r263_222, r263_225, r263_228, znl_i, znl_r, znl_j, znl_l, List.length_cons, List.length_nil, Option.some.injEq, Sum.inl.injEq, Sum.inr.injEq, Prod.mk.injEq, true_and, and_true, exists_eq_left', zK_sI, zA_sI, zL_sI, zK_sL, zA_sL, zI_sL, zK_fI, zA_fI, zL_fI, zK_fL, zA_fL, zI_fL, Nat.reduceAdd, Nat.reduceLeDiff, forall_eq', zl_lt, zl_gt, zl_eq, zl_le, zl_ge, zm_0, zaft_n, zaft_v, zb_eq, Decidable.not_not]
      exact ih (k + 1) B C pt w4 w5 w6 P (by omega) hC hB hpt nx
  have lc : ∀ (j i : Nat) (B C : Nat → Int) (w4 w5 w6 : zV) (P : zEt), i + j = 144 → (∀ q, q < i → C q = zi2z (B q)) →
      (∀ C w3, (∀ q, q < 144 → C q = zi2z (B q)) → zg e 263 (d + 3) 99 [zr (some a), zi F.1, zi 0, w3, w4, w5, w6] [] (mW2 h a B C) P) → zg e 263 (d + 3) 74 [zr (some a), zi F.1, zi 0, zi i, w4, w5, w6] [] (mW2 h a B C) P := by
    intro j
    induction j with
    | zero =>
      intro i B C w4 w5 w6 P hi hC nx
      obtain rfl : i = 144 := by omega
      rw [r263_74]
      simp only [r263_0, r263_1, r263_4, r263_5, r263_6, r263_7, r263_8, r263_10, r263_11, r263_14, r263_15, r263_17, r263_18, r263_21, r263_22, r263_25, r263_27, r263_28, r263_29, r263_30, r263_31, r263_32, r263_33, r263_34, r263_37, r263_38, r263_39, r263_40, r263_43, r263_46, r263_47, r263_50, r263_51, r263_52, r263_55, r263_58, r263_61, r263_64, r263_65, r263_67, r263_70, r263_71, r263_72, r263_73, r263_75, r263_78, r263_81, r263_82, r263_85, r263_86, r263_87, r263_90, r263_91, r263_92, r263_93, r263_96, r263_100, r263_102, r263_103, r263_106, r263_107, r263_111, r263_112, r263_115, r263_116, r263_120, r263_121, r263_124, r263_125, r263_128, r263_130, r263_131, r263_132, r263_134, r263_135, r263_136, r263_139, r263_140, r263_141, r263_143, r263_144, r263_145, r263_147, r263_150, r263_153, r263_154, r263_156, r263_158, r263_159, r263_160, r263_162, r263_165, r263_168, r263_171, r263_172, r263_175, r263_176, r263_178, r263_179, r263_182, r263_184, r263_185, r263_186, r263_188, r263_189, r263_191, r263_192, r263_193, r263_196, r263_198, r263_201, r263_202, r263_205, r263_206, r263_207, r263_210, r263_213, r263_216, r263_219, r263_222, r263_225, r263_228, znl_i, znl_r, znl_j, znl_l, List.length_cons, List.length_nil, Option.some.injEq, Sum.inl.injEq, Sum.inr.injEq, Prod.mk.injEq, true_and, and_true, exists_eq_left', zK_sI, zA_sI, zL_sI, zK_sL, zA_sL, zI_sL, zK_fI, zA_fI, zL_fI, zK_fL, zA_fL, zI_fL, Nat.reduceAdd, Nat.reduceLeDiff, forall_eq', zl_lt, zl_gt, zl_eq, zl_le, zl_ge, zm_0, zaft_n, zaft_v, zb_eq, Decidable.not_not]
      simp (disch := omega) only [zn_b, zm_b, Int.toNat_natCast]
      exact ⟨fun _ => nx C _ hC, fun q => by omega⟩
    | succ j ih =>
      intro i B C w4 w5 w6 P hi hC nx
      rw [r263_74]
      simp only [r263_0, r263_1, r263_4, r263_5, r263_6, r263_7, r263_8, r263_10, r263_11, r263_14, r263_15, r263_17, r263_18, r263_21, r263_22, r263_25, r263_27, r263_28, r263_29, r263_30, r263_31, r263_32, r263_33, r263_34, r263_37, r263_38, r263_39, r263_40, r263_43, r263_46, r263_47, r263_50, r263_51, r263_52, r263_55, r263_58, r263_61, r263_64, r263_65, r263_67, r263_70, r263_71, r263_72, r263_73, r263_75, r263_78, r263_81, r263_82, r263_85, r263_86, r263_87, r263_90, r263_91, r263_92, r263_93, r263_96, r263_100, r263_102, r263_103, r263_106, r263_107, r263_111, r263_112, r263_115, r263_116, r263_120, r263_121, r263_124, r263_125, r263_128, r263_130, r263_131, r263_132, r263_134, r263_135, r263_136, r263_139, r263_140, r263_141, r263_143, r263_144, r263_145, r263_147, r263_150, r263_153, r263_154, r263_156, r263_158, r263_159, r263_160, r263_162, r263_165, r263_168, r263_171, r263_172, r263_175, r263_176, r263_178, r263_179, r263_182, r263_184, r263_185, r263_186, r263_188, r263_189, r263_191, r263_192, r263_193, r263_196, r263_198, r263_201, r263_202, r263_205, r263_206, r263_207, r263_210, r263_213, r263_216, r263_219, r263_222, r263_225, r263_228, znl_i, znl_r, znl_j, znl_l, List.length_cons, List.length_nil, Option.some.injEq, Sum.inl.injEq, Sum.inr.injEq, Prod.mk.injEq, true_and, and_true, exists_eq_left', zK_sI, zA_sI, zL_sI, zK_sL, zA_sL, zI_sL, zK_fI, zA_fI, zL_fI, zK_fL, zA_fL, zI_fL, Nat.reduceAdd, Nat.reduceLeDiff, forall_eq', zl_lt, zl_gt, zl_eq, zl_le, zl_ge, zm_0, zaft_n, zaft_v, zb_eq, Decidable.not_not, K2, A2, H.K, H.A25, H.K8, H.A26, H.K9, mW2_v8]
      simp (disch := omega) only [zn_b, zm_b, Int.toNat_natCast]
      refine ⟨fun q => by omega, fun _ => ?_⟩
      repeat (refine And.intro (by omega) ?_)
      rw [mW2_C]
      refine ih (i + 1) B _ w4 w5 w6 P (by omega) (fun q hq => ?_) nx
      simp only [zup]
      by_cases z : q = i
      · rw [if_pos z, z]
      · rw [if_neg z]; exact hC q (by omega)
  have rd : ∀ (t : Nat) (B C : Nat → Int) (w3 w4 w5 w6 : zV) (P : zEt), mP F.1 B (yit F t) → (∀ ov B C, ov = Sum.inl none → mP F.1 B (yit F (t + 1)) → yfix F (yit F t) → P ov (mW2 h a B C)) → (∀ B C w3 w4 w5 w6, ¬ yfix F (yit F t) → mP F.1 B (yit F (t + 1)) → zg e 263 (d + 3) 66 [zr (some a), zi F.1, zi 1, w3, w4, w5, w6] [] (mW2 h a B C) P) → zg e 263 (d + 3) 66 [zr (some a), zi F.1, zi 1, w3, w4, w5, w6] [] (mW2 h a B C) P := by
    intro t B C w3 w4 w5 w6 P hB hend hgo
    rw [r263_66]
    simp only [r263_0, r263_1, r263_4, r263_5, r263_6, r263_7, r263_8, r263_10, r263_11, r263_14, r263_15, r263_17, r263_18, r263_21, r263_22, r263_25, r263_27, r263_28, r263_29, r263_30, r263_31, r263_32, r263_33, r263_34, r263_37, r263_38, r263_39, r263_40, r263_43, r263_46, r263_47, r263_50, r263_51, r263_52, r263_55, r263_58, r263_61, r263_64, r263_65, r263_67, r263_70, r263_71, r263_72, r263_73, r263_75, r263_78, r263_81, r263_82, r263_85, r263_86, r263_87, r263_90, r263_91, r263_92, r263_93, r263_96, r263_99, r263_100, r263_102, r263_103, r263_106, r263_107, r263_111, r263_112, r263_115, r263_116, r263_120, r263_121, r263_124, r263_125, r263_128, r263_130, r263_131, r263_132, r263_134, r263_135, r263_136, r263_139, r263_140, r263_141, r263_143, r263_144, r263_145, r263_147, r263_150, r263_153, r263_154, r263_156, r263_158, r263_159, r263_160, r263_162, r263_165, r263_168, r263_171, r263_172, r263_175, r263_176, r263_178, r263_179, r263_182, r263_184, r263_185, r263_186, r263_188, r263_189, r263_191, r263_192, r263_193, r263_196, r263_198, r263_201, r263_202, r263_205, r263_206, r263_207, r263_210, r263_213, r263_216, r263_219, r263_222, r263_225, r263_228, znl_i, znl_r, znl_j, znl_l, List.length_cons, List.length_nil, Option.some.injEq, Sum.inl.injEq, Sum.inr.injEq, Prod.mk.injEq, true_and, and_true, exists_eq_left', zK_sI, zA_sI, zL_sI, zK_sL, zA_sL, zI_sL, zK_fI, zA_fI, zL_fI, zK_fL, zA_fL, zI_fL, Nat.reduceAdd, Nat.reduceLeDiff, forall_eq', zl_lt, zl_gt, zl_eq, zl_le, zl_ge, zm_0, zaft_n, zaft_v, zb_eq, Decidable.not_not, e1]
    refine ⟨fun q => absurd q (by decide), fun _ => ?_⟩
    refine lc 144 0 B C _ _ _ P rfl (fun q hq => by omega) (fun C w3 hC => ?_)
    simp only [r263_0, r263_1, r263_4, r263_5, r263_6, r263_7, r263_8, r263_10, r263_11, r263_14, r263_15, r263_17, r263_18, r263_21, r263_22, r263_25, r263_27, r263_28, r263_29, r263_30, r263_31, r263_32, r263_33, r263_34, r263_37, r263_38, r263_39, r263_40, r263_43, r263_46, r263_47, r263_50, r263_51, r263_52, r263_55, r263_58, r263_61, r263_64, r263_65, r263_67, r263_70, r263_71, r263_72, r263_73, r263_75, r263_78, r263_81, r263_82, r263_85, r263_86, r263_87, r263_90, r263_91, r263_92, r263_93, r263_96, r263_99, r263_100, r263_102, r263_103, r263_106, r263_107, r263_111, r263_112, r263_115, r263_116, r263_120, r263_121, r263_124, r263_125, r263_128, r263_130, r263_131, r263_132, r263_134, r263_135, r263_136, r263_139, r263_140, r263_141, r263_143, r263_144, r263_145, r263_147, r263_150, r263_153, r263_154, r263_156, r263_158, r263_159, r263_160, r263_162, r263_165, r263_168, r263_171, r263_172, r263_175, r263_176, r263_178, r263_179, r263_182, r263_184, r263_185, r263_186, r263_188, r263_189, r263_191, r263_192, r263_193, r263_196, r263_198, r263_201, r263_202, r263_205, r263_206, r263_207, r263_210, r263_213, r263_216, r263_219, r263_222, r263_225, r263_228, znl_i, znl_r, znl_j, znl_l, List.length_cons, List.length_nil, Option.some.injEq, Sum.inl.injEq, Sum.inr.injEq, Prod.mk.injEq, true_and, and_true, exists_eq_left', zK_sI, zA_sI, zL_sI, zK_sL, zA_sL, zI_sL, zK_fI, zA_fI, zL_fI, zK_fL, zA_fL, zI_fL, Nat.reduceAdd, Nat.reduceLeDiff, forall_eq', zl_lt, zl_gt, zl_eq, zl_le, zl_ge, zm_0, zaft_n, zaft_v, zb_eq, Decidable.not_not]
    have hC2 : mP F.1 C (yit F t) := fun k o hk ho => by rw [hC _ (by omega), hB k o hk ho, zi2z_b]
    refine lk (yit F t) F.1 0 B C false _ _ _ P (by omega) hC2 (mP_congr hB (fun k o _ _ => (ymix_f (by omega)).symm)) ?_ (fun B pt w3 w4 w5 w6 hB hpt => ?_)
    · constructor
      · intro q; cases q
      · rintro ⟨k', o', _, _, q3, _⟩; omega
    · cases pt with
      | true => exact hgo B C w3 w4 w5 w6 (hpt.mp rfl) hB
      | false =>
        have hf : yfix F (yit F t) := Classical.byContradiction fun q => by have := hpt.mpr q; cases this
        rw [r263_66]
        simp only [r263_0, r263_1, r263_4, r263_5, r263_6, r263_7, r263_8, r263_10, r263_11, r263_14, r263_15, r263_17, r263_18, r263_21, r263_22, r263_25, r263_27, r263_28, r263_29, r263_30, r263_31, r263_32, r263_33, r263_34, r263_37, r263_38, r263_39, r263_40, r263_43, r263_46, r263_47, r263_50, r263_51, r263_52, r263_55, r263_58, r263_61, r263_64, r263_65, r263_67, r263_70, r263_71, r263_72, r263_73, r263_75, r263_78, r263_81, r263_82, r263_85, r263_86, r263_87, r263_90, r263_91, r263_92, r263_93, r263_96, r263_99, r263_100, r263_102, r263_103, r263_106, r263_107, r263_111, r263_112, r263_115, r263_116, r263_120, r263_121, r263_124, r263_125, r263_128, r263_130, r263_131, r263_132, r263_134, r263_135, r263_136, r263_139, r263_140, r263_141, r263_143, r263_144, r263_145, r263_147, r263_150, r263_153, r263_154, r263_156, r263_158, r263_159, r263_160, r263_162, r263_165, r263_168, r263_171, r263_172, r263_175, r263_176, r263_178, r263_179, r263_182, r263_184, r263_185, r263_186, r263_188, r263_189, r263_191, r263_192, r263_193, r263_196, r263_198, r263_201, r263_202, r263_205, r263_206, r263_207, r263_210, r263_213, r263_216, r263_219, r263_222, r263_225, r263_228, znl_i, znl_r, znl_j, znl_l, List.length_cons, List.length_nil, Option.some.injEq, Sum.inl.injEq, Sum.inr.injEq, Prod.mk.injEq, true_and, and_true, exists_eq_left', zK_sI, zA_sI, zL_sI, zK_sL, zA_sL, zI_sL, zK_fI, zA_fI, zL_fI, zK_fL, zA_fL, zI_fL, Nat.reduceAdd, Nat.reduceLeDiff, forall_eq', zl_lt, zl_gt, zl_eq, zl_le, zl_ge, zm_0, zaft_n, zaft_v, zb_eq, Decidable.not_not, show zn (yb false) = 0 by decide]
        exact ⟨fun _ => hend _ B C rfl hB hf, fun q => absurd trivial q⟩
  have fixS : ∀ t, yfix F (yit F t) → yfix F (yit F (t + 1)) := fun t hf k o hk ho => by
    have q := yit_fix hf
    show yit F (t + 2) k o = yit F (t + 1) k o
    rw [q 2 k o hk ho, q 1 k o hk ho]
  have wh : ∀ (m : Nat) (t : Nat) (B C : Nat → Int) (w3 w4 w5 w6 : zV), ymeas F.1 (yit F t) ≤ m → mP F.1 B (yit F t) → zg e 263 (d + 3) 66 [zr (some a), zi F.1, zi 1, w3, w4, w5, w6] [] (mW2 h a B C) (fun ov h' => ov = Sum.inl none ∧ ∃ B C t, h' = mW2 h a B C ∧ mP F.1 B (yit F t) ∧ yfix F (yit F t)) := by
    intro m
    induction m with
    | zero =>
      intro t B C w3 w4 w5 w6 hm hB
      refine rd t B C w3 w4 w5 w6 _ hB (fun ov B C ho hB hf => ⟨ho, B, C, t + 1, rfl, hB, fixS t hf⟩) (fun B C _ _ _ _ hf _ => ?_)
      have h1 := ymeas_lt hf
      have h2 := ymeas_nn F.1 (yref F (yit F t))
      omega
    | succ m ih =>
      intro t B C w3 w4 w5 w6 hm hB
      refine rd t B C w3 w4 w5 w6 _ hB (fun ov B C ho hB hf => ⟨ho, B, C, t + 1, rfl, hB, fixS t hf⟩) (fun B C w3 w4 w5 w6 hf hB => ?_)
      have h1 := ymeas_lt hf
      refine ih (t + 1) B C w3 w4 w5 w6 ?_ hB
      have : ymeas F.1 (yit F (t + 1)) = ymeas F.1 (yref F (yit F t)) := rfl
      omega
  -- the first partition
  have io : ∀ (k : Nat), k < F.1 → ∀ (j o : Nat) (B C : Nat → Int) (S : yP) (w4 w5 w6 : zV) (P : zEt), o + j = F.1 → (∀ k' o', k' < F.1 → o' < F.1 → (k' < k ∨ (k' = k ∧ o' < o)) → B (12 * k' + o') = yb (yit F 0 k' o')) →
      (∀ B w3, (∀ k' o', k' < F.1 → o' < F.1 → k' < k + 1 → B (12 * k' + o') = yb (yit F 0 k' o')) → zg e 263 (d + 3) 58 [zr (some a), zi F.1, zi k, w3, w4, w5, w6] [] (mW2 h a B C) P) →
      zg e 263 (d + 3) 16 [zr (some a), zi F.1, zi k, zi o, w4, w5, w6] [] (mW2 h a B C) P := by
    intro k hk j
    induction j with
    | zero =>
      intro o B C S w4 w5 w6 P ho hB nx
      obtain rfl : o = F.1 := by omega
      rw [r263_16]
      simp only [r263_0, r263_1, r263_4, r263_5, r263_6, r263_7, r263_8, r263_10, r263_11, r263_14, r263_15, r263_17, r263_18, r263_21, r263_22, r263_25, r263_27, r263_28, r263_29, r263_30, r263_31, r263_32, r263_33, r263_34, r263_37, r263_38, r263_39, r263_40, r263_43, r263_46, r263_47, r263_50, r263_51, r263_52, r263_55, r263_61, r263_64, r263_65, r263_67, r263_70, r263_71, r263_72, r263_73, r263_75, r263_78, r263_81, r263_82, r263_85, r263_86, r263_87, r263_90, r263_91, r263_92, r263_93, r263_96, r263_99, r263_100, r263_102, r263_103, r263_106, r263_107, r263_111, r263_112, r263_115, r263_116, r263_120, r263_121, r263_124, r263_125, r263_128, r263_130, r263_131, r263_132, r263_134, r263_135, r263_136, r263_139, r263_140, r263_141, r263_143, r263_144, r263_145, r263_147, r263_150, r263_153, r263_154, r263_156, r263_158, r263_159, r263_160, r263_162, r263_165, r263_168, r263_171, r263_172, r263_175, r263_176, r263_178, r263_179, r263_182, r263_184, r263_185, r263_186, r263_188, r263_189, r263_191, r263_192, r263_193, r263_196, r263_198, r263_201, r263_202, r263_205, r263_206, r263_207, r263_210, r263_213, r263_216, r263_219, r263_222, r263_225, r263_228, znl_i, znl_r, znl_j, znl_l, List.length_cons, List.length_nil, Option.some.injEq, Sum.inl.injEq, Sum.inr.injEq, Prod.mk.injEq, true_and, and_true, exists_eq_left', zK_sI, zA_sI, zL_sI, zK_sL, zA_sL, zI_sL, zK_fI, zA_fI, zL_fI, zK_fL, zA_fL, zI_fL, Nat.reduceAdd, Nat.reduceLeDiff, forall_eq', zl_lt, zl_gt, zl_eq, zl_le, zl_ge, zm_0, zaft_n, zaft_v, zb_eq, Decidable.not_not]
      simp (disch := omega) only [zn_b, zm_b, Int.toNat_natCast]
      exact ⟨fun _ => nx B _ (fun k' o' q1 q2 q3 => hB k' o' q1 q2 (by omega)), fun q => by omega⟩
    | succ j ih =>
      intro o B C S w4 w5 w6 P ho hB nx
      have v1 : zI h (a + 1) (4 + 4 * (k : Int) + 0).toNat = F.2 k 0 := by
        rw [← hF.2 k hk 0 (by omega)]; congr 1 <;> omega
      have v2 : zI h (a + 1) (4 + 4 * (o : Int) + 0).toNat = F.2 o 0 := by
        rw [← hF.2 o (by omega) 0 (by omega)]; congr 1 <;> omega
      have b1 := hW.2.1 k hk
      have b2 := hW.2.1 o (by omega)
      rw [r263_16]
      simp only [r263_0, r263_1, r263_4, r263_5, r263_6, r263_7, r263_8, r263_10, r263_11, r263_14, r263_15, r263_17, r263_18, r263_21, r263_22, r263_25, r263_27, r263_28, r263_29, r263_30, r263_31, r263_32, r263_33, r263_34, r263_37, r263_38, r263_39, r263_40, r263_43, r263_46, r263_47, r263_50, r263_52, r263_55, r263_61, r263_64, r263_65, r263_67, r263_70, r263_71, r263_72, r263_73, r263_75, r263_78, r263_81, r263_82, r263_85, r263_86, r263_87, r263_90, r263_91, r263_92, r263_93, r263_96, r263_99, r263_100, r263_102, r263_103, r263_106, r263_107, r263_111, r263_112, r263_115, r263_116, r263_120, r263_121, r263_124, r263_125, r263_128, r263_130, r263_131, r263_132, r263_134, r263_135, r263_136, r263_139, r263_140, r263_141, r263_143, r263_144, r263_145, r263_147, r263_150, r263_153, r263_154, r263_156, r263_158, r263_159, r263_160, r263_162, r263_165, r263_168, r263_171, r263_172, r263_175, r263_176, r263_178, r263_179, r263_182, r263_184, r263_185, r263_186, r263_188, r263_189, r263_191, r263_192, r263_193, r263_196, r263_198, r263_201, r263_202, r263_205, r263_206, r263_207, r263_210, r263_213, r263_216, r263_219, r263_222, r263_225, r263_228, znl_i, znl_r, znl_j, znl_l, List.length_cons, List.length_nil, Option.some.injEq, Sum.inl.injEq, Sum.inr.injEq, Prod.mk.injEq, true_and, and_true, exists_eq_left', zK_sI, zA_sI, zL_sI, zK_sL, zA_sL, zI_sL, zK_fI, zA_fI, zL_fI, zK_fL, zA_fL, zI_fL, Nat.reduceAdd, Nat.reduceLeDiff, forall_eq', zl_lt, zl_gt, zl_eq, zl_le, zl_ge, zm_0, zaft_n, zaft_v, zb_eq, Decidable.not_not, K2, A2, H.K, H.A25, H.K8]
      simp (disch := omega) only [zn_b, zm_b, Int.toNat_natCast]
      refine ⟨fun q => by omega, fun _ => ?_⟩
      refine zc_w (m_of (H2 B C) k 0 (by omega) (by omega) (by omega) (by omega)) ?_
      simp only [r263_0, r263_1, r263_4, r263_5, r263_6, r263_7, r263_8, r263_10, r263_11, r263_14, r263_15, r263_17, r263_18, r263_21, r263_22, r263_25, r263_27, r263_28, r263_29, r263_30, r263_31, r263_32, r263_33, r263_34, r263_37, r263_38, r263_39, r263_40, r263_43, r263_46, r263_47, r263_50, r263_52, r263_55, r263_61, r263_64, r263_65, r263_67, r263_70, r263_71, r263_72, r263_73, r263_75, r263_78, r263_81, r263_82, r263_85, r263_86, r263_87, r263_90, r263_91, r263_92, r263_93, r263_96, r263_99, r263_100, r263_102, r263_103, r263_106, r263_107, r263_111, r263_112, r263_115, r263_116, r263_120, r263_121, r263_124, r263_125, r263_128, r263_130, r263_131, r263_132, r263_134, r263_135, r263_136, r263_139, r263_140, r263_141, r263_143, r263_144, r263_145, r263_147, r263_150, r263_153, r263_154, r263_156, r263_158, r263_159, r263_160, r263_162, r263_165, r263_168, r263_171, r263_172, r263_175, r263_176, r263_178, r263_179, r263_182, r263_184, r263_185, r263_186, r263_188, r263_189, r263_191, r263_192, r263_193, r263_196, r263_198, r263_201, r263_202, r263_205, r263_206, r263_207, r263_210, r263_213, r263_216, r263_219, r263_222, r263_225, r263_228, znl_i, znl_r, znl_j, znl_l, List.length_cons, List.length_nil, Option.some.injEq, Sum.inl.injEq, Sum.inr.injEq, Prod.mk.injEq, true_and, and_true, exists_eq_left', zK_sI, zA_sI, zL_sI, zK_sL, zA_sL, zI_sL, zK_fI, zA_fI, zL_fI, zK_fL, zA_fL, zI_fL, Nat.reduceAdd, Nat.reduceLeDiff, forall_eq', zl_lt, zl_gt, zl_eq, zl_le, zl_ge, zm_0, zaft_n, zaft_v, zb_eq, Decidable.not_not, K2, A2, H.K]
      refine zc_w (m_of (H2 B C) o 0 (by omega) (by omega) (by omega) (by omega)) ?_
      simp only [r263_0, r263_1, r263_4, r263_5, r263_6, r263_7, r263_8, r263_10, r263_11, r263_14, r263_15, r263_17, r263_18, r263_21, r263_22, r263_25, r263_27, r263_28, r263_29, r263_30, r263_31, r263_32, r263_33, r263_34, r263_37, r263_38, r263_39, r263_40, r263_43, r263_46, r263_47, r263_50, r263_52, r263_55, r263_61, r263_64, r263_65, r263_67, r263_70, r263_71, r263_72, r263_73, r263_75, r263_78, r263_81, r263_82, r263_85, r263_86, r263_87, r263_90, r263_91, r263_92, r263_93, r263_96, r263_99, r263_100, r263_102, r263_103, r263_106, r263_107, r263_111, r263_112, r263_115, r263_116, r263_120, r263_121, r263_124, r263_125, r263_128, r263_130, r263_131, r263_132, r263_134, r263_135, r263_136, r263_139, r263_140, r263_141, r263_143, r263_144, r263_145, r263_147, r263_150, r263_153, r263_154, r263_156, r263_158, r263_159, r263_160, r263_162, r263_165, r263_168, r263_171, r263_172, r263_175, r263_176, r263_178, r263_179, r263_182, r263_184, r263_185, r263_186, r263_188, r263_189, r263_191, r263_192, r263_193, r263_196, r263_198, r263_201, r263_202, r263_205, r263_206, r263_207, r263_210, r263_213, r263_216, r263_219, r263_222, r263_225, r263_228, znl_i, znl_r, znl_j, znl_l, List.length_cons, List.length_nil, Option.some.injEq, Sum.inl.injEq, Sum.inr.injEq, Prod.mk.injEq, true_and, and_true, exists_eq_left', zK_sI, zA_sI, zL_sI, zK_sL, zA_sL, zI_sL, zK_fI, zA_fI, zL_fI, zK_fL, zA_fL, zI_fL, Nat.reduceAdd, Nat.reduceLeDiff, forall_eq', zl_lt, zl_gt, zl_eq, zl_le, zl_ge, zm_0, zaft_n, zaft_v, zb_eq, Decidable.not_not, K2, A2, H.K]
      rw [mW2_v _ _ _ _ (by omega) (by omega), v1, v2, zn_b (x := F.2 k 0) (by omega) (by omega), zn_b (x := F.2 o 0) (by omega) (by omega)]
      have fin : ∀ v : Bool, yit F 0 k o = v → zg e 263 (d + 3) 51 [zr (some a), zi F.1, zi k, zi o, w4, w5, w6] [zi (yb v), zi (12 * (k : Int) + o), zr (some (a + 8))] (mW2 h a B C) P := fun v hv => by
        simp only [r263_0, r263_1, r263_4, r263_5, r263_6, r263_7, r263_8, r263_10, r263_11, r263_14, r263_15, r263_17, r263_18, r263_21, r263_22, r263_25, r263_27, r263_28, r263_29, r263_30, r263_31, r263_32, r263_33, r263_34, r263_37, r263_38, r263_39, r263_40, r263_43, r263_46, r263_47, r263_50, r263_51, r263_52, r263_55, r263_61, r263_64, r263_65, r263_67, r263_70, r263_71, r263_72, r263_73, r263_75, r263_78, r263_81, r263_82, r263_85, r263_86, r263_87, r263_90, r263_91, r263_92, r263_93, r263_96, r263_99, r263_100, r263_102, r263_103, r263_106, r263_107, r263_111, r263_112, r263_115, r263_116, r263_120, r263_121, r263_124, r263_125, r263_128, r263_130, r263_131, r263_132, r263_134, r263_135, r263_136, r263_139, r263_140, r263_141, r263_143, r263_144, r263_145, r263_147, r263_150, r263_153, r263_154, r263_156, r263_158, r263_159, r263_160, r263_162, r263_165, r263_168, r263_171, r263_172, r263_175, r263_176, r263_178, r263_179, r263_182, r263_184, r263_185, r263_186, r263_188, r263_189, r263_191, r263_192, r263_193, r263_196, r263_198, r263_201, r263_202, r263_205, r263_206, r263_207, r263_210, r263_213, r263_216, r263_219, r263_222, r263_225, r263_228, znl_i, znl_r, znl_j, znl_l, List.length_cons, List.length_nil, Option.some.injEq, Sum.inl.injEq, Sum.inr.injEq, Prod.mk.injEq, true_and, and_true, exists_eq_left', zK_sI, zA_sI, zL_sI, zK_sL, zA_sL, zI_sL, zK_fI, zA_fI, zL_fI, zK_fL, zA_fL, zI_fL, Nat.reduceAdd, Nat.reduceLeDiff, forall_eq', zl_lt, zl_gt, zl_eq, zl_le, zl_ge, zm_0, zaft_n, zaft_v, zb_eq, Decidable.not_not, K2, A2, H.K, H.A25, H.K8]
        simp (disch := omega) only [zn_b, show ((12 : Int) * k + o).toNat = 12 * k + o by omega]
        repeat (refine And.intro (by omega) ?_)
        rw [zi2z_b, mW2_B]
        refine ih (o + 1) _ C S w4 w5 w6 P (by omega) (fun k' o' q1 q2 q3 => ?_) nx
        simp only [zup]
        by_cases z : 12 * k' + o' = 12 * k + o
        · have z1 : k' = k := by omega
          have z2 : o' = o := by omega
          rw [if_pos z, z1, z2, hv]
        · rw [if_neg z]; exact hB k' o' q1 q2 (by omega)
      refine ⟨fun q => fin false (decide_eq_false q), fun q => fin true (decide_eq_true q)⟩
  have ik : ∀ (j k : Nat) (B C : Nat → Int) (w3 w4 w5 w6 : zV), k + j = F.1 → (∀ k' o', k' < F.1 → o' < F.1 → k' < k → B (12 * k' + o') = yb (yit F 0 k' o')) → zg e 263 (d + 3) 9 [zr (some a), zi F.1, zi k, w3, w4, w5, w6] [] (mW2 h a B C) (fun ov h' => ov = Sum.inl none ∧ ∃ B C t, h' = mW2 h a B C ∧ mP F.1 B (yit F t) ∧ yfix F (yit F t)) := by
    intro j
    induction j with
    | zero =>
      intro k B C w3 w4 w5 w6 hk hB
      obtain rfl : k = F.1 := by omega
      rw [r263_9]
      simp only [r263_0, r263_1, r263_4, r263_5, r263_6, r263_7, r263_8, r263_10, r263_11, r263_14, r263_15, r263_17, r263_18, r263_21, r263_22, r263_25, r263_27, r263_28, r263_29, r263_30, r263_31, r263_32, r263_33, r263_34, r263_37, r263_38, r263_39, r263_40, r263_43, r263_46, r263_47, r263_50, r263_51, r263_52, r263_55, r263_58, r263_61, r263_64, r263_65, r263_67, r263_70, r263_71, r263_72, r263_73, r263_75, r263_78, r263_81, r263_82, r263_85, r263_86, r263_87, r263_90, r263_91, r263_92, r263_93, r263_96, r263_99, r263_100, r263_102, r263_103, r263_106, r263_107, r263_111, r263_112, r263_115, r263_116, r263_120, r263_121, r263_124, r263_125, r263_128, r263_130, r263_131, r263_132, r263_134, r263_135, r263_136, r263_139, r263_140, r263_141, r263_143, r263_144, r263_145, r263_147, r263_150, r263_153, r263_154, r263_156, r263_158, r263_159, r263_160, r263_162, r263_165, r263_168, r263_171, r263_172, r263_175, r263_176, r263_178, r263_179, r263_182, r263_184, r263_185, r263_186, r263_188, r263_189, r263_191, r263_192, r263_193, r263_196, r263_198, r263_201, r263_202, r263_205, r263_206, r263_207, r263_210, r263_213, r263_216, r263_219, r263_222, r263_225, r263_228, znl_i, znl_r, znl_j, znl_l, List.length_cons, List.length_nil, Option.some.injEq, Sum.inl.injEq, Sum.inr.injEq, Prod.mk.injEq, true_and, and_true, exists_eq_left', zK_sI, zA_sI, zL_sI, zK_sL, zA_sL, zI_sL, zK_fI, zA_fI, zL_fI, zK_fL, zA_fL, zI_fL, Nat.reduceAdd, Nat.reduceLeDiff, forall_eq', zl_lt, zl_gt, zl_eq, zl_le, zl_ge, zm_0, zaft_n, zaft_v, zb_eq, Decidable.not_not]
      simp (disch := omega) only [zn_b, zm_b, Int.toNat_natCast]
      refine ⟨fun _ => ?_, fun q => by omega⟩
      have hm := ymeas_nn F.1 (yit F 0)
      exact wh (ymeas F.1 (yit F 0)).toNat 0 B C _ _ _ _ (by omega) (fun k o q1 q2 => hB k o q1 q2 q1)
    | succ j ih =>
      intro k B C w3 w4 w5 w6 hk hB
      rw [r263_9]
      simp only [r263_0, r263_1, r263_4, r263_5, r263_6, r263_7, r263_8, r263_10, r263_11, r263_14, r263_15, r263_17, r263_18, r263_21, r263_22, r263_25, r263_27, r263_28, r263_29, r263_30, r263_31, r263_32, r263_33, r263_34, r263_37, r263_38, r263_39, r263_40, r263_43, r263_46, r263_47, r263_50, r263_51, r263_52, r263_55, r263_58, r263_61, r263_64, r263_65, r263_67, r263_70, r263_71, r263_72, r263_73, r263_75, r263_78, r263_81, r263_82, r263_85, r263_86, r263_87, r263_90, r263_91, r263_92, r263_93, r263_96, r263_99, r263_100, r263_102, r263_103, r263_106, r263_107, r263_111, r263_112, r263_115, r263_116, r263_120, r263_121, r263_124, r263_125, r263_128, r263_130, r263_131, r263_132, r263_134, r263_135, r263_136, r263_139, r263_140, r263_141, r263_143, r263_144, r263_145, r263_147, r263_150, r263_153, r263_154, r263_156, r263_158, r263_159, r263_160, r263_162, r263_165, r263_168, r263_171, r263_172, r263_175, r263_176, r263_178, r263_179, r263_182, r263_184, r263_185, r263_186, r263_188, r263_189, r263_191, r263_192, r263_193, r263_196, r263_198, r263_201, r263_202, r263_205, r263_206, r263_207, r263_210, r263_213, r263_216, r263_219, r263_222, r263_225, r263_228, znl_i, znl_r, znl_j, znl_l, List.length_cons, List.length_nil, Option.some.injEq, Sum.inl.injEq, Sum.inr.injEq, Prod.mk.injEq, true_and, and_true, exists_eq_left', zK_sI, zA_sI, zL_sI, zK_sL, zA_sL, zI_sL, zK_fI, zA_fI, zL_fI, zK_fL, zA_fL, zI_fL, Nat.reduceAdd, Nat.reduceLeDiff, forall_eq', zl_lt, zl_gt, zl_eq, zl_le, zl_ge, zm_0, zaft_n, zaft_v, zb_eq, Decidable.not_not]
      simp (disch := omega) only [zn_b, zm_b, Int.toNat_natCast]
      refine ⟨fun q => by omega, fun _ => ?_⟩
      refine io k (by omega) F.1 0 B C (yit F 0) _ _ _ _ (by omega) (fun k' o' q1 q2 q3 => hB k' o' q1 q2 (by omega)) (fun B w3 hB => ?_)
      simp only [r263_0, r263_1, r263_4, r263_5, r263_6, r263_7, r263_8, r263_10, r263_11, r263_14, r263_15, r263_17, r263_18, r263_21, r263_22, r263_25, r263_27, r263_28, r263_29, r263_30, r263_31, r263_32, r263_33, r263_34, r263_37, r263_38, r263_39, r263_40, r263_43, r263_46, r263_47, r263_50, r263_51, r263_52, r263_55, r263_58, r263_61, r263_64, r263_65, r263_67, r263_70, r263_71, r263_72, r263_73, r263_75, r263_78, r263_81, r263_82, r263_85, r263_86, r263_87, r263_90, r263_91, r263_92, r263_93, r263_96, r263_99, r263_100, r263_102, r263_103, r263_106, r263_107, r263_111, r263_112, r263_115, r263_116, r263_120, r263_121, r263_124, r263_125, r263_128, r263_130, r263_131, r263_132, r263_134, r263_135, r263_136, r263_139, r263_140, r263_141, r263_143, r263_144, r263_145, r263_147, r263_150, r263_153, r263_154, r263_156, r263_158, r263_159, r263_160, r263_162, r263_165, r263_168, r263_171, r263_172, r263_175, r263_176, r263_178, r263_179, r263_182, r263_184, r263_185, r263_186, r263_188, r263_189, r263_191, r263_192, r263_193, r263_196, r263_198, r263_201, r263_202, r263_205, r263_206, r263_207, r263_210, r263_213, r263_216, r263_219, r263_222, r263_225, r263_228, znl_i, znl_r, znl_j, znl_l, List.length_cons, List.length_nil, Option.some.injEq, Sum.inl.injEq, Sum.inr.injEq, Prod.mk.injEq, true_and, and_true, exists_eq_left', zK_sI, zA_sI, zL_sI, zK_sL, zA_sL, zI_sL, zK_fI, zA_fI, zL_fI, zK_fL, zA_fL, zI_fL, Nat.reduceAdd, Nat.reduceLeDiff, forall_eq', zl_lt, zl_gt, zl_eq, zl_le, zl_ge, zm_0, zaft_n, zaft_v, zb_eq, Decidable.not_not]
      exact ih (k + 1) B C w3 _ _ _ (by omega) hB
  have a0 : zI h (a + 1) 0 = (F.1 : Int) := hF.1
  simp only [n263, r263_0, r263_1, r263_4, r263_5, r263_6, r263_7, r263_8, r263_10, r263_11, r263_14, r263_15, r263_17, r263_18, r263_21, r263_22, r263_25, r263_27, r263_28, r263_29, r263_30, r263_31, r263_32, r263_33, r263_34, r263_37, r263_38, r263_39, r263_40, r263_43, r263_46, r263_47, r263_50, r263_51, r263_52, r263_55, r263_58, r263_61, r263_64, r263_65, r263_67, r263_70, r263_71, r263_72, r263_73, r263_75, r263_78, r263_81, r263_82, r263_85, r263_86, r263_87, r263_90, r263_91, r263_92, r263_93, r263_96, r263_99, r263_100, r263_102, r263_103, r263_106, r263_107, r263_111, r263_112, r263_115, r263_116, r263_120, r263_121, r263_124, r263_125, r263_128, r263_130, r263_131, r263_132, r263_134, r263_135, r263_136, r263_139, r263_140, r263_141, r263_143, r263_144, r263_145, r263_147, r263_150, r263_153, r263_154, r263_156, r263_158, r263_159, r263_160, r263_162, r263_165, r263_168, r263_171, r263_172, r263_175, r263_176, r263_178, r263_179, r263_182, r263_184, r263_185, r263_186, r263_188, r263_189, r263_191, r263_192, r263_193, r263_196, r263_198, r263_201, r263_202, r263_205, r263_206, r263_207, r263_210, r263_213, r263_216, r263_219, r263_222, r263_225, r263_228, znl_i, znl_r, znl_j, znl_l, List.length_cons, List.length_nil, Option.some.injEq, Sum.inl.injEq, Sum.inr.injEq, Prod.mk.injEq, true_and, and_true, exists_eq_left', zK_sI, zA_sI, zL_sI, zK_sL, zA_sL, zI_sL, zK_fI, zA_fI, zL_fI, zK_fL, zA_fL, zI_fL, Nat.reduceAdd, Nat.reduceLeDiff, forall_eq', zl_lt, zl_gt, zl_eq, zl_le, zl_ge, zm_0, zaft_n, zaft_v, zb_eq, Decidable.not_not, H.K, H.A0, H.K1, H.A25, H.K8, H.A26, H.K9]
  simp only [e0, Int.toNat_zero, a0]
  repeat (refine And.intro (by omega) ?_)
  have l0 := ik F.1 0 (zI h (a + 8)) (zI h (a + 9)) zj zj zj zj (by omega) (fun k' o' _ _ q => by omega)
  rw [show mW2 h a (zI h (a + 8)) (zI h (a + 9)) = h by unfold mW2; rw [zfI_id, zfI_id]] at l0
  exact l0
end
