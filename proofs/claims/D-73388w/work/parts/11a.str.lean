/-! ===== strings of the launch: their length, their signs ===== -/
/-- a String of signs below 128 lies at b -/
def zStr (h : zH) (b : Nat) (s : List Nat) : Prop := zK h b = some (Sum.inl 13) ∧ zI h b 1 = 0 ∧ ∃ v, zA h b 0 = some v ∧ zK h v = some (Sum.inr (.byte, s.length)) ∧ s.length ≤ 600 ∧ ∀ i x : Nat, s[i]? = some x → zI h v i = (x : Int) ∧ x < 128
/-- strings are compact -/
def zEn (e : zEv) : Prop := e.2.2 0 = zi 1 ∧ ∃ x, e.2.2 5 = zr x
theorem zshr_0 : ∀ n : Nat, n < 601 → zshr (n : Int) 0 = (n : Int) := by decide +kernel
theorem zand_255 : ∀ n : Nat, n < 256 → zand ((n : Int) - 128) 255 = ((n : Int) - 128) % 256 := by decide +kernel
theorem zi2c_256 : ∀ n : Nat, n < 256 → zi2c (n : Int) = (n : Int) := by decide +kernel
theorem zand_b {x : Int} (h1 : -128 ≤ x) (h2 : x ≤ 127) : zand x 255 = x % 256 := by
  have := zand_255 (x + 128).toNat (by omega)
  rw [show (((x + 128).toNat : Nat) : Int) - 128 = x by omega] at this
  exact this
theorem zi2c_b {x : Int} (h1 : 0 ≤ x) (h2 : x ≤ 255) : zi2c x = x := by
  have := zi2c_256 x.toNat (by omega)
  rw [show ((x.toNat : Nat) : Int) = x by omega] at this
  exact this
section
variable {e : zEv} {d : Nat} {h : zH}
theorem j_coder (E : zEn e) {b : Nat} {s : List Nat} (S : zStr h b s) : zc e (d + 1) 49 [zr (some b)] h (fun o h' => o = Sum.inl (some (zi 0)) ∧ h' = h) := by
  simp only [n49, r49_0, r49_3, r49_6, r49_7, r49_10, r49_13, r49_14, znl_i, znl_r, znl_j, znl_l, List.length_cons, List.length_nil, Option.some.injEq, Sum.inl.injEq, Sum.inr.injEq, Prod.mk.injEq, true_and, and_true, exists_eq_left', zK_sI, zA_sI, zL_sI, zK_sL, zA_sL, zI_sL, zK_fI, zA_fI, zL_fI, zK_fL, zA_fL, zI_fL, Nat.reduceAdd, Nat.reduceLeDiff, forall_eq', zl_lt, zl_gt, zl_eq, zl_le, zl_ge, zm_0, zaft_n, zaft_v, zb_eq, Decidable.not_not, E.1, S.1, S.2.1]
  refine ⟨fun z => absurd z (by decide), fun _ => ⟨by decide, by decide⟩⟩
theorem j_isLatin1 (E : zEn e) {b : Nat} {s : List Nat} (S : zStr h b s) : zc e (d + 1) 45 [zr (some b)] h (fun o h' => o = Sum.inl (some (zi 1)) ∧ h' = h) := by
  simp only [n45, r45_0, r45_3, r45_6, r45_7, r45_10, r45_13, r45_14, r45_17, r45_18, znl_i, znl_r, znl_j, znl_l, List.length_cons, List.length_nil, Option.some.injEq, Sum.inl.injEq, Sum.inr.injEq, Prod.mk.injEq, true_and, and_true, exists_eq_left', zK_sI, zA_sI, zL_sI, zK_sL, zA_sL, zI_sL, zK_fI, zA_fI, zL_fI, zK_fL, zA_fL, zI_fL, Nat.reduceAdd, Nat.reduceLeDiff, forall_eq', zl_lt, zl_gt, zl_eq, zl_le, zl_ge, zm_0, zaft_n, zaft_v, zb_eq, Decidable.not_not, E.1, S.1, S.2.1]
  refine ⟨fun z => absurd z (by decide), fun _ => ⟨fun z => absurd (by decide : zn 0 = 0) z, fun _ => ⟨by decide, by decide⟩⟩⟩
theorem j_slen (E : zEn e) {b : Nat} {s : List Nat} (S : zStr h b s) : zc e (d + 2) 48 [zr (some b)] h (fun o h' => o = Sum.inl (some (zi (s.length : Int))) ∧ h' = h) := by
  obtain ⟨s1, s2, v, s3, s4, s5, s6⟩ := id S
  simp only [n48, r48_0, r48_1, r48_4, r48_5, r48_6, r48_9, r48_10, znl_i, znl_r, znl_j, znl_l, List.length_cons, List.length_nil, Option.some.injEq, Sum.inl.injEq, Sum.inr.injEq, Prod.mk.injEq, true_and, and_true, exists_eq_left', zK_sI, zA_sI, zL_sI, zK_sL, zA_sL, zI_sL, zK_fI, zA_fI, zL_fI, zK_fL, zA_fL, zI_fL, Nat.reduceAdd, Nat.reduceLeDiff, forall_eq', zl_lt, zl_gt, zl_eq, zl_le, zl_ge, zm_0, zaft_n, zaft_v, zb_eq, Decidable.not_not, s1, s3]
  refine ⟨_, _, s4, ?_⟩
  refine zc_w (j_coder E S) ?_
  simp only [r48_0, r48_1, r48_4, r48_5, r48_6, r48_9, r48_10, znl_i, znl_r, znl_j, znl_l, List.length_cons, List.length_nil, Option.some.injEq, Sum.inl.injEq, Sum.inr.injEq, Prod.mk.injEq, true_and, and_true, exists_eq_left', zK_sI, zA_sI, zL_sI, zK_sL, zA_sL, zI_sL, zK_fI, zA_fI, zL_fI, zK_fL, zA_fL, zI_fL, Nat.reduceAdd, Nat.reduceLeDiff, forall_eq', zl_lt, zl_gt, zl_eq, zl_le, zl_ge, zm_0, zaft_n, zaft_v, zb_eq, Decidable.not_not]
  rw [zshr_0 _ (by omega)]
theorem j_checkIndex (E : zEn e) {i n : Nat} (hi : i < n) (hn : n ≤ 600) : zc e (d + 2) 41 [zi i, zi n] h (fun o h' => o = Sum.inl none ∧ h' = h) := by
  obtain ⟨x, ex⟩ := E.2
  simp only [n41, r41_0, r41_1, r41_2, r41_5, r41_8, r41_9, znl_i, znl_r, znl_j, znl_l, List.length_cons, List.length_nil, Option.some.injEq, Sum.inl.injEq, Sum.inr.injEq, Prod.mk.injEq, true_and, and_true, exists_eq_left', zK_sI, zA_sI, zL_sI, zK_sL, zA_sL, zI_sL, zK_fI, zA_fI, zL_fI, zK_fL, zA_fL, zI_fL, Nat.reduceAdd, Nat.reduceLeDiff, forall_eq', zl_lt, zl_gt, zl_eq, zl_le, zl_ge, zm_0, zaft_n, zaft_v, zb_eq, Decidable.not_not, ex, n7, r7_0, r7_1, r7_4, r7_5, r7_6, r7_9, r7_10, r7_11, r7_16, r7_17]
  simp (disch := omega) only [zn_b, zm_b, Int.toNat_natCast, Int.toNat_zero, zt4, zt_4, zt6, zt_6, zt9, zt_9, zt12, zt_12, zt48, zt_48, zt97, zt_97, zt144, zt144b]
  exact ⟨fun z => (by first | omega | exact absurd trivial z | exact absurd rfl z), fun _ => ⟨fun _ => trivial, fun z => (by first | omega | exact absurd trivial z | exact absurd rfl z)⟩⟩
theorem j_charAt9 (E : zEn e) {v i x n : Nat} (hi : i < n) (hn : n ≤ 600) (k : zK h v = some (Sum.inr (.byte, n))) (hx : zI h v i = (x : Int) ∧ x < 128) : zc e (d + 3) 97 [zr (some v), zi i] h (fun o h' => o = Sum.inl (some (zi (x : Int))) ∧ h' = h) := by
  simp only [n97, r97_0, r97_1, r97_2, r97_3, r97_6, r97_7, r97_8, r97_9, r97_12, r97_13, r97_14, znl_i, znl_r, znl_j, znl_l, List.length_cons, List.length_nil, Option.some.injEq, Sum.inl.injEq, Sum.inr.injEq, Prod.mk.injEq, true_and, and_true, exists_eq_left', zK_sI, zA_sI, zL_sI, zK_sL, zA_sL, zI_sL, zK_fI, zA_fI, zL_fI, zK_fL, zA_fL, zI_fL, Nat.reduceAdd, Nat.reduceLeDiff, forall_eq', zl_lt, zl_gt, zl_eq, zl_le, zl_ge, zm_0, zaft_n, zaft_v, zb_eq, Decidable.not_not]
  refine ⟨_, _, k, ?_⟩
  refine zc_w (j_checkIndex E hi hn) ?_
  simp only [r97_0, r97_1, r97_2, r97_3, r97_6, r97_7, r97_8, r97_9, r97_12, r97_13, r97_14, znl_i, znl_r, znl_j, znl_l, List.length_cons, List.length_nil, Option.some.injEq, Sum.inl.injEq, Sum.inr.injEq, Prod.mk.injEq, true_and, and_true, exists_eq_left', zK_sI, zA_sI, zL_sI, zK_sL, zA_sL, zI_sL, zK_fI, zA_fI, zL_fI, zK_fL, zA_fL, zI_fL, Nat.reduceAdd, Nat.reduceLeDiff, forall_eq', zl_lt, zl_gt, zl_eq, zl_le, zl_ge, zm_0, zaft_n, zaft_v, zb_eq, Decidable.not_not, k]
  simp (disch := omega) only [zn_b, zm_b, Int.toNat_natCast, Int.toNat_zero, zt4, zt_4, zt6, zt_6, zt9, zt_9, zt12, zt_12, zt48, zt_48, zt97, zt_97, zt144, zt144b, hx.1]
  rw [zand_b (by omega) (by omega), show (x : Int) % 256 = x by omega, zi2c_b (by omega) (by omega)]
  simp (disch := omega) only [zn_b, zm_b, Int.toNat_natCast, Int.toNat_zero, zt4, zt_4, zt6, zt_6, zt9, zt_9, zt12, zt_12, zt48, zt_48, zt97, zt_97, zt144, zt144b]
  repeat (refine And.intro (by omega) ?_)
  (repeat' (first | rfl | exact True.intro | decide | omega | refine And.intro ?_ ?_))
theorem j_charAt (E : zEn e) {b : Nat} {s : List Nat} (S : zStr h b s) {i x : Nat} (hx : s[i]? = some x) : zc e (d + 4) 51 [zr (some b), zi i] h (fun o h' => o = Sum.inl (some (zi (x : Int))) ∧ h' = h) := by
  obtain ⟨s1, s2, v, s3, s4, s5, s6⟩ := id S
  have hi := (List.getElem?_eq_some_iff.mp hx).1
  simp only [n51, r51_0, r51_1, r51_4, r51_7, r51_8, r51_11, r51_12, r51_15, r51_16, r51_17, r51_20, r51_21, r51_24, znl_i, znl_r, znl_j, znl_l, List.length_cons, List.length_nil, Option.some.injEq, Sum.inl.injEq, Sum.inr.injEq, Prod.mk.injEq, true_and, and_true, exists_eq_left', zK_sI, zA_sI, zL_sI, zK_sL, zA_sL, zI_sL, zK_fI, zA_fI, zL_fI, zK_fL, zA_fL, zI_fL, Nat.reduceAdd, Nat.reduceLeDiff, forall_eq', zl_lt, zl_gt, zl_eq, zl_le, zl_ge, zm_0, zaft_n, zaft_v, zb_eq, Decidable.not_not, s1]
  refine zc_w (j_isLatin1 E S) ?_
  simp only [r51_0, r51_1, r51_4, r51_7, r51_8, r51_11, r51_12, r51_15, r51_16, r51_17, r51_20, r51_21, r51_24, znl_i, znl_r, znl_j, znl_l, List.length_cons, List.length_nil, Option.some.injEq, Sum.inl.injEq, Sum.inr.injEq, Prod.mk.injEq, true_and, and_true, exists_eq_left', zK_sI, zA_sI, zL_sI, zK_sL, zA_sL, zI_sL, zK_fI, zA_fI, zL_fI, zK_fL, zA_fL, zI_fL, Nat.reduceAdd, Nat.reduceLeDiff, forall_eq', zl_lt, zl_gt, zl_eq, zl_le, zl_ge, zm_0, zaft_n, zaft_v, zb_eq, Decidable.not_not, s1, s3]
  refine ⟨fun z => absurd z (by decide), fun _ => ?_⟩
  refine zc_w (j_charAt9 E hi s5 s4 (s6 i x hx)) ?_
  have := (s6 i x hx).2
  simp only [r51_0, r51_1, r51_4, r51_7, r51_8, r51_11, r51_12, r51_15, r51_16, r51_17, r51_20, r51_21, r51_24, znl_i, znl_r, znl_j, znl_l, List.length_cons, List.length_nil, Option.some.injEq, Sum.inl.injEq, Sum.inr.injEq, Prod.mk.injEq, true_and, and_true, exists_eq_left', zK_sI, zA_sI, zL_sI, zK_sL, zA_sL, zI_sL, zK_fI, zA_fI, zL_fI, zK_fL, zA_fL, zI_fL, Nat.reduceAdd, Nat.reduceLeDiff, forall_eq', zl_lt, zl_gt, zl_eq, zl_le, zl_ge, zm_0, zaft_n, zaft_v, zb_eq, Decidable.not_not]
  simp (disch := omega) only [zn_b, zm_b, Int.toNat_natCast, Int.toNat_zero, zt4, zt_4, zt6, zt_6, zt9, zt_9, zt12, zt_12, zt48, zt_48, zt97, zt_97, zt144, zt144b]
  (repeat' (first | rfl | exact True.intro | decide | omega | refine And.intro ?_ ?_))
end
