/-! ===== the reference: frame ===== -/
def yflt (c p : Int) (s : yS) : yS := (s.1, s.2.1, s.2.2.1, s.2.2.2.1, (c, p))
def yfrR (s : yS) : Sum (Int × Int) yF → yS × Int
  | Sum.inl x => (yst 7 (yflt x.1 x.2 (yunt s)), -1)
  | Sum.inr F => (ydeed F (yflt 0 (-1) (yunt s)), (F.1 : Int))
noncomputable def s_frame (s : yS) (n : Int) : yS × Int := if ¬ (0 ≤ n ∧ n ≤ (s.2.2.2.1.1 : Int)) then (yst 1 s, -1) else yfrR s (ytext s.2.2.2.1.2 n.toNat)
section
variable {B : Nat → Int} {n : Nat} {k : yTk} {F : yF} {p : yTk × yF}
theorem ybd_no {k : yTk} {c : Int} {p : yTk × yF} (h : ybd k c = Sum.inr p) : False := by unfold ybd at h; cases h
theorem yatm4_n {c x y : Int} (h : yatm4 B n c x y k F = Sum.inr p) : p.1 = ynx B n k := by
  unfold yatm4 at h; (repeat' split at h) <;> first | exact (ybd_no h).elim | (cases h; rfl)
theorem yatm3_n {c x : Int} (h : yatm3 B n c x k F = Sum.inr p) : p.1 = ynx B n (ynx B n k) := by
  unfold yatm3 at h; (repeat' split at h) <;> first | exact (ybd_no h).elim | exact yatm4_n h
theorem yatm2_n {c : Int} (h : yatm2 B n c k F = Sum.inr p) : p.1 = ynx B n (ynx B n (ynx B n k)) := by
  unfold yatm2 at h; (repeat' split at h) <;> first | exact (ybd_no h).elim | exact yatm3_n h
theorem yatm_n (h : yatm B n k F = Sum.inr p) : p.1 = ynx B n (ynx B n (ynx B n (ynx B n (ynx B n k)))) := by
  unfold yatm yatm1 at h; (repeat' split at h) <;> first | exact (ybd_no h).elim | exact yatm2_n h
theorem yimL_n (h : yimL B n k F = Sum.inr p) : p.1 = ynx B n k := by
  unfold yimL at h; (repeat' split at h) <;> first | exact (ybd_no h).elim | (cases h; rfl)
theorem ysf1_n {i : Nat} (h : ysf1 B n i k F = Sum.inr p) : p.1 = ynx B n k := by
  unfold ysf1 at h; (repeat' split at h) <;> first | exact (ybd_no h).elim | (cases h; rfl)
theorem ysfL_n (h : ysfL B n k F = Sum.inr p) : p.1 = ynx B n (ynx B n (ynx B n k)) := by
  unfold ysfL ybnd at h
  split at h
  · cases h
  · rename_i p1 h1
    dsimp only at h
    split at h
    · cases h
    · rename_i p2 h2
      rw [ysf1_n h, ysf1_n h2, ysf1_n h1]
theorem ykdL_n (h : ykdL B n k F = Sum.inr p) : p.1 = ynx B n (ynx B n k) := by
  unfold ykdL at h; (repeat' split at h) <;> first | exact (ybd_no h).elim | (cases h; rfl)
theorem ydpL_n (h : ydpL B n k F = Sum.inr p) : p.1 = ynx B n k := by
  unfold ydpL at h; (repeat' split at h) <;> first | exact (ybd_no h).elim | (cases h; rfl)
end
theorem yline_gt {t : Nat → Int} {n : Nat} {k : yTk} {F : yF} (hT : yTok n k) {p : yTk × yF} (h : yline (ybt t n) n k F = Sum.inr p) : k.2.2.1 < p.1.2.2.1 := by
  have N := fun {k : yTk} (h : yTok n k) => ynx_gt (t := t) h
  have O := fun {k : yTk} (h : yTok n k) => ynx_ok (t := t) h
  have fin : ∀ (k0 : yTk) (F' : yF), yTok n k0 → k.2.2.1 ≤ k0.2.2.1 → yclo (ybt t n) n (ynx (ybt t n) n k0) F' = Sum.inr p → k.2.2.1 < p.1.2.2.1 := fun k0 F' h0 hle hc => by
    have g := (ytk_ok t n k0.2.2.1 h0.2.2.1).2
    have o := O h0
    unfold yclo at hc
    split at hc
    · rename_i h4
      cases hc
      have g1 : k0.2.2.1 < (ynx (ybt t n) n k0).2.2.1 := g (by show (ynx (ybt t n) n k0).1 ≠ 0; omega)
      have := N o
      dsimp only; omega
    · exact (ybd_no hc).elim
  unfold yline at h
  split at h
  · exact (ybd_no h).elim
  · unfold ybnd at h
    have o1 := O hT
    have n1 := N hT
    have o2 := O o1
    have n2 := N o1
    have o3 := O o2
    have n3 := N o2
    have o4 := O o3
    have n4 := N o3
    split at h
    · cases h
    · rename_i q hr
      obtain ⟨k0, t0, l0, e0⟩ : ∃ k0, yTok n k0 ∧ k.2.2.1 ≤ k0.2.2.1 ∧ q.1 = ynx (ybt t n) n k0 := by
        split at hr
        · exact ⟨_, o4, by omega, yatm_n hr⟩
        · split at hr
          · exact ⟨_, o1, by omega, yimL_n hr⟩
          · split at hr
            · exact ⟨_, o3, by omega, ysfL_n hr⟩
            · split at hr
              · exact ⟨_, o2, by omega, ykdL_n hr⟩
              · exact ⟨_, o1, by omega, ydpL_n hr⟩
      rw [e0] at h
      exact fin k0 q.2 t0 l0 h
theorem zi2b_256 : ∀ n : Nat, n < 256 → zi2b ((n : Int) - 128) = (n : Int) - 128 := by decide +kernel
theorem zi2b_id {x : Int} (h1 : -128 ≤ x) (h2 : x ≤ 127) : zi2b x = x := by
  have := zi2b_256 (x + 128).toNat (by omega)
  rw [show (((x + 128).toNat : Nat) : Int) - 128 = x by omega] at this
  exact this
section
variable {e : zEv} {a d : Nat} {h : zH} {φ ψ : Nat → Nat → Int} {s : yS}
theorem m_isText (H : zmo e a h) (S : mS s φ ψ) (n : Int) (hn : yi n) : zc e (d + 2) 209 [zr (some a), zi n] (mH h a φ ψ) (fun o h' => if 0 ≤ n ∧ n ≤ (s.2.2.2.1.1 : Int) then o = Sum.inl (some (zi 1)) ∧ ∃ φ' : Nat → Nat → Int, h' = mH h a φ' ψ ∧ (∀ i, i ≠ 0 → i ≠ 3 → φ' i = φ i) ∧ (∀ j, j ≠ 8 → φ' 0 j = φ 0 j) ∧ φ' 0 8 = n ∧ ∀ i : Nat, (i : Int) < n → φ' 3 i = s.2.2.2.1.2 i else o = Sum.inl (some (zi 0)) ∧ h' = mH h a φ ψ) := by
  have hb := H.1
  have e0 : zn 0 = 0 := by decide
  obtain ⟨s1, ⟨b1, b2, b3, b4, b5, b6, b7, b8, b9⟩, s3⟩ := S
  generalize hP : (fun (o : zO) (h' : zH) => if 0 ≤ n ∧ n ≤ (s.2.2.2.1.1 : Int) then o = Sum.inl (some (zi 1)) ∧ ∃ φ' : Nat → Nat → Int, h' = mH h a φ' ψ ∧ (∀ i, i ≠ 0 → i ≠ 3 → φ' i = φ i) ∧ (∀ j, j ≠ 8 → φ' 0 j = φ 0 j) ∧ φ' 0 8 = n ∧ ∀ i : Nat, (i : Int) < n → φ' 3 i = s.2.2.2.1.2 i else o = Sum.inl (some (zi 0)) ∧ h' = mH h a φ ψ) = P
  simp only [n209, r209_0, r209_1, r209_2, r209_3, r209_6, r209_9, r209_12, r209_13, r209_14, r209_15, r209_16, r209_19, r209_20, r209_22, r209_23, r209_26, r209_27, r209_30, r209_31, r209_32, r209_35, r209_36, r209_37, r209_38, r209_41, r209_44, r209_45, znl_i, znl_r, znl_j, znl_l, List.length_cons, List.length_nil, Option.some.injEq, Sum.inl.injEq, Sum.inr.injEq, Prod.mk.injEq, true_and, and_true, exists_eq_left', zK_sI, zA_sI, zL_sI, zK_sL, zA_sL, zI_sL, zK_fI, zA_fI, zL_fI, zK_fL, zA_fL, zI_fL, Nat.reduceAdd, Nat.reduceLeDiff, forall_eq', zl_lt, zl_gt, zl_eq, zl_le, zl_ge, zm_0, zaft_n, zaft_v, zb_eq, Decidable.not_not, H.K, H.A6, H.K3, H.A5, H.K2, zK_mH, zA_mH, zI_mH0, zL_mH0, zsI_mH0, zsL_mH0, zI_mH1, zL_mH1, zsI_mH1, zsL_mH1, zI_mH2, zL_mH2, zsI_mH2, zsL_mH2, zI_mH3, zL_mH3, zsI_mH3, zsL_mH3, zI_mH4, zL_mH4, zsI_mH4, zsL_mH4, zI_mH5, zL_mH5, zsI_mH5, zsL_mH5, zI_mH6, zL_mH6, zsI_mH6, zsL_mH6, zI_mH7, zL_mH7, zsI_mH7, zsL_mH7, zI_mH8, zL_mH8, zsI_mH8, zsL_mH8, zI_mH9, zL_mH9, zsI_mH9, zsL_mH9, zI_mH10, zL_mH10, zsI_mH10, zsL_mH10, zI_mH11, zL_mH11, zsI_mH11, zsL_mH11, zI_mH12, zL_mH12, zsI_mH12, zsL_mH12, zI_mH13, zL_mH13, zsI_mH13, zsL_mH13, zI_mH14, zL_mH14, zsI_mH14, zsL_mH14, zI_mH15, zL_mH15, zsI_mH15, zsL_mH15, zI_mH16, zL_mH16, zsI_mH16, zsL_mH16, zI_mH17, zL_mH17, zsI_mH17, zsL_mH17, zI_mH18, zL_mH18, zsI_mH18, zsL_mH18, zI_mH19, zL_mH19, zsI_mH19, zsL_mH19, zI_mH20, zL_mH20, zsI_mH20, zsL_mH20, zI_mH21, zL_mH21, zsI_mH21, zsL_mH21, zI_mH22, zL_mH22, zsI_mH22, zsL_mH22, zI_mH23, zL_mH23, zsI_mH23, zsL_mH23, zI_mH24, zL_mH24, zsI_mH24, zsL_mH24, zI_mH25, zL_mH25, zsI_mH25, zsL_mH25, zI_mH26, zL_mH26, zsI_mH26, zsL_mH26, zI_mH27, zL_mH27, zsI_mH27, zsL_mH27, zI_mH28, zL_mH28, zsI_mH28, zsL_mH28, zI_mH29, zL_mH29, zsI_mH29, zsL_mH29, zI_mH30, zL_mH30, zsI_mH30, zsL_mH30, zI_mH31, zL_mH31, zsI_mH31, zsL_mH31, zI_mH32, zL_mH32, zsI_mH32, zsL_mH32, zI_mH33, zL_mH33, zsI_mH33, zsL_mH33, zI_mH34, zL_mH34, zsI_mH34, zsL_mH34, zI_mH35, zL_mH35, zsI_mH35, zsL_mH35, zI_mH36, zL_mH36, zsI_mH36, zsL_mH36, zI_mH37, zL_mH37, zsI_mH37, zsL_mH37, zI_mH38, zL_mH38, zsI_mH38, zsL_mH38, zI_mH39, zL_mH39, zsI_mH39, zsL_mH39, zI_mH40, zL_mH40, zsI_mH40, zsL_mH40, zI_mH41, zL_mH41, zsI_mH41, zsL_mH41]
  rw [b5]
  refine zc_w (m_isFrom _ _ _) ?_
  simp only [r209_0, r209_1, r209_2, r209_3, r209_6, r209_9, r209_12, r209_13, r209_14, r209_15, r209_16, r209_19, r209_20, r209_22, r209_23, r209_26, r209_27, r209_30, r209_31, r209_32, r209_35, r209_36, r209_37, r209_38, r209_41, r209_44, r209_45, znl_i, znl_r, znl_j, znl_l, List.length_cons, List.length_nil, Option.some.injEq, Sum.inl.injEq, Sum.inr.injEq, Prod.mk.injEq, true_and, and_true, exists_eq_left', zK_sI, zA_sI, zL_sI, zK_sL, zA_sL, zI_sL, zK_fI, zA_fI, zL_fI, zK_fL, zA_fL, zI_fL, Nat.reduceAdd, Nat.reduceLeDiff, forall_eq', zl_lt, zl_gt, zl_eq, zl_le, zl_ge, zm_0, zaft_n, zaft_v, zb_eq, Decidable.not_not, H.K, H.A6, H.K3, H.A5, H.K2, zK_mH, zA_mH, zI_mH0, zL_mH0, zsI_mH0, zsL_mH0, zI_mH1, zL_mH1, zsI_mH1, zsL_mH1, zI_mH2, zL_mH2, zsI_mH2, zsL_mH2, zI_mH3, zL_mH3, zsI_mH3, zsL_mH3, zI_mH4, zL_mH4, zsI_mH4, zsL_mH4, zI_mH5, zL_mH5, zsI_mH5, zsL_mH5, zI_mH6, zL_mH6, zsI_mH6, zsL_mH6, zI_mH7, zL_mH7, zsI_mH7, zsL_mH7, zI_mH8, zL_mH8, zsI_mH8, zsL_mH8, zI_mH9, zL_mH9, zsI_mH9, zsL_mH9, zI_mH10, zL_mH10, zsI_mH10, zsL_mH10, zI_mH11, zL_mH11, zsI_mH11, zsL_mH11, zI_mH12, zL_mH12, zsI_mH12, zsL_mH12, zI_mH13, zL_mH13, zsI_mH13, zsL_mH13, zI_mH14, zL_mH14, zsI_mH14, zsL_mH14, zI_mH15, zL_mH15, zsI_mH15, zsL_mH15, zI_mH16, zL_mH16, zsI_mH16, zsL_mH16, zI_mH17, zL_mH17, zsI_mH17, zsL_mH17, zI_mH18, zL_mH18, zsI_mH18, zsL_mH18, zI_mH19, zL_mH19, zsI_mH19, zsL_mH19, zI_mH20, zL_mH20, zsI_mH20, zsL_mH20, zI_mH21, zL_mH21, zsI_mH21, zsL_mH21, zI_mH22, zL_mH22, zsI_mH22, zsL_mH22, zI_mH23, zL_mH23, zsI_mH23, zsL_mH23, zI_mH24, zL_mH24, zsI_mH24, zsL_mH24, zI_mH25, zL_mH25, zsI_mH25, zsL_mH25, zI_mH26, zL_mH26, zsI_mH26, zsL_mH26, zI_mH27, zL_mH27, zsI_mH27, zsL_mH27, zI_mH28, zL_mH28, zsI_mH28, zsL_mH28, zI_mH29, zL_mH29, zsI_mH29, zsL_mH29, zI_mH30, zL_mH30, zsI_mH30, zsL_mH30, zI_mH31, zL_mH31, zsI_mH31, zsL_mH31, zI_mH32, zL_mH32, zsI_mH32, zsL_mH32, zI_mH33, zL_mH33, zsI_mH33, zsL_mH33, zI_mH34, zL_mH34, zsI_mH34, zsL_mH34, zI_mH35, zL_mH35, zsI_mH35, zsL_mH35, zI_mH36, zL_mH36, zsI_mH36, zsL_mH36, zI_mH37, zL_mH37, zsI_mH37, zsL_mH37, zI_mH38, zL_mH38, zsI_mH38, zsL_mH38, zI_mH39, zL_mH39, zsI_mH39, zsL_mH39, zI_mH40, zL_mH40, zsI_mH40, zsL_mH40, zI_mH41, zL_mH41, zsI_mH41, zsL_mH41]
  rw [zn_i hn, e0]
  simp (disch := omega) only [zn_b, zm_b, Int.toNat_natCast, Int.toNat_zero, zt4, zt_4, zt6, zt_6, zt9, zt_9, zt12, zt_12, zt48, zt_48, zt97, zt_97, zt144, zt144b]
  refine ⟨fun q => ?_, fun q => ⟨by omega, by omega, ?_⟩⟩
  · obtain ⟨m, rfl⟩ : ∃ m : Nat, n = (m : Int) := ⟨n.toNat, by omega⟩
    repeat (refine And.intro (by omega) ?_)
    suffices hG : ∀ k, k ≤ m → ∀ φ1 : Nat → Nat → Int, (∀ i, i ≠ 0 → i ≠ 3 → φ1 i = φ i) → (∀ j, j ≠ 8 → φ1 0 j = φ 0 j) → φ1 0 8 = (m : Int) → (∀ i, i < k → φ1 3 i = s.2.2.2.1.2 i) → zg e 209 (d + 1) 21 [zr (some a), zi m, zi k] [] (mH h a φ1 ψ) P from
      hG 0 (Nat.zero_le _) (zu φ 0 8 m) (fun i i0 _ => zu_fn i0) (fun j hj => zu_sl hj) (zu_eq rfl) (fun i hi => absurd hi (Nat.not_lt_zero _))
    refine zdown _ m (fun φ1 p1 p2 p3 p4 => ?_) (fun k hk ih φ1 p1 p2 p3 p4 => ?_)
    · rw [r209_21]
      simp only [r209_0, r209_1, r209_2, r209_3, r209_6, r209_9, r209_12, r209_13, r209_14, r209_15, r209_16, r209_19, r209_20, r209_22, r209_23, r209_26, r209_27, r209_30, r209_31, r209_32, r209_35, r209_36, r209_37, r209_38, r209_41, r209_44, r209_45, znl_i, znl_r, znl_j, znl_l, List.length_cons, List.length_nil, Option.some.injEq, Sum.inl.injEq, Sum.inr.injEq, Prod.mk.injEq, true_and, and_true, exists_eq_left', zK_sI, zA_sI, zL_sI, zK_sL, zA_sL, zI_sL, zK_fI, zA_fI, zL_fI, zK_fL, zA_fL, zI_fL, Nat.reduceAdd, Nat.reduceLeDiff, forall_eq', zl_lt, zl_gt, zl_eq, zl_le, zl_ge, zm_0, zaft_n, zaft_v, zb_eq, Decidable.not_not, H.K, H.A6, H.K3, H.A5, H.K2, zK_mH, zA_mH, zI_mH0, zL_mH0, zsI_mH0, zsL_mH0, zI_mH1, zL_mH1, zsI_mH1, zsL_mH1, zI_mH2, zL_mH2, zsI_mH2, zsL_mH2, zI_mH3, zL_mH3, zsI_mH3, zsL_mH3, zI_mH4, zL_mH4, zsI_mH4, zsL_mH4, zI_mH5, zL_mH5, zsI_mH5, zsL_mH5, zI_mH6, zL_mH6, zsI_mH6, zsL_mH6, zI_mH7, zL_mH7, zsI_mH7, zsL_mH7, zI_mH8, zL_mH8, zsI_mH8, zsL_mH8, zI_mH9, zL_mH9, zsI_mH9, zsL_mH9, zI_mH10, zL_mH10, zsI_mH10, zsL_mH10, zI_mH11, zL_mH11, zsI_mH11, zsL_mH11, zI_mH12, zL_mH12, zsI_mH12, zsL_mH12, zI_mH13, zL_mH13, zsI_mH13, zsL_mH13, zI_mH14, zL_mH14, zsI_mH14, zsL_mH14, zI_mH15, zL_mH15, zsI_mH15, zsL_mH15, zI_mH16, zL_mH16, zsI_mH16, zsL_mH16, zI_mH17, zL_mH17, zsI_mH17, zsL_mH17, zI_mH18, zL_mH18, zsI_mH18, zsL_mH18, zI_mH19, zL_mH19, zsI_mH19, zsL_mH19, zI_mH20, zL_mH20, zsI_mH20, zsL_mH20, zI_mH21, zL_mH21, zsI_mH21, zsL_mH21, zI_mH22, zL_mH22, zsI_mH22, zsL_mH22, zI_mH23, zL_mH23, zsI_mH23, zsL_mH23, zI_mH24, zL_mH24, zsI_mH24, zsL_mH24, zI_mH25, zL_mH25, zsI_mH25, zsL_mH25, zI_mH26, zL_mH26, zsI_mH26, zsL_mH26, zI_mH27, zL_mH27, zsI_mH27, zsL_mH27, zI_mH28, zL_mH28, zsI_mH28, zsL_mH28, zI_mH29, zL_mH29, zsI_mH29, zsL_mH29, zI_mH30, zL_mH30, zsI_mH30, zsL_mH30, zI_mH31, zL_mH31, zsI_mH31, zsL_mH31, zI_mH32, zL_mH32, zsI_mH32, zsL_mH32, zI_mH33, zL_mH33, zsI_mH33, zsL_mH33, zI_mH34, zL_mH34, zsI_mH34, zsL_mH34, zI_mH35, zL_mH35, zsI_mH35, zsL_mH35, zI_mH36, zL_mH36, zsI_mH36, zsL_mH36, zI_mH37, zL_mH37, zsI_mH37, zsL_mH37, zI_mH38, zL_mH38, zsI_mH38, zsL_mH38, zI_mH39, zL_mH39, zsI_mH39, zsL_mH39, zI_mH40, zL_mH40, zsI_mH40, zsL_mH40, zI_mH41, zL_mH41, zsI_mH41, zsL_mH41]
      simp (disch := omega) only [zn_b, zm_b, Int.toNat_natCast, Int.toNat_zero, zt4, zt_4, zt6, zt_6, zt9, zt_9, zt12, zt_12, zt48, zt_48, zt97, zt_97, zt144, zt144b]
      refine ⟨fun _ => ⟨by omega, by omega, ?_⟩, fun z => (by first | omega | exact absurd trivial z | exact absurd rfl z)⟩
      subst hP
      show if _ then _ else _
      rw [if_pos q]
      exact ⟨rfl, φ1, rfl, p1, p2, p3, fun i hi => p4 i (by omega)⟩
    · have g2 : φ1 2 k = s.2.2.2.1.2 k := by rw [p1 2 (by omega) (by omega)]; exact b7 k (by omega)
      have bk := b6.2 k (by omega)
      rw [r209_21]
      simp only [r209_0, r209_1, r209_2, r209_3, r209_6, r209_9, r209_12, r209_13, r209_14, r209_15, r209_16, r209_19, r209_20, r209_22, r209_23, r209_26, r209_27, r209_30, r209_31, r209_32, r209_35, r209_36, r209_37, r209_38, r209_41, r209_44, r209_45, znl_i, znl_r, znl_j, znl_l, List.length_cons, List.length_nil, Option.some.injEq, Sum.inl.injEq, Sum.inr.injEq, Prod.mk.injEq, true_and, and_true, exists_eq_left', zK_sI, zA_sI, zL_sI, zK_sL, zA_sL, zI_sL, zK_fI, zA_fI, zL_fI, zK_fL, zA_fL, zI_fL, Nat.reduceAdd, Nat.reduceLeDiff, forall_eq', zl_lt, zl_gt, zl_eq, zl_le, zl_ge, zm_0, zaft_n, zaft_v, zb_eq, Decidable.not_not, H.K, H.A6, H.K3, H.A5, H.K2, zK_mH, zA_mH, zI_mH0, zL_mH0, zsI_mH0, zsL_mH0, zI_mH1, zL_mH1, zsI_mH1, zsL_mH1, zI_mH2, zL_mH2, zsI_mH2, zsL_mH2, zI_mH3, zL_mH3, zsI_mH3, zsL_mH3, zI_mH4, zL_mH4, zsI_mH4, zsL_mH4, zI_mH5, zL_mH5, zsI_mH5, zsL_mH5, zI_mH6, zL_mH6, zsI_mH6, zsL_mH6, zI_mH7, zL_mH7, zsI_mH7, zsL_mH7, zI_mH8, zL_mH8, zsI_mH8, zsL_mH8, zI_mH9, zL_mH9, zsI_mH9, zsL_mH9, zI_mH10, zL_mH10, zsI_mH10, zsL_mH10, zI_mH11, zL_mH11, zsI_mH11, zsL_mH11, zI_mH12, zL_mH12, zsI_mH12, zsL_mH12, zI_mH13, zL_mH13, zsI_mH13, zsL_mH13, zI_mH14, zL_mH14, zsI_mH14, zsL_mH14, zI_mH15, zL_mH15, zsI_mH15, zsL_mH15, zI_mH16, zL_mH16, zsI_mH16, zsL_mH16, zI_mH17, zL_mH17, zsI_mH17, zsL_mH17, zI_mH18, zL_mH18, zsI_mH18, zsL_mH18, zI_mH19, zL_mH19, zsI_mH19, zsL_mH19, zI_mH20, zL_mH20, zsI_mH20, zsL_mH20, zI_mH21, zL_mH21, zsI_mH21, zsL_mH21, zI_mH22, zL_mH22, zsI_mH22, zsL_mH22, zI_mH23, zL_mH23, zsI_mH23, zsL_mH23, zI_mH24, zL_mH24, zsI_mH24, zsL_mH24, zI_mH25, zL_mH25, zsI_mH25, zsL_mH25, zI_mH26, zL_mH26, zsI_mH26, zsL_mH26, zI_mH27, zL_mH27, zsI_mH27, zsL_mH27, zI_mH28, zL_mH28, zsI_mH28, zsL_mH28, zI_mH29, zL_mH29, zsI_mH29, zsL_mH29, zI_mH30, zL_mH30, zsI_mH30, zsL_mH30, zI_mH31, zL_mH31, zsI_mH31, zsL_mH31, zI_mH32, zL_mH32, zsI_mH32, zsL_mH32, zI_mH33, zL_mH33, zsI_mH33, zsL_mH33, zI_mH34, zL_mH34, zsI_mH34, zsL_mH34, zI_mH35, zL_mH35, zsI_mH35, zsL_mH35, zI_mH36, zL_mH36, zsI_mH36, zsL_mH36, zI_mH37, zL_mH37, zsI_mH37, zsL_mH37, zI_mH38, zL_mH38, zsI_mH38, zsL_mH38, zI_mH39, zL_mH39, zsI_mH39, zsL_mH39, zI_mH40, zL_mH40, zsI_mH40, zsL_mH40, zI_mH41, zL_mH41, zsI_mH41, zsL_mH41]
      simp (disch := omega) only [zn_b, zm_b, Int.toNat_natCast, Int.toNat_zero, zt4, zt_4, zt6, zt_6, zt9, zt_9, zt12, zt_12, zt48, zt_48, zt97, zt_97, zt144, zt144b, g2]
      refine ⟨fun z => (by first | omega | exact absurd trivial z | exact absurd rfl z), fun _ => ?_⟩
      rw [zi2b_id bk.1 bk.2]
      repeat (refine And.intro (by omega) ?_)
      refine ih (zu φ1 3 k (s.2.2.2.1.2 k)) (fun i i0 i3 => by rw [zu_fn i3]; exact p1 i i0 i3) (fun j hj => by rw [zu_fn (by omega)]; exact p2 j hj) (by rw [zu_fn (by omega)]; exact p3) (fun i hi => ?_)
      by_cases c : i = k
      · rw [zu_eq c, c]
      · rw [zu_sl c]; exact p4 i (by omega)
  · subst hP
    show if _ then _ else _
    rw [if_neg q]
    exact ⟨rfl, rfl⟩
end
