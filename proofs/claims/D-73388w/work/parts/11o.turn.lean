/-! ===== the reference: the first contracts, in the form of the others ===== -/
section
variable {e : zEv} {a d : Nat} {h : zH} {φ ψ : Nat → Nat → Int} {s : yS}
theorem mS.B (H : zmo e a h) (S : mS s φ ψ) : mB e a (mH h a φ ψ) s := by
  obtain ⟨s1, ⟨b1, b2, b3, b4, b5, b6, b7, b8, b9⟩, s3⟩ := S
  refine ⟨H.mH _ _, by rw [zI_mH1]; exact s1, ?_⟩
  unfold mFd
  rw [zI_mH0, zL_mH0, zI_mH2]
  exact ⟨b1, b2, b3, b4, b5, b6.1, b7, b8, b9⟩
/-- the state, out of the first form, if the tape is the same -/
theorem mS_of {φ' ψ' : Nat → Nat → Int} (S : mS s φ ψ) {s' : yS} (B : mB e a (mH h a φ' ψ') s') (ht : s'.2.2.2.1 = s.2.2.2.1) (C : mC s'.1 φ' ψ') : mS s' φ' ψ' := by
  obtain ⟨_, ⟨_, _, _, _, _, b6, _, _, _⟩, _⟩ := S
  obtain ⟨_, f1, f2⟩ := B
  rw [zI_mH1] at f1
  unfold mFd at f2
  rw [zI_mH0, zL_mH0, zI_mH2] at f2
  obtain ⟨c1, c2, c3, c4, c5, c6, c7, c8, c9⟩ := f2
  refine ⟨f1, ⟨c1, c2, c3, c4, c5, ?_, c7, c8, c9⟩, C⟩
  rw [ht]; exact b6
theorem mAn_Q (H : zmo e a h) (S : mS s φ ψ) {m : Nat} {args : List zV} {r : yS × Int} (hc : zc e d m args (mH h a φ ψ) (mQ e a (mH h a φ ψ) s r)) : zc e d m args (mH h a φ ψ) (mAn e a h φ ψ r) := by
  refine zc_mono hc ?_
  rintro o h' ⟨ho, B, ht, hd⟩
  have hb := H.1
  rcases hd with ⟨hh, hs⟩ | ⟨hz, u1, u2, u3⟩
  · rw [zsI_mH0] at hh
    subst hh
    rw [ho]
    refine mO_mk H (mS_of S B ht ?_)
    rw [hs]
    exact S.2.2.cg (fun j hj => zu_sl (by omega)) (fun i hi => zu_fn (by omega)) rfl rfl rfl
  · have eh := mH_only (a := a) (fun b hb => by omega) hz
    rw [mH_mH] at eh
    rw [eh] at B u1 u2 u3 ⊢
    rw [zI_mH0] at u1 u2 u3
    rw [ho]
    exact mO_mk H (mS_of S B ht (Or.inl ⟨u1, u2, u3⟩))
theorem mAn_Q0 (H : zmo e a h) (S : mS s φ ψ) {m : Nat} {args : List zV} {r : yS × Int} (h1 : r.1.1 = s.1) (ht : r.1.2.2.2.1 = s.2.2.2.1) (hc : zc e d m args (mH h a φ ψ) (mQ0 e a (mH h a φ ψ) r)) : zc e d m args (mH h a φ ψ) (mAn e a h φ ψ r) := by
  refine zc_mono hc ?_
  rintro o h' ⟨ho, B, hz, hI, hL⟩
  have eh := mH_only (a := a) (fun b hb => by omega) hz
  have ei : ∀ i, i ≠ 0 → i ≠ 2 → i < 42 → zI h' (a + i) = φ i := fun i i0 i2 i3 => by rw [(hz.2.2.2.2 (a + i) (by omega)).1, zI_mHi _ _ _ _ i3]
  have el : ∀ i, i ≠ 0 → i ≠ 2 → i < 42 → zL h' (a + i) = ψ i := fun i i0 i2 i3 => by rw [(hz.2.2.2.2 (a + i) (by omega)).2, zL_mHi _ _ _ _ i3]
  rw [zI_mH0] at hI
  rw [zL_mH0] at hL
  rw [mH_mH] at eh
  rw [ho]
  rw [eh] at B ⊢
  refine mO_mk H (mS_of S B ht ?_)
  rw [h1]
  refine S.2.2.cg (fun j hj => by rw [Nat.add_zero]; exact hI j (by omega) (by omega)) (fun i hi => by exact ei i (by omega) (by omega) (by omega)) ?_ ?_ ?_
  · rw [Nat.add_zero]; exact hL 35 (by omega) (by omega)
  · exact el 16 (by omega) (by omega) (by omega)
  · exact el 23 (by omega) (by omega) (by omega)
theorem mAn_Q1 (H : zmo e a h) (S : mS s φ ψ) {m : Nat} {args : List zV} {r : yS × Int} (h1 : r.1.1 = s.1) (ht : r.1.2.2.2.1 = s.2.2.2.1) (hc : zc e d m args (mH h a φ ψ) (mQ1 e a (mH h a φ ψ) r)) : zc e d m args (mH h a φ ψ) (mAn e a h φ ψ r) := by
  refine zc_mono hc ?_
  rintro o h' ⟨ho, B, hz, hI, hL⟩
  unfold mScr at hz
  have eh := mH_only (a := a) (fun b hb => by omega) hz
  have ei : ∀ i, i ≠ 0 → i ≠ 2 → (i < 4 ∨ 9 < i) → i < 42 → zI h' (a + i) = φ i := fun i i0 i2 i4 i3 => by rw [(hz.2.2.2.2 (a + i) (by omega)).1, zI_mHi _ _ _ _ i3]
  have el : ∀ i, i ≠ 0 → i ≠ 2 → (i < 4 ∨ 9 < i) → i < 42 → zL h' (a + i) = ψ i := fun i i0 i2 i4 i3 => by rw [(hz.2.2.2.2 (a + i) (by omega)).2, zL_mHi _ _ _ _ i3]
  rw [zI_mH0] at hI
  rw [zL_mH0] at hL
  rw [mH_mH] at eh
  rw [ho]
  rw [eh] at B ⊢
  refine mO_mk H (mS_of S B ht ?_)
  rw [h1]
  refine S.2.2.cg (fun j hj => by rw [Nat.add_zero]; exact hI j (by omega) (by omega) (by omega) (by omega)) (fun i hi => by exact ei i (by omega) (by omega) (by omega) (by omega)) ?_ ?_ ?_
  · rw [Nat.add_zero]; exact hL 35 (by omega) (by omega)
  · exact el 16 (by omega) (by omega) (by omega) (by omega)
  · exact el 23 (by omega) (by omega) (by omega) (by omega)
theorem M_atoms (H : zmo e a h) (S : mS s φ ψ) : zc e (d + 12) 239 [zr (some a)] (mH h a φ ψ) (mAn e a h φ ψ (s_atoms s)) := mAn_Q H S (m_atoms (S.B H))
theorem M_atom (H : zmo e a h) (S : mS s φ ψ) (k w : Int) (hk : yi k) (hw : yi w) : zc e (d + 12) 240 [zr (some a), zi k, zi w] (mH h a φ ψ) (mAn e a h φ ψ (s_atom s k w)) := mAn_Q H S (m_atom (S.B H) k w hk hw)
theorem M_put (H : zmo e a h) (S : mS s φ ψ) (k x y z : Int) (hk : yi k) (hx : yi x) (hy : yi y) (hz : yi z) : zc e (d + 12) 243 [zr (some a), zi k, zi x, zi y, zi z] (mH h a φ ψ) (mAn e a h φ ψ (s_put s k x y z)) := mAn_Q H S (m_put (S.B H) k x y z hk hx hy hz)
theorem M_drop (H : zmo e a h) (S : mS s φ ψ) (k : Int) (hk : yi k) : zc e (d + 12) 245 [zr (some a), zi k] (mH h a φ ψ) (mAn e a h φ ψ (s_drop s k)) := mAn_Q H S (m_drop (S.B H) k hk)
theorem M_move (H : zmo e a h) (S : mS s φ ψ) (k x y z : Int) (hk : yi k) (hx : yi x) (hy : yi y) (hz : yi z) : zc e (d + 12) 246 [zr (some a), zi k, zi x, zi y, zi z] (mH h a φ ψ) (mAn e a h φ ψ (s_move s k x y z)) := mAn_Q H S (m_move (S.B H) k x y z hk hx hy hz)
theorem M_swap (H : zmo e a h) (S : mS s φ ψ) (k c : Int) (hk : yi k) (hc : yi c) : zc e (d + 12) 248 [zr (some a), zi k, zi c] (mH h a φ ψ) (mAn e a h φ ψ (s_swap s k c)) := mAn_Q H S (m_swap (S.B H) k c hk hc)
theorem M_image (H : zmo e a h) (S : mS s φ ψ) (w : Int) (hw : yi w) : zc e (d + 12) 249 [zr (some a), zi w] (mH h a φ ψ) (mAn e a h φ ψ (s_image s w)) := mAn_Q H S (m_image (S.B H) w hw)
theorem M_shift (H : zmo e a h) (S : mS s φ ψ) (x y z : Int) (hx : yi x) (hy : yi y) (hz : yi z) : zc e (d + 12) 250 [zr (some a), zi x, zi y, zi z] (mH h a φ ψ) (mAn e a h φ ψ (s_shift s x y z)) := mAn_Q H S (m_shift (S.B H) x y z hx hy hz)
theorem M_stretch (H : zmo e a h) (S : mS s φ ψ) (n : Int) (hn : yi n) : zc e (d + 12) 251 [zr (some a), zi n] (mH h a φ ψ) (mAn e a h φ ψ (s_stretch s n)) := mAn_Q H S (m_stretch (S.B H) n hn)
theorem M_back (H : zmo e a h) (S : mS s φ ψ) : zc e (d + 12) 252 [zr (some a)] (mH h a φ ψ) (mAn e a h φ ψ (s_back s)) := mAn_Q H S (m_back (S.B H))
theorem M_far (H : zmo e a h) (S : mS s φ ψ) (k o : Int) (hk : yi k) (ho : yi o) : zc e (d + 12) 253 [zr (some a), zi k, zi o] (mH h a φ ψ) (mAn e a h φ ψ (s_far s k o)) := mAn_Q H S (m_far (S.B H) k o hk ho)
theorem M_fault (H : zmo e a h) (S : mS s φ ψ) (w : Int) (hw : yi w) : zc e (d + 12) 238 [zr (some a), zi w] (mH h a φ ψ) (mAn e a h φ ψ (s_fault s w)) := mAn_Q0 H S rfl rfl (m_fault (S.B H) w hw)
theorem M_centre (H : zmo e a h) (S : mS s φ ψ) (i : Int) (hi : yi i) : zc e (d + 12) 260 [zr (some a), zi i] (mH h a φ ψ) (mAn e a h φ ψ (s_centre s i)) := mAn_Q0 H S (by unfold s_centre; (repeat' split) <;> rfl) (by unfold s_centre; (repeat' split) <;> rfl) (m_centre (S.B H) i hi)
theorem M_shape (H : zmo e a h) (S : mS s φ ψ) : zc e (d + 12) 255 [zr (some a)] (mH h a φ ψ) (mAn e a h φ ψ (s_shape s)) := mAn_Q1 H S rfl rfl (m_shape (S.B H))
theorem M_cellMany (H : zmo e a h) (S : mS s φ ψ) : zc e (d + 12) 262 [zr (some a)] (mH h a φ ψ) (mAn e a h φ ψ (s_cellMany s)) := mAn_Q1 H S rfl rfl (m_cellMany (S.B H))
theorem M_cellOf (H : zmo e a h) (S : mS s φ ψ) (k : Int) (hk : yi k) : zc e (d + 12) 266 [zr (some a), zi k] (mH h a φ ψ) (mAn e a h φ ψ (s_cellOf s k)) := mAn_Q1 H S (by unfold s_cellOf; (repeat' split) <;> rfl) (by unfold s_cellOf; (repeat' split) <;> rfl) (m_cellOf (S.B H) k hk)
end
