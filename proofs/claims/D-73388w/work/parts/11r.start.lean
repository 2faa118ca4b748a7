/-! ===== the reference at its start ===== -/
def y0 : yS := ((0, fun _ _ => 0), [], (0, 0, 1), (0, fun _ => 0), (-1, -1))
def s_status (s : yS) : yS × Int := (s, s.2.2.1.1)
def s_top (s : yS) : yS × Int := (s, s.2.2.1.2.1)
def s_bottom (s : yS) : yS × Int := (s, s.2.2.1.2.2)
section
variable {e : zEv} {a d : Nat} {h h' : zH} {φ ψ : Nat → Nat → Int} {s : yS}
theorem zini.R (I : zini h a h' 41 (zup (zup (fun _ => 0) 14 (-1)) 15 (-1)) (zup (fun _ => 0) 4 1)) (ha : e.1 ≤ a) (hK : zK h a = some (Sum.inl 10)) : mR e a h' y0 := by
  have hz : zmo e a h' := ⟨ha, by rw [I.K a (Nat.le_refl _)]; exact hK, fun q hq => I.arr q (by rw [List.take_of_length_le (by decide)]; exact hq)⟩
  refine ⟨h', fun i => zI h' (a + i), fun i => zL h' (a + i), (mH_id h' a).symm, hz, ?_⟩
  have z1 : zI h' (a + 1) = fun _ => 0 := (I.zero 1 (by omega) (by omega)).1
  refine ⟨⟨⟨Nat.zero_le _, fun k hk => absurd hk (Nat.not_lt_zero _), fun k hk => absurd hk (Nat.not_lt_zero _), fun j k hj => absurd hj (Nat.not_lt_zero _)⟩, ⟨?_, fun k hk => absurd hk (Nat.not_lt_zero _)⟩, Nat.zero_le _, fun j G hj => by cases hj⟩, ?_, Or.inl ?_⟩
  · show zI h' (a + 1) 0 = _; rw [z1]; rfl
  · show mFe _ _ _
    unfold mFe
    dsimp only
    rw [Nat.add_zero, I.f, I.g]
    exact ⟨rfl, rfl, rfl, rfl, rfl, ⟨Nat.zero_le _, fun j hj => absurd hj (Nat.not_lt_zero _)⟩, fun j hj => absurd hj (Nat.not_lt_zero _), rfl, rfl⟩
  · dsimp only
    rw [Nat.add_zero, I.f]
    exact ⟨rfl, rfl, rfl⟩
theorem M_status (H : zmo e a h) (S : mS s φ ψ) : zc e (d + 12) 203 [zr (some a)] (mH h a φ ψ) (mAn e a h φ ψ (s_status s)) := by
  have b2 := S.2.1.2.1
  refine zc_mono (m_status (H.mH φ ψ)) ?_
  rintro _ _ ⟨rfl, rfl⟩
  rw [zI_mH0, b2]
  exact mO_mk H S
theorem M_top (H : zmo e a h) (S : mS s φ ψ) : zc e (d + 12) 204 [zr (some a)] (mH h a φ ψ) (mAnL e a h φ ψ (s_top s)) := by
  have b2 := S.2.1.2.2.1
  refine zc_mono (m_top (H.mH φ ψ)) ?_
  rintro _ _ ⟨rfl, rfl⟩
  rw [zL_mH0, b2]
  exact mO_mk H S
theorem M_bottom (H : zmo e a h) (S : mS s φ ψ) : zc e (d + 12) 205 [zr (some a)] (mH h a φ ψ) (mAnL e a h φ ψ (s_bottom s)) := by
  have b2 := S.2.1.2.2.2.1
  refine zc_mono (m_bottom (H.mH φ ψ)) ?_
  rintro _ _ ⟨rfl, rfl⟩
  rw [zL_mH0, b2]
  exact mO_mk H S
end
