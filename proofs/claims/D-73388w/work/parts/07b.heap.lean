/-! ===== heaps: a whole cell's numbers changed at once ===== -/
def zup (f : Nat → Int) (k : Nat) (x : Int) : Nat → Int := fun j => if j = k then x else f j
theorem zup_s (f k x) : zup f k x k = x := by simp [zup]
theorem zup_n (f : Nat → Int) {k j : Nat} (x) (h : j ≠ k) : zup f k x j = f j := by simp [zup, h]
def zfI (h : zH) (c : Nat) (f : Nat → Int) : zH := (zsz h, zK h, fun b => if b = c then f else zI h b, zL h, zA h, zN h)
def zfL (h : zH) (c : Nat) (f : Nat → Int) : zH := (zsz h, zK h, zI h, fun b => if b = c then f else zL h b, zA h, zN h)
theorem zsz_fI (h c f) : zsz (zfI h c f) = zsz h := rfl
theorem zK_fI (h c f) : zK (zfI h c f) = zK h := rfl
theorem zA_fI (h c f) : zA (zfI h c f) = zA h := rfl
theorem zN_fI (h c f) : zN (zfI h c f) = zN h := rfl
theorem zL_fI (h c f) : zL (zfI h c f) = zL h := rfl
theorem zI_fI (h c f) : zI (zfI h c f) = fun b => if b = c then f else zI h b := rfl
theorem zsz_fL (h c f) : zsz (zfL h c f) = zsz h := rfl
theorem zK_fL (h c f) : zK (zfL h c f) = zK h := rfl
theorem zA_fL (h c f) : zA (zfL h c f) = zA h := rfl
theorem zN_fL (h c f) : zN (zfL h c f) = zN h := rfl
theorem zI_fL (h c f) : zI (zfL h c f) = zI h := rfl
theorem zL_fL (h c f) : zL (zfL h c f) = fun b => if b = c then f else zL h b := rfl
theorem zI_fI_s (h c f) : zI (zfI h c f) c = f := by simp [zI_fI]
theorem zI_fI_n (h : zH) {c b : Nat} (f) (hb : b ≠ c) : zI (zfI h c f) b = zI h b := by simp [zI_fI, hb]
theorem zL_fL_s (h c f) : zL (zfL h c f) c = f := by simp [zL_fL]
theorem zL_fL_n (h : zH) {c b : Nat} (f) (hb : b ≠ c) : zL (zfL h c f) b = zL h b := by simp [zL_fL, hb]
theorem zeq {h g : zH} (e1 : zsz h = zsz g) (e2 : zK h = zK g) (e3 : zI h = zI g) (e4 : zL h = zL g) (e5 : zA h = zA g) (e6 : zN h = zN g) : h = g := by
  obtain ⟨a1, a2, a3, a4, a5, a6⟩ := h
  obtain ⟨b1, b2, b3, b4, b5, b6⟩ := g
  simp only [zsz, zK, zI, zL, zA, zN] at *
  subst e1 e2 e3 e4 e5 e6
  rfl
theorem zsI_f (h : zH) (c k : Nat) (x : Int) : zsI h c k x = zfI h c (zup (zI h c) k x) := by
  refine zeq rfl rfl ?_ rfl rfl rfl
  funext b j
  simp only [zI_sI, zI_fI, zu, zup]
  by_cases hb : b = c
  · subst hb; by_cases hj : j = k <;> simp [zup, hj]
  · simp [hb]
theorem zsL_f (h : zH) (c k : Nat) (x : Int) : zsL h c k x = zfL h c (zup (zL h c) k x) := by
  refine zeq rfl rfl rfl ?_ rfl rfl
  funext b j
  simp only [zL_sL, zL_fL, zu, zup]
  by_cases hb : b = c
  · subst hb; by_cases hj : j = k <;> simp [zup, hj]
  · simp [hb]
theorem zfI_fI (h c f g) : zfI (zfI h c f) c g = zfI h c g := by
  refine zeq rfl rfl ?_ rfl rfl rfl
  funext b
  simp only [zI_fI]
  by_cases hb : b = c <;> simp [hb]
theorem zfL_fL (h c f g) : zfL (zfL h c f) c g = zfL h c g := by
  refine zeq rfl rfl rfl ?_ rfl rfl
  funext b
  simp only [zL_fL]
  by_cases hb : b = c <;> simp [hb]
theorem zfI_id (h c) : zfI h c (zI h c) = h := by
  refine zeq rfl rfl ?_ rfl rfl rfl
  funext b
  simp only [zI_fI]
  by_cases hb : b = c <;> simp [hb]
theorem zfL_id (h c) : zfL h c (zL h c) = h := by
  refine zeq rfl rfl rfl ?_ rfl rfl
  funext b
  simp only [zL_fL]
  by_cases hb : b = c <;> simp [hb]
theorem zfI_comm (h : zH) {c c' : Nat} (f g) (hc : c ≠ c') : zfI (zfI h c f) c' g = zfI (zfI h c' g) c f := by
  refine zeq rfl rfl ?_ rfl rfl rfl
  funext b
  simp only [zI_fI]
  by_cases hb : b = c
  · subst hb; simp [hc]
  · simp [hb]
theorem zfLI (h : zH) (c c' : Nat) (f g) : zfL (zfI h c f) c' g = zfI (zfL h c' g) c f := rfl
theorem zaft_n {nx : Nat} {hs : zHs} {L R : List zV} {h1 : zH} {K : zKt} {E : zEt} : zaft nx hs L R (Sum.inl none) h1 K E = K nx L R h1 := rfl
theorem zaft_v {nx : Nat} {hs : zHs} {L R : List zV} {v : zV} {h1 : zH} {K : zKt} {E : zEt} : zaft nx hs L R (Sum.inl (some v)) h1 K E = K nx L (v :: R) h1 := rfl
theorem zb_eq {c : Prop} [Decidable c] : (zn (if c then 1 else 0) = 0) ↔ ¬ c := by
  by_cases hc : c
  · rw [if_pos hc]; constructor
    · intro h; exact absurd h (by decide)
    · intro h; exact absurd hc h
  · rw [if_neg hc]; constructor
    · intro _; exact hc
    · intro _; decide
theorem zb_bd {c : Prop} [Decidable c] : 0 ≤ zn (if c then 1 else 0) ∧ zn (if c then 1 else 0) ≤ 1 := by
  by_cases hc : c
  · rw [if_pos hc]; decide
  · rw [if_neg hc]; decide
theorem zup_at (f : Nat → Int) (k : Nat) (x : Int) (j : Nat) : zup f k x j = if j = k then x else f j := rfl
