/-! ===== subgroups, laws: what is told of them ===== -/
def ypc (x : Nat) : Nat := (ycnt x.testBit 64).toNat
/-- the bits of x are a subgroup -/
def ysg (T : yT) (x : Nat) : Bool := x.testBit 0 && (yallb (fun a => !x.testBit a || yallb (fun b => !x.testBit b || x.testBit (yth T a b)) (Tm T)) (Tm T) && decide (x < 2 ^ Tm T))
def ysle (x y : Nat) : Bool := decide (ypc x < ypc y) || (decide (ypc x = ypc y) && decide (x ≤ y))
/-- all subgroups in their order -/
def ysl (T : yT) : List Nat := ((List.range (2 ^ Tm T)).filter (ysg T)).mergeSort ysle
def ysub1 (x y : Nat) : Prop := ∀ b, x.testBit b = true → y.testBit b = true
/-- y is the least subgroup with all of x and with a -/
def yisg (T : yT) (x a y : Nat) : Prop := ysg T y = true ∧ ysub1 x y ∧ y.testBit a = true ∧ ∀ z, ysg T z = true → ysub1 x z → z.testBit a = true → ysub1 y z
def yvec : Nat → List (List Nat)
  | 0 => [[]]
  | k + 1 => (List.range 97).flatMap (fun v => (yvec k).map (fun l => v :: l))
def ylv (v : List Nat) (c : Nat) : Nat := (v[c]?).getD 0
/-- a row that goes with all joins -/
def yhm (T : yT) (v : List Nat) : Bool := decide (ylv v 0 = 1) && yallb (fun i => yallb (fun j => decide ((ysum (fun k => yjn T i j k * (ylv v k : Int)) (yK T) - (ylv v i : Int) * (ylv v j : Int)) % 97 = 0)) (yK T)) (yK T)
/-- all laws in their order -/
def ylw (T : yT) : List (List Nat) := (yvec (yK T)).filter (yhm T)
def ylx (T : yT) (i c : Nat) : Nat := ylv ((ylw T)[i]?.getD []) c
def yi97 (n : Int) : Nat := (yfind (fun x => decide (((x : Int) * n) % 97 = 1)) 96 1).toNat
def yqs (T : yT) (i : Nat) : Int := ysum (fun c => (ylx T i c : Int) * (ylx T i (ybk T c) : Int) * ((Tm T : Int).tdiv (ysz T c))) (yK T)
def ydg (T : yT) (i : Nat) : Nat := (yfind (fun d => decide (((d : Int) * d * (yqs T i % 97)) % 97 = ((Tm T : Int) * (Tm T : Int)) % 97)) 96 1).toNat
def ych (T : yT) (i c : Nat) : Int := ((ydg T i : Int) * (ylx T i c : Int) * (yi97 (ysz T c) : Int)) % 97
/-! ===== a frame's tables ===== -/
noncomputable def yord (F : yF) : List yO := (yops F).mergeSort (fun x y => !yahd F.1 y x)
noncomputable def yTF (F : yF) : yT := (F.1, (yord F).length, fun i k => ((ylg (yord F) i).1 k).toNat, fun i => (ylg (yord F) i).2.1, fun i => ((ylg (yord F) i).2.2 0 + (ylg (yord F) i).2.2 4 + (ylg (yord F) i).2.2 8).tdiv (yWh F (y3 F).toNat (y4 F (y3 F).toNat)), fun i r => (ylg (yord F) i).2.2 r, yWh F (y3 F).toNat (y4 F (y3 F).toNat))
/-- what the maths owes of a frame that is not straight -/
def yLaw (F : yF) : Prop := (yops F).length ≤ 48 ∧ (y3 F ≠ -1 → (∀ x ∈ yops F, yOk F.1 x) ∧ (yord F).Pairwise (fun x y => yahd F.1 x y = true) ∧ yV (yTF F) ∧ (ysl (yTF F)).length ≤ 128 ∧ (ylw (yTF F)).length ≤ 12 ∧ ∀ i, i < (ylw (yTF F)).length → 1 ≤ ydg (yTF F) i)
/-! ===== the reference's state ===== -/
def mLw (T : yT) (φ : Nat → Nat → Int) : Prop := φ 0 62 = ((ylw T).length : Int) ∧ ∀ i, i < (ylw T).length → φ 38 i = (ydg T i : Int) ∧ ∀ c, c < yK T → φ 31 (12 * i + c) = (ylx T i c : Int) ∧ φ 39 (12 * i + c) = ych T i c
/-- f: the found ones; each is a subgroup, each but once -/
def mSt (T : yT) (φ ψ : Nat → Nat → Int) : Prop := φ 0 50 = ((ysl T).length : Int) ∧ ∃ f : Nat → Nat, f 0 = 1 ∧ (∀ i, i < (ysl T).length → f i ∈ ysl T ∧ ψ 23 i = (f i : Int)) ∧ (∀ i j, i < (ysl T).length → j < (ysl T).length → f i = f j → i = j) ∧
  (∀ i, i < (ysl T).length → ∃ o, o < (ysl T).length ∧ φ 27 i = (o : Int) ∧ (ysl T)[i]? = some (f o)) ∧ ∀ i x, i < (ysl T).length → x < Tm T → ∃ o, o < (ysl T).length ∧ φ 26 (48 * i + x) = (o : Int) ∧ yisg T (f i) x (f o)
def mLd (F : yF) (φ ψ : Nat → Nat → Int) : Prop := (y3 F = -1 → φ 0 27 = 0) ∧ (y3 F ≠ -1 → mTr (yTF F) φ ψ ∧ mTt (yTF F) φ ∧ mTc (yTF F) φ)
def mC (F : yF) (φ ψ : Nat → Nat → Int) : Prop := ((φ 0 17 = 0 ∧ φ 0 18 = 0 ∧ φ 0 19 = 0) ∨ (φ 0 17 = 1 ∧ mLd F φ ψ ∧ (φ 0 18 = 0 ∨ (φ 0 18 = 1 ∧ y3 F ≠ -1 ∧ mLw (yTF F) φ)) ∧ (φ 0 19 = 0 ∨ (φ 0 19 = 1 ∧ y3 F ≠ -1 ∧ mSt (yTF F) φ ψ))))
def mFe (φ ψ : Nat → Nat → Int) (s : yS) : Prop := φ 0 1 = (s.2.1.length : Int) ∧ φ 0 2 = s.2.2.1.1 ∧ ψ 0 3 = s.2.2.1.2.1 ∧ ψ 0 4 = s.2.2.1.2.2 ∧ φ 0 7 = (s.2.2.2.1.1 : Int) ∧ (s.2.2.2.1.1 ≤ 600 ∧ ∀ j, j < s.2.2.2.1.1 → -128 ≤ s.2.2.2.1.2 j ∧ s.2.2.2.1.2 j ≤ 127) ∧ (∀ j, j < s.2.2.2.1.1 → φ 2 j = s.2.2.2.1.2 j) ∧ φ 0 15 = s.2.2.2.2.1 ∧ φ 0 14 = s.2.2.2.2.2
def mS (s : yS) (φ ψ : Nat → Nat → Int) : Prop := mFr (φ 1) s.1 s.2.1 ∧ mFe φ ψ s ∧ mC s.1 φ ψ
def mR (e : zEv) (a : Nat) (h : zH) (s : yS) : Prop := ∃ h0 φ ψ, h = mH h0 a φ ψ ∧ zmo e a h0 ∧ mS s φ ψ
/-- what a call leaves: its answer, the new state -/
def mO (e : zEv) (a : Nat) (h : zH) (s : yS) (v : zV) (o : zO) (h' : zH) : Prop := o = Sum.inl (some v) ∧ mR e a h' s ∧ zonly (fun b => a ≤ b ∧ b < a + 42) h h'
theorem mH_zonly2 (h a φ ψ φ' ψ') : zonly (fun b => a ≤ b ∧ b < a + 42) (mH h a φ ψ) (mH h a φ' ψ') := ⟨rfl, rfl, rfl, rfl, fun b hb => ⟨by rw [zI_mHn _ _ _ _ hb, zI_mHn _ _ _ _ hb], by rw [zL_mHn _ _ _ _ hb, zL_mHn _ _ _ _ hb]⟩⟩
section
variable {e : zEv} {a d : Nat} {h : zH} {φ ψ : Nat → Nat → Int} {s : yS}
theorem mO_mk (H : zmo e a h) {φ' ψ' : Nat → Nat → Int} {s' : yS} {v : zV} (S : mS s' φ' ψ') : mO e a (mH h a φ ψ) s' v (Sum.inl (some v)) (mH h a φ' ψ') := ⟨rfl, ⟨h, φ', ψ', rfl, H, S⟩, mH_zonly2 _ _ _ _ _ _⟩
theorem mTr.cg {T : yT} {φ' ψ' : Nat → Nat → Int} (M : mTr T φ ψ) (h0 : φ' 0 27 = φ 0 27) (h1 : ∀ i, i ≠ 0 → φ' i = φ i) (h2 : ψ' 0 35 = ψ 0 35) (h3 : ψ' 16 = ψ 16) : mTr T φ' ψ' := M.of (h1 1 (by omega)) h0 (h1 12 (by omega)) (h1 13 (by omega)) (h1 14 (by omega)) h3 h2
/-- the state stays, if only its own scratch numbers change -/
theorem mC.cg {F : yF} {φ' ψ' : Nat → Nat → Int} (C : mC F φ ψ) (h0 : ∀ j, j = 17 ∨ j = 18 ∨ j = 19 ∨ j = 27 ∨ j = 42 ∨ j = 50 ∨ j = 62 → φ' 0 j = φ 0 j) (h1 : ∀ i, i = 1 ∨ (12 ≤ i ∧ i ≤ 14) ∨ (17 ≤ i ∧ i ≤ 22) ∨ i = 26 ∨ i = 27 ∨ i = 31 ∨ i = 38 ∨ i = 39 → φ' i = φ i) (h2 : ψ' 0 35 = ψ 0 35) (h3 : ψ' 16 = ψ 16) (h4 : ψ' 23 = ψ 23) : mC F φ' ψ' := by
  have L1 : mLd F φ ψ → mLd F φ' ψ' := by
    rintro ⟨l1, l2⟩
    refine ⟨fun q => by rw [h0 27 (by omega)]; exact l1 q, fun q => ?_⟩
    obtain ⟨m1, m2, m3⟩ := l2 q
    refine ⟨m1.of (h1 1 (by omega)) (h0 27 (by omega)) (h1 12 (by omega)) (h1 13 (by omega)) (h1 14 (by omega)) h3 h2, ?_, ?_⟩
    · unfold mTt at *; rw [h1 17 (by omega)]; exact m2
    · unfold mTc at *; rw [h0 42 (by omega), h1 18 (by omega), h1 19 (by omega), h1 20 (by omega), h1 21 (by omega), h1 22 (by omega)]; exact m3
  unfold mC at *
  rw [h0 17 (by omega), h0 18 (by omega), h0 19 (by omega)]
  rcases C with C | ⟨c1, c2, c3, c4⟩
  · exact Or.inl C
  · refine Or.inr ⟨c1, L1 c2, ?_, ?_⟩
    · rcases c3 with c | ⟨c, c', c''⟩
      · exact Or.inl c
      · refine Or.inr ⟨c, c', ?_⟩
        unfold mLw at *; rw [h0 62 (by omega), h1 31 (by omega), h1 38 (by omega), h1 39 (by omega)]; exact c''
    · rcases c4 with c | ⟨c, c', c''⟩
      · exact Or.inl c
      · refine Or.inr ⟨c, c', ?_⟩
        unfold mSt at *; rw [h0 50 (by omega), h1 26 (by omega), h1 27 (by omega), h4]; exact c''
theorem mS.st (S : mS s φ ψ) (v : Int) : mS (yst v s) (zu φ 0 2 v) ψ := by
  obtain ⟨s1, ⟨b1, b2, b3, b4, b5, b6, b7, b8, b9⟩, s3⟩ := S
  refine ⟨?_, ⟨?_, ?_, b3, b4, ?_, b6, fun j hj => ?_, ?_, ?_⟩, s3.cg (fun j hj => zu_sl (by omega)) (fun i hi => zu_fn (by omega)) rfl rfl rfl⟩
  · rw [zu_fn (by omega)]; exact s1
  · rw [zu_sl (by omega)]; exact b1
  · rw [zu_eq rfl]; rfl
  · rw [zu_sl (by omega)]; exact b5
  · rw [zu_fn (by omega)]; exact b7 j hj
  · rw [zu_sl (by omega)]; exact b8
  · rw [zu_sl (by omega)]; exact b9
theorem mS.tell (S : mS s φ ψ) (t b : Int) : mS (ytell t b s) (zu φ 0 2 0) (zu (zu ψ 0 3 t) 0 4 b) := by
  obtain ⟨s1, ⟨b1, b2, b3, b4, b5, b6, b7, b8, b9⟩, s3⟩ := S
  refine ⟨?_, ⟨?_, ?_, ?_, ?_, ?_, b6, fun j hj => ?_, ?_, ?_⟩, s3.cg (fun j hj => zu_sl (by omega)) (fun i hi => zu_fn (by omega)) (by rw [zu_sl (by omega), zu_sl (by omega)]) (by rw [zu_fn (by omega), zu_fn (by omega)]) (by rw [zu_fn (by omega), zu_fn (by omega)])⟩
  · rw [zu_fn (by omega)]; exact s1
  · rw [zu_sl (by omega)]; exact b1
  · rw [zu_eq rfl]; rfl
  · rw [zu_sl (by omega), zu_eq rfl]; rfl
  · rw [zu_eq rfl]; rfl
  · rw [zu_sl (by omega)]; exact b5
  · rw [zu_fn (by omega)]; exact b7 j hj
  · rw [zu_sl (by omega)]; exact b8
  · rw [zu_sl (by omega)]; exact b9
theorem m_givesH (H : zmo e a h) (v : Int) : zc e (d + 1) 237 [zr (some a), zi v] (mH h a φ ψ) (fun o h' => o = Sum.inl (some (zi v)) ∧ h' = mH h a (zu φ 0 2 0) ψ) := by
  have := m_gives (d := d) (H.mH φ ψ) v
  rw [zsI_mH0] at this; exact this
theorem m_refuseH (H : zmo e a h) (v : Int) : zc e (d + 1) 211 [zr (some a), zi v] (mH h a φ ψ) (fun o h' => o = Sum.inl (some (zi (-1))) ∧ h' = mH h a (zu φ 0 2 v) ψ) := by
  have := m_refuse (d := d) (H.mH φ ψ) v
  rw [zsI_mH0] at this; exact this
theorem m_isH (H : zmo e a h) (v : Int) (h1 : 0 ≤ v) (h2 : v ≤ 7) : zc e (d + 1) 247 [zr (some a), zi v] (mH h a φ ψ) (fun o h' => o = Sum.inl (some (zi (if v = 0 then 1 else 0))) ∧ h' = mH h a (zu φ 0 2 v) ψ) := by
  have := m_is (d := d) (H.mH φ ψ) v h1 h2
  rw [zsI_mH0] at this; exact this
end
