/-! ===== tables: what both tell of a frame's maps ===== -/
def yfn (q : Nat → Bool) (n : Nat) : Nat := (yfind q n 0).toNat
theorem yfn_spec {q : Nat → Bool} {n : Nat} (h : ∃ i, i < n ∧ q i = true) : yfn q n < n ∧ q (yfn q n) = true ∧ (∀ j, j < yfn q n → q j = false) ∧ yfind q n 0 = (yfn q n : Int) := by
  obtain ⟨i, hi, hq⟩ := h
  have hne : yfind q n 0 ≠ -1 := fun z => by
    have := yfind_none.mp z i (Nat.zero_le _) (by omega)
    rw [this] at hq; cases hq
  have b := yfind_bd q n 0
  have e : yfind q n 0 = (yfn q n : Int) := by unfold yfn; omega
  obtain ⟨_, h2, h3, h4⟩ := yfind_some.mp e
  exact ⟨by omega, h3, fun j hj => h4 j (Nat.zero_le _) hj, e⟩
theorem yfn_le (q : Nat → Bool) (n : Nat) : yfn q n ≤ n := by
  have b := yfind_bd q n 0
  unfold yfn; omega
theorem yfn_uniq {q : Nat → Bool} {n i : Nat} (hi : i < n) (hq : q i = true) (hu : ∀ j, j < i → q j = false) : yfn q n = i := by
  obtain ⟨h1, h2, h3, _⟩ := yfn_spec ⟨i, hi, hq⟩
  rcases Nat.lt_trichotomy (yfn q n) i with z | z | z
  · rw [hu _ z] at h2; cases h2
  · exact z
  · rw [h3 _ z] at hq; cases hq
theorem yfind_from {q : Nat → Bool} {n k : Nat} (hk : k ≤ n) (h : ∀ i, i < k → q i = false) : yfind q n 0 = yfind q (n - k) k := by
  by_cases hz : yfind q (n - k) k = -1
  · rw [hz]
    rw [yfind_none] at hz ⊢
    intro i _ h2
    by_cases c : i < k
    · exact h i c
    · exact hz i (by omega) (by omega)
  · have b := yfind_bd q (n - k) k
    obtain ⟨r, hr⟩ : ∃ r : Nat, yfind q (n - k) k = (r : Int) := ⟨(yfind q (n - k) k).toNat, by omega⟩
    rw [hr]
    rw [yfind_some] at hr ⊢
    refine ⟨Nat.zero_le _, by omega, hr.2.2.1, fun i _ h2 => ?_⟩
    by_cases c : i < k
    · exact h i c
    · exact hr.2.2.2 i (by omega) h2
theorem yfind_hit {q : Nat → Bool} {n k : Nat} (hk : k < n) (h : ∀ i, i < k → q i = false) (hq : q k = true) : yfind q n 0 = (k : Int) := yfind_some.mpr ⟨Nat.zero_le _, by omega, hq, fun i _ hi => h i hi⟩
theorem yfind_no {q : Nat → Bool} {n : Nat} (h : ∀ i, i < n → q i = false) : yfind q n 0 = -1 := yfind_none.mpr fun i _ hi => h i (by omega)
/-- all of the first ones -/
def yallb (q : Nat → Bool) (n : Nat) : Bool := decide (yfind (fun k => !q k) n 0 = -1)
theorem yallb_iff {q : Nat → Bool} {n : Nat} : yallb q n = true ↔ ∀ i, i < n → q i = true := by
  simp only [yallb, decide_eq_true_iff, yfind_none]
  constructor
  · intro h i hi; have := h i (Nat.zero_le _) (by omega); simpa using this
  · intro h i _ hi; simp [h i (by omega)]
/-- atoms, maps, rows, signs, traces, matrices, the whole -/
abbrev yT : Type := Nat × Nat × (Nat → Nat → Nat) × (Nat → Int) × (Nat → Int) × (Nat → Nat → Int) × Int
def Tn (T : yT) : Nat := T.1
def Tm (T : yT) : Nat := T.2.1
def TR (T : yT) : Nat → Nat → Nat := T.2.2.1
def Tg (T : yT) : Nat → Int := T.2.2.2.1
def Tt (T : yT) : Nat → Int := T.2.2.2.2.1
def Tx (T : yT) : Nat → Nat → Int := T.2.2.2.2.2.1
def Tw (T : yT) : Int := T.2.2.2.2.2.2
/-- c is a, then b -/
def ythq (T : yT) (a b c : Nat) : Bool := decide (Tg T c = Tg T a * Tg T b) && yallb (fun k => decide (TR T c k = TR T b (TR T a k))) (Tn T)
def yth (T : yT) (a b : Nat) : Nat := yfn (ythq T a b) (Tm T)
def yiv (T : yT) (a : Nat) : Nat := yfn (fun b => decide (yth T a b = 0)) (Tm T)
/-- c, then a, then c taken back -/
def ycj (T : yT) (c a : Nat) : Nat := yth T (yth T c a) (yiv T c)
/-- the least one of the class; the class' number; how many classes; the least of a class; its size; the class of inverses; joins -/
def ymn (T : yT) (a : Nat) : Nat := yfn (fun b => decide (∃ c, c < Tm T ∧ ycj T c b = a)) (Tm T)
def yld (T : yT) (a : Nat) : Bool := decide (ymn T a = a)
def ykl (T : yT) (a : Nat) : Nat := (ycnt (yld T) (ymn T a)).toNat
def yK (T : yT) : Nat := (ycnt (yld T) (Tm T)).toNat
def yls (T : yT) (c : Nat) : Nat := yfn (fun a => yld T a && decide (ykl T a = c)) (Tm T)
def ysz (T : yT) (c : Nat) : Int := ycnt (fun a => decide (ykl T a = c)) (Tm T)
def ybk (T : yT) (c : Nat) : Nat := ykl T (yiv T (yls T c))
def yjn (T : yT) (i j k : Nat) : Int := ysum (fun a => ycnt (fun b => decide (ykl T a = i ∧ ykl T b = j ∧ yth T a b = yls T k)) (Tm T)) (Tm T)
/-- what is needed of the tables: these are a group, of few classes -/
def yV (T : yT) : Prop := (3 ≤ Tn T ∧ Tn T ≤ 12) ∧ (1 ≤ Tm T ∧ Tm T ≤ 48) ∧ (∀ i, i < Tm T → ∀ k, k < Tn T → TR T i k < Tn T) ∧ (∀ i, i < Tm T → Tg T i = 1 ∨ Tg T i = -1) ∧ (∀ i, i < Tm T → -3 ≤ Tt T i ∧ Tt T i ≤ 3) ∧
  (∀ i, i < Tm T → ∀ r, r < 9 → -1000000000000 ≤ Tx T i r ∧ Tx T i r ≤ 1000000000000) ∧ (-1000000000000 ≤ Tw T ∧ Tw T ≤ 1000000000000 ∧ Tw T ≠ 0) ∧
  (∀ a b, a < Tm T → b < Tm T → ∃ c, c < Tm T ∧ ythq T a b c = true) ∧ (∀ a, a < Tm T → yth T 0 a = a ∧ yth T a 0 = a) ∧
  (∀ a b c, a < Tm T → b < Tm T → c < Tm T → yth T (yth T a b) c = yth T a (yth T b c)) ∧ (∀ a, a < Tm T → ∃ b, b < Tm T ∧ yth T a b = 0 ∧ yth T b a = 0) ∧ yK T ≤ 12 ∧ ∀ k, k < Tn T → TR T 0 k = k
section
variable {T : yT} (V : yV T)
theorem yV.n (V : yV T) : 3 ≤ Tn T ∧ Tn T ≤ 12 := V.1
theorem yV.m (V : yV T) : 1 ≤ Tm T ∧ Tm T ≤ 48 := V.2.1
theorem yV.R (V : yV T) {i k : Nat} (hi : i < Tm T) (hk : k < Tn T) : TR T i k < Tn T := V.2.2.1 i hi k hk
theorem yV.g (V : yV T) {i : Nat} (hi : i < Tm T) : Tg T i = 1 ∨ Tg T i = -1 := V.2.2.2.1 i hi
theorem yV.t (V : yV T) {i : Nat} (hi : i < Tm T) : -3 ≤ Tt T i ∧ Tt T i ≤ 3 := V.2.2.2.2.1 i hi
theorem yV.x (V : yV T) {i r : Nat} (hi : i < Tm T) (hr : r < 9) : -1000000000000 ≤ Tx T i r ∧ Tx T i r ≤ 1000000000000 := V.2.2.2.2.2.1 i hi r hr
theorem yV.w (V : yV T) : -1000000000000 ≤ Tw T ∧ Tw T ≤ 1000000000000 ∧ Tw T ≠ 0 := V.2.2.2.2.2.2.1
theorem yV.cl (V : yV T) {a b : Nat} (ha : a < Tm T) (hb : b < Tm T) : ∃ c, c < Tm T ∧ ythq T a b c = true := V.2.2.2.2.2.2.2.1 a b ha hb
theorem yV.th (V : yV T) {a b : Nat} (ha : a < Tm T) (hb : b < Tm T) : yth T a b < Tm T := (yfn_spec (V.cl ha hb)).1
theorem yV.th_q (V : yV T) {a b : Nat} (ha : a < Tm T) (hb : b < Tm T) : ythq T a b (yth T a b) = true := (yfn_spec (V.cl ha hb)).2.1
theorem yV.id1 (V : yV T) {a : Nat} (ha : a < Tm T) : yth T 0 a = a := (V.2.2.2.2.2.2.2.2.1 a ha).1
theorem yV.id2 (V : yV T) {a : Nat} (ha : a < Tm T) : yth T a 0 = a := (V.2.2.2.2.2.2.2.2.1 a ha).2
theorem yV.as (V : yV T) {a b c : Nat} (ha : a < Tm T) (hb : b < Tm T) (hc : c < Tm T) : yth T (yth T a b) c = yth T a (yth T b c) := V.2.2.2.2.2.2.2.2.2.1 a b c ha hb hc
theorem yV.iv0 (V : yV T) {a : Nat} (ha : a < Tm T) : ∃ b, b < Tm T ∧ yth T a b = 0 ∧ yth T b a = 0 := V.2.2.2.2.2.2.2.2.2.2.1 a ha
theorem yV.K (V : yV T) : yK T ≤ 12 := V.2.2.2.2.2.2.2.2.2.2.2.1
theorem yV.r0 (V : yV T) {k : Nat} (hk : k < Tn T) : TR T 0 k = k := V.2.2.2.2.2.2.2.2.2.2.2.2 k hk
theorem yV.ivs (V : yV T) {a : Nat} (ha : a < Tm T) : yiv T a < Tm T ∧ yth T a (yiv T a) = 0 ∧ (∀ j, j < yiv T a → ¬ yth T a j = 0) := by
  obtain ⟨b, hb, h1, _⟩ := V.iv0 ha
  obtain ⟨g1, g2, g3, _⟩ := yfn_spec (q := fun b => decide (yth T a b = 0)) ⟨b, hb, by simpa using h1⟩
  exact ⟨g1, of_decide_eq_true g2, fun j hj => of_decide_eq_false (g3 j hj)⟩
theorem yV.iv (V : yV T) {a : Nat} (ha : a < Tm T) : yiv T a < Tm T := (V.ivs ha).1
theorem yV.ivr (V : yV T) {a : Nat} (ha : a < Tm T) : yth T a (yiv T a) = 0 := (V.ivs ha).2.1
theorem yV.ivl (V : yV T) {a : Nat} (ha : a < Tm T) : yth T (yiv T a) a = 0 := by
  obtain ⟨b, hb, h1, h2⟩ := V.iv0 ha
  have hi := V.iv ha
  have : yiv T a = b := by
    have q := V.as (a := b) (b := a) (c := yiv T a) hb ha hi
    rw [h2, V.id1 hi, V.ivr ha, V.id2 hb] at q
    exact q
  rw [this]; exact h2
theorem yV.iv_uniq (V : yV T) {a b : Nat} (ha : a < Tm T) (hb : b < Tm T) (h : yth T a b = 0) : b = yiv T a := by
  have hi := V.iv ha
  have q := V.as (a := yiv T a) (b := a) (c := b) hi ha hb
  rw [V.ivl ha, V.id1 hb, h, V.id2 hi] at q
  exact q
theorem yV.iviv (V : yV T) {a : Nat} (ha : a < Tm T) : yiv T (yiv T a) = a := (V.iv_uniq (V.iv ha) ha (V.ivl ha)).symm
theorem yV.cancel (V : yV T) {a b c : Nat} (ha : a < Tm T) (hb : b < Tm T) (hc : c < Tm T) (h : yth T a b = yth T a c) : b = c := by
  have q := V.as (a := yiv T a) (b := a) (c := b) (V.iv ha) ha hb
  have q' := V.as (a := yiv T a) (b := a) (c := c) (V.iv ha) ha hc
  rw [V.ivl ha, V.id1 hb] at q
  rw [V.ivl ha, V.id1 hc] at q'
  rw [q, q', h]
theorem yV.cancelr (V : yV T) {a b c : Nat} (ha : a < Tm T) (hb : b < Tm T) (hc : c < Tm T) (h : yth T b a = yth T c a) : b = c := by
  have q := V.as (a := b) (b := a) (c := yiv T a) hb ha (V.iv ha)
  have q' := V.as (a := c) (b := a) (c := yiv T a) hc ha (V.iv ha)
  rw [V.ivr ha, V.id2 hb] at q
  rw [V.ivr ha, V.id2 hc] at q'
  rw [← q, ← q', h]
theorem yV.ivth (V : yV T) {a b : Nat} (ha : a < Tm T) (hb : b < Tm T) : yiv T (yth T a b) = yth T (yiv T b) (yiv T a) := by
  have hia := V.iv ha
  have hib := V.iv hb
  refine (V.iv_uniq (V.th ha hb) (V.th hib hia) ?_).symm
  rw [V.as ha hb (V.th hib hia), ← V.as hb hib hia, V.ivr hb, V.id1 hia, V.ivr ha]
theorem yV.cj (V : yV T) {c a : Nat} (hc : c < Tm T) (ha : a < Tm T) : ycj T c a < Tm T := V.th (V.th hc ha) (V.iv hc)
theorem yV.m0 (V : yV T) : 0 < Tm T := V.m.1
theorem yV.iv00 (V : yV T) : yiv T 0 = 0 := (V.iv_uniq V.m0 V.m0 (V.id1 V.m0)).symm
theorem yV.cj0 (V : yV T) {a : Nat} (ha : a < Tm T) : ycj T 0 a = a := by
  unfold ycj; rw [V.id1 ha, V.iv00, V.id2 ha]
theorem yV.cj_cj (V : yV T) {c b a : Nat} (hc : c < Tm T) (hb : b < Tm T) (ha : a < Tm T) : ycj T c (ycj T b a) = ycj T (yth T c b) a := by
  unfold ycj
  have hic := V.iv hc
  have hib := V.iv hb
  rw [V.ivth hc hb, ← V.as hc (V.th hb ha) hib, ← V.as hc hb ha, V.as (V.th (V.th hc hb) ha) hib hic]
theorem yV.cj_iv (V : yV T) {c a : Nat} (hc : c < Tm T) (ha : a < Tm T) : ycj T (yiv T c) (ycj T c a) = a := by
  rw [V.cj_cj (V.iv hc) hc ha, V.ivl hc, V.cj0 ha]
/-- the least of the class -/
theorem yV.mn (V : yV T) {a : Nat} (ha : a < Tm T) : ymn T a < Tm T ∧ (∃ c, c < Tm T ∧ ycj T c (ymn T a) = a) ∧ ∀ b, b < Tm T → (∃ c, c < Tm T ∧ ycj T c b = a) → ymn T a ≤ b := by
  obtain ⟨g1, g2, g3, _⟩ := yfn_spec (q := fun b => decide (∃ c, c < Tm T ∧ ycj T c b = a)) (n := Tm T) ⟨a, ha, by simpa using ⟨0, V.m0, V.cj0 ha⟩⟩
  refine ⟨g1, of_decide_eq_true g2, fun b hb hc => ?_⟩
  apply Nat.le_of_not_lt
  intro z
  have := g3 b z
  simp only [decide_eq_false_iff_not] at this
  exact this hc
theorem yV.mn_le (V : yV T) {a : Nat} (ha : a < Tm T) : ymn T a ≤ a := (V.mn ha).2.2 a ha ⟨0, V.m0, V.cj0 ha⟩
theorem yV.mn_cj (V : yV T) {c a : Nat} (hc : c < Tm T) (ha : a < Tm T) : ymn T (ycj T c a) = ymn T a := by
  have key : ∀ x y, x < Tm T → y < Tm T → (∃ c, c < Tm T ∧ ycj T c x = y) → ymn T y ≤ ymn T x := by
    intro x y hx hy ⟨c, hc, hxy⟩
    obtain ⟨h1, ⟨b, hb, h2⟩, _⟩ := V.mn hx
    refine (V.mn hy).2.2 _ h1 ⟨yth T c b, V.th hc hb, ?_⟩
    rw [← V.cj_cj hc hb h1, h2, hxy]
  have hca := V.cj hc ha
  have k1 := key a _ ha hca ⟨c, hc, rfl⟩
  have k2 := key _ a hca ha ⟨yiv T c, V.iv hc, V.cj_iv hc ha⟩
  omega
theorem yV.mn_eq (V : yV T) {a b : Nat} (ha : a < Tm T) (hb : b < Tm T) : ymn T a = ymn T b ↔ ∃ c, c < Tm T ∧ ycj T c a = b := by
  constructor
  · intro h
    obtain ⟨h1, ⟨c, hc, h2⟩, _⟩ := V.mn ha
    obtain ⟨h3, ⟨d, hd, h4⟩, _⟩ := V.mn hb
    refine ⟨yth T d (yiv T c), V.th hd (V.iv hc), ?_⟩
    have e1 : ycj T (yiv T c) a = ymn T a := by
      have := V.cj_iv hc h1; rw [h2] at this; exact this
    rw [← V.cj_cj hd (V.iv hc) ha, e1, h, h4]
  · rintro ⟨c, hc, rfl⟩
    exact (V.mn_cj hc ha).symm
theorem yV.mn_mn (V : yV T) {a : Nat} (ha : a < Tm T) : ymn T (ymn T a) = ymn T a := by
  obtain ⟨h1, ⟨c, hc, h2⟩, _⟩ := V.mn ha
  have := V.mn_cj hc h1
  rw [h2] at this
  exact this.symm
theorem ycnt_mono {q : Nat → Bool} {k n : Nat} (h : k ≤ n) : ycnt q k ≤ ycnt q n := by
  induction n with
  | zero => obtain rfl : k = 0 := by omega
            exact Int.le_refl _
  | succ n ih =>
    by_cases c : k = n + 1
    · rw [c]; exact Int.le_refl _
    · have := ih (by omega)
      simp only [ycnt]; split <;> omega
theorem ycnt_lt1 {q : Nat → Bool} {k n : Nat} (h : k < n) (hq : q k = true) : ycnt q k < ycnt q n := by
  have h1 : ycnt q (k + 1) ≤ ycnt q n := ycnt_mono h
  simp only [ycnt, hq, if_true] at h1
  omega
theorem yV.cl_lt (V : yV T) {a : Nat} (ha : a < Tm T) : ykl T a < yK T := by
  have h1 := (V.mn ha).1
  have := ycnt_lt1 (q := yld T) h1 (by simp [yld, V.mn_mn ha])
  have b := ycnt_bd (yld T) (ymn T a)
  unfold ykl yK; omega
theorem yV.cl_eq (V : yV T) {a b : Nat} (ha : a < Tm T) (hb : b < Tm T) : ykl T a = ykl T b ↔ ymn T a = ymn T b := by
  constructor
  · intro h
    have b1 := ycnt_bd (yld T) (ymn T a)
    have b2 := ycnt_bd (yld T) (ymn T b)
    have e : ycnt (yld T) (ymn T a) = ycnt (yld T) (ymn T b) := by unfold ykl at h; omega
    rcases Nat.lt_trichotomy (ymn T a) (ymn T b) with z | z | z
    · have := ycnt_lt1 (q := yld T) z (by simp [yld, V.mn_mn ha]); omega
    · exact z
    · have := ycnt_lt1 (q := yld T) z (by simp [yld, V.mn_mn hb]); omega
  · intro h; unfold ykl; rw [h]
theorem ycnt_reach {q : Nat → Bool} {n c : Nat} (h : (c : Int) < ycnt q n) : ∃ a, a < n ∧ q a = true ∧ ycnt q a = (c : Int) := by
  induction n with
  | zero => simp only [ycnt] at h; omega
  | succ n ih =>
    by_cases z : (c : Int) < ycnt q n
    · obtain ⟨a, h1, h2, h3⟩ := ih z
      exact ⟨a, by omega, h2, h3⟩
    · simp only [ycnt] at h
      by_cases hq : q n = true
      · rw [if_pos hq] at h
        exact ⟨n, by omega, hq, by omega⟩
      · rw [if_neg hq] at h; omega
theorem yV.ls (V : yV T) {c : Nat} (hc : c < yK T) : yls T c < Tm T ∧ ymn T (yls T c) = yls T c ∧ ykl T (yls T c) = c := by
  have b := ycnt_bd (yld T) (Tm T)
  obtain ⟨a, h1, h2, h3⟩ := ycnt_reach (q := yld T) (n := Tm T) (c := c) (by unfold yK at hc; omega)
  have h2' : ymn T a = a := by simpa [yld] using h2
  obtain ⟨g1, g2, g3, _⟩ := yfn_spec (q := fun a => yld T a && decide (ykl T a = c)) (n := Tm T) ⟨a, h1, by
    have : ykl T a = c := by unfold ykl; rw [h2', h3]; omega
    simp [h2, this]⟩
  have g2' : yld T (yls T c) = true ∧ decide (ykl T (yls T c) = c) = true := by rw [← Bool.and_eq_true]; exact g2
  exact ⟨g1, of_decide_eq_true g2'.1, of_decide_eq_true g2'.2⟩
theorem yV.ls_cl (V : yV T) {a : Nat} (ha : a < Tm T) : yls T (ykl T a) = ymn T a := by
  obtain ⟨h1, h2, h3⟩ := V.ls (V.cl_lt ha)
  rw [V.cl_eq h1 ha, h2] at h3
  exact h3
theorem yV.sz (V : yV T) {c : Nat} (hc : c < yK T) : 1 ≤ ysz T c ∧ ysz T c ≤ Tm T := by
  obtain ⟨h1, h2, h3⟩ := V.ls hc
  have b := ycnt_bd (fun a => decide (ykl T a = c)) (Tm T)
  have := ycnt_lt1 (q := fun a => decide (ykl T a = c)) h1 (by simp [h3])
  have b0 := ycnt_bd (fun a => decide (ykl T a = c)) (yls T c)
  unfold ysz; omega
theorem yV.bk (V : yV T) {c : Nat} (hc : c < yK T) : ybk T c < yK T := V.cl_lt (V.iv (V.ls hc).1)
end
