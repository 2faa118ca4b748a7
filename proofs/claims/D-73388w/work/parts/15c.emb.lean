/-! ===== maths: a group of maps, before its classes are counted ===== -/
structure yV0 (T : yT) : Prop where
  m0 : 0 < Tm T
  cl : ∀ {a b : Nat}, a < Tm T → b < Tm T → ∃ c, c < Tm T ∧ ythq T a b c = true
  id1 : ∀ {a : Nat}, a < Tm T → yth T 0 a = a
  id2 : ∀ {a : Nat}, a < Tm T → yth T a 0 = a
  as : ∀ {a b c : Nat}, a < Tm T → b < Tm T → c < Tm T → yth T (yth T a b) c = yth T a (yth T b c)
  iv0 : ∀ {a : Nat}, a < Tm T → ∃ b, b < Tm T ∧ yth T a b = 0 ∧ yth T b a = 0
section
variable {T : yT}
theorem yV0.th (V : yV0 T) {a b : Nat} (ha : a < Tm T) (hb : b < Tm T) : yth T a b < Tm T := (yfn_spec (V.cl ha hb)).1
theorem yV0.ivs (V : yV0 T) {a : Nat} (ha : a < Tm T) : yiv T a < Tm T ∧ yth T a (yiv T a) = 0 ∧ (∀ j, j < yiv T a → ¬ yth T a j = 0) := by
  obtain ⟨b, hb, h1, _⟩ := V.iv0 ha
  obtain ⟨g1, g2, g3, _⟩ := yfn_spec (q := fun b => decide (yth T a b = 0)) ⟨b, hb, by simpa using h1⟩
  exact ⟨g1, of_decide_eq_true g2, fun j hj => of_decide_eq_false (g3 j hj)⟩
theorem yV0.iv (V : yV0 T) {a : Nat} (ha : a < Tm T) : yiv T a < Tm T := (V.ivs ha).1
theorem yV0.ivr (V : yV0 T) {a : Nat} (ha : a < Tm T) : yth T a (yiv T a) = 0 := (V.ivs ha).2.1
theorem yV0.ivl (V : yV0 T) {a : Nat} (ha : a < Tm T) : yth T (yiv T a) a = 0 := by
  obtain ⟨b, hb, h1, h2⟩ := V.iv0 ha
  have hi := V.iv ha
  have : yiv T a = b := by
    have q := V.as (a := b) (b := a) (c := yiv T a) hb ha hi
    rw [h2, V.id1 hi, V.ivr ha, V.id2 hb] at q
    exact q
  rw [this]; exact h2
theorem yV0.iv_uniq (V : yV0 T) {a b : Nat} (ha : a < Tm T) (hb : b < Tm T) (h : yth T a b = 0) : b = yiv T a := by
  have hi := V.iv ha
  have q := V.as (a := yiv T a) (b := a) (c := b) hi ha hb
  rw [V.ivl ha, V.id1 hb, h, V.id2 hi] at q
  exact q
theorem yV0.cancel (V : yV0 T) {a b c : Nat} (ha : a < Tm T) (hb : b < Tm T) (hc : c < Tm T) (h : yth T a b = yth T a c) : b = c := by
  have q := V.as (a := yiv T a) (b := a) (c := b) (V.iv ha) ha hb
  have q' := V.as (a := yiv T a) (b := a) (c := c) (V.iv ha) ha hc
  rw [V.ivl ha, V.id1 hb] at q
  rw [V.ivl ha, V.id1 hc] at q'
  rw [q, q', h]
theorem yV0.ivth (V : yV0 T) {a b : Nat} (ha : a < Tm T) (hb : b < Tm T) : yiv T (yth T a b) = yth T (yiv T b) (yiv T a) := by
  have hia := V.iv ha
  have hib := V.iv hb
  refine (V.iv_uniq (V.th ha hb) (V.th hib hia) ?_).symm
  rw [V.as ha hb (V.th hib hia), ← V.as hb hib hia, V.ivr hb, V.id1 hia, V.ivr ha]
theorem yV0.cj (V : yV0 T) {c a : Nat} (hc : c < Tm T) (ha : a < Tm T) : ycj T c a < Tm T := V.th (V.th hc ha) (V.iv hc)
theorem yV0.iv00 (V : yV0 T) : yiv T 0 = 0 := (V.iv_uniq V.m0 V.m0 (V.id1 V.m0)).symm
theorem yV0.cj0 (V : yV0 T) {a : Nat} (ha : a < Tm T) : ycj T 0 a = a := by
  unfold ycj; rw [V.id1 ha, V.iv00, V.id2 ha]
theorem yV0.cj_cj (V : yV0 T) {c b a : Nat} (hc : c < Tm T) (hb : b < Tm T) (ha : a < Tm T) : ycj T c (ycj T b a) = ycj T (yth T c b) a := by
  unfold ycj
  have hic := V.iv hc
  have hib := V.iv hb
  rw [V.ivth hc hb, ← V.as hc (V.th hb ha) hib, ← V.as hc hb ha, V.as (V.th (V.th hc hb) ha) hib hic]
theorem yV0.cj_iv (V : yV0 T) {c a : Nat} (hc : c < Tm T) (ha : a < Tm T) : ycj T (yiv T c) (ycj T c a) = a := by
  rw [V.cj_cj (V.iv hc) hc ha, V.ivl hc, V.cj0 ha]
end
theorem yTF_0 {F : yF} (hW : yW F) (h3 : y3 F ≠ -1) : yV0 (yTF F) := by
  have a0 := at_0 hW h3
  refine ⟨a0.lt, fun ha hb => at_cl hW h3 ha hb, fun ha => ?_, fun ha => ?_, fun ha hb hc => ?_, fun ha => ?_⟩
  · obtain ⟨π, sg, p⟩ := at_ex hW h3 ha
    exact at_inj hW h3 (at_th hW h3 a0 p) p (fun _ _ => rfl) (Int.one_mul _)
  · obtain ⟨π, sg, p⟩ := at_ex hW h3 ha
    exact at_inj hW h3 (at_th hW h3 p a0) p (fun _ _ => rfl) (Int.mul_one _)
  · obtain ⟨π, sg, p⟩ := at_ex hW h3 ha
    obtain ⟨ρ, sh, q⟩ := at_ex hW h3 hb
    obtain ⟨σ, si, r⟩ := at_ex hW h3 hc
    exact at_inj hW h3 (at_th hW h3 (at_th hW h3 p q) r) (at_th hW h3 p (at_th hW h3 q r)) (fun _ _ => rfl) (Int.mul_assoc _ _ _)
  · obtain ⟨π, sg, p⟩ := at_ex hW h3 ha
    obtain ⟨ρ, g, l, r⟩ := p.go.inv hW h3
    obtain ⟨b, q⟩ := at_of hW h3 g
    exact ⟨b, q.lt, at_inj hW h3 (at_th hW h3 p q) a0 l (ysq1 p.go.s1), at_inj hW h3 (at_th hW h3 q p) a0 r (ysq1 p.go.s1)⟩
/-- a table as a subgroup that was checked -/
structure yEx (T : yT) (N : Nat) (m : Nat → Nat → Nat) (iv : Nat → Nat) (tr : Nat → Int) (c : Nat → Nat) (e : Nat × List Nat × List Nat × List (Nat × Nat)) : Prop where
  lt : ∀ {a}, a < Tm T → c a < N
  inj : ∀ {a b}, a < Tm T → b < Tm T → c a = c b → a = b
  th : ∀ {a b}, a < Tm T → b < Tm T → c (yth T a b) = m (c a) (c b)
  ivc : ∀ {a}, a < Tm T → c (yiv T a) = iv (c a)
  c0 : c 0 = 0
  g : ∀ {a}, a < Tm T → Tg T a = (if c a % 2 = 0 then 1 else -1)
  t : ∀ {a}, a < Tm T → Tt T a = Tg T a * tr (c a / 2)
  mem : ∀ h, h ∈ e.2.1 ↔ ∃ a, a < Tm T ∧ c a = h
  chk : xchkE N m iv tr e = true
/-- the bits of what comes by c -/
def yim (c : Nat → Nat) : Nat → Nat
  | 0 => 0
  | k + 1 => yim c k ||| 2 ^ c k
theorem yim_bit (c : Nat → Nat) (h : Nat) : ∀ k, (yim c k).testBit h = true ↔ ∃ a, a < k ∧ c a = h := by
  intro k
  induction k with
  | zero => exact ⟨fun z => by simp [yim] at z, fun ⟨a, z, _⟩ => absurd z (Nat.not_lt_zero _)⟩
  | succ k ih =>
    unfold yim
    rw [Nat.testBit_or, Nat.testBit_two_pow, Bool.or_eq_true, decide_eq_true_iff, ih]
    constructor
    · rintro (⟨a, ha, e⟩ | e)
      · exact ⟨a, by omega, e⟩
      · exact ⟨k, by omega, e⟩
    · rintro ⟨a, ha, e⟩
      by_cases q : a = k
      · right; rw [← q]; exact e
      · left; exact ⟨a, by omega, e⟩
theorem yim_lt {c : Nat → Nat} {N : Nat} : ∀ k, (∀ a, a < k → c a < N) → yim c k < 2 ^ N := by
  intro k
  induction k with
  | zero => intro _; exact Nat.two_pow_pos _
  | succ k ih => intro h; exact Nat.or_lt_two_pow (ih fun a ha => h a (by omega)) (Nat.pow_lt_pow_right (by omega) (h k (by omega)))
theorem xmsk_bit (h : Nat) : ∀ l, (xmsk l).testBit h = true ↔ h ∈ l := by
  intro l
  induction l with
  | nil => exact ⟨fun z => by simp [xmsk] at z, fun z => absurd z List.not_mem_nil⟩
  | cons k l ih =>
    have : xmsk (k :: l) = 2 ^ k ||| xmsk l := rfl
    rw [this, Nat.testBit_or, Nat.testBit_two_pow, Bool.or_eq_true, decide_eq_true_iff, ih, List.mem_cons]
    exact or_congr ⟨fun z => z.symm, fun z => z.symm⟩ Iff.rfl
theorem yEx_of {T : yT} (V : yV0 T) {N2 N : Nat} {mul : Nat → Nat → Nat} {tr : Nat → Int} {c : Nat → Nat} (E : yCd T N2 mul tr c) (hN : N = 2 * N2) {m : Nat → Nat → Nat} {iv : Nat → Nat} {L : xLt} {X : xEt} (k1 : ∀ x, x < N → ∀ y, y < N → m x y = xdb mul x y) (k2 : ∀ x, x < N → m x x = x → x = 0) (k3 : ∀ x, x < N → ∀ y, y < N → m x y = 0 → y = iv x)
    (l1 : L.any (fun s => s.1 == 1 && s.2.1 == 0) = true) (l2 : L.all (fun s => xok1 N m L s) = true) (x1 : ∀ e, e ∈ X → xchkE N m iv tr e = true) (x2 : L.all (fun s => X.any (fun e => Nat.beq e.1 s.1)) = true) : ∃ e, yEx T N m iv tr c e := by
  subst hN
  have th : ∀ {a b}, a < Tm T → b < Tm T → c (yth T a b) = m (c a) (c b) := fun ha hb => by rw [E.th ha hb, k1 _ (E.lt ha) _ (E.lt hb)]
  have c0 : c 0 = 0 := k2 _ (E.lt V.m0) (by rw [← th V.m0 V.m0, V.id1 V.m0])
  have xb : xsb m (yim c (Tm T)) := by
    refine ⟨(yim_bit c 0 _).mpr ⟨0, V.m0, c0⟩, fun a b ha hb => ?_⟩
    obtain ⟨p, hp, ep⟩ := (yim_bit c a _).mp ha
    obtain ⟨q, hq, eq⟩ := (yim_bit c b _).mp hb
    exact (yim_bit c _ _).mpr ⟨yth T p q, V.th hp hq, by rw [th hp hq, ep, eq]⟩
  obtain ⟨s, ms, es⟩ := xok_all l1 (fun s hs => List.all_eq_true.mp l2 s hs) xb (yim_lt _ (fun a ha => E.lt ha))
  obtain ⟨e, me, ee⟩ := List.any_eq_true.mp (List.all_eq_true.mp x2 s ms)
  have ee := Nat.eq_of_beq_eq_true ee
  have ck := x1 e me
  have mk : xmsk e.2.1 = e.1 := by
    unfold xchkE at ck
    simp only [Bool.and_eq_true] at ck
    exact Nat.eq_of_beq_eq_true ck.1.1.1.1.1.1.1.1.1
  refine ⟨e, E.lt, E.inj, th, fun ha => ?_, c0, E.g, E.t, fun h => ?_, ck⟩
  · refine k3 _ (E.lt ha) _ (E.lt (V.iv ha)) ?_
    rw [← th ha (V.iv ha), V.ivr ha, c0]
  · rw [← xmsk_bit, mk, ee, es, yim_bit]
theorem yEx_ex {F : yF} (hW : yW F) (h3 : y3 F ≠ -1) : ∃ N m iv tr c e, yEx (yTF F) N m iv tr c e ∧ N ≤ 48 := by
  have V := yTF_0 hW h3
  rcases yCd_ex hW h3 with ⟨c, E⟩ | ⟨c, E⟩ | ⟨c, E⟩
  · obtain ⟨e, h⟩ := yEx_of V E rfl xtbS_ok xtbS_id xnvS_u xLS_1 xLS_ok xES_ok xES_all
    exact ⟨_, _, _, _, _, e, h, by omega⟩
  · obtain ⟨e, h⟩ := yEx_of V E rfl xtb6_ok xtb6_id xnv6_u xL6_1 xL6_ok xE6_ok xE6_all
    exact ⟨_, _, _, _, _, e, h, by omega⟩
  · obtain ⟨e, h⟩ := yEx_of V E rfl xtb4_ok xtb4_id xnv4_u xL4_1 xL4_ok xE4_ok xE4_all
    exact ⟨_, _, _, _, _, e, h, by omega⟩
section
variable {T : yT} {N : Nat} {m : Nat → Nat → Nat} {iv : Nat → Nat} {tr : Nat → Int} {c : Nat → Nat} {e : Nat × List Nat × List Nat × List (Nat × Nat)}
theorem yEx.parts (E : yEx T N m iv tr c e) : xinc e.2.1 = true ∧ (∀ h, h ∈ e.2.1 → ∃ g, g ∈ e.2.1 ∧ xcjc m iv g h ∈ e.2.2.1) ∧ (∀ h, h ∈ e.2.2.1 → h ∈ e.2.1) ∧ e.2.2.1.length = e.2.2.2.length ∧ e.2.2.1.length ≤ 12 ∧ xdis e.2.1 e.2.2.2 = true ∧ (∀ p, p ∈ e.2.2.2 → xlaw m iv e.2.1 e.2.2.1 p = true) ∧ xnam m tr e.2.1 = true := by
  have ck := E.chk
  unfold xchkE at ck
  simp only [Bool.and_eq_true] at ck
  obtain ⟨⟨⟨⟨⟨⟨⟨⟨⟨_, q1⟩, _⟩, q3⟩, q4⟩, q5⟩, q6⟩, q7⟩, q8⟩, q9⟩ := ck
  refine ⟨q1, fun h hh => ?_, fun h hh => ?_, Nat.eq_of_beq_eq_true q5, Nat.le_of_ble_eq_true q6, q7, fun p hp => List.all_eq_true.mp q8 p hp, q9⟩
  · obtain ⟨g, mg, eg⟩ := List.any_eq_true.mp (List.all_eq_true.mp q3 h hh)
    obtain ⟨k, mk, ek⟩ := List.any_eq_true.mp eg
    exact ⟨g, mg, by rw [Nat.eq_of_beq_eq_true ek]; exact mk⟩
  · obtain ⟨g, mg, eg⟩ := List.any_eq_true.mp (List.all_eq_true.mp q4 h hh)
    rw [Nat.eq_of_beq_eq_true eg]; exact mg
theorem yEx.cj (V : yV0 T) (E : yEx T N m iv tr c e) {k a : Nat} (hk : k < Tm T) (ha : a < Tm T) : c (ycj T k a) = xcjc m iv (c k) (c a) := by
  unfold ycj xcjc
  rw [E.th (V.th hk ha) (V.iv hk), E.th hk ha, E.ivc hk]
/-- each is turned to one of those that stand for the classes -/
theorem yEx.ld (V : yV0 T) (E : yEx T N m iv tr c e) {a : Nat} (ha : a < Tm T) : ∃ k, k < Tm T ∧ c (ycj T k a) ∈ e.2.2.1 := by
  obtain ⟨g, mg, eg⟩ := E.parts.2.1 (c a) ((E.mem _).mpr ⟨a, ha, rfl⟩)
  obtain ⟨k, hk, ek⟩ := (E.mem g).mp mg
  exact ⟨k, hk, by rw [E.cj V hk ha, ek]; exact eg⟩
theorem yEx.K (V : yV0 T) (E : yEx T N m iv tr c e) : yK T ≤ e.2.2.1.length := by
  have ex : ∀ a, a < Tm T → ∃ i, i < e.2.2.1.length ∧ ∃ k, k < Tm T ∧ e.2.2.1[i]? = some (c (ycj T k a)) := fun a ha => by
    obtain ⟨k, hk, mk⟩ := E.ld V ha
    obtain ⟨i, hi, ei⟩ := List.mem_iff_getElem.mp mk
    exact ⟨i, hi, k, hk, by rw [List.getElem?_eq_getElem hi, ei]⟩
  let f : Nat → Nat := fun a => if h : a < Tm T then Classical.choose (ex a h) else 0
  have fs : ∀ a, a < Tm T → f a < e.2.2.1.length ∧ ∃ k, k < Tm T ∧ e.2.2.1[f a]? = some (c (ycj T k a)) := fun a ha => by
    have : f a = Classical.choose (ex a ha) := dif_pos ha
    rw [this]; exact Classical.choose_spec (ex a ha)
  have le : ∀ a b, a < Tm T → b < Tm T → yld T a = true → f a = f b → a ≤ b := fun a b ha hb la e1 => by
    obtain ⟨_, k, hk, ek⟩ := fs a ha
    obtain ⟨_, k', hk', ek'⟩ := fs b hb
    rw [e1, ek'] at ek
    have := E.inj (V.cj hk' hb) (V.cj hk ha) (Option.some.inj ek)
    have cj : ycj T (yth T (yiv T k) k') b = a := by
      rw [← V.cj_cj (V.iv hk) hk' hb, this, V.cj_iv hk ha]
    have la : ymn T a = a := of_decide_eq_true la
    refine Nat.le_of_not_lt fun lt => ?_
    have pb : (fun b => decide (∃ c, c < Tm T ∧ ycj T c b = a)) b = true := decide_eq_true ⟨_, V.th (V.iv hk) hk', cj⟩
    have sp := yfn_spec (q := fun b => decide (∃ c, c < Tm T ∧ ycj T c b = a)) (n := Tm T) ⟨b, hb, pb⟩
    have := sp.2.2.1 b (by unfold ymn at la; omega)
    exact Bool.noConfusion (pb.symm.trans this)
  have := ycnt_inj (p := yld T) (q := fun _ => true) (f := f) (Tm T) e.2.2.1.length (fun i hi _ => ⟨(fs i hi).1, rfl⟩) (fun i j hi hj pi pj e1 => by
    have := le i j hi hj pi e1
    have := le j i hj hi pj e1.symm
    omega)
  have b : ∀ n, ycnt (fun _ => true) n = (n : Int) := fun n => by
    induction n with
    | zero => rfl
    | succ n ih => rw [ycnt_s, ih]; simp
  rw [b] at this
  unfold yK
  omega
end
theorem yTF_V {F : yF} (hW : yW F) (h3 : y3 F ≠ -1) : yV (yTF F) := by
  obtain ⟨N, m, iv, tr, c, e, E, _⟩ := yEx_ex hW h3
  exact yV_of hW h3 (yops_48 hW) (Nat.le_trans (E.K (yTF_0 hW h3)) E.parts.2.2.2.2.1)
