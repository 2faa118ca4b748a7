/-! ===== maths: sums over a group and its classes ===== -/
theorem ysum_cg {f g : Nat → Int} {n : Nat} (h : ∀ k, k < n → f k = g k) : ysum f n = ysum g n := by
  induction n with
  | zero => rfl
  | succ n ih => rw [ysum_s, ysum_s, ih (fun k hk => h k (by omega)), h n (by omega)]
theorem ysum_plus (f g : Nat → Int) (n : Nat) : ysum (fun k => f k + g k) n = ysum f n + ysum g n := by
  induction n with
  | zero => rfl
  | succ n ih => rw [ysum_s, ysum_s, ysum_s, ih]; omega
theorem ysum_cmul (t : Int) (f : Nat → Int) (n : Nat) : ysum (fun k => t * f k) n = t * ysum f n := by
  induction n with
  | zero => exact (Int.mul_zero t).symm
  | succ n ih => rw [ysum_s, ysum_s, ih, Int.mul_add]
theorem ysum_mulc (t : Int) (f : Nat → Int) (n : Nat) : ysum (fun k => f k * t) n = ysum f n * t := by
  induction n with
  | zero => exact (Int.zero_mul t).symm
  | succ n ih => rw [ysum_s, ysum_s, ih, Int.add_mul]
theorem ysum_0 (n : Nat) : ysum (fun _ => 0) n = 0 := by
  induction n with
  | zero => rfl
  | succ n ih => rw [ysum_s, ih]; rfl
theorem ysum_const (t : Int) (n : Nat) : ysum (fun _ => t) n = n * t := by
  induction n with
  | zero => simp [ysum]
  | succ n ih => rw [ysum_s, ih]; push_cast; grind
theorem ysum_swap (f : Nat → Nat → Int) (n m : Nat) : ysum (fun i => ysum (fun j => f i j) m) n = ysum (fun j => ysum (fun i => f i j) n) m := by
  induction n with
  | zero => simp only [ysum]; exact (ysum_0 m).symm
  | succ n ih => rw [ysum_s, ih, ← ysum_plus]; rfl
theorem ysum_del (f : Nat → Int) (i n : Nat) : ysum (fun j => if j = i then f j else 0) n = if i < n then f i else 0 := by
  induction n with
  | zero => rfl
  | succ n ih =>
    rw [ysum_s, ih]
    by_cases c : n = i
    · rw [if_pos c, if_neg (by omega), if_pos (by omega), c]; omega
    · rw [if_neg c]
      by_cases d : i < n
      · rw [if_pos d, if_pos (by omega)]; omega
      · rw [if_neg d, if_neg (by omega)]; omega
theorem ysum_perm {n : Nat} {σ : Nat → Nat} (h : ∀ k, k < n → σ k < n) (hi : ∀ k j, k < n → j < n → σ k = σ j → k = j) (f : Nat → Int) : ysum (fun k => f (σ k)) n = ysum f n := by
  have a : ysum (fun k => f (σ k)) n = ysum (fun k => ysum (fun j => if σ k = j then f j else 0) n) n := ysum_cg fun k hk => by
    have := ysum_del f (σ k) n
    rw [if_pos (h k hk)] at this
    rw [← this]
    exact ysum_cg fun j _ => by
      by_cases c : j = σ k
      · rw [if_pos c, if_pos c.symm]
      · rw [if_neg c, if_neg (fun z => c z.symm)]
  rw [a, ysum_swap]
  refine ysum_cg fun j hj => ?_
  obtain ⟨k, hk, ek⟩ := yinj_surj (f := σ) h hi hj
  have := ysum_del (fun _ => f j) k n
  rw [if_pos hk] at this
  refine Eq.trans ?_ this
  exact ysum_cg fun i hi' => by
    by_cases c : i = k
    · rw [if_pos c, c, if_pos ek]
    · rw [if_neg c, if_neg (fun z => c (hi i k hi' hk (z.trans ek.symm)))]
theorem ycnt_sum (q : Nat → Bool) (n : Nat) : ycnt q n = ysum (fun k => if q k = true then 1 else 0) n := by
  induction n with
  | zero => rfl
  | succ n ih => rw [ycnt_s, ysum_s, ih]
section
variable {T : yT}
theorem yV.sum_l (V : yV T) {k : Nat} (hk : k < Tm T) (f : Nat → Int) : ysum (fun a => f (yth T k a)) (Tm T) = ysum f (Tm T) :=
  ysum_perm (fun _ ha => V.th hk ha) (fun _ _ ha hb e => V.cancel hk ha hb e) f
theorem yV.sum_r (V : yV T) {k : Nat} (hk : k < Tm T) (f : Nat → Int) : ysum (fun a => f (yth T a k)) (Tm T) = ysum f (Tm T) :=
  ysum_perm (σ := fun a => yth T a k) (fun _ ha => V.th ha hk) (fun _ _ ha hb e => V.cancelr hk ha hb e) f
theorem yV.cj_inj (V : yV T) {k a b : Nat} (hk : k < Tm T) (ha : a < Tm T) (hb : b < Tm T) (e : ycj T k a = ycj T k b) : a = b := by
  rw [← V.cj_iv hk ha, e, V.cj_iv hk hb]
theorem yV.sum_cj (V : yV T) {k : Nat} (hk : k < Tm T) (f : Nat → Int) : ysum (fun a => f (ycj T k a)) (Tm T) = ysum f (Tm T) :=
  ysum_perm (fun _ ha => V.cj hk ha) (fun _ _ ha hb e => V.cj_inj hk ha hb e) f
theorem yV.sum_iv (V : yV T) (f : Nat → Int) : ysum (fun a => f (yiv T a)) (Tm T) = ysum f (Tm T) :=
  ysum_perm (fun _ ha => V.iv ha) (fun _ _ ha hb e => by rw [← V.iviv ha, e, V.iviv hb]) f
theorem yV.kl_cj (V : yV T) {k a : Nat} (hk : k < Tm T) (ha : a < Tm T) : ykl T (ycj T k a) = ykl T a := (V.cl_eq (V.cj hk ha) ha).mpr (V.mn_cj hk ha)
/-- the same on each class -/
def ycf (T : yT) (G : Nat → Int) : Prop := ∀ k a, k < Tm T → a < Tm T → G (ycj T k a) = G a
theorem yV.cf (V : yV T) {G : Nat → Int} (h : ycf T G) {a b : Nat} (ha : a < Tm T) (hb : b < Tm T) (e : ykl T a = ykl T b) : G a = G b := by
  obtain ⟨k, hk, ek⟩ := (V.mn_eq ha hb).mp ((V.cl_eq ha hb).mp e)
  rw [← ek, h k a hk ha]
theorem yV.sum_kl (V : yV T) {G : Nat → Int} (h : ycf T G) {c : Nat} (hc : c < yK T) : ysum (fun a => if ykl T a = c then G a else 0) (Tm T) = ysz T c * G (yls T c) := by
  have l := V.ls hc
  have e : ysum (fun a => if ykl T a = c then G a else 0) (Tm T) = ysum (fun a => (if decide (ykl T a = c) = true then 1 else 0) * G (yls T c)) (Tm T) := ysum_cg fun a ha => by
    by_cases q : ykl T a = c
    · rw [if_pos q, if_pos (decide_eq_true q), Int.one_mul]; exact V.cf h ha l.1 (by rw [q, l.2.2])
    · rw [if_neg q, if_neg (by simpa using q), Int.zero_mul]
  rw [e, ysum_mulc, ← ycnt_sum]; rfl
theorem yV.sum_cls (V : yV T) (f : Nat → Int) : ysum f (Tm T) = ysum (fun c => ysum (fun a => if ykl T a = c then f a else 0) (Tm T)) (yK T) := by
  rw [ysum_swap]
  refine ysum_cg fun a ha => ?_
  have := ysum_del (fun _ => f a) (ykl T a) (yK T)
  rw [if_pos (V.cl_lt ha)] at this
  refine this.symm.trans ?_
  exact ysum_cg fun c _ => by
    by_cases q : c = ykl T a
    · rw [if_pos q, if_pos q.symm]
    · rw [if_neg q, if_neg (fun z => q z.symm)]
theorem yV.sum_cf (V : yV T) {G : Nat → Int} (h : ycf T G) : ysum G (Tm T) = ysum (fun c => ysz T c * G (yls T c)) (yK T) := by
  rw [V.sum_cls]; exact ysum_cg fun c hc => V.sum_kl h hc
/-- joins, summed with a function on the classes, are sums over two classes -/
theorem yV.jn_sum (V : yV T) {G : Nat → Int} (h : ycf T G) (i j : Nat) : ysum (fun k => yjn T i j k * (ysz T k * G (yls T k))) (yK T) = ysum (fun a => if ykl T a = i then ysum (fun b => if ykl T b = j then G (yth T a b) else 0) (Tm T) else 0) (Tm T) := by
  let Nf : Nat → Int := fun y => ycnt (fun x => decide (ykl T x = i ∧ ykl T (yth T (yiv T x) y) = j)) (Tm T)
  have nc : ycf T Nf := fun k y hk hy => by
    show ycnt (fun x => decide (ykl T x = i ∧ ykl T (yth T (yiv T x) (ycj T k y)) = j)) (Tm T) = ycnt (fun x => decide (ykl T x = i ∧ ykl T (yth T (yiv T x) y) = j)) (Tm T)
    rw [ycnt_sum, ycnt_sum, ← V.sum_cj hk]
    refine ysum_cg fun x hx => ?_
    have e1 : ykl T (ycj T k x) = ykl T x := V.kl_cj hk hx
    have e2 : yth T (yiv T (ycj T k x)) (ycj T k y) = ycj T k (yth T (yiv T x) y) := by
      have hik := V.iv hk
      have hix := V.iv hx
      have e3 : yiv T (ycj T k x) = ycj T k (yiv T x) := by
        refine (V.iv_uniq (V.cj hk hx) (V.cj hk hix) ?_).symm
        unfold ycj
        rw [V.as (V.th hk hx) hik (V.th (V.th hk hix) hik), ← V.as hik (V.th hk hix) hik, ← V.as hik hk hix, V.ivl hk, V.id1 hix, V.as hk hx (V.th hix hik), ← V.as hx hix hik, V.ivr hx, V.id1 hik, V.ivr hk]
      rw [e3]
      unfold ycj
      rw [V.as (V.th hk hix) hik (V.th (V.th hk hy) hik), ← V.as hik (V.th hk hy) hik, ← V.as hik hk hy, V.ivl hk, V.id1 hy, V.as hk hix (V.th hy hik), ← V.as hix hy hik, ← V.as hk (V.th hix hy) hik]
    simp only [e1, e2, V.kl_cj hk (V.th (V.iv hx) hy)]
  have ng : ycf T (fun y => Nf y * G y) := fun k a hk ha => by
    show Nf (ycj T k a) * G (ycj T k a) = Nf a * G a
    rw [nc k a hk ha, h k a hk ha]
  have e1 : ysum (fun k => yjn T i j k * (ysz T k * G (yls T k))) (yK T) = ysum (fun y => Nf y * G y) (Tm T) := by
    rw [V.sum_cf ng]
    refine ysum_cg fun k hk => ?_
    rw [V.jn1 hk]
    show Nf (yls T k) * (ysz T k * G (yls T k)) = ysz T k * (Nf (yls T k) * G (yls T k))
    grind
  rw [e1]
  have e2 : ysum (fun y => Nf y * G y) (Tm T) = ysum (fun y => ysum (fun x => if ykl T x = i ∧ ykl T (yth T (yiv T x) y) = j then G y else 0) (Tm T)) (Tm T) := ysum_cg fun y _ => by
    show ycnt (fun x => decide (ykl T x = i ∧ ykl T (yth T (yiv T x) y) = j)) (Tm T) * G y = _
    rw [ycnt_sum, ← ysum_mulc]
    exact ysum_cg fun x _ => by
      by_cases q : ykl T x = i ∧ ykl T (yth T (yiv T x) y) = j
      · rw [if_pos q, if_pos (decide_eq_true q), Int.one_mul]
      · rw [if_neg q, if_neg (by rw [decide_eq_true_iff]; exact q), Int.zero_mul]
  rw [e2, ysum_swap]
  refine ysum_cg fun x hx => ?_
  by_cases q : ykl T x = i
  · rw [if_pos q, ← V.sum_l hx]
    refine ysum_cg fun b hb => ?_
    have : yth T (yiv T x) (yth T x b) = b := by rw [← V.as (V.iv hx) hx hb, V.ivl hx, V.id1 hb]
    rw [this]
    by_cases r : ykl T b = j
    · rw [if_pos ⟨q, r⟩, if_pos r]
    · rw [if_neg (fun z => r z.2), if_neg r]
  · rw [if_neg q]
    refine Eq.trans ?_ (ysum_0 (Tm T))
    exact ysum_cg fun y _ => by rw [if_neg (fun z => q z.1)]
/-- a summed with all that b is turned to -/
def yEs (T : yT) (G : Nat → Int) (a b : Nat) : Int := ysum (fun h => G (yth T a (ycj T h b))) (Tm T)
theorem yV.Es_b (V : yV T) {G : Nat → Int} {a b k : Nat} (_ha : a < Tm T) (hb : b < Tm T) (hk : k < Tm T) : yEs T G a (ycj T k b) = yEs T G a b := by
  unfold yEs
  rw [← V.sum_r hk (fun h => G (yth T a (ycj T h b)))]
  exact ysum_cg fun h hh => by rw [V.cj_cj hh hk hb]
theorem yV.cj_th (V : yV T) {k a b : Nat} (hk : k < Tm T) (ha : a < Tm T) (hb : b < Tm T) : ycj T k (yth T a b) = yth T (ycj T k a) (ycj T k b) := by
  have hik := V.iv hk
  unfold ycj
  rw [V.as (V.th hk ha) hik (V.th (V.th hk hb) hik), ← V.as hik (V.th hk hb) hik, ← V.as hik hk hb, V.ivl hk, V.id1 hb, V.as hk ha (V.th hb hik), ← V.as ha hb hik, ← V.as hk (V.th ha hb) hik]
theorem yV.Es_a (V : yV T) {G : Nat → Int} (h : ycf T G) {a b k : Nat} (ha : a < Tm T) (hb : b < Tm T) (hk : k < Tm T) : yEs T G (ycj T k a) b = yEs T G a b := by
  unfold yEs
  rw [← V.sum_l hk (fun h => G (yth T (ycj T k a) (ycj T h b)))]
  refine ysum_cg fun x hx => ?_
  rw [← V.cj_cj hk hx hb, ← V.cj_th hk ha (V.cj hx hb), h k _ hk (V.th ha (V.cj hx hb))]
theorem yV.Es_cl (V : yV T) {G : Nat → Int} {a j : Nat} (ha : a < Tm T) (hj : j < yK T) : (Tm T : Int) * ysum (fun b => if ykl T b = j then G (yth T a b) else 0) (Tm T) = ysz T j * yEs T G a (yls T j) := by
  have cf : ycf T (fun b => yEs T G a b) := fun k b hk hb => V.Es_b ha hb hk
  rw [← V.sum_kl cf hj, ← ysum_const]
  have e : ysum (fun b => if ykl T b = j then yEs T G a b else 0) (Tm T) = ysum (fun b => ysum (fun h => if ykl T b = j then G (yth T a (ycj T h b)) else 0) (Tm T)) (Tm T) := ysum_cg fun b _ => by
    by_cases q : ykl T b = j
    · rw [if_pos q]; exact ysum_cg fun h _ => by rw [if_pos q]
    · rw [if_neg q]; refine (ysum_0 (Tm T)).symm.trans ?_; exact ysum_cg fun h _ => by rw [if_neg q]
  rw [e]
  refine Eq.trans ?_ (ysum_swap (fun h b => if ykl T b = j then G (yth T a (ycj T h b)) else 0) (Tm T) (Tm T))
  refine ysum_cg fun h hh => ?_
  rw [← V.sum_cj hh (fun b => if ykl T b = j then G (yth T a b) else 0)]
  exact ysum_cg fun b hb => by rw [V.kl_cj hh hb]
end
