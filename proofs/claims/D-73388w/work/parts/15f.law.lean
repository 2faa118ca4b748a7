/-! ===== maths: all that is owed of a frame (yLaw) ===== -/
theorem yvec_of : ∀ {n : Nat} {s : List Nat}, s.length = n → (∀ x ∈ s, x < 97) → s ∈ yvec n := by
  intro n
  induction n with
  | zero => intro s h _; rw [List.eq_nil_of_length_eq_zero h]; simp [yvec]
  | succ n ih =>
    intro s h h2
    cases s with
    | nil => cases h
    | cons v t =>
      simp only [yvec, List.mem_flatMap, List.mem_map, List.mem_range]
      exact ⟨v, h2 v List.mem_cons_self, t, ih (by simpa using h) (fun x hx => h2 x (List.mem_cons_of_mem _ hx)), rfl⟩
theorem yvec_nd : ∀ n : Nat, (yvec n).Nodup := by
  intro n
  induction n with
  | zero => simp [yvec]
  | succ n ih =>
    rw [yvec, List.nodup_iff_pairwise_ne, List.pairwise_flatMap]
    refine ⟨fun v _ => ?_, List.Pairwise.imp (R := fun a b => a < b) (fun {a b} lt x hx y hy z => ?_) List.pairwise_lt_range⟩
    · rw [List.pairwise_map]
      exact List.Pairwise.imp (fun h z => h (List.cons.inj z).2) ih
    · obtain ⟨s, _, rfl⟩ := List.mem_map.mp hx
      obtain ⟨t, _, rfl⟩ := List.mem_map.mp hy
      have := (List.cons.inj z).1
      omega
theorem ylw_nd (T : yT) : (ylw T).Nodup := List.Pairwise.filter _ (yvec_nd _)
theorem ylw_mem {T : yT} {v : List Nat} : v ∈ ylw T ↔ v.length = yK T ∧ (∀ x ∈ v, x < 97) ∧ yhm T v = true := by
  unfold ylw
  rw [List.mem_filter]
  exact ⟨fun h => ⟨(yvec_mem h.1).1, (yvec_mem h.1).2, h.2⟩, fun h => ⟨yvec_of h.1 h.2.1, h.2.2⟩⟩
section
variable {T : yT}
theorem yV.K0 (V : yV T) : 0 < yK T := Nat.lt_of_le_of_lt (Nat.zero_le _) (V.cl_lt V.m0)
theorem ylw_12 (V : yV T) : (ylw T).length ≤ yK T := yind V.K0 (ylw T) (fun _ hv => ylw_mem.mp hv) (ylw_nd T)
/-- the law of a function on the group -/
def yvG (T : yT) (G : Nat → Int) : List Nat := (List.range (yK T)).map (fun k => ((ysz T k * G (yls T k)) % 97).toNat)
theorem yvG_at {G : Nat → Int} {k : Nat} (hk : k < yK T) : (ylv (yvG T G) k : Int) = (ysz T k * G (yls T k)) % 97 := by
  unfold ylv yvG
  rw [List.getElem?_map, List.getElem?_range hk]
  simp only [Option.map_some, Option.getD_some]
  omega
theorem yV.kl0 (V : yV T) : ykl T 0 = 0 := by
  have : ymn T 0 = 0 := Nat.le_zero.mp (V.mn_le V.m0)
  unfold ykl; rw [this]; rfl
theorem yV.ls0 (V : yV T) : yls T 0 = 0 := by
  have := V.ls_cl V.m0
  rw [V.kl0] at this
  rw [this]; exact Nat.le_zero.mp (V.mn_le V.m0)
theorem yV.kl_0 (V : yV T) {a : Nat} (ha : a < Tm T) (h : ykl T a = 0) : a = 0 := by
  obtain ⟨k, hk, e⟩ := (V.mn_eq V.m0 ha).mp ((V.cl_eq V.m0 ha).mp (by rw [V.kl0, h]))
  unfold ycj at e
  rw [V.id2 hk, V.ivr hk] at e
  exact e.symm
theorem yV.sz0 (V : yV T) : ysz T 0 = 1 := by
  have : ycnt (fun a => decide (ykl T a = 0)) (Tm T) = ycnt (fun a => decide (a = 0)) (Tm T) := ycnt_congr fun a ha => by
    rw [decide_eq_decide]
    exact ⟨fun h => V.kl_0 ha h, fun h => by rw [h, V.kl0]⟩
  show ycnt (fun a => decide (ykl T a = 0)) (Tm T) = 1
  rw [this, ycnt_eq, if_pos V.m0]
theorem yV.m97 (V : yV T) : (Tm T : Int) % 97 ≠ 0 := by have := V.m; omega
theorem yV.sz97 (V : yV T) {c : Nat} (hc : c < yK T) : ysz T c % 97 ≠ 0 := by have := V.sz hc; have := V.m; omega
/-- a function on the group whose sums go with products is a law -/
theorem yvG_law (V : yV T) {G : Nat → Int} (h : ycf T G) (h0 : G 0 = 1) (he : ∀ a b, a < Tm T → b < Tm T → yEs T G a b % 97 = ((Tm T : Int) * (G a * G b)) % 97) : yvG T G ∈ ylw T := by
  refine ylw_mem.mpr ⟨by unfold yvG; rw [List.length_map, List.length_range], fun x hx => ?_, yhm_iff.mpr ⟨?_, fun i j hi hj => ?_⟩⟩
  · obtain ⟨k, _, rfl⟩ := List.mem_map.mp hx
    omega
  · have := yvG_at (G := G) V.K0
    rw [V.sz0, V.ls0, h0] at this
    omega
  · rw [yvG_at hi, yvG_at hj]
    have e1 : ysum (fun k => yjn T i j k * (ylv (yvG T G) k : Int)) (yK T) % 97 = ysum (fun k => yjn T i j k * (ysz T k * G (yls T k))) (yK T) % 97 := ysum_mod fun k hk => by
      rw [yvG_at hk]; exact ymul97 rfl (Int.emod_emod _ _)
    have e2 : ((ysz T i * G (yls T i)) % 97 * ((ysz T j * G (yls T j)) % 97)) % 97 = (ysz T i * G (yls T i) * (ysz T j * G (yls T j))) % 97 := ymul97 (Int.emod_emod _ _) (Int.emod_emod _ _)
    refine yeq97.mp (e1.trans (Eq.trans ?_ e2.symm))
    refine yeq97.mpr (ycan97 V.m97 ?_)
    rw [V.jn_sum h, Int.mul_sub]
    refine yeq97.mp ?_
    rw [← ysum_cmul]
    have lj := V.ls hj
    have e3 : ysum (fun a => (Tm T : Int) * (if ykl T a = i then ysum (fun b => if ykl T b = j then G (yth T a b) else 0) (Tm T) else 0)) (Tm T) % 97 = ysum (fun a => (ysz T j * ((Tm T : Int) * G (yls T j))) * (if ykl T a = i then G a else 0)) (Tm T) % 97 := ysum_mod fun a ha => by
      by_cases c : ykl T a = i
      · rw [if_pos c, if_pos c, V.Es_cl ha hj]
        rw [show ysz T j * ((Tm T : Int) * G (yls T j)) * G a = ysz T j * ((Tm T : Int) * (G a * G (yls T j))) by grind]
        exact ymul97 rfl (he a _ ha lj.1)
      · rw [if_neg c, if_neg c, Int.mul_zero, Int.mul_zero]
    rw [e3, ysum_cmul, V.sum_kl h hi]
    congr 1; grind
theorem yV.bk_sz (V : yV T) {c : Nat} (hc : c < yK T) : ysz T (ybk T c) = ysz T c := by
  have l := V.ls hc
  have key : ∀ a, a < Tm T → (ykl T (yiv T a) = ybk T c ↔ ykl T a = c) := fun a ha => by
    have cji : ∀ k b, k < Tm T → b < Tm T → yiv T (ycj T k b) = ycj T k (yiv T b) := fun k b hk hb => by
      refine (V.iv_uniq (V.cj hk hb) (V.cj hk (V.iv hb)) ?_).symm
      rw [← V.cj_th hk hb (V.iv hb), V.ivr hb]
      unfold ycj; rw [V.id2 hk, V.ivr hk]
    unfold ybk
    rw [V.cl_eq (V.iv ha) (V.iv l.1), V.mn_eq (V.iv ha) (V.iv l.1)]
    have : ykl T a = c ↔ ykl T a = ykl T (yls T c) := by rw [l.2.2]
    rw [this, V.cl_eq ha l.1, V.mn_eq ha l.1]
    refine ⟨fun ⟨k, hk, e⟩ => ⟨k, hk, ?_⟩, fun ⟨k, hk, e⟩ => ⟨k, hk, ?_⟩⟩
    · rw [← cji k a hk ha] at e
      rw [← V.iviv (V.cj hk ha), e, V.iviv l.1]
    · rw [← cji k a hk ha, e]
  show ycnt (fun a => decide (ykl T a = ybk T c)) (Tm T) = ycnt (fun a => decide (ykl T a = c)) (Tm T)
  rw [ycnt_sum, ycnt_sum, ← V.sum_iv]
  exact ysum_cg fun a ha => by
    by_cases q : ykl T a = c
    · rw [if_pos (decide_eq_true q), if_pos (decide_eq_true ((key a ha).mpr q))]
    · rw [if_neg (by rw [decide_eq_true_iff]; exact fun z => q ((key a ha).mp z)), if_neg (by rw [decide_eq_true_iff]; exact q)]
/-- a class' size goes into the whole -/
theorem yV.sz_dvd (V : yV T) {c : Nat} (hc : c < yK T) : ysz T c * ((Tm T : Int).tdiv (ysz T c)) = (Tm T : Int) := by
  have l := V.ls hc
  have h1 : (Tm T : Int) = ysum (fun b => ycnt (fun h => decide (ycj T h (yls T c) = b)) (Tm T)) (Tm T) := by
    have : ysum (fun b => ycnt (fun h => decide (ycj T h (yls T c) = b)) (Tm T)) (Tm T) = ysum (fun h => ysum (fun b => if decide (ycj T h (yls T c) = b) = true then 1 else 0) (Tm T)) (Tm T) := by
      rw [ysum_swap]; exact ysum_cg fun b _ => ycnt_sum _ _
    rw [this]
    have e : ysum (fun h => ysum (fun b => if decide (ycj T h (yls T c) = b) = true then 1 else 0) (Tm T)) (Tm T) = ysum (fun _ => 1) (Tm T) := ysum_cg fun h hh => by
      rw [← ycnt_sum]
      have := ycnt_eq (ycj T h (yls T c)) (Tm T)
      rw [if_pos (V.cj hh l.1)] at this
      refine Eq.trans (ycnt_congr fun b _ => ?_) this
      rw [decide_eq_decide]; exact ⟨fun z => z.symm, fun z => z.symm⟩
    rw [e, ysum_const]; omega
  have h2 : ysum (fun b => ycnt (fun h => decide (ycj T h (yls T c) = b)) (Tm T)) (Tm T) = ysum (fun b => if ykl T b = c then ycnt (fun h => decide (ycj T h (yls T c) = yls T c)) (Tm T) else 0) (Tm T) := ysum_cg fun b hb => by
    by_cases q : ykl T b = c
    · rw [if_pos q]
      obtain ⟨k, hk, ek⟩ := (V.mn_eq l.1 hb).mp ((V.cl_eq l.1 hb).mp (by rw [l.2.2, q]))
      rw [ycnt_sum, ycnt_sum, ← V.sum_l hk]
      exact ysum_cg fun h hh => by
        have : ycj T (yth T k h) (yls T c) = b ↔ ycj T h (yls T c) = yls T c := by
          rw [← V.cj_cj hk hh l.1, ← ek]
          exact ⟨fun z => V.cj_inj hk (V.cj hh l.1) l.1 z, fun z => by rw [z]⟩
        by_cases r : ycj T h (yls T c) = yls T c
        · rw [if_pos (decide_eq_true r), if_pos (decide_eq_true (this.mpr r))]
        · rw [if_neg (by rw [decide_eq_true_iff]; exact fun z => r (this.mp z)), if_neg (by rw [decide_eq_true_iff]; exact r)]
    · rw [if_neg q]
      refine ycnt_up (n := 0) _ (fun h hh => ?_)
      rw [decide_eq_false_iff_not]
      exact fun z => q (by rw [← z, V.kl_cj hh l.1, l.2.2])
  have h3 := V.sum_kl (G := fun _ => ycnt (fun h => decide (ycj T h (yls T c) = yls T c)) (Tm T)) (fun _ _ _ _ => rfl) hc
  rw [h2, h3] at h1
  have s := V.sz hc
  generalize ysz T c = z at *
  generalize ycnt (fun h => decide (ycj T h (yls T c) = yls T c)) (Tm T) = w at *
  rw [h1, Int.mul_tdiv_cancel_left _ (by omega)]
/-- the sum that tells the degree -/
theorem yqs_sum (V : yV T) {G : Nat → Int} (h : ycf T G) {i : Nat} (hi : (ylw T)[i]? = some (yvG T G)) : yqs T i % 97 = ((Tm T : Int) * ysum (fun a => G a * G (yiv T a)) (Tm T)) % 97 := by
  have cji : ∀ k b, k < Tm T → b < Tm T → yiv T (ycj T k b) = ycj T k (yiv T b) := fun k b hk hb => by
    refine (V.iv_uniq (V.cj hk hb) (V.cj hk (V.iv hb)) ?_).symm
    rw [← V.cj_th hk hb (V.iv hb), V.ivr hb]
    unfold ycj; rw [V.id2 hk, V.ivr hk]
  have cf : ycf T (fun a => G a * G (yiv T a)) := fun k a hk ha => by
    show G (ycj T k a) * G (yiv T (ycj T k a)) = G a * G (yiv T a)
    rw [cji k a hk ha, h k a hk ha, h k _ hk (V.iv ha)]
  rw [V.sum_cf cf, ← ysum_cmul]
  unfold yqs
  refine ysum_mod fun c hc => ?_
  have x : ∀ c, ylx T i c = ylv (yvG T G) c := fun c => by unfold ylx; rw [hi]; rfl
  rw [x, x, yvG_at hc, yvG_at (V.bk hc), V.bk_sz hc]
  have gb : G (yls T (ybk T c)) = G (yiv T (yls T c)) := V.cf h (V.ls (V.bk hc)).1 (V.iv (V.ls hc).1) (by rw [(V.ls (V.bk hc)).2.2]; rfl)
  rw [gb]
  have d := V.sz_dvd hc
  have e : ((ysz T c * G (yls T c)) % 97 * ((ysz T c * G (yiv T (yls T c))) % 97) * ((Tm T : Int).tdiv (ysz T c))) % 97 = ((ysz T c * G (yls T c)) * (ysz T c * G (yiv T (yls T c))) * ((Tm T : Int).tdiv (ysz T c))) % 97 := ymul97 (ymul97 (Int.emod_emod _ _) (Int.emod_emod _ _)) rfl
  rw [e]
  congr 1
  generalize (Tm T : Int).tdiv (ysz T c) = t at *
  rw [← d]; grind
end
