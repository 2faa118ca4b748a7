/-! ===== maths: yLaw of every frame ===== -/
section
variable {T : yT} {N : Nat} {m : Nat → Nat → Nat} {iv : Nat → Nat} {tr : Nat → Int} {c : Nat → Nat} {e : Nat × List Nat × List Nat × List (Nat × Nat)}
theorem yV.v0 (V : yV T) : yV0 T := ⟨V.m0, V.cl, V.id1, V.id2, V.as, V.iv0⟩
theorem xinc_nd : ∀ {l : List Nat}, xinc l = true → l.Nodup := by
  intro l
  induction l with
  | nil => intro _; exact List.nodup_nil
  | cons h t ih =>
    intro q
    unfold xinc at q
    rw [Bool.and_eq_true, List.all_eq_true] at q
    refine List.nodup_cons.mpr ⟨fun z => ?_, ih q.2⟩
    have := Nat.blt_eq.mp (q.1 h z)
    omega
theorem yEx.perm (E : yEx T N m iv tr c e) : e.2.1.Perm ((List.range (Tm T)).map c) := by
  have nd : ((List.range (Tm T)).map c).Nodup := by
    rw [List.nodup_iff_pairwise_ne, List.pairwise_map]
    exact List.Pairwise.imp_of_mem (R := fun a b => a < b) (fun {a b} ha hb lt z => by
      have := E.inj (List.mem_range.mp ha) (List.mem_range.mp hb) z
      omega) List.pairwise_lt_range
  refine (List.perm_ext_iff_of_nodup (xinc_nd E.parts.1) nd).mpr fun h => ?_
  rw [E.mem, List.mem_map]
  exact ⟨fun ⟨a, ha, q⟩ => ⟨a, List.mem_range.mpr ha, q⟩, fun ⟨a, ha, q⟩ => ⟨a, List.mem_range.mp ha, q⟩⟩
theorem yEx.len (E : yEx T N m iv tr c e) : e.2.1.length = Tm T := by
  rw [E.perm.length_eq, List.length_map, List.length_range]
theorem yEx.sum (E : yEx T N m iv tr c e) (f : Nat → Int) : ylsum f e.2.1 = ysum (fun a => f (c a)) (Tm T) := by
  rw [ylsum_perm f E.perm, ylsum_range]
/-- a law's function on the group -/
def yGf (c : Nat → Nat) (g : Nat) (a : Nat) : Int := (xgv g (c a) : Int)
theorem xlaw_parts {l ld : List Nat} {p : Nat × Nat} (h : xlaw m iv l ld p = true) : xgv p.1 0 = 1 ∧ (∀ h, h ∈ l → xgv p.1 h < 97) ∧ (∀ g h, g ∈ l → h ∈ l → xgv p.1 (xcjc m iv g h) = xgv p.1 h) ∧ (∀ a b, a ∈ ld → b ∈ ld → xfe m iv l l.length p.1 a b = true) ∧ (p.2 * p.2 * xsmq p.1 iv l) % 97 = l.length % 97 ∧ 1 ≤ p.2 ∧ p.2 ≤ 96 := by
  unfold xlaw at h
  simp only [Bool.and_eq_true] at h
  obtain ⟨⟨⟨⟨⟨⟨q1, q2⟩, q3⟩, q4⟩, q5⟩, q6⟩, q7⟩ := h
  refine ⟨Nat.eq_of_beq_eq_true q1, fun h hh => Nat.blt_eq.mp (List.all_eq_true.mp q2 h hh), fun g h hg hh => Nat.eq_of_beq_eq_true (List.all_eq_true.mp (List.all_eq_true.mp q3 g hg) h hh), fun a b ha hb => List.all_eq_true.mp (List.all_eq_true.mp q4 a ha) b hb, Nat.eq_of_beq_eq_true q5, Nat.le_of_ble_eq_true q6, Nat.le_of_ble_eq_true q7⟩
theorem xsmg_sum (g : Nat) (l : List Nat) (f : Nat → Nat) : (xsmg g (l.map f) : Int) = ylsum (fun h => (xgv g (f h) : Int)) l := by
  induction l with
  | nil => rfl
  | cons h t ih =>
    show ((xgv g (f h) + xsmg g (t.map f) : Nat) : Int) = (xgv g (f h) : Int) + ylsum (fun h => (xgv g (f h) : Int)) t
    rw [← ih]; push_cast; rfl
theorem xsmq_sum (g : Nat) (l : List Nat) : (xsmq g iv l : Int) = ylsum (fun h => (xgv g h : Int) * (xgv g (iv h) : Int)) l := by
  induction l with
  | nil => rfl
  | cons h t ih =>
    show ((xgv g h * xgv g (iv h) + xsmq g iv t : Nat) : Int) = (xgv g h : Int) * (xgv g (iv h) : Int) + ylsum (fun h => (xgv g h : Int) * (xgv g (iv h) : Int)) t
    rw [← ih]; push_cast; rfl
theorem yEx.cf (V : yV T) (E : yEx T N m iv tr c e) {p : Nat × Nat} (hp : p ∈ e.2.2.2) : ycf T (yGf c p.1) := fun k a hk ha => by
  unfold yGf
  rw [E.cj V.v0 hk ha, (xlaw_parts (E.parts.2.2.2.2.2.2.1 p hp)).2.2.1 _ _ ((E.mem _).mpr ⟨k, hk, rfl⟩) ((E.mem _).mpr ⟨a, ha, rfl⟩)]
theorem yEx.law (V : yV T) (E : yEx T N m iv tr c e) {p : Nat × Nat} (hp : p ∈ e.2.2.2) : yvG T (yGf c p.1) ∈ ylw T := by
  have cf := E.cf V hp
  have q := xlaw_parts (E.parts.2.2.2.2.2.2.1 p hp)
  refine yvG_law V cf ?_ fun a b ha hb => ?_
  · unfold yGf; rw [E.c0, q.1]; rfl
  · obtain ⟨k, hk, mk⟩ := E.ld V.v0 ha
    obtain ⟨k', hk', mk'⟩ := E.ld V.v0 hb
    rw [← V.Es_a cf ha hb hk, ← V.Es_b (V.cj hk ha) hb hk', ← cf k a hk ha, ← cf k' b hk' hb]
    have f := q.2.2.2.1 _ _ mk mk'
    unfold xfe at f
    have f := Nat.eq_of_beq_eq_true f
    have f : (Tm T * (xgv p.1 (c (ycj T k a)) * xgv p.1 (c (ycj T k' b)))) % 97 = xsmg p.1 (e.2.1.map (fun h => m (c (ycj T k a)) (xcjc m iv h (c (ycj T k' b))))) % 97 := by rw [← E.len]; exact f
    have f2 : (((Tm T * (xgv p.1 (c (ycj T k a)) * xgv p.1 (c (ycj T k' b))) : Nat) : Int)) % 97 = ((xsmg p.1 (e.2.1.map (fun h => m (c (ycj T k a)) (xcjc m iv h (c (ycj T k' b))))) : Nat) : Int) % 97 := by exact_mod_cast f
    rw [xsmg_sum, E.sum] at f2
    unfold yGf
    refine Eq.trans ?_ (f2.symm.trans (by push_cast; rfl))
    congr 1
    unfold yEs
    refine ysum_cg fun h hh => ?_
    show (xgv p.1 (c (yth T (ycj T k a) (ycj T h (ycj T k' b)))) : Int) = _
    rw [E.th (V.cj hk ha) (V.cj hh (V.cj hk' hb)), E.cj V.v0 hh (V.cj hk' hb)]
theorem yEx.deg (V : yV T) (E : yEx T N m iv tr c e) {p : Nat × Nat} (hp : p ∈ e.2.2.2) {i : Nat} (hi : (ylw T)[i]? = some (yvG T (yGf c p.1))) : 1 ≤ ydg T i := by
  have cf := E.cf V hp
  have q := xlaw_parts (E.parts.2.2.2.2.2.2.1 p hp)
  have s := yqs_sum V cf hi
  have d := q.2.2.2.2.1
  have d2 : ((p.2 * p.2 * xsmq p.1 iv e.2.1 : Nat) : Int) % 97 = ((e.2.1.length : Nat) : Int) % 97 := by exact_mod_cast d
  rw [E.len] at d2
  push_cast at d2
  rw [xsmq_sum, E.sum] at d2
  have e2 : ysum (fun a => (xgv p.1 (c a) : Int) * (xgv p.1 (iv (c a)) : Int)) (Tm T) = ysum (fun a => yGf c p.1 a * yGf c p.1 (yiv T a)) (Tm T) := ysum_cg fun a ha => by
    unfold yGf; rw [E.ivc ha]
  rw [e2] at d2
  have key : ((p.2 : Int) * p.2 * (yqs T i % 97)) % 97 = ((Tm T : Int) * (Tm T : Int)) % 97 := by
    rw [ymul97 (a := (p.2 : Int) * p.2) (b := (p.2 : Int) * p.2) (c := yqs T i % 97) (d := (Tm T : Int) * ysum (fun a => yGf c p.1 a * yGf c p.1 (yiv T a)) (Tm T)) rfl (by rw [Int.emod_emod]; exact s)]
    rw [show (p.2 : Int) * p.2 * ((Tm T : Int) * ysum (fun a => yGf c p.1 a * yGf c p.1 (yiv T a)) (Tm T)) = (Tm T : Int) * ((p.2 : Int) * p.2 * ysum (fun a => yGf c p.1 a * yGf c p.1 (yiv T a)) (Tm T)) by grind]
    exact ymul97 rfl d2
  unfold ydg
  have b := yfind_bd (fun d : Nat => decide (((d : Int) * d * (yqs T i % 97)) % 97 = ((Tm T : Int) * (Tm T : Int)) % 97)) 96 1
  by_cases z : yfind (fun d : Nat => decide (((d : Int) * d * (yqs T i % 97)) % 97 = ((Tm T : Int) * (Tm T : Int)) % 97)) 96 1 = -1
  · have := yfind_none.mp z p.2 q.2.2.2.2.2.1 (by omega)
    rw [decide_eq_false_iff_not] at this
    exact absurd key this
  · obtain ⟨r, hr⟩ := Int.eq_ofNat_of_zero_le (a := yfind (fun d : Nat => decide (((d : Int) * d * (yqs T i % 97)) % 97 = ((Tm T : Int) * (Tm T : Int)) % 97)) 96 1) (by omega)
    have := (yfind_some.mp hr).1
    rw [hr]; omega
/-- different functions are different laws -/
theorem yEx.ne (V : yV T) (E : yEx T N m iv tr c e) {p q : Nat × Nat} (hp : p ∈ e.2.2.2) (hq : q ∈ e.2.2.2) (h : ∃ h, h ∈ e.2.1 ∧ xgv p.1 h ≠ xgv q.1 h) : yvG T (yGf c p.1) ≠ yvG T (yGf c q.1) := by
  intro z
  obtain ⟨h, mh, ne⟩ := h
  obtain ⟨a, ha, ea⟩ := (E.mem h).mp mh
  have kl := V.cl_lt ha
  have l := V.ls kl
  have e1 := yvG_at (T := T) (G := yGf c p.1) kl
  have e2 := yvG_at (T := T) (G := yGf c q.1) kl
  rw [z, e2] at e1
  have g1 : yGf c p.1 (yls T (ykl T a)) = yGf c p.1 a := V.cf (E.cf V hp) l.1 ha l.2.2
  have g2 : yGf c q.1 (yls T (ykl T a)) = yGf c q.1 a := V.cf (E.cf V hq) l.1 ha l.2.2
  rw [g1, g2] at e1
  have := ycan97 (V.sz97 kl) (by rw [Int.mul_sub]; exact yeq97.mp e1)
  unfold yGf at this
  rw [ea] at this
  have b1 := (xlaw_parts (E.parts.2.2.2.2.2.2.1 p hp)).2.1 h mh
  have b2 := (xlaw_parts (E.parts.2.2.2.2.2.2.1 q hq)).2.1 h mh
  omega
theorem xdis_pw {l : List Nat} : ∀ {gs : List (Nat × Nat)}, xdis l gs = true → gs.Pairwise (fun p q => ∃ h, h ∈ l ∧ xgv p.1 h ≠ xgv q.1 h) := by
  intro gs
  induction gs with
  | nil => intro _; exact List.Pairwise.nil
  | cons p t ih =>
    intro q
    unfold xdis at q
    rw [Bool.and_eq_true, List.all_eq_true] at q
    refine List.Pairwise.cons (fun r hr => ?_) (ih q.2)
    obtain ⟨h, mh, eh⟩ := List.any_eq_true.mp (q.1 r hr)
    refine ⟨h, mh, fun z => ?_⟩
    rw [z, Nat.beq_refl] at eh; cases eh
/-- all laws are those of the functions -/
theorem yEx.all (V : yV T) (E : yEx T N m iv tr c e) {v : List Nat} (hv : v ∈ ylw T) : ∃ p, p ∈ e.2.2.2 ∧ v = yvG T (yGf c p.1) := by
  refine Classical.byContradiction fun no => ?_
  have pw := xdis_pw E.parts.2.2.2.2.2.1
  have nd : (v :: e.2.2.2.map (fun p => yvG T (yGf c p.1))).Nodup := by
    refine List.nodup_cons.mpr ⟨fun z => ?_, ?_⟩
    · obtain ⟨p, hp, ep⟩ := List.mem_map.mp z
      exact no ⟨p, hp, ep.symm⟩
    · rw [List.nodup_iff_pairwise_ne, List.pairwise_map]
      exact List.Pairwise.imp_of_mem (fun {p q} hp hq h => E.ne V hp hq h) pw
  have := yind V.K0 (v :: e.2.2.2.map (fun p => yvG T (yGf c p.1))) (fun w hw => by
    rcases List.mem_cons.mp hw with q | q
    · rw [q]; exact ylw_mem.mp hv
    · obtain ⟨p, hp, ep⟩ := List.mem_map.mp q
      rw [← ep]; exact ylw_mem.mp (E.law V hp)) nd
  rw [List.length_cons, List.length_map, ← E.parts.2.2.2.1] at this
  have := E.K V.v0
  omega
theorem yEx.dg (V : yV T) (E : yEx T N m iv tr c e) {i : Nat} (hi : i < (ylw T).length) : 1 ≤ ydg T i := by
  obtain ⟨p, hp, ep⟩ := E.all V (List.getElem_mem hi)
  exact E.deg V hp (by rw [List.getElem?_eq_getElem hi, ep])
/-- the codes of a subgroup -/
def yims (c : Nat → Nat) (z : Nat) : Nat → Nat
  | 0 => 0
  | k + 1 => if z.testBit k = true then yims c z k ||| 2 ^ c k else yims c z k
theorem yims_bit (c : Nat → Nat) (z h : Nat) : ∀ k, (yims c z k).testBit h = true ↔ ∃ a, a < k ∧ z.testBit a = true ∧ c a = h := by
  intro k
  induction k with
  | zero => exact ⟨fun q => by simp [yims] at q, fun ⟨a, q, _⟩ => absurd q (Nat.not_lt_zero _)⟩
  | succ k ih =>
    unfold yims
    by_cases b : z.testBit k = true
    · rw [if_pos b, Nat.testBit_or, Nat.testBit_two_pow, Bool.or_eq_true, decide_eq_true_iff, ih]
      constructor
      · rintro (⟨a, ha, q⟩ | q)
        · exact ⟨a, by omega, q⟩
        · exact ⟨k, by omega, b, q⟩
      · rintro ⟨a, ha, q1, q2⟩
        by_cases r : a = k
        · right; rw [← r]; exact q2
        · left; exact ⟨a, by omega, q1, q2⟩
    · rw [if_neg b, ih]
      constructor
      · rintro ⟨a, ha, q⟩; exact ⟨a, by omega, q⟩
      · rintro ⟨a, ha, q1, q2⟩
        by_cases r : a = k
        · rw [r] at q1; exact absurd q1 b
        · exact ⟨a, by omega, q1, q2⟩
theorem yims_lt {c : Nat → Nat} {z N : Nat} : ∀ k, (∀ a, a < k → c a < N) → yims c z k < 2 ^ N := by
  intro k
  induction k with
  | zero => intro _; exact Nat.two_pow_pos _
  | succ k ih =>
    intro h
    unfold yims
    split
    · exact Nat.or_lt_two_pow (ih fun a ha => h a (by omega)) (Nat.pow_lt_pow_right (by omega) (h k (by omega)))
    · exact ih fun a ha => h a (by omega)
theorem ysl_len (V : yV T) {N2 N : Nat} {mul : Nat → Nat → Nat} {tr : Nat → Int} {c : Nat → Nat} (E : yCd T N2 mul tr c) (hN : N = 2 * N2) {m : Nat → Nat → Nat} {L : xLt} (k1 : ∀ x, x < N → ∀ y, y < N → m x y = xdb mul x y) (k2 : ∀ x, x < N → m x x = x → x = 0)
    (l1 : L.any (fun s => s.1 == 1 && s.2.1 == 0) = true) (l2 : L.all (fun s => xok1 N m L s) = true) : (ysl T).length ≤ L.length := by
  subst hN
  have th : ∀ {a b}, a < Tm T → b < Tm T → c (yth T a b) = m (c a) (c b) := fun ha hb => by rw [E.th ha hb, k1 _ (E.lt ha) _ (E.lt hb)]
  have c0 : c 0 = 0 := k2 _ (E.lt V.m0) (by rw [← th V.m0 V.m0, V.id1 V.m0])
  have back : ∀ z a, a < Tm T → ((yims c z (Tm T)).testBit (c a) = true ↔ z.testBit a = true) := fun z a ha => by
    rw [yims_bit]
    exact ⟨fun ⟨b, hb, q1, q2⟩ => by rw [← E.inj hb ha q2]; exact q1, fun q => ⟨a, ha, q, rfl⟩⟩
  have nd : ((ysl T).map (fun z => yims c z (Tm T))).Nodup := by
    rw [List.nodup_iff_pairwise_ne, List.pairwise_map]
    refine List.Pairwise.imp_of_mem (fun {x y} hx hy ne z => ne ?_) (List.nodup_iff_pairwise_ne.mp (ysl_nodup T))
    have hx := (ysg_iff.mp (ymem_sl.mp hx)).2.2
    have hy := (ysg_iff.mp (ymem_sl.mp hy)).2.2
    refine Nat.eq_of_testBit_eq fun b => ?_
    by_cases hb : b < Tm T
    · rw [Bool.eq_iff_iff, ← back x b hb, ← back y b hb, z]
    · have p := Nat.pow_le_pow_right (n := 2) (by omega) (show Tm T ≤ b by omega)
      rw [Nat.testBit_lt_two_pow (Nat.lt_of_lt_of_le hx p), Nat.testBit_lt_two_pow (Nat.lt_of_lt_of_le hy p)]
  have sub : ((ysl T).map (fun z => yims c z (Tm T))) ⊆ L.map (·.1) := fun x hx => by
    obtain ⟨z, mz, rfl⟩ := List.mem_map.mp hx
    have sg := ysg_iff.mp (ymem_sl.mp mz)
    have xb : xsb m (yims c z (Tm T)) := by
      refine ⟨(yims_bit c z 0 _).mpr ⟨0, V.m0, sg.1, c0⟩, fun a b ha hb => ?_⟩
      obtain ⟨p, hp, zp, ep⟩ := (yims_bit c z a _).mp ha
      obtain ⟨q, hq, zq, eq⟩ := (yims_bit c z b _).mp hb
      exact (yims_bit c z _ _).mpr ⟨yth T p q, V.th hp hq, sg.2.1 p q hp hq zp zq, by rw [th hp hq, ep, eq]⟩
    obtain ⟨s, ms, es⟩ := xok_all l1 (fun s hs => List.all_eq_true.mp l2 s hs) xb (yims_lt _ (fun a ha => E.lt ha))
    exact List.mem_map.mpr ⟨s, ms, es⟩
  have := nd.length_le_of_subset sub
  rw [List.length_map, List.length_map] at this
  exact this
end
theorem ysl_98 {F : yF} (hW : yW F) (h3 : y3 F ≠ -1) : (ysl (yTF F)).length ≤ 98 := by
  have V := yTF_V hW h3
  rcases yCd_ex hW h3 with ⟨c, E⟩ | ⟨c, E⟩ | ⟨c, E⟩
  · have := ysl_len V E rfl xtbS_ok xtbS_id xLS_1 xLS_ok
    rw [xLS_len] at this; exact this
  · have := ysl_len V E rfl xtb6_ok xtb6_id xL6_1 xL6_ok
    rw [xL6_len] at this; omega
  · have := ysl_len V E rfl xtb4_ok xtb4_id xL4_1 xL4_ok
    rw [xL4_len] at this; omega
/-- ALL THAT THE MATHS OWES OF A FRAME -/
theorem yLaw_all (F : yF) (hW : yW F) : yLaw F := by
  refine ⟨yops_48 hW, fun h3 => ?_⟩
  have V := yTF_V hW h3
  obtain ⟨N, m, iv, tr, c, e, E, _⟩ := yEx_ex hW h3
  exact ⟨yops_ok hW h3, yord_lt hW, V, Nat.le_trans (ysl_98 hW h3) (by omega), Nat.le_trans (ylw_12 V) V.K, fun i hi => E.dg V hi⟩
