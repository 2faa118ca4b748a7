/-! ===== maths: the space of rows, split by classes ===== -/
section
variable {T : yT}
theorem ysepL (K0 : 0 < yK T) (Ls : List (List Nat)) (h : ∀ v ∈ Ls, v.length = yK T ∧ (∀ x ∈ v, x < 97) ∧ yhm T v = true) (nd : Ls.Nodup) : ∀ s, s < Ls.length → ∃ e : Nat → Int, ∀ t, t < Ls.length → ysum (fun k => e k * (ylv (Ls[t]?.getD []) k : Int)) (yK T) % 97 = if t = s then 1 else 0 := by
  let u : Nat → Nat → Int := fun s k => (ylv (Ls[s]?.getD []) k : Int)
  have at' : ∀ s, s < Ls.length → ∃ v, Ls[s]? = some v ∧ v ∈ Ls := fun s hs => ⟨Ls[s], List.getElem?_eq_getElem hs, List.getElem_mem hs⟩
  have lt97 : ∀ v, (∀ x ∈ v, x < 97) → ∀ k, ylv v k < 97 := fun v hv k => by
    unfold ylv
    cases q : v[k]? with
    | none => simp
    | some x => exact hv x (List.mem_of_getElem? q)
  have hu : ∀ s, s < Ls.length → yhom T (u s) := fun s hs => by
    obtain ⟨v, e, m⟩ := at' s hs
    have : u s = fun k => (ylv v k : Int) := by show (fun k => (ylv (Ls[s]?.getD []) k : Int)) = _; rw [e]; rfl
    rw [this]
    exact (yhm_hom (lt97 v (h v m).2.1 0)).mp (h v m).2.2
  have dis : ∀ s t, s < Ls.length → t < Ls.length → s ≠ t → ∃ i, i < yK T ∧ (u s i - u t i) % 97 ≠ 0 := fun s t hs ht ne => by
    refine Classical.byContradiction fun no => ne ?_
    obtain ⟨v, e, m⟩ := at' s hs
    obtain ⟨w, f, n⟩ := at' t ht
    have us : ∀ k, u s k = (ylv v k : Int) := fun k => by show (ylv (Ls[s]?.getD []) k : Int) = _; rw [e]; rfl
    have ut : ∀ k, u t k = (ylv w k : Int) := fun k => by show (ylv (Ls[t]?.getD []) k : Int) = _; rw [f]; rfl
    have eq : v = w := by
      refine List.ext_getElem (by rw [(h v m).1, (h w n).1]) fun k hk hk' => ?_
      have z : (u s k - u t k) % 97 = 0 := Classical.byContradiction fun z => no ⟨k, by rw [← (h v m).1]; exact hk, z⟩
      rw [us, ut] at z
      have a := lt97 v (h v m).2.1 k
      have b := lt97 w (h w n).2.1 k
      have : ylv v k = ylv w k := by omega
      unfold ylv at this
      rw [List.getElem?_eq_getElem hk, List.getElem?_eq_getElem hk'] at this
      exact this
    have e := List.getElem_eq_iff hs |>.mpr e
    have f := List.getElem_eq_iff ht |>.mpr f
    rcases Nat.lt_trichotomy s t with q | q | q
    · exact absurd (e.trans (eq.trans f.symm)) (List.pairwise_iff_getElem.mp nd s t hs ht q)
    · exact q
    · exact absurd (f.trans (eq.symm.trans e.symm)) (List.pairwise_iff_getElem.mp nd t s ht hs q)
  have sep : ∀ s, s < Ls.length → ∃ e : Nat → Int, ∀ t, t < Ls.length → ysum (fun k => e k * u t k) (yK T) % 97 = if t = s then 1 else 0 := fun s hs => by
    obtain ⟨e, e1, e2⟩ := ysep (hu s hs) K0 (((List.range Ls.length).filter (fun t => !decide (t = s))).map u) (fun t ht => by
      obtain ⟨i, hi, rfl⟩ := List.mem_map.mp ht
      have hi := List.mem_filter.mp hi
      have l := List.mem_range.mp hi.1
      exact ⟨hu i l, dis s i hs l (fun z => by have := hi.2; simp [z] at this)⟩)
    refine ⟨e, fun t ht => ?_⟩
    by_cases c : t = s
    · rw [if_pos c, c]; exact e1
    · rw [if_neg c]
      exact e2 (u t) (List.mem_map.mpr ⟨t, List.mem_filter.mpr ⟨List.mem_range.mpr ht, by simp [c]⟩, rfl⟩)
  exact sep

/-- a class as a map of rows -/
def yop (T : yT) (i : Nat) (u : Nat → Int) (j : Nat) : Int := ysum (fun k => yjn T i j k * u k) (yK T)
/-- rows on which the first classes act as numbers -/
def yVs (T : yT) (n : Nat) (la : Nat → Int) (u : Nat → Int) : Prop := ∀ i, i < n → i < yK T → ∀ j, j < yK T → yop T i u j % 97 = (la i * u j) % 97
theorem yop_cg {i j : Nat} {u v : Nat → Int} (h : ∀ c, c < yK T → u c % 97 = v c % 97) : yop T i u j % 97 = yop T i v j % 97 := ysum_mod fun k hk => ymul97 rfl (h k hk)
theorem yop_add (T : yT) (i j : Nat) (u v : Nat → Int) : yop T i (fun c => u c + v c) j = yop T i u j + yop T i v j := by
  unfold yop; rw [← ysum_plus]; exact ysum_cg fun k _ => Int.mul_add _ _ _
theorem yop_mul (T : yT) (i j : Nat) (t : Int) (u : Nat → Int) : yop T i (fun c => t * u c) j = t * yop T i u j := by
  unfold yop; rw [← ysum_cmul]; exact ysum_cg fun k _ => by grind
theorem yop_lc (T : yT) (i j d : Nat) (t : Nat → Int) (R : Nat → Nat → Int) : yop T i (ylc d t R) j = ylc d t (fun r => yop T i (R r)) j := by
  unfold yop ylc
  have s1 : ysum (fun k => yjn T i j k * ysum (fun r => t r * R r k) d) (yK T) = ysum (fun k => ysum (fun r => yjn T i j k * (t r * R r k)) d) (yK T) := ysum_cg fun k _ => (ysum_cmul _ _ _).symm
  rw [s1, ysum_swap]
  exact ysum_cg fun r _ => by
    rw [← ysum_cmul]
    exact ysum_cg fun k _ => by grind
theorem yVs_sp (T : yT) (n : Nat) (la : Nat → Int) : ySpc (yK T) (yVs T n la) := by
  refine ⟨fun u v hu hv i h1 h2 j hj => ?_, fun t u hu i h1 h2 j hj => ?_, fun u v hu h i h1 h2 j hj => ?_⟩
  · rw [yop_add, yadd97 (hu i h1 h2 j hj) (hv i h1 h2 j hj), Int.mul_add]
  · rw [yop_mul, ymul97 rfl (hu i h1 h2 j hj)]
    congr 1; grind
  · rw [← yop_cg h, hu i h1 h2 j hj]
    exact ymul97 rfl (h j hj)
theorem yV.jn0 (V : yV T) {i k : Nat} (hk : k < yK T) : yjn T i 0 k = if k = i then 1 else 0 := by
  have l := V.ls hk
  rw [V.jn1 hk]
  have e : ycnt (fun x => decide (ykl T x = i ∧ ykl T (yth T (yiv T x) (yls T k)) = 0)) (Tm T) = ycnt (fun x => decide (x = yls T k) && decide (k = i)) (Tm T) := ycnt_congr fun x hx => by
    rw [← Bool.decide_and, decide_eq_decide]
    have q : ykl T (yth T (yiv T x) (yls T k)) = 0 ↔ x = yls T k := by
      constructor
      · intro h
        have := V.kl_0 (V.th (V.iv hx) l.1) h
        have := V.iv_uniq (V.iv hx) l.1 this
        rw [V.iviv hx] at this; exact this.symm
      · intro h; rw [h, V.ivl l.1, V.kl0]
    rw [q]
    exact ⟨fun h => ⟨h.2, by rw [← h.1, h.2, l.2.2]⟩, fun h => ⟨by rw [h.1, l.2.2, h.2], h.1⟩⟩
  rw [e]
  by_cases c : k = i
  · rw [if_pos c]
    have := ycnt_eq (yls T k) (Tm T)
    rw [if_pos l.1] at this
    rw [← this]
    exact ycnt_congr fun x _ => by rw [decide_eq_true c, Bool.and_true]
  · rw [if_neg c]
    exact ycnt_up (n := 0) _ (fun x _ => by rw [decide_eq_false c, Bool.and_false])
theorem yV.op0 (V : yV T) {i : Nat} (hi : i < yK T) (u : Nat → Int) : yop T i u 0 = u i := by
  unfold yop
  have := ysum_del (fun k => u k) i (yK T)
  rw [if_pos hi] at this
  refine Eq.trans (ysum_cg fun k hk => ?_) this
  rw [V.jn0 hk]
  by_cases c : k = i
  · rw [if_pos c, if_pos c, Int.one_mul]
  · rw [if_neg c, if_neg c, Int.zero_mul]
/-- laws as rows -/
theorem ylx_hom {s : Nat} (hs : s < (ylw T).length) : ylx T s 0 = 1 ∧ ∀ i j, i < yK T → j < yK T → yop T i (fun c => (ylx T s c : Int)) j % 97 = ((ylx T s i : Int) * (ylx T s j : Int)) % 97 := by
  obtain ⟨v, e, _, _, hm, hx⟩ := ylw_at hs
  have h := yhm_iff.mp hm
  refine ⟨by rw [hx, h.1], fun i j hi hj => ?_⟩
  have := h.2 i j hi hj
  have f : (fun c => (ylx T s c : Int)) = fun c => (ylv v c : Int) := funext fun c => by rw [hx]
  rw [f, hx, hx]
  exact yeq97.mpr this
theorem ylx_sep (V : yV T) {s : Nat} (hs : s < (ylw T).length) : ∃ e : Nat → Int, ∀ t, t < (ylw T).length → ysum (fun k => e k * (ylx T t k : Int)) (yK T) % 97 = if t = s then 1 else 0 :=
  ysepL V.K0 (ylw T) (fun _ hv => ylw_mem.mp hv) (ylw_nd T) s hs
/-- laws are independent -/
theorem ylx_ind (V : yV T) (a : Nat → Int) (h : ∀ c, c < yK T → ylc (ylw T).length a (fun s c => (ylx T s c : Int)) c % 97 = 0) : ∀ s, s < (ylw T).length → a s % 97 = 0 := by
  intro s hs
  obtain ⟨e, he⟩ := ylx_sep V hs
  have e1 : ysum (fun c => e c * ylc (ylw T).length a (fun s c => (ylx T s c : Int)) c) (yK T) % 97 = 0 := by
    have : ysum (fun c => e c * ylc (ylw T).length a (fun s c => (ylx T s c : Int)) c) (yK T) % 97 = ysum (fun _ => 0) (yK T) % 97 := ysum_mod fun c hc => by rw [Int.mul_emod, h c hc]; simp
    rw [this, ysum_0]; rfl
  have e2 : ysum (fun c => e c * ylc (ylw T).length a (fun s c => (ylx T s c : Int)) c) (yK T) = ysum (fun t => a t * ysum (fun c => e c * (ylx T t c : Int)) (yK T)) (ylw T).length := by
    unfold ylc
    have s1 : ysum (fun c => e c * ysum (fun t => a t * (ylx T t c : Int)) (ylw T).length) (yK T) = ysum (fun c => ysum (fun t => e c * (a t * (ylx T t c : Int))) (ylw T).length) (yK T) := ysum_cg fun c _ => (ysum_cmul _ _ _).symm
    rw [s1, ysum_swap]
    exact ysum_cg fun t _ => by
      rw [← ysum_cmul]
      exact ysum_cg fun c _ => by grind
  have e3 : ysum (fun t => a t * ysum (fun c => e c * (ylx T t c : Int)) (yK T)) (ylw T).length % 97 = a s % 97 := by
    have d := ysum_del (fun t => a t) s (ylw T).length
    rw [if_pos hs] at d
    have : ysum (fun t => a t * ysum (fun c => e c * (ylx T t c : Int)) (yK T)) (ylw T).length % 97 = ysum (fun t => if t = s then a t else 0) (ylw T).length % 97 := ysum_mod fun t ht => by
      rw [ymul97 (b := a t) (d := if t = s then 1 else 0) rfl (by rw [he t ht]; split <;> rfl)]
      by_cases c : t = s
      · rw [if_pos c, if_pos c, Int.mul_one]
      · rw [if_neg c, if_neg c, Int.mul_zero]
    rw [this, d]
  rw [← e3, ← e2]; exact e1
/-- and each row is a sum of them, if there are as many as classes -/
theorem ylx_span (V : yV T) (hl : (ylw T).length = yK T) (u : Nat → Int) : ∃ a : Nat → Int, ∀ c, c < yK T → u c % 97 = ylc (ylw T).length a (fun s c => (ylx T s c : Int)) c % 97 := by
  let y : Nat → Nat → Nat := fun a k => (ylc (ylw T).length (fun s => (ydg9 a s : Int)) (fun s c => (ylx T s c : Int)) k % 97).toNat
  have y97 : ∀ a k, y a k < 97 := fun a k => by
    show (ylc (ylw T).length (fun s => (ydg9 a s : Int)) (fun s c => (ylx T s c : Int)) k % 97).toNat < 97
    omega
  obtain ⟨a, ha, ea⟩ := yinj_surj (n := 97 ^ yK T) (f := fun a => yenc (yK T) (y a)) (fun a _ => yenc_lt _ _ (fun k _ => y97 a k)) (fun a b ha hb e => by
    refine ydg9_eq _ a b ha hb fun s hs => ?_
    have ek := yenc_inj _ _ _ (fun k _ => y97 a k) (fun k _ => y97 b k) e
    have := ylx_ind V (fun s => (ydg9 a s : Int) + (-1) * (ydg9 b s : Int)) (fun c hc => by
      rw [ylc_add, ylc_mul]
      have : (ylc (ylw T).length (fun s => (ydg9 a s : Int)) (fun s c => (ylx T s c : Int)) c % 97).toNat = (ylc (ylw T).length (fun s => (ydg9 b s : Int)) (fun s c => (ylx T s c : Int)) c % 97).toNat := ek c hc
      omega) s (by omega)
    have a1 : ydg9 a s < 97 := Nat.mod_lt _ (by omega)
    have b1 : ydg9 b s < 97 := Nat.mod_lt _ (by omega)
    omega) (yenc_lt _ (fun k => (u k % 97).toNat) (fun k _ => by omega))
  have ek := yenc_inj _ _ _ (fun k _ => y97 a k) (fun k _ => by omega) ea
  refine ⟨fun s => (ydg9 a s : Int), fun c hc => ?_⟩
  have : (ylc (ylw T).length (fun s => (ydg9 a s : Int)) (fun s c => (ylx T s c : Int)) c % 97).toNat = (u c % 97).toNat := ek c hc
  omega
theorem ylx_in {s n : Nat} (hs : s < (ylw T).length) {la : Nat → Int} (h : ∀ i, i < n → i < yK T → (ylx T s i : Int) % 97 = la i % 97) : yVs T n la (fun c => (ylx T s c : Int)) := fun i h1 h2 j hj => by
  rw [(ylx_hom hs).2 i j h2 hj]
  exact ymul97 (h i h1 h2) rfl
/-- one row: it is a law's, and there is no other law -/
theorem yone (V : yV T) (hl : (ylw T).length = yK T) {n : Nat} {la : Nat → Int} {R : Nat → Nat → Int} (B : yBs9 (yK T) 1 R (yVs T n la)) : ∃ s t, s < (ylw T).length ∧ (∀ i, i < n → i < yK T → (ylx T s i : Int) % 97 = la i % 97) ∧ t % 97 ≠ 0 ∧ (∀ c, c < yK T → R 0 c % 97 = (t * (ylx T s c : Int)) % 97) ∧ ∀ s', s' < (ylw T).length → (∀ i, i < n → i < yK T → (ylx T s' i : Int) % 97 = la i % 97) → s' = s := by
  obtain ⟨a, ha⟩ := ylx_span V hl (R 0)
  have mem := B.mem 0 (by omega)
  -- the numbers of others are nought
  have za : ∀ s, s < (ylw T).length → ∀ i, i < n → i < yK T → (a s * ((ylx T s i : Int) - la i)) % 97 = 0 := fun s hs i h1 h2 => by
    refine ylx_ind V (fun s => a s * ((ylx T s i : Int) - la i)) (fun j hj => ?_) s hs
    have m := mem i h1 h2 j hj
    have o1 : yop T i (R 0) j % 97 = yop T i (ylc (ylw T).length a (fun s c => (ylx T s c : Int))) j % 97 := yop_cg ha
    rw [o1, yop_lc] at m
    have m2 : (la i * R 0 j) % 97 = ylc (ylw T).length (fun s => la i * a s) (fun s c => (ylx T s c : Int)) j % 97 := by
      rw [ylc_mul]; exact ymul97 rfl (ha j hj)
    have m3 : ylc (ylw T).length a (fun r => yop T i (fun c => (ylx T r c : Int))) j % 97 = ylc (ylw T).length (fun s => a s * (ylx T s i : Int)) (fun s c => (ylx T s c : Int)) j % 97 := ysum_mod fun s hs => by
      rw [Int.mul_assoc]
      exact ymul97 rfl ((ylx_hom hs).2 i j h2 hj)
    have e : ylc (ylw T).length (fun s => a s * ((ylx T s i : Int) - la i)) (fun s c => (ylx T s c : Int)) j = ylc (ylw T).length (fun s => a s * (ylx T s i : Int)) (fun s c => (ylx T s c : Int)) j + (-1) * ylc (ylw T).length (fun s => la i * a s) (fun s c => (ylx T s c : Int)) j := by
      rw [← ylc_mul, ← ylc_add]
      unfold ylc
      exact ysum_cg fun s _ => by grind
    rw [e]
    omega
  have nz : ∃ s, s < (ylw T).length ∧ a s % 97 ≠ 0 := Classical.byContradiction fun no => by
    have z : ∀ c, c < yK T → ylc 1 (fun _ => 1) R c % 97 = 0 := fun c hc => by
      have e1 : ylc 1 (fun _ => 1) R c = R 0 c := by unfold ylc; simp [ysum]
      rw [e1, ha c hc]
      have : ylc (ylw T).length a (fun s c => (ylx T s c : Int)) c % 97 = ylc (ylw T).length (fun _ => 0) (fun s c => (ylx T s c : Int)) c % 97 := ylc_cg fun s hs => Classical.byContradiction fun q => no ⟨s, hs, by simpa using q⟩
      rw [this]
      unfold ylc
      have : ysum (fun s => 0 * (ylx T s c : Int)) (ylw T).length = ysum (fun _ => 0) (ylw T).length := ysum_cg fun _ _ => Int.zero_mul _
      rw [this, ysum_0]; rfl
    have := B.ind (fun _ => 1) z 0 (by omega)
    exact absurd this (by decide)
  obtain ⟨s, hs, as⟩ := nz
  have hla : ∀ i, i < n → i < yK T → (ylx T s i : Int) % 97 = la i % 97 := fun i h1 h2 => yeq97.mpr (ycan97 as (za s hs i h1 h2))
  -- a law is a multiple of the row
  have mul : ∀ s', s' < (ylw T).length → (∀ i, i < n → i < yK T → (ylx T s' i : Int) % 97 = la i % 97) → ∃ t : Int, ∀ c, c < yK T → (ylx T s' c : Int) % 97 = (t * R 0 c) % 97 := fun s' hs' h' => by
    obtain ⟨t, ht⟩ := B.span _ (ylx_in hs' h')
    refine ⟨t 0, fun c hc => ?_⟩
    rw [ht c hc]; unfold ylc; simp [ysum]
  obtain ⟨t, ht⟩ := mul s hs hla
  have t0 := ht 0 V.K0
  rw [(ylx_hom hs).1] at t0
  have tz : t % 97 ≠ 0 := fun z => by
    rw [Int.mul_emod, z] at t0; simp at t0
  have r00 : R 0 0 % 97 ≠ 0 := fun z => by
    rw [Int.mul_emod, z] at t0; simp at t0
  refine ⟨s, R 0 0, hs, hla, r00, fun c hc => ?_, fun s' hs' h' => ?_⟩
  · have e1 : (R 0 0 * (ylx T s c : Int)) % 97 = (R 0 0 * (t * R 0 c)) % 97 := ymul97 rfl (ht c hc)
    have e2 : (t * R 0 0 * R 0 c) % 97 = (1 * R 0 c) % 97 := ymul97 (by rw [← t0]; rfl) rfl
    rw [e1, show R 0 0 * (t * R 0 c) = t * R 0 0 * R 0 c by grind, e2, Int.one_mul]
  · obtain ⟨t', ht'⟩ := mul s' hs' h'
    have t0' := ht' 0 V.K0
    rw [(ylx_hom hs').1] at t0'
    have tt : t % 97 = t' % 97 := by
      refine yeq97.mpr (ycan97 r00 ?_)
      have e1 : (t * R 0 0) % 97 = (t' * R 0 0) % 97 := t0.symm.trans t0'
      rw [show R 0 0 * (t - t') = t * R 0 0 - t' * R 0 0 by grind]
      exact yeq97.mp e1
    -- the same row: the same law
    have same : ∀ c, c < yK T → ylx T s' c = ylx T s c := fun c hc => by
      have e1 : (ylx T s' c : Int) % 97 = (ylx T s c : Int) % 97 := by rw [ht' c hc, ht c hc]; exact ymul97 tt.symm rfl
      have a1 := ylx_lt hs c
      have a2 := ylx_lt hs' c
      omega
    have z := ylx_ind V (fun r => (if r = s' then 1 else 0) + (-1) * (if r = s then 1 else 0)) (fun c hc => by
      rw [ylc_add, ylc_mul, ylc_one _ _ s' c hs', ylc_one _ _ s c hs, same c hc]
      omega) s hs
    refine Classical.byContradiction fun ne => ?_
    rw [if_neg (fun w => ne w.symm), if_pos rfl] at z
    exact absurd z (by decide)
/-- all classes act as numbers: at most one row -/
theorem ytwo (V : yV T) {d : Nat} {la : Nat → Int} {R : Nat → Nat → Int} (B : yBs9 (yK T) d R (yVs T (yK T) la)) (hd : 2 ≤ d) : False := by
  have key : ∀ r, r < d → ∀ c, c < yK T → R r c % 97 = (la c * R r 0) % 97 := fun r hr c hc => by
    have := B.mem r hr c hc hc 0 V.K0
    rw [V.op0 hc] at this; exact this
  have z := B.ind (fun r => if r = 0 then R 1 0 else if r = 1 then -R 0 0 else 0) (fun c hc => by
    have e : ylc d (fun r => if r = 0 then R 1 0 else if r = 1 then -R 0 0 else 0) R c = ylc d (fun r => R 1 0 * (if r = 0 then 1 else 0)) R c + ylc d (fun r => -R 0 0 * (if r = 1 then 1 else 0)) R c := by
      rw [← ylc_add]; unfold ylc
      refine ysum_cg fun r _ => ?_
      dsimp only
      by_cases q : r = 0
      · rw [if_pos q, if_pos q, if_neg (by omega)]; grind
      · by_cases q1 : r = 1
        · rw [if_neg q, if_neg q, if_pos q1, if_pos q1]; grind
        · rw [if_neg q, if_neg q, if_neg q1, if_neg q1]; grind
    rw [e, ylc_mul, ylc_mul, ylc_one d R 0 c (by omega), ylc_one d R 1 c (by omega)]
    have a := ymul97 (a := R 1 0) rfl (key 0 (by omega) c hc)
    have b := ymul97 (a := -R 0 0) rfl (key 1 (by omega) c hc)
    have := yadd97 a b
    rw [this, show R 1 0 * (la c * R 0 0) + -R 0 0 * (la c * R 1 0) = 0 by grind]; rfl)
  have z1 := z 1 (by omega)
  rw [if_neg (by omega), if_pos rfl] at z1
  have r0 : ∀ c, c < yK T → R 0 c % 97 = 0 := fun c hc => by
    rw [key 0 (by omega) c hc, Int.mul_emod, show R 0 0 % 97 = 0 by omega]; simp
  have := B.ind (fun r => if r = 0 then 1 else 0) (fun c hc => by rw [ylc_one d R 0 c (by omega)]; exact r0 c hc) 0 (by omega)
  rw [if_pos rfl] at this
  exact absurd this (by decide)
/-- no row: no law -/
theorem ynone (V : yV T) {n : Nat} {la : Nat → Int} {R : Nat → Nat → Int} (B : yBs9 (yK T) 0 R (yVs T n la)) {s : Nat} (hs : s < (ylw T).length) (h : ∀ i, i < n → i < yK T → (ylx T s i : Int) % 97 = la i % 97) : False := by
  obtain ⟨t, ht⟩ := B.span _ (ylx_in hs h)
  have := ht 0 V.K0
  rw [(ylx_hom hs).1] at this
  exact absurd this (by simp [ylc, ysum])
end
