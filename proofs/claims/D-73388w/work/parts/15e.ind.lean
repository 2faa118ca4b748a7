/-! ===== maths: laws: how many there can be; laws out of functions on a group ===== -/
def ylsum (f : Nat → Int) : List Nat → Int
  | [] => 0
  | h :: t => f h + ylsum f t
theorem ylsum_perm (f : Nat → Int) {l l' : List Nat} (h : l.Perm l') : ylsum f l = ylsum f l' := by
  induction h with
  | nil => rfl
  | cons x _ ih => simp only [ylsum, ih]
  | swap x y l => simp only [ylsum]; omega
  | trans _ _ ih1 ih2 => exact ih1.trans ih2
theorem ylsum_app (f : Nat → Int) (l l' : List Nat) : ylsum f (l ++ l') = ylsum f l + ylsum f l' := by
  induction l with
  | nil => simp only [List.nil_append, ylsum]; omega
  | cons x l ih => simp only [List.cons_append, ylsum, ih]; omega
theorem ylsum_range (f : Nat → Int) (c : Nat → Nat) (n : Nat) : ylsum f ((List.range n).map c) = ysum (fun a => f (c a)) n := by
  induction n with
  | zero => rfl
  | succ n ih => rw [List.range_succ, List.map_append, ylsum_app, ih, ysum_s]; simp [ylsum]
theorem yadd97 {a b c d : Int} (h : a % 97 = b % 97) (g : c % 97 = d % 97) : (a + c) % 97 = (b + d) % 97 := by omega
theorem ymul97 {a b c d : Int} (h : a % 97 = b % 97) (g : c % 97 = d % 97) : (a * c) % 97 = (b * d) % 97 := by rw [Int.mul_emod, h, g, ← Int.mul_emod]
theorem ycan97 {m x : Int} (h : m % 97 ≠ 0) (e : (m * x) % 97 = 0) : x % 97 = 0 := by
  have s := (yi97_spec h).2.2.1
  have e1 : ((yi97 m : Int) * m * x) % 97 = (1 * x) % 97 := ymul97 (by rw [s]; rfl) rfl
  have e2 : ((yi97 m : Int) * (m * x)) % 97 = ((yi97 m : Int) * 0) % 97 := ymul97 rfl (by rw [e]; rfl)
  rw [← Int.mul_assoc, e1] at e2
  simpa using e2
theorem yeq97 {a b : Int} : a % 97 = b % 97 ↔ (a - b) % 97 = 0 := by omega
section
variable {T : yT}
/-- a law as numbers: it goes with the joins -/
def yhom (T : yT) (u : Nat → Int) : Prop := u 0 % 97 = 1 ∧ ∀ i j, i < yK T → j < yK T → ysum (fun k => yjn T i j k * u k) (yK T) % 97 = (u i * u j) % 97
theorem yhm_hom {v : List Nat} (h : ylv v 0 < 97) : yhm T v = true ↔ yhom T (fun k => (ylv v k : Int)) := by
  unfold yhm yhom
  rw [Bool.and_eq_true, decide_eq_true_iff, yallb_iff]
  refine and_congr ⟨fun e => by show (ylv v 0 : Int) % 97 = 1; rw [e]; rfl, fun e => by have e : (ylv v 0 : Int) % 97 = 1 := e; omega⟩ ⟨fun h i j hi hj => ?_, fun h i hi => ?_⟩
  · have := of_decide_eq_true (yallb_iff.mp (h i hi) j hj)
    exact yeq97.mpr this
  · rw [yallb_iff]; intro j hj; rw [decide_eq_true_iff]
    exact yeq97.mp (h i j hi hj)
/-- one law is told from others by a sum -/
theorem ysep {v : Nat → Int} (hv : yhom T v) (K0 : 0 < yK T) (ts : List (Nat → Int)) (h : ∀ t ∈ ts, yhom T t ∧ ∃ i, i < yK T ∧ (v i - t i) % 97 ≠ 0) : ∃ e : Nat → Int, ysum (fun k => e k * v k) (yK T) % 97 = 1 ∧ ∀ t ∈ ts, ysum (fun k => e k * t k) (yK T) % 97 = 0 := by
  induction ts with
  | nil =>
    refine ⟨fun k => if k = 0 then 1 else 0, ?_, fun t ht => absurd ht List.not_mem_nil⟩
    have := ysum_del (fun k => v k) 0 (yK T)
    rw [if_pos K0] at this
    refine Eq.trans (congrArg (· % 97) (Eq.trans ?_ this)) hv.1
    exact ysum_cg fun k _ => by
      show (if k = 0 then (1 : Int) else 0) * v k = _
      by_cases c : k = 0
      · rw [if_pos c, if_pos c, Int.one_mul]
      · rw [if_neg c, if_neg c, Int.zero_mul]
  | cons t ts ih =>
    obtain ⟨e, e1, e2⟩ := ih (fun t ht => h t (List.mem_cons_of_mem _ ht))
    obtain ⟨ht, i, hi, ne⟩ := h t List.mem_cons_self
    have val : ∀ u, yhom T u → ysum (fun k => ((yi97 (v i - t i) : Int) * (ysum (fun j => e j * yjn T i j k) (yK T) - t i * e k)) * u k) (yK T) % 97 = ((yi97 (v i - t i) : Int) * ((u i - t i) * ysum (fun k => e k * u k) (yK T))) % 97 := by
      intro u hu
      have a : ysum (fun k => ((yi97 (v i - t i) : Int) * (ysum (fun j => e j * yjn T i j k) (yK T) - t i * e k)) * u k) (yK T) = (yi97 (v i - t i) : Int) * (ysum (fun k => ysum (fun j => e j * yjn T i j k) (yK T) * u k) (yK T) - t i * ysum (fun k => e k * u k) (yK T)) := by
        rw [← ysum_lin, ← ysum_cmul]
        exact ysum_cg fun k _ => by grind
      rw [a]
      refine ymul97 rfl ?_
      have b : ysum (fun k => ysum (fun j => e j * yjn T i j k) (yK T) * u k) (yK T) = ysum (fun j => e j * ysum (fun k => yjn T i j k * u k) (yK T)) (yK T) := by
        have s1 : ysum (fun k => ysum (fun j => e j * yjn T i j k) (yK T) * u k) (yK T) = ysum (fun k => ysum (fun j => e j * yjn T i j k * u k) (yK T)) (yK T) := ysum_cg fun k _ => (ysum_mulc _ _ _).symm
        rw [s1, ysum_swap]
        exact ysum_cg fun j _ => by
          rw [← ysum_cmul]
          exact ysum_cg fun k _ => by grind
      have c : ysum (fun j => e j * ysum (fun k => yjn T i j k * u k) (yK T)) (yK T) % 97 = ysum (fun j => u i * (e j * u j)) (yK T) % 97 := ysum_mod fun j hj => by
        rw [show u i * (e j * u j) = e j * (u i * u j) by grind]
        exact ymul97 rfl (hu.2 i j hi hj)
      rw [ysum_cmul, ← b] at c
      have d : (ysum (fun k => ysum (fun j => e j * yjn T i j k) (yK T) * u k) (yK T) - t i * ysum (fun k => e k * u k) (yK T)) % 97 = (u i * ysum (fun k => e k * u k) (yK T) - t i * ysum (fun k => e k * u k) (yK T)) % 97 := by
        generalize ysum (fun k => ysum (fun j => e j * yjn T i j k) (yK T) * u k) (yK T) = A at *
        generalize u i * ysum (fun k => e k * u k) (yK T) = B at *
        omega
      rw [d, Int.sub_mul]
    refine ⟨fun k => (yi97 (v i - t i) : Int) * (ysum (fun j => e j * yjn T i j k) (yK T) - t i * e k), ?_, fun u mu => ?_⟩
    · rw [val v hv]
      have s := (yi97_spec ne).2.2.1
      rw [← Int.mul_assoc, ymul97 (b := 1) (d := 1) (by rw [s]; rfl) (by rw [e1]; rfl)]; rfl
    · rcases List.mem_cons.mp mu with q | q
      · rw [q, val t ht, Int.sub_self, Int.zero_mul, Int.mul_zero]; rfl
      · rw [val u (h u mu).1]
        have z := e2 u q
        rw [ymul97 (b := (yi97 (v i - t i) : Int)) (d := (u i - t i) * 0) rfl (ymul97 rfl (by rw [z]; rfl)), Int.mul_zero, Int.mul_zero]; rfl
end
/-- digits -/
def ydg9 (a s : Nat) : Nat := a / 97 ^ s % 97
theorem ydg9_eq : ∀ (r a b : Nat), a < 97 ^ r → b < 97 ^ r → (∀ s, s < r → ydg9 a s = ydg9 b s) → a = b := by
  intro r
  induction r with
  | zero => intro a b ha hb _; simp at ha hb; omega
  | succ r ih =>
    intro a b ha hb h
    have d : a / 97 = b / 97 := by
      refine ih _ _ (by rw [Nat.pow_succ] at ha; omega) (by rw [Nat.pow_succ] at hb; omega) fun s hs => ?_
      have := h (s + 1) (by omega)
      unfold ydg9 at this ⊢
      rw [Nat.div_div_eq_div_mul, Nat.div_div_eq_div_mul, Nat.mul_comm 97, ← Nat.pow_succ]; exact this
    have m := h 0 (by omega)
    unfold ydg9 at m
    simp only [Nat.pow_zero, Nat.div_one] at m
    omega
def yenc : Nat → (Nat → Nat) → Nat
  | 0, _ => 0
  | k + 1, y => y 0 + 97 * yenc k (fun i => y (i + 1))
theorem yenc_lt : ∀ (k : Nat) (y : Nat → Nat), (∀ i, i < k → y i < 97) → yenc k y < 97 ^ k := by
  intro k
  induction k with
  | zero => intro y _; simp [yenc]
  | succ k ih =>
    intro y h
    have a := ih (fun i => y (i + 1)) (fun i hi => h (i + 1) (by omega))
    have b := h 0 (by omega)
    unfold yenc
    rw [Nat.pow_succ]; omega
theorem yenc_inj : ∀ (k : Nat) (y z : Nat → Nat), (∀ i, i < k → y i < 97) → (∀ i, i < k → z i < 97) → yenc k y = yenc k z → ∀ i, i < k → y i = z i := by
  intro k
  induction k with
  | zero => intro y z _ _ _ i hi; omega
  | succ k ih =>
    intro y z hy hz e i hi
    unfold yenc at e
    have a := hy 0 (by omega)
    have b := hz 0 (by omega)
    have e0 : y 0 = z 0 := by omega
    have e1 : yenc k (fun i => y (i + 1)) = yenc k (fun i => z (i + 1)) := by omega
    cases i with
    | zero => exact e0
    | succ i => exact ih _ _ (fun i hi => hy (i + 1) (by omega)) (fun i hi => hz (i + 1) (by omega)) e1 i (by omega)
section
variable {T : yT}
/-- there are at most as many laws as classes -/
theorem yind (K0 : 0 < yK T) (Ls : List (List Nat)) (h : ∀ v ∈ Ls, v.length = yK T ∧ (∀ x ∈ v, x < 97) ∧ yhm T v = true) (nd : Ls.Nodup) : Ls.length ≤ yK T := by
  let u : Nat → Nat → Int := fun s k => (ylv (Ls[s]?.getD []) k : Int)
  have at' : ∀ s, s < Ls.length → ∃ v, Ls[s]? = some v ∧ v ∈ Ls := fun s hs => ⟨Ls[s], List.getElem?_eq_getElem hs, List.getElem_mem hs⟩
  have lt97 : ∀ v, (∀ x ∈ v, x < 97) → ∀ k, ylv v k < 97 := fun v hv k => by
    unfold ylv
    cases q : v[k]? with
    | none => simp
    | some x => exact hv x (List.mem_of_getElem? q)
  have hu : ∀ s, s < Ls.length → yhom T (u s) := fun s hs => by
    obtain ⟨v, e, m⟩ := at' s hs
    have : u s = fun k => (ylv v k : Int) := by show (fun k => (ylv (Ls[s]?.getD []) k : Int)) = _; rw [e]; rfl
    rw [this]
    exact (yhm_hom (lt97 v (h v m).2.1 0)).mp (h v m).2.2
  have dis : ∀ s t, s < Ls.length → t < Ls.length → s ≠ t → ∃ i, i < yK T ∧ (u s i - u t i) % 97 ≠ 0 := fun s t hs ht ne => by
    refine Classical.byContradiction fun no => ne ?_
    obtain ⟨v, e, m⟩ := at' s hs
    obtain ⟨w, f, n⟩ := at' t ht
    have us : ∀ k, u s k = (ylv v k : Int) := fun k => by show (ylv (Ls[s]?.getD []) k : Int) = _; rw [e]; rfl
    have ut : ∀ k, u t k = (ylv w k : Int) := fun k => by show (ylv (Ls[t]?.getD []) k : Int) = _; rw [f]; rfl
    have eq : v = w := by
      refine List.ext_getElem (by rw [(h v m).1, (h w n).1]) fun k hk hk' => ?_
      have z : (u s k - u t k) % 97 = 0 := Classical.byContradiction fun z => no ⟨k, by rw [← (h v m).1]; exact hk, z⟩
      rw [us, ut] at z
      have a := lt97 v (h v m).2.1 k
      have b := lt97 w (h w n).2.1 k
      have : ylv v k = ylv w k := by omega
      unfold ylv at this
      rw [List.getElem?_eq_getElem hk, List.getElem?_eq_getElem hk'] at this
      exact this
    have e := List.getElem_eq_iff hs |>.mpr e
    have f := List.getElem_eq_iff ht |>.mpr f
    rcases Nat.lt_trichotomy s t with q | q | q
    · exact absurd (e.trans (eq.trans f.symm)) (List.pairwise_iff_getElem.mp nd s t hs ht q)
    · exact q
    · exact absurd (f.trans (eq.symm.trans e.symm)) (List.pairwise_iff_getElem.mp nd t s ht hs q)
  have sep : ∀ s, s < Ls.length → ∃ e : Nat → Int, ∀ t, t < Ls.length → ysum (fun k => e k * u t k) (yK T) % 97 = if t = s then 1 else 0 := fun s hs => by
    obtain ⟨e, e1, e2⟩ := ysep (hu s hs) K0 (((List.range Ls.length).filter (fun t => !decide (t = s))).map u) (fun t ht => by
      obtain ⟨i, hi, rfl⟩ := List.mem_map.mp ht
      have hi := List.mem_filter.mp hi
      have l := List.mem_range.mp hi.1
      exact ⟨hu i l, dis s i hs l (fun z => by have := hi.2; simp [z] at this)⟩)
    refine ⟨e, fun t ht => ?_⟩
    by_cases c : t = s
    · rw [if_pos c, c]; exact e1
    · rw [if_neg c]
      exact e2 (u t) (List.mem_map.mpr ⟨t, List.mem_filter.mpr ⟨List.mem_range.mpr ht, by simp [c]⟩, rfl⟩)
  let y : Nat → Nat → Nat := fun a k => (ysum (fun s => (ydg9 a s : Int) * u s k) Ls.length % 97).toNat
  have y97 : ∀ a k, y a k < 97 := fun a k => by
    show (ysum (fun s => (ydg9 a s : Int) * u s k) Ls.length % 97).toNat < 97
    omega
  have := ycnt_inj (p := fun _ => true) (q := fun _ => true) (f := fun a => yenc (yK T) (y a)) (97 ^ Ls.length) (97 ^ yK T) (fun i _ _ => ⟨yenc_lt _ _ (fun k _ => y97 i k), rfl⟩) (fun a b ha hb _ _ e => by
    refine ydg9_eq _ a b ha hb fun s hs => ?_
    have ek := yenc_inj _ _ _ (fun k _ => y97 a k) (fun k _ => y97 b k) e
    obtain ⟨f, hf⟩ := sep s hs
    have val : ∀ a, ysum (fun k => f k * ysum (fun s => (ydg9 a s : Int) * u s k) Ls.length) (yK T) % 97 = (ydg9 a s : Int) % 97 := fun a => by
      have s1 : ysum (fun k => f k * ysum (fun s => (ydg9 a s : Int) * u s k) Ls.length) (yK T) = ysum (fun t => (ydg9 a t : Int) * ysum (fun k => f k * u t k) (yK T)) Ls.length := by
        have s2 : ysum (fun k => f k * ysum (fun s => (ydg9 a s : Int) * u s k) Ls.length) (yK T) = ysum (fun k => ysum (fun t => f k * ((ydg9 a t : Int) * u t k)) Ls.length) (yK T) := ysum_cg fun k _ => (ysum_cmul _ _ _).symm
        rw [s2, ysum_swap]
        exact ysum_cg fun t _ => by
          rw [← ysum_cmul]
          exact ysum_cg fun k _ => by grind
      have s3 : ysum (fun t => (ydg9 a t : Int) * ysum (fun k => f k * u t k) (yK T)) Ls.length % 97 = ysum (fun t => if t = s then (ydg9 a t : Int) else 0) Ls.length % 97 := ysum_mod fun t ht => by
        rw [ymul97 (b := (ydg9 a t : Int)) (d := if t = s then 1 else 0) rfl (by rw [hf t ht]; split <;> rfl)]
        by_cases c : t = s
        · rw [if_pos c, if_pos c, Int.mul_one]
        · rw [if_neg c, if_neg c, Int.mul_zero]
      rw [s1, s3, ysum_del, if_pos hs]
    have eq : ysum (fun k => f k * ysum (fun s => (ydg9 a s : Int) * u s k) Ls.length) (yK T) % 97 = ysum (fun k => f k * ysum (fun s => (ydg9 b s : Int) * u s k) Ls.length) (yK T) % 97 := ysum_mod fun k hk => by
      refine ymul97 rfl ?_
      have : (ysum (fun s => (ydg9 a s : Int) * u s k) Ls.length % 97).toNat = (ysum (fun s => (ydg9 b s : Int) * u s k) Ls.length % 97).toNat := ek k hk
      omega
    rw [val, val] at eq
    have a1 : ydg9 a s < 97 := Nat.mod_lt _ (by omega)
    have b1 : ydg9 b s < 97 := Nat.mod_lt _ (by omega)
    omega)
  have b : ∀ n, ycnt (fun _ => true) n = (n : Int) := fun n => by
    induction n with
    | zero => rfl
    | succ n ih => rw [ycnt_s, ih]; simp
  rw [b, b] at this
  have := Int.ofNat_le.mp this
  exact (Nat.pow_le_pow_iff_right (by omega)).mp this
end
