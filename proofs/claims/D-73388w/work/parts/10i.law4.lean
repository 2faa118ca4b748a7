/-! ===== laws: rows of numbers, searched one class behind the other ===== -/
theorem ycnt_eq (b n : Nat) : ycnt (fun x => decide (x = b)) n = if b < n then 1 else 0 := by
  induction n with
  | zero => rfl
  | succ n ih =>
    rw [ycnt_s, ih]
    by_cases c : n = b
    · subst c; simp
    · simp only [decide_eq_true_eq, if_neg c]
      by_cases c2 : b < n
      · rw [if_pos c2, if_pos (by omega)]; rfl
      · rw [if_neg c2, if_neg (by omega)]; rfl
section
variable {T : yT}
theorem yV.jn1 (V : yV T) {i j k : Nat} (hk : k < yK T) : yjn T i j k = ycnt (fun x => decide (ykl T x = i ∧ ykl T (yth T (yiv T x) (yls T k)) = j)) (Tm T) := by
  have hl := (V.ls hk).1
  have key : ∀ n, n ≤ Tm T → ysum (fun a => ycnt (fun b => decide (ykl T a = i ∧ ykl T b = j ∧ yth T a b = yls T k)) (Tm T)) n = ycnt (fun x => decide (ykl T x = i ∧ ykl T (yth T (yiv T x) (yls T k)) = j)) n := by
    intro n
    induction n with
    | zero => intro _; rfl
    | succ n ih =>
      intro hn
      rw [ysum_s, ih (by omega), ycnt_s]
      have hn' : n < Tm T := by omega
      have hb := V.th (V.iv hn') hl
      have eb : yth T n (yth T (yiv T n) (yls T k)) = yls T k := by rw [← V.as hn' (V.iv hn') hl, V.ivr hn', V.id1 hl]
      by_cases c : ykl T n = i ∧ ykl T (yth T (yiv T n) (yls T k)) = j
      · rw [decide_eq_true c, if_pos rfl]
        have e : ycnt (fun b => decide (ykl T n = i ∧ ykl T b = j ∧ yth T n b = yls T k)) (Tm T) = 1 := by
          rw [ycnt_congr (q := fun b => decide (b = yth T (yiv T n) (yls T k))) (fun b hbm => ?_), ycnt_eq, if_pos hb]
          rw [decide_eq_decide]
          exact ⟨fun z => V.cancel hn' hbm hb (by rw [z.2.2, eb]), fun z => by rw [z]; exact ⟨c.1, c.2, eb⟩⟩
        rw [e]
      · rw [decide_eq_false c]
        have e : ycnt (fun b => decide (ykl T n = i ∧ ykl T b = j ∧ yth T n b = yls T k)) (Tm T) = 0 := by
          refine ycnt_up (n := 0) _ (fun b hbm => ?_)
          rw [decide_eq_false_iff_not]
          rintro ⟨z1, z2, z3⟩
          have : b = yth T (yiv T n) (yls T k) := V.cancel hn' hbm hb (by rw [z3, eb])
          exact c ⟨z1, by rw [← this]; exact z2⟩
        rw [e]; simp
  exact key _ (Nat.le_refl _)
/-- joins are the same either way -/
theorem yV.jn_comm (V : yV T) {i j k : Nat} (hk : k < yK T) : yjn T i j k = yjn T j i k := by
  have half : ∀ i j, yjn T i j k ≤ yjn T j i k := by
    intro i j
    rw [V.jn1 hk, V.jn1 hk]
    have hl := (V.ls hk).1
    refine ycnt_inj (f := fun x => yth T (yiv T x) (yls T k)) _ _ (fun x hx hp => ?_) (fun x y hx hy _ _ he => ?_)
    · have hp := of_decide_eq_true hp
      have hxi := V.iv hx
      have hb := V.th hxi hl
      refine ⟨hb, decide_eq_true ⟨hp.2, ?_⟩⟩
      -- (x⁻¹ l)⁻¹ l = l⁻¹ x l
      rw [V.ivth hxi hl, V.iviv hx]
      have e : yth T (yth T (yiv T (yls T k)) x) (yls T k) = ycj T (yiv T (yls T k)) x := by
        unfold ycj; rw [V.iviv hl]
      rw [e, ← hp.1, V.cl_eq (V.cj (V.iv hl) hx) hx]
      exact V.mn_cj (V.iv hl) hx
    · have := V.cancelr hl (V.iv hx) (V.iv hy) he
      rw [← V.iviv hx, ← V.iviv hy, this]
  have h1 := half i j
  have h2 := half j i
  omega
end
def ykn (T : yT) (i j last : Nat) : Bool := yallb (fun k => decide (yjn T i j k = 0) || decide (k ≤ last)) (yK T)
def ysm (T : yT) (p : Nat → Nat) (i j last n : Nat) : Int := ysum (fun k => if k ≤ last then yjn T i j k * (p k : Int) else 0) n
def yg1 (T : yT) (p : Nat → Nat) (last i j : Nat) : Bool := !ykn T i j last || decide ((ysm T p i j last (yK T) - (p i : Int) * (p j : Int)) % 97 = 0)
/-- the first numbers go with all joins of which they tell all -/
def ygo (T : yT) (p : Nat → Nat) (last : Nat) : Bool := yallb (fun i => yallb (fun j => decide (j < i) || yg1 T p last i j) (last + 1)) (last + 1)
def ydf (T : yT) (opts : Nat → List Nat) : Nat → List Nat → List (List Nat)
  | 0, l => [l]
  | n + 1, l => (opts l.length).flatMap (fun v => if ygo T (ylv (l ++ [v])) l.length = true then ydf T opts n (l ++ [v]) else [])
theorem ylv_lt {l : List Nat} {s : List Nat} {k : Nat} (h : k < l.length) : ylv (l ++ s) k = ylv l k := by
  unfold ylv; rw [List.getElem?_append_left h]
theorem ylv_at (l : List Nat) (v : Nat) (s : List Nat) : ylv (l ++ v :: s) l.length = v := by
  unfold ylv; rw [List.getElem?_append_right (Nat.le_refl _), Nat.sub_self]; rfl
theorem yvec_mem : ∀ {n : Nat} {s : List Nat}, s ∈ yvec n → s.length = n ∧ ∀ x ∈ s, x < 97 := by
  intro n
  induction n with
  | zero => intro s hs; simp [yvec] at hs; subst hs; exact ⟨rfl, fun x hx => by cases hx⟩
  | succ n ih =>
    intro s hs
    simp only [yvec, List.mem_flatMap, List.mem_map, List.mem_range] at hs
    obtain ⟨v, hv, t, ht, rfl⟩ := hs
    obtain ⟨h1, h2⟩ := ih ht
    refine ⟨by rw [List.length_cons, h1], fun x hx => ?_⟩
    rcases List.mem_cons.mp hx with q | q
    · rw [q]; exact hv
    · exact h2 x q
section
variable {T : yT}
theorem yhm_iff {v : List Nat} : yhm T v = true ↔ ylv v 0 = 1 ∧ ∀ i j, i < yK T → j < yK T → (ysum (fun k => yjn T i j k * (ylv v k : Int)) (yK T) - (ylv v i : Int) * (ylv v j : Int)) % 97 = 0 := by
  simp only [yhm, Bool.and_eq_true, decide_eq_true_iff, yallb_iff]
  exact ⟨fun h => ⟨h.1, fun i j hi hj => h.2 i hi j hj⟩, fun h => ⟨h.1, fun i hi j hj => h.2 i j hi hj⟩⟩
theorem ygo_iff {p : Nat → Nat} {last : Nat} : ygo T p last = true ↔ ∀ i j, i ≤ j → j ≤ last → ykn T i j last = true → (ysm T p i j last (yK T) - (p i : Int) * (p j : Int)) % 97 = 0 := by
  simp only [ygo, yg1, yallb_iff, Bool.or_eq_true, decide_eq_true_iff, Bool.not_eq_true']
  constructor
  · intro h i j h1 h2 h3
    rcases h i (by omega) j (by omega) with q | q | q
    · omega
    · rw [h3] at q; cases q
    · exact q
  · intro h i hi j hj
    by_cases c : j < i
    · exact Or.inl c
    · by_cases c2 : ykn T i j last = true
      · exact Or.inr (Or.inr (h i j (by omega) (by omega) c2))
      · exact Or.inr (Or.inl (by simpa using c2))
/-- a law's beginning goes -/
theorem yhm_go {l : List Nat} {v : Nat} {s : List Nat} (h : yhm T (l ++ v :: s) = true) (hl : l.length < yK T) : ygo T (ylv (l ++ [v])) l.length = true := by
  obtain ⟨_, h2⟩ := yhm_iff.mp h
  have ev : ∀ k, k ≤ l.length → ylv (l ++ [v]) k = ylv (l ++ v :: s) k := fun k hk => by
    have e : l ++ v :: s = (l ++ [v]) ++ s := by simp
    rw [e, ylv_lt (l := l ++ [v]) (by rw [List.length_append]; simp only [List.length_cons, List.length_nil]; omega)]
  refine ygo_iff.mpr (fun i j h1 h3 h4 => ?_)
  have := h2 i j (by omega) (by omega)
  rw [ev i (by omega), ev j h3]
  have e : ysm T (ylv (l ++ [v])) i j l.length (yK T) = ysum (fun k => yjn T i j k * (ylv (l ++ v :: s) k : Int)) (yK T) := by
    unfold ysm
    have : ∀ n, n ≤ yK T → ysum (fun k => if k ≤ l.length then yjn T i j k * (ylv (l ++ [v]) k : Int) else 0) n = ysum (fun k => yjn T i j k * (ylv (l ++ v :: s) k : Int)) n := by
      intro n
      induction n with
      | zero => intro _; rfl
      | succ n ih =>
        intro hn
        rw [ysum_s, ysum_s, ih (by omega)]
        by_cases c : n ≤ l.length
        · rw [if_pos c, ev n c]
        · rw [if_neg c]
          have := yallb_iff.mp h4 n (by omega)
          simp only [Bool.or_eq_true, decide_eq_true_iff] at this
          rcases this with q | q
          · rw [q, Int.zero_mul]
          · exact absurd q c
    exact this _ (Nat.le_refl _)
  rw [e]; exact this
/-- a whole row that goes is a law -/
theorem ygo_hm (V : yV T) {v : List Nat} (h0 : ylv v 0 = 1) (h : ygo T (ylv v) (yK T - 1) = true) : yhm T v = true := by
  have hK0 : 0 < yK T := by
    have := V.cl_lt V.m0; omega
  have key : ∀ i j, i ≤ j → j < yK T → (ysum (fun k => yjn T i j k * (ylv v k : Int)) (yK T) - (ylv v i : Int) * (ylv v j : Int)) % 97 = 0 := by
    intro i j h1 h2
    have := ygo_iff.mp h i j h1 (by omega) (yallb_iff.mpr (fun k hk => by
      rw [Bool.or_eq_true]; right; exact decide_eq_true (by omega)))
    have e : ysm T (ylv v) i j (yK T - 1) (yK T) = ysum (fun k => yjn T i j k * (ylv v k : Int)) (yK T) := by
      unfold ysm
      have : ∀ n, n ≤ yK T → ysum (fun k => if k ≤ yK T - 1 then yjn T i j k * (ylv v k : Int) else 0) n = ysum (fun k => yjn T i j k * (ylv v k : Int)) n := by
        intro n
        induction n with
        | zero => intro _; rfl
        | succ n ih => intro hn; rw [ysum_s, ysum_s, ih (by omega), if_pos (by omega)]
      exact this _ (Nat.le_refl _)
    rw [e] at this; exact this
  refine yhm_iff.mpr ⟨h0, fun i j hi hj => ?_⟩
  by_cases c : i ≤ j
  · exact key i j c hj
  · have := key j i (by omega) hi
    have e : ∀ n, n ≤ yK T → ysum (fun k => yjn T i j k * (ylv v k : Int)) n = ysum (fun k => yjn T j i k * (ylv v k : Int)) n := by
      intro n
      induction n with
      | zero => intro _; rfl
      | succ n ih => intro hn; rw [ysum_s, ysum_s, ih (by omega), V.jn_comm (i := i) (by omega)]
    rw [e _ (Nat.le_refl _), Int.mul_comm (ylv v i : Int)]; exact this
/-- what is left out can be of no law -/
def yopt (T : yT) (opts : Nat → List Nat) : Prop := opts 0 = [1] ∧ (∀ c, c < yK T → opts c = (List.range 97).filter (fun v => decide (v ∈ opts c))) ∧ ∀ c v, 0 < c → c < yK T → v < 97 → v ∉ opts c → ∀ w, ykr (ymx1 T c v) (yK T) w → ∀ k, k < yK T → w k % 97 = 0
theorem yopt.mem {opts : Nat → List Nat} (O : yopt T opts) {l : List Nat} {v : Nat} {s : List Nat} (hv : v < 97) (hl : l.length < yK T) (h : yhm T (l ++ v :: s) = true) : v ∈ opts l.length := by
  obtain ⟨o1, o2, o3⟩ := O
  obtain ⟨h1, h2⟩ := yhm_iff.mp h
  have ev := ylv_at l v s
  by_cases c0 : l.length = 0
  · rw [c0, o1]
    rw [c0, h1] at ev
    rw [← ev]; exact List.mem_singleton.mpr rfl
  · apply Classical.byContradiction
    intro hn
    have := o3 l.length v (by omega) hl hv hn (fun k => (ylv (l ++ v :: s) k : Int)) (fun j hj => ?_) 0 (by omega)
    · rw [h1] at this; omega
    · have e : ysum (fun k => ymx1 T l.length v j k * (ylv (l ++ v :: s) k : Int)) (yK T) % 97 = ysum (fun k => yjn T l.length j k * (ylv (l ++ v :: s) k : Int) - v * (if k = j then (ylv (l ++ v :: s) k : Int) else 0)) (yK T) % 97 := by
        refine ysum_mod (fun k _ => ?_)
        unfold ymx1
        rw [Int.mul_emod, Int.emod_emod_of_dvd _ (Int.dvd_refl 97), ← Int.mul_emod, Int.sub_mul]
        by_cases c : j = k
        · rw [if_pos c, if_pos c.symm]
        · rw [if_neg c, if_neg (fun z => c z.symm)]; simp
      rw [e, ysum_lin]
      have e2 : ∀ m, ysum (fun i => if i = j then (ylv (l ++ v :: s) i : Int) else 0) m = if j < m then (ylv (l ++ v :: s) j : Int) else 0 := by
        intro m
        induction m with
        | zero => rfl
        | succ m ihm =>
          rw [ysum_s, ihm]
          by_cases c1 : m = j
          · rw [if_pos c1, if_neg (by omega), if_pos (by omega), Int.zero_add, c1]
          · rw [if_neg c1, Int.add_zero]
            by_cases c2 : j < m
            · rw [if_pos c2, if_pos (by omega)]
            · rw [if_neg c2, if_neg (by omega)]
      rw [e2, if_pos hj]
      have := h2 l.length j hl hj
      rw [ev] at this
      exact this
theorem yflat_filter {α : Type} (p : Nat → Bool) (g : Nat → List α) (l : List Nat) (h : ∀ v ∈ l, p v = false → g v = []) : (l.filter p).flatMap g = l.flatMap g := by
  induction l with
  | nil => rfl
  | cons x l ih =>
    have ih := ih (fun v hv => h v (List.mem_cons_of_mem _ hv))
    by_cases c : p x = true
    · rw [List.filter_cons_of_pos c, List.flatMap_cons, List.flatMap_cons, ih]
    · rw [List.filter_cons_of_neg c, List.flatMap_cons, ih, h x List.mem_cons_self (by simpa using c)]; rfl
theorem yflat_congr {α : Type} {f g : Nat → List α} {l : List Nat} (h : ∀ v ∈ l, f v = g v) : l.flatMap f = l.flatMap g := by
  induction l with
  | nil => rfl
  | cons x l ih => rw [List.flatMap_cons, List.flatMap_cons, ih (fun v hv => h v (List.mem_cons_of_mem _ hv)), h x List.mem_cons_self]
/-- the search finds the laws, in their order -/
theorem ydf_all (V : yV T) {opts : Nat → List Nat} (O : yopt T opts) : ∀ n l, l.length + n = yK T → (l ≠ [] → ylv l 0 = 1 ∧ ygo T (ylv l) (l.length - 1) = true) → ydf T opts n l = ((yvec n).filter (fun s => yhm T (l ++ s))).map (l ++ ·) := by
  have hK0 : 0 < yK T := by
    have := V.cl_lt V.m0; omega
  intro n
  induction n with
  | zero =>
    intro l hl hg
    have hne : l ≠ [] := fun z => by rw [z] at hl; simp at hl; omega
    obtain ⟨g1, g2⟩ := hg hne
    rw [show l.length - 1 = yK T - 1 by omega] at g2
    have := ygo_hm V g1 g2
    simp [ydf, yvec, this]
  | succ n ih =>
    intro l hl hg
    have hc : l.length < yK T := by omega
    have e1 : ((yvec (n + 1)).filter (fun s => yhm T (l ++ s))).map (l ++ ·) = (List.range 97).flatMap (fun v => ((yvec n).filter (fun s => yhm T ((l ++ [v]) ++ s))).map ((l ++ [v]) ++ ·)) := by
      simp only [yvec, List.filter_flatMap, List.map_flatMap]
      congr 1
      funext v
      rw [List.filter_map, List.map_map]
      have e : (fun s => yhm T (l ++ s)) ∘ (fun l_1 => v :: l_1) = fun s => yhm T (l ++ [v] ++ s) := by funext s; simp
      have e' : (fun x => l ++ x) ∘ (fun l_1 => v :: l_1) = fun x => l ++ [v] ++ x := by funext s; simp
      rw [e, e']
    rw [e1, ← yflat_filter (fun v => decide (v ∈ opts l.length)) _ (List.range 97) (fun v hv hf => ?_), ← O.2.1 l.length hc]
    · show (opts l.length).flatMap _ = _
      refine yflat_congr (fun v hv => ?_)
      have hv97 : v < 97 := by
        rw [O.2.1 l.length hc] at hv
        exact List.mem_range.mp (List.mem_filter.mp hv).1
      by_cases c : ygo T (ylv (l ++ [v])) l.length = true
      · rw [if_pos c]
        refine ih (l ++ [v]) (by rw [List.length_append]; simp only [List.length_cons, List.length_nil]; omega) (fun _ => ⟨?_, ?_⟩)
        · by_cases c0 : l = []
          · subst c0
            have : v ∈ opts 0 := hv
            rw [O.1, List.mem_singleton] at this
            rw [this]; rfl
          · have hlen : 0 < l.length := List.length_pos_iff.mpr c0
            rw [ylv_lt hlen]; exact (hg c0).1
        · rw [show (l ++ [v]).length - 1 = l.length by simp]; exact c
      · rw [if_neg c]
        symm
        rw [List.map_eq_nil_iff, List.filter_eq_nil_iff]
        intro s hs z
        rw [show l ++ [v] ++ s = l ++ v :: s by simp] at z
        exact c (yhm_go z hc)
    · have hv := List.mem_range.mp hv
      have hf := of_decide_eq_false hf
      rw [List.map_eq_nil_iff, List.filter_eq_nil_iff]
      intro s hs z
      rw [show l ++ [v] ++ s = l ++ v :: s by simp] at z
      exact hf (O.mem hv hc z)
theorem ydf_laws (V : yV T) {opts : Nat → List Nat} (O : yopt T opts) : ydf T opts (yK T) [] = ylw T := by
  rw [ydf_all V O (yK T) [] (by simp) (fun z => absurd rfl z)]
  simp [ylw]
end
