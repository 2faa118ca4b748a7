/-! ===== maths: the component's search: seats filled one behind the other ===== -/
/-- k may come behind the row p: of the cell, free, and at the right distances -/
def ysqq (F : yF) (cl : Nat → Nat) (p : List Nat) (k : Nat) : Bool := !p.contains k && decide (cl k = cl p.length) && yallb (fun i => decide (ydist F i p.length = ydist F (ylv p i) k)) p.length
def yss (F : yF) (cl : Nat → Nat) : Nat → List Nat → List (List Nat)
  | 0, p => [p]
  | r + 1, p => (List.range F.1).flatMap (fun k => if ysqq F cl p k = true then yss F cl r (p ++ [k]) else [])
section
variable {F : yF} {cl : Nat → Nat}
theorem ylv_app1 (p : List Nat) (k i : Nat) : ylv (p ++ [k]) i = if i < p.length then ylv p i else if i = p.length then k else 0 := by
  unfold ylv
  by_cases c : i < p.length
  · rw [if_pos c, List.getElem?_append_left c]
  · rw [if_neg c, List.getElem?_append_right (by omega)]
    by_cases d : i = p.length
    · rw [if_pos d, d, Nat.sub_self]; rfl
    · rw [if_neg d]
      have : i - p.length ≠ 0 := by omega
      obtain ⟨j, hj⟩ : ∃ j, i - p.length = j + 1 := ⟨i - p.length - 1, by omega⟩
      rw [hj]; rfl
/-- what holds of a row that is filled so far -/
structure yPt (F : yF) (cl : Nat → Nat) (p : List Nat) : Prop where
  lt : ∀ i, i < p.length → ylv p i < F.1
  cl : ∀ i, i < p.length → cl (ylv p i) = cl i
  nd : p.Nodup
  ds : ∀ i j, i < j → j < p.length → ydist F i j = ydist F (ylv p i) (ylv p j)
theorem ymem_ylv {p : List Nat} {k : Nat} : k ∈ p ↔ ∃ i, i < p.length ∧ ylv p i = k := by
  rw [List.mem_iff_getElem]
  constructor
  · rintro ⟨i, hi, e⟩; exact ⟨i, hi, by unfold ylv; rw [List.getElem?_eq_getElem hi]; exact e⟩
  · rintro ⟨i, hi, e⟩; refine ⟨i, hi, ?_⟩; unfold ylv at e; rw [List.getElem?_eq_getElem hi] at e; exact e
theorem yPt.nil : yPt F cl [] := ⟨fun _ h => absurd h (Nat.not_lt_zero _), fun _ h => absurd h (Nat.not_lt_zero _), List.nodup_nil, fun _ _ _ h => absurd h (Nat.not_lt_zero _)⟩
theorem yPt_snoc {p : List Nat} {k : Nat} : yPt F cl (p ++ [k]) ↔ yPt F cl p ∧ k < F.1 ∧ ysqq F cl p k = true := by
  have len : (p ++ [k]).length = p.length + 1 := by simp
  have q : ysqq F cl p k = true ↔ k ∉ p ∧ cl k = cl p.length ∧ ∀ i, i < p.length → ydist F i p.length = ydist F (ylv p i) k := by
    unfold ysqq
    simp only [Bool.and_eq_true, decide_eq_true_iff, yallb_iff, Bool.not_eq_true', List.contains_eq_mem, decide_eq_false_iff_not, and_assoc]
  rw [q]
  have at1 : ∀ i, i < p.length → ylv (p ++ [k]) i = ylv p i := fun i hi => by rw [ylv_app1, if_pos hi]
  have at2 : ylv (p ++ [k]) p.length = k := by rw [ylv_app1, if_neg (by omega), if_pos rfl]
  constructor
  · intro h
    refine ⟨⟨fun i hi => ?_, fun i hi => ?_, (List.nodup_append.mp h.nd).1, fun i j hi hj => ?_⟩, ?_, fun z => ?_, ?_, fun i hi => ?_⟩
    · have := h.lt i (by omega); rw [at1 i hi] at this; exact this
    · have := h.cl i (by omega); rw [at1 i hi] at this; exact this
    · have := h.ds i j hi (by omega); rw [at1 i (by omega), at1 j hj] at this; exact this
    · have := h.lt p.length (by omega); rw [at2] at this; exact this
    · exact (List.nodup_append.mp h.nd).2.2 k z k (by simp) rfl
    · have := h.cl p.length (by omega); rw [at2] at this; exact this
    · have := h.ds i p.length hi (by omega); rw [at1 i hi, at2] at this; exact this
  · rintro ⟨h, hk, nk, ck, dk⟩
    refine ⟨fun i hi => ?_, fun i hi => ?_, ?_, fun i j hi hj => ?_⟩
    · by_cases c : i < p.length
      · rw [at1 i c]; exact h.lt i c
      · have : i = p.length := by omega
        rw [this, at2]; exact hk
    · by_cases c : i < p.length
      · rw [at1 i c]; exact h.cl i c
      · have : i = p.length := by omega
        rw [this, at2]; exact ck
    · refine List.nodup_append.mpr ⟨h.nd, by simp, fun a ha b hb z => ?_⟩
      have : b = k := by simpa using hb
      rw [this] at z; rw [z] at ha; exact nk ha
    · by_cases c : j < p.length
      · rw [at1 i (by omega), at1 j c]; exact h.ds i j hi c
      · have : j = p.length := by omega
        rw [this, at2, at1 i (by omega)]; exact dk i (by omega)
theorem yss_mem : ∀ (r : Nat) (p l : List Nat), yPt F cl p → (l ∈ yss F cl r p ↔ l.length = p.length + r ∧ l.take p.length = p ∧ yPt F cl l) := by
  intro r
  induction r with
  | zero =>
    intro p l hp
    simp only [yss, List.mem_singleton, Nat.add_zero]
    constructor
    · rintro rfl; exact ⟨rfl, List.take_length, hp⟩
    · rintro ⟨h1, h2, _⟩; rw [← h2, ← h1, List.take_length]
  | succ r ih =>
    intro p l hp
    simp only [yss, List.mem_flatMap, List.mem_range]
    constructor
    · rintro ⟨k, hk, hl⟩
      split at hl
      · rename_i q
        have hp' := yPt_snoc.mpr ⟨hp, hk, q⟩
        obtain ⟨h1, h2, h3⟩ := (ih (p ++ [k]) l hp').mp hl
        have len : (p ++ [k]).length = p.length + 1 := by simp
        rw [len] at h1 h2
        refine ⟨by omega, ?_, h3⟩
        have : (l.take (p.length + 1)).take p.length = (p ++ [k]).take p.length := by rw [h2]
        rw [List.take_take, Nat.min_eq_left (by omega)] at this
        rw [this]; simp
      · exact absurd hl List.not_mem_nil
    · rintro ⟨h1, h2, h3⟩
      have hl : p.length < l.length := by omega
      have tk : l.take (p.length + 1) = p ++ [l[p.length]] := by
        rw [List.take_succ_eq_append_getElem hl, h2]
      have pre : yPt F cl (l.take (p.length + 1)) := by
        have tl : (l.take (p.length + 1)).length = p.length + 1 := by rw [List.length_take]; omega
        have tv : ∀ i, i < p.length + 1 → ylv (l.take (p.length + 1)) i = ylv l i := fun i hi => by unfold ylv; rw [List.getElem?_take_of_lt hi]
        refine ⟨fun i hi => ?_, fun i hi => ?_, h3.nd.sublist (List.take_sublist _ _), fun i j hi hj => ?_⟩
        · rw [tl] at hi; rw [tv i hi]; exact h3.lt i (by omega)
        · rw [tl] at hi; rw [tv i hi]; exact h3.cl i (by omega)
        · rw [tl] at hj; rw [tv i (by omega), tv j hj]; exact h3.ds i j hi (by omega)
      rw [tk] at pre
      have sn := yPt_snoc.mp pre
      refine ⟨l[p.length], sn.2.1, ?_⟩
      rw [if_pos sn.2.2]
      refine (ih _ l pre).mpr ⟨by simp; omega, ?_, h3⟩
      rw [show (p ++ [l[p.length]]).length = p.length + 1 by simp, tk]
/-- rows in the order of their first difference -/
def ylx9 (a b : List Nat) : Prop := ∃ i, i < a.length ∧ i < b.length ∧ (∀ j, j < i → ylv a j = ylv b j) ∧ ylv a i < ylv b i
theorem yss_sorted : ∀ (r : Nat) (p : List Nat), (yss F cl r p).Pairwise ylx9 ∧ ∀ l ∈ yss F cl r p, p.length ≤ l.length ∧ ∀ j, j < p.length → ylv l j = ylv p j := by
  intro r
  induction r with
  | zero =>
    intro p
    simp only [yss, List.mem_singleton]
    exact ⟨List.pairwise_singleton _ _, fun l e => by rw [e]; exact ⟨Nat.le_refl _, fun _ _ => rfl⟩⟩
  | succ r ih =>
    intro p
    have sp : ∀ k l, l ∈ (if ysqq F cl p k = true then yss F cl r (p ++ [k]) else []) → p.length + 1 ≤ l.length ∧ (∀ j, j < p.length → ylv l j = ylv p j) ∧ ylv l p.length = k := fun k l hl => by
      split at hl
      · obtain ⟨a, b⟩ := (ih (p ++ [k])).2 l hl
        have len : (p ++ [k]).length = p.length + 1 := by simp
        rw [len] at a b
        refine ⟨a, fun j hj => ?_, ?_⟩
        · rw [b j (by omega), ylv_app1, if_pos hj]
        · rw [b p.length (by omega), ylv_app1, if_neg (by omega), if_pos rfl]
      · exact absurd hl List.not_mem_nil
    simp only [yss]
    constructor
    · rw [List.pairwise_flatMap]
      refine ⟨fun k _ => ?_, List.Pairwise.imp (R := fun a b => a < b) (fun {a b} lt x hx y hy => ?_) List.pairwise_lt_range⟩
      · split
        · exact (ih _).1
        · exact List.Pairwise.nil
      · have hx := sp a x hx
        have hy := sp b y hy
        exact ⟨p.length, by omega, by omega, fun j hj => by rw [hx.2.1 j hj, hy.2.1 j hj], by rw [hx.2.2, hy.2.2]; exact lt⟩
    · intro l hl
      obtain ⟨k, _, hl⟩ := List.mem_flatMap.mp hl
      have := sp k l hl
      exact ⟨by omega, this.2.1⟩
end
/-- the cells at their end, as numbers -/
noncomputable def ycln (F : yF) (k : Nat) : Nat := (ycl F k).toNat
/-- rows of the component's search -/
noncomputable def yrws (F : yF) : List (List Nat) := yss F (ycln F) F.1 []
/-- its maps: rows with their hands -/
noncomputable def ycps (F : yF) : List (List Nat × Int) := (yrws F).flatMap (fun l => if yQ4 F = -1 then [(l, 1), (l, -1)] else [(l, yhd F (ylv l))])
theorem ycb_iff {F : yF} {k o : Nat} : ycb F k o = true ↔ yC F k o := @decide_eq_true_iff _ (Classical.propDecidable _)
section
variable {F : yF}
theorem ycl_keep (hW : yW F) {π : Nat → Nat} (h : yIs F π) {k : Nat} (hk : k < F.1) : ycl F (π k) = ycl F k := by
  have hp : yplaced F := hW.2.2.1
  unfold ycl
  refine yfind_congr fun o _ ho => ?_
  rw [Bool.eq_iff_iff, ycb_iff, ycb_iff]
  have : yC F (π k) o ↔ yC F k o := by
    unfold yC
    have key : ∀ t, yit F t (π k) o = true ↔ yit F t k o = true := fun t => by
      have E := yit_eq hp t
      have i := h.it hW t k hk
      exact ⟨fun g => E.t k _ o hk (h.lt k hk) (by omega) i g, fun g => E.t _ k o (h.lt k hk) hk (by omega) (E.s _ _ hk (h.lt k hk) i) g⟩
    exact ⟨fun g t => (key t).mp (g t), fun g t => (key t).mpr (g t)⟩
  exact this
theorem ycl_kind (hp : yplaced F) {a b : Nat} (ha : a < F.1) (hb : b < F.1) (h : ycl F a = ycl F b) : F.2 a 0 = F.2 b 0 := by
  have sp : ∀ k, k < F.1 → ∃ o, o < F.1 ∧ ycl F k = (o : Int) ∧ yC F k o := fun k hk => by
    have rf : ycb F k k = true := by
      rw [ycb_iff]; intro t
      exact (yit_eq hp t).r k hk
    obtain ⟨s1, s2, _, s4⟩ := yfn_spec (q := ycb F k) (n := F.1) ⟨k, hk, rf⟩
    refine ⟨_, s1, s4, ?_⟩
    exact ycb_iff.mp s2
  obtain ⟨o, ho, e, c⟩ := sp a ha
  obtain ⟨o', ho', e', c'⟩ := sp b hb
  rw [e, e'] at h
  have : o = o' := by omega
  subst this
  have q1 := c 0; have q2 := c' 0
  simp only [yit, decide_eq_true_iff] at q1 q2
  rw [q1, q2]
theorem ycln_bd (hp : yplaced F) {k : Nat} (hk : k < F.1) : (ycln F k : Int) = ycl F k ∧ ycln F k < F.1 := by
  have rf : ycb F k k = true := by
    rw [ycb_iff]; intro t
    exact (yit_eq hp t).r k hk
  obtain ⟨s1, s2, _, s4⟩ := yfn_spec (q := ycb F k) (n := F.1) ⟨k, hk, rf⟩
  have : ycln F k = yfn (ycb F k) F.1 := by unfold ycln ycl; rw [s4]; rfl
  rw [this]; exact ⟨s4.symm, s1⟩
/-- the search finds just the rigid maps -/
theorem yrws_mem (hW : yW F) {l : List Nat} : l ∈ yrws F ↔ l.length = F.1 ∧ yIs F (ylv l) := by
  have hp : yplaced F := hW.2.2.1
  unfold yrws
  rw [yss_mem F.1 [] l yPt.nil]
  simp only [List.length_nil, Nat.zero_add, List.take_zero, true_and]
  refine and_congr_right fun hl => ?_
  constructor
  · intro h
    refine ⟨fun k hk => h.lt k (by omega), fun k hk => ?_, fun k j hk hj => ?_⟩
    · have := h.cl k (by omega)
      have a := ycln_bd hp (h.lt k (by omega))
      have b := ycln_bd hp hk
      exact ycl_kind hp (h.lt k (by omega)) hk (by omega)
    · rcases Nat.lt_trichotomy k j with q | q | q
      · exact (h.ds k j q (by omega)).symm
      · rw [q]; unfold ydist; grind
      · rw [ydist_comm, ydist_comm F k j]; exact (h.ds j k q (by omega)).symm
  · intro h
    refine ⟨fun i hi => h.lt i (by omega), fun i hi => ?_, ?_, fun i j hi hj => (h.ds i j (by omega) (by omega)).symm⟩
    · unfold ycln; rw [ycl_keep hW h (by omega)]
    · rw [List.nodup_iff_pairwise_ne, List.pairwise_iff_getElem]
      intro i j hi hj lt z
      have e : ∀ i (hi : i < l.length), ylv l i = l[i] := fun i hi => by unfold ylv; rw [List.getElem?_eq_getElem hi]; rfl
      have := h.inj hW (k := i) (j := j) (by omega) (by omega) (by rw [e i hi, e j hj, z])
      omega
/-- the component's maps are the model's, in the same order -/
theorem ycps_ord (hW : yW F) (h3 : y3 F ≠ -1) : (ycps F).map (fun q => yopOf F (ylv q.1) q.2) = yord F := by
  have go : ∀ q ∈ ycps F, q.1.length = F.1 ∧ yGo F (ylv q.1) q.2 := fun q hq => by
    obtain ⟨l, hl, hq⟩ := List.mem_flatMap.mp hq
    have hl := (yrws_mem hW).mp hl
    split at hq
    · rename_i c
      rcases List.mem_cons.mp hq with z | z
      · rw [z]; exact ⟨hl.1, hl.2, Or.inl rfl, fun n => absurd c n⟩
      · have z := List.mem_singleton.mp z
        rw [z]; exact ⟨hl.1, hl.2, Or.inr rfl, fun n => absurd c n⟩
    · have z := List.mem_singleton.mp hq
      rw [z]; exact ⟨hl.1, hl.2, yhd_s F _, fun _ => rfl⟩
  have srt : ((ycps F).map (fun q => yopOf F (ylv q.1) q.2)).Pairwise (fun x y => yahd F.1 x y = true) := by
    rw [List.pairwise_map]
    have pw : (ycps F).Pairwise (fun p q => ylx9 p.1 q.1 ∨ p.1 = q.1 ∧ q.2 < p.2) := by
      unfold ycps
      rw [List.pairwise_flatMap]
      refine ⟨fun l _ => ?_, List.Pairwise.imp (fun {a b} h x hx y hy => Or.inl ?_) (yss_sorted F.1 []).1⟩
      · split
        · refine List.Pairwise.cons (fun q hq => ?_) (List.pairwise_singleton _ _)
          rw [List.mem_singleton.mp hq]; exact Or.inr ⟨rfl, show (-1 : Int) < 1 by decide⟩
        · exact List.pairwise_singleton _ _
      · have fst : ∀ l (x : List Nat × Int), x ∈ (if yQ4 F = -1 then [(l, (1 : Int)), (l, -1)] else [(l, yhd F (ylv l))]) → x.1 = l := fun l x hx => by
          split at hx
          · rcases List.mem_cons.mp hx with z | z
            · rw [z]
            · rw [List.mem_singleton.mp z]
          · rw [List.mem_singleton.mp hx]
        rw [fst a x hx, fst b y hy]; exact h
    refine List.Pairwise.imp_of_mem (fun {p q} hp hq h => ?_) pw
    obtain ⟨lp, gp⟩ := go p hp
    obtain ⟨lq, gq⟩ := go q hq
    rw [yahd_iff]
    rcases h with ⟨i, hi, _, hj, hlt⟩ | ⟨e, lt⟩
    · left
      refine ⟨i, by omega, fun j hj' => ?_, ?_⟩
      · rw [yopOf_row hW h3 gp (by omega), yopOf_row hW h3 gq (by omega), hj j hj']
      · rw [yopOf_row hW h3 gp (by omega), yopOf_row hW h3 gq (by omega)]; omega
    · right
      exact ⟨fun j hj => by rw [yopOf_row hW h3 gp hj, yopOf_row hW h3 gq hj, e], lt⟩
  have mem : ∀ x, x ∈ (ycps F).map (fun q => yopOf F (ylv q.1) q.2) ↔ x ∈ yord F := fun x => by
    rw [(yord_perm F).mem_iff, yops_mem hW h3]
    constructor
    · intro hx
      obtain ⟨q, hq, e⟩ := List.mem_map.mp hx
      exact ⟨ylv q.1, q.2, (go q hq).2, e.symm⟩
    · rintro ⟨π, sg, g, rfl⟩
      let l := (List.range F.1).map π
      have ll : l.length = F.1 := by simp [l]
      have lv : ∀ k, k < F.1 → ylv l k = π k := fun k hk => by
        show (((List.range F.1).map π)[k]?).getD 0 = π k
        rw [List.getElem?_map, List.getElem?_range hk]; rfl
      have il : yIs F (ylv l) := ⟨fun k hk => by rw [lv k hk]; exact g.is.lt k hk, fun k hk => by rw [lv k hk]; exact g.is.kd k hk, fun k j hk hj => by rw [lv k hk, lv j hj]; exact g.is.ds k j hk hj⟩
      refine List.mem_map.mpr ⟨(l, sg), List.mem_flatMap.mpr ⟨l, (yrws_mem hW).mpr ⟨ll, il⟩, ?_⟩, yopOf_key h3 (fun k hk => lv k hk) rfl⟩
      have b3 := yQ3_bd h3
      split
      · rcases g.s1 with q | q <;> rw [q] <;> simp
      · rename_i c
        have b4 := yQ4_bd c
        rw [g.hd c, yhd_congr (π := ylv l) (ρ := π) (lv 0 (by omega)) (lv 1 (by omega)) (lv _ (by omega)) (lv _ (by omega))]
        exact List.mem_singleton.mpr rfl
  -- two lists, each in strict order, with the same members
  have uniq : ∀ (a b : List yO), a.Pairwise (fun x y => yahd F.1 x y = true) → b.Pairwise (fun x y => yahd F.1 x y = true) → (∀ x, x ∈ a ↔ x ∈ b) → a = b := by
    intro a
    induction a with
    | nil => intro b _ _ h; cases b with
      | nil => rfl
      | cons y b => exact absurd ((h y).mpr List.mem_cons_self) List.not_mem_nil
    | cons x a ih =>
      intro b pa pb h
      cases b with
      | nil => exact absurd ((h x).mp List.mem_cons_self) List.not_mem_nil
      | cons y b =>
        have pa := List.pairwise_cons.mp pa
        have pb := List.pairwise_cons.mp pb
        have xy : x = y := by
          rcases List.mem_cons.mp ((h x).mp List.mem_cons_self) with q | q
          · exact q
          · rcases List.mem_cons.mp ((h y).mpr List.mem_cons_self) with r | r
            · exact r.symm
            · have s1 := pb.1 x q
              have s2 := pa.1 y r
              rw [yahd_asymm s1] at s2; cases s2
        subst xy
        refine congrArg (x :: ·) (ih b pa.2 pb.2 fun z => ?_)
        have irr : ∀ {l : List yO}, (∀ y ∈ l, yahd F.1 x y = true) → x ∉ l := fun hl hx => by
          have := hl x hx
          rw [yahd_irrefl] at this; cases this
        constructor
        · intro hz
          rcases List.mem_cons.mp ((h z).mp (List.mem_cons_of_mem _ hz)) with q | q
          · rw [q] at hz; exact absurd hz (irr pa.1)
          · exact q
        · intro hz
          rcases List.mem_cons.mp ((h z).mpr (List.mem_cons_of_mem _ hz)) with q | q
          · rw [q] at hz; exact absurd hz (irr pb.1)
          · exact q
  exact uniq _ _ srt (yord_lt hW) mem
end
