/-! ===== M runs: zgo n: n instructions of one method; zret d: a call, d frames deep at most ===== -/
def zgo (pr : Nat → zAct) (C : zC) : Nat → Nat → List zV → List zV → zH → zO → zH → Prop
  | 0, _, _, _, _, _, _ => False
  | n + 1, pc, L, S, h, o, h' => (zsz h ≤ zsz h' ∧ zN h ≤ zN h') ∧ pr pc C L S h (fun pc' L' S' h1 => zgo pr C n pc' L' S' h1 o h') (fun o1 h1 => o1 = o ∧ h1 = h')
def zsl : List zV → List zV
  | [] => []
  | Sum.inr (Sum.inr (Sum.inl x)) :: r => Sum.inr (Sum.inr (Sum.inl x)) :: zj :: zsl r
  | v :: r => v :: zsl r
def zent (n : Nat) (args : List zV) : List zV := zsl args ++ List.replicate (n - (zsl args).length) zj
def zret (pr : Nat → Nat → zAct) (ml : Nat → Nat) : Nat → zC
  | 0 => fun _ _ _ _ _ => False
  | d + 1 => fun m args h o h' => (zsl args).length ≤ ml m ∧ ∃ n, zgo (pr m) (zret pr ml d) n 0 (zent (ml m) args) [] h o h'
def zgoP (pr : Nat → zAct) (C : zC) (pc : Nat) (L S : List zV) (h : zH) (P : zEt) : Prop := ∃ n o h', zgo pr C n pc L S h o h' ∧ P o h'
def zcallP (pr : Nat → Nat → zAct) (ml : Nat → Nat) (d m : Nat) (args : List zV) (h : zH) (P : zEt) : Prop := ∃ o h', zret pr ml d m args h o h' ∧ P o h'
def zCm (C : zC) : Prop := ∀ m a g o g', C m a g o g' → zsz g ≤ zsz g' ∧ zN g ≤ zN g'
theorem zgo_mono {pr : Nat → zAct} {C : zC} {n pc : Nat} {L S : List zV} {h : zH} {o : zO} {h' : zH} (k : zgo pr C n pc L S h o h') : zsz h ≤ zsz h' ∧ zN h ≤ zN h' := by
  cases n with
  | zero => exact absurd k (fun z => z)
  | succ n => exact k.1
theorem zret_mono (pr : Nat → Nat → zAct) (ml : Nat → Nat) (d : Nat) : zCm (zret pr ml d) := by
  intro m a g o g' k
  cases d with
  | zero => exact absurd k (fun z => z)
  | succ d => exact zgo_mono k.2.choose_spec
/-- an action that goes on to, or ends in, some of the states that its own relations tell -/
def zLinAt (h : zH) (f : zKt → zEt → Prop) : Prop :=
  ∃ (N : zKt) (M : zEt), (∀ p L S h1, N p L S h1 → zsz h ≤ zsz h1 ∧ zN h ≤ zN h1) ∧ (∀ o h1, M o h1 → zsz h ≤ zsz h1 ∧ zN h ≤ zN h1) ∧
    ∀ (K : zKt) (E : zEt), f K E ↔ (∃ p L S h1, N p L S h1 ∧ K p L S h1) ∨ (∃ o h1, M o h1 ∧ E o h1)
def zLin (act : zAct) : Prop := ∀ (C : zC) (L S : List zV) (h : zH), zCm C → zLinAt h (act C L S h)
theorem lin_F {h : zH} : zLinAt h (fun _ _ => False) :=
  ⟨fun _ _ _ _ => False, fun _ _ => False, fun _ _ _ _ k => k.elim, fun _ _ k => k.elim, fun _ _ => ⟨fun k => k.elim, fun k => by rcases k with ⟨_, _, _, _, k, _⟩ | ⟨_, _, k, _⟩ <;> exact k.elim⟩⟩
theorem lin_K {h h1 : zH} (p : Nat) (L S : List zV) (k1 : zsz h ≤ zsz h1) (k2 : zN h ≤ zN h1) : zLinAt h (fun K _ => K p L S h1) :=
  ⟨fun p' L' S' h' => p' = p ∧ L' = L ∧ S' = S ∧ h' = h1, fun _ _ => False, fun _ _ _ _ k => by obtain ⟨-, -, -, rfl⟩ := k; exact ⟨k1, k2⟩, fun _ _ k => k.elim,
    fun K _ => ⟨fun k => Or.inl ⟨p, L, S, h1, ⟨rfl, rfl, rfl, rfl⟩, k⟩, fun k => by
      rcases k with ⟨_, _, _, _, ⟨rfl, rfl, rfl, rfl⟩, k⟩ | ⟨_, _, k, _⟩
      · exact k
      · exact k.elim⟩⟩
theorem lin_E {h h1 : zH} (o : zO) (k1 : zsz h ≤ zsz h1) (k2 : zN h ≤ zN h1) : zLinAt h (fun _ E => E o h1) :=
  ⟨fun _ _ _ _ => False, fun o' h' => o' = o ∧ h' = h1, fun _ _ _ _ k => k.elim, fun _ _ k => by obtain ⟨-, rfl⟩ := k; exact ⟨k1, k2⟩,
    fun K _ => ⟨fun k => Or.inr ⟨o, h1, ⟨rfl, rfl⟩, k⟩, fun k => by
      rcases k with ⟨_, _, _, _, k, _⟩ | ⟨_, _, ⟨rfl, rfl⟩, k⟩
      · exact k.elim
      · exact k⟩⟩
theorem lin_and {h : zH} {c : Prop} {f : zKt → zEt → Prop} (k : zLinAt h f) : zLinAt h (fun K E => c ∧ f K E) := by
  obtain ⟨N, M, h1, h2, h3⟩ := k
  refine ⟨fun p L S h' => c ∧ N p L S h', fun o h' => c ∧ M o h', fun p L S h' k => h1 p L S h' k.2, fun o h' k => h2 o h' k.2, fun K E => ?_⟩
  show c ∧ f K E ↔ _
  rw [h3]
  constructor
  · rintro ⟨hc, ⟨p, L, S, h', a, b⟩ | ⟨o, h', a, b⟩⟩
    · exact Or.inl ⟨p, L, S, h', ⟨hc, a⟩, b⟩
    · exact Or.inr ⟨o, h', ⟨hc, a⟩, b⟩
  · rintro (⟨p, L, S, h', ⟨hc, a⟩, b⟩ | ⟨o, h', ⟨hc, a⟩, b⟩)
    · exact ⟨hc, Or.inl ⟨p, L, S, h', a, b⟩⟩
    · exact ⟨hc, Or.inr ⟨o, h', a, b⟩⟩
theorem lin_ex {h : zH} {α : Type} {f : α → zKt → zEt → Prop} (k : ∀ x, zLinAt h (f x)) : zLinAt h (fun K E => ∃ x, f x K E) := by
  refine ⟨fun p L S h' => ∃ x, (k x).choose p L S h', fun o h' => ∃ x, (k x).choose_spec.choose o h', fun p L S h' q => ?_, fun o h' q => ?_, fun K E => ?_⟩
  · obtain ⟨x, q⟩ := q
    exact (k x).choose_spec.choose_spec.1 p L S h' q
  · obtain ⟨x, q⟩ := q
    exact (k x).choose_spec.choose_spec.2.1 o h' q
  · constructor
    · rintro ⟨x, q⟩
      rcases ((k x).choose_spec.choose_spec.2.2 K E).mp q with ⟨p, L, S, h', a, b⟩ | ⟨o, h', a, b⟩
      · exact Or.inl ⟨p, L, S, h', ⟨x, a⟩, b⟩
      · exact Or.inr ⟨o, h', ⟨x, a⟩, b⟩
    · rintro (⟨p, L, S, h', ⟨x, a⟩, b⟩ | ⟨o, h', ⟨x, a⟩, b⟩)
      · exact ⟨x, ((k x).choose_spec.choose_spec.2.2 K E).mpr (Or.inl ⟨p, L, S, h', a, b⟩)⟩
      · exact ⟨x, ((k x).choose_spec.choose_spec.2.2 K E).mpr (Or.inr ⟨o, h', a, b⟩)⟩
/-- a choice by a condition: both sides are linear -/
theorem lin_or {h : zH} {c : Prop} {f g : zKt → zEt → Prop} (k1 : zLinAt h f) (k2 : zLinAt h g) : zLinAt h (fun K E => (c → f K E) ∧ (¬ c → g K E)) := by
  by_cases hc : c
  · obtain ⟨N, M, h1, h2, h3⟩ := k1
    exact ⟨N, M, h1, h2, fun K E => by rw [← h3]; exact ⟨fun q => q.1 hc, fun q => ⟨fun _ => q, fun n => absurd hc n⟩⟩⟩
  · obtain ⟨N, M, h1, h2, h3⟩ := k2
    exact ⟨N, M, h1, h2, fun K E => by rw [← h3]; exact ⟨fun q => q.2 hc, fun q => ⟨fun n => absurd n hc, fun _ => q⟩⟩⟩
theorem lin_aft {h h1 : zH} (nx : Nat) (hs : zHs) (L R : List zV) (o : zO) (k1 : zsz h ≤ zsz h1) (k2 : zN h ≤ zN h1) : zLinAt h (fun K E => zaft nx hs L R o h1 K E) := by
  unfold zaft
  split
  · exact lin_K _ _ _ k1 k2
  · exact lin_K _ _ _ k1 k2
  · split
    · exact lin_K _ _ _ k1 k2
    · exact lin_E _ k1 k2
    · exact lin_F
/-- a call: what comes back is no smaller -/
theorem lin_call {h : zH} {C : zC} (hC : zCm C) (m : Nat) (a : List zV) {f : zO → zH → zKt → zEt → Prop} (k : ∀ o h1, zsz h ≤ zsz h1 → zN h ≤ zN h1 → zLinAt h (f o h1)) :
    zLinAt h (fun K E => ∃ o h1, C m a h o h1 ∧ f o h1 K E) := by
  refine lin_ex fun o => lin_ex fun h1 => ?_
  by_cases q : C m a h o h1
  · exact lin_and (k o h1 (hC _ _ _ _ _ q).1 (hC _ _ _ _ _ q).2)
  · obtain ⟨N, M, h1', h2', h3'⟩ := lin_F (h := h)
    refine ⟨N, M, h1', h2', fun K E => ?_⟩
    rw [← h3']
    exact ⟨fun z => q z.1, fun z => z.elim⟩
/-- the equation of a step -/
theorem zgo_iff {pr : Nat → zAct} {C : zC} {pc : Nat} {act : zAct} (hp : pr pc = act) (hl : zLin act) (hC : zCm C) {L S : List zV} {h : zH} {P : zEt} :
    zgoP pr C pc L S h P ↔ act C L S h (fun p L' S' h1 => zgoP pr C p L' S' h1 P) P := by
  obtain ⟨N, M, h1, h2, h3⟩ := hl C L S h hC
  rw [h3]
  constructor
  · rintro ⟨n, o, h', k, q⟩
    cases n with
    | zero => exact absurd k (fun z => z)
    | succ n =>
      have k2 := k.2
      rw [hp] at k2
      rcases (h3 _ _).mp k2 with ⟨p, L', S', g, a, b⟩ | ⟨o1, g, a, rfl, rfl⟩
      · exact Or.inl ⟨p, L', S', g, a, n, o, h', b, q⟩
      · exact Or.inr ⟨_, _, a, q⟩
  · rintro (⟨p, L', S', g, a, n, o, h', b, q⟩ | ⟨o, g, a, q⟩)
    · have m1 := h1 _ _ _ _ a
      have m2 := zgo_mono b
      refine ⟨n + 1, o, h', ⟨⟨by omega, by omega⟩, ?_⟩, q⟩
      rw [hp]
      exact (h3 _ _).mpr (Or.inl ⟨p, L', S', g, a, b⟩)
    · refine ⟨1, o, g, ⟨h2 _ _ a, ?_⟩, q⟩
      rw [hp]
      exact (h3 _ _).mpr (Or.inr ⟨o, g, a, rfl, rfl⟩)
theorem zcall_iff {pr : Nat → Nat → zAct} {ml : Nat → Nat} {d m : Nat} {args : List zV} {h : zH} {P : zEt} :
    zcallP pr ml (d + 1) m args h P ↔ (zsl args).length ≤ ml m ∧ zgoP (pr m) (zret pr ml d) 0 (zent (ml m) args) [] h P := by
  constructor
  · rintro ⟨o, h', ⟨hl, n, k⟩, q⟩
    exact ⟨hl, n, o, h', k, q⟩
  · rintro ⟨hl, n, o, h', k, q⟩
    exact ⟨o, h', ⟨hl, n, k⟩, q⟩
theorem zgoP_mono {pr : Nat → zAct} {C : zC} {pc : Nat} {L S : List zV} {h : zH} {P Q : zEt} (k : zgoP pr C pc L S h P) (hq : ∀ o h', P o h' → Q o h') : zgoP pr C pc L S h Q := by
  obtain ⟨n, o, h', a, b⟩ := k
  exact ⟨n, o, h', a, hq _ _ b⟩
theorem zcallP_mono {pr : Nat → Nat → zAct} {ml : Nat → Nat} {d m : Nat} {args : List zV} {h : zH} {P Q : zEt} (k : zcallP pr ml d m args h P) (hq : ∀ o h', P o h' → Q o h') : zcallP pr ml d m args h Q := by
  obtain ⟨o, h', a, b⟩ := k
  exact ⟨o, h', a, hq _ _ b⟩
/-- a call within a run: what is known of the callee is enough -/
theorem zaft_call {C : zC} {m : Nat} {a : List zV} {h : zH} {nx : Nat} {hs : zHs} {L R : List zV} {K : zKt} {E : zEt} :
    (∃ o h1, C m a h o h1 ∧ zaft nx hs L R o h1 K E) ↔ ∃ o h1, C m a h o h1 ∧ zaft nx hs L R o h1 K E := Iff.rfl
/-! every action is linear -/
theorem lin_no : zLin za_no := fun _ _ _ _ _ => lin_F
theorem lin_push (v nx) : zLin (za_push v nx) := fun _ _ _ _ _ => lin_K _ _ _ (Nat.le_refl _) (Nat.le_refl _)
theorem lin_ldi (i nx) : zLin (za_ldi i nx) := by
  intro C L S h hC; unfold za_ldi; split
  · exact lin_K _ _ _ (Nat.le_refl _) (Nat.le_refl _)
  · exact lin_F
theorem lin_ldr (i nx) : zLin (za_ldr i nx) := by
  intro C L S h hC; unfold za_ldr; split
  · exact lin_K _ _ _ (Nat.le_refl _) (Nat.le_refl _)
  · exact lin_F
theorem lin_ldl (i nx) : zLin (za_ldl i nx) := by
  intro C L S h hC; unfold za_ldl; split
  · exact lin_K _ _ _ (Nat.le_refl _) (Nat.le_refl _)
  · exact lin_F
theorem lin_sti (i nx) : zLin (za_sti i nx) := by
  intro C L S h hC; unfold za_sti; split
  · exact lin_and (lin_K _ _ _ (Nat.le_refl _) (Nat.le_refl _))
  · exact lin_F
theorem lin_str (i nx) : zLin (za_str i nx) := by
  intro C L S h hC; unfold za_str; split
  · exact lin_and (lin_K _ _ _ (Nat.le_refl _) (Nat.le_refl _))
  · exact lin_F
theorem lin_stl (i nx) : zLin (za_stl i nx) := by
  intro C L S h hC; unfold za_stl; split
  · exact lin_and (lin_K _ _ _ (Nat.le_refl _) (Nat.le_refl _))
  · exact lin_F
theorem lin_inc (i c nx) : zLin (za_inc i c nx) := by
  intro C L S h hC; unfold za_inc; split
  · exact lin_K _ _ _ (Nat.le_refl _) (Nat.le_refl _)
  · exact lin_F
theorem lin_i1 (f nx) : zLin (za_i1 f nx) := by
  intro C L S h hC; unfold za_i1; split
  · exact lin_K _ _ _ (Nat.le_refl _) (Nat.le_refl _)
  · exact lin_F
theorem lin_i2 (f nx) : zLin (za_i2 f nx) := by
  intro C L S h hC; unfold za_i2; split
  · exact lin_K _ _ _ (Nat.le_refl _) (Nat.le_refl _)
  · exact lin_F
theorem lin_l1 (f nx) : zLin (za_l1 f nx) := by
  intro C L S h hC; unfold za_l1; split
  · exact lin_K _ _ _ (Nat.le_refl _) (Nat.le_refl _)
  · exact lin_F
theorem lin_l2 (f nx) : zLin (za_l2 f nx) := by
  intro C L S h hC; unfold za_l2; split
  · exact lin_K _ _ _ (Nat.le_refl _) (Nat.le_refl _)
  · exact lin_F
theorem lin_lsh (f nx) : zLin (za_lsh f nx) := by
  intro C L S h hC; unfold za_lsh; split
  · exact lin_K _ _ _ (Nat.le_refl _) (Nat.le_refl _)
  · exact lin_F
theorem lin_i2l (nx) : zLin (za_i2l nx) := by
  intro C L S h hC; unfold za_i2l; split
  · exact lin_K _ _ _ (Nat.le_refl _) (Nat.le_refl _)
  · exact lin_F
theorem lin_l2i (nx) : zLin (za_l2i nx) := by
  intro C L S h hC; unfold za_l2i; split
  · exact lin_K _ _ _ (Nat.le_refl _) (Nat.le_refl _)
  · exact lin_F
theorem lin_lcmp (nx) : zLin (za_lcmp nx) := by
  intro C L S h hC; unfold za_lcmp; split
  · exact lin_K _ _ _ (Nat.le_refl _) (Nat.le_refl _)
  · exact lin_F
theorem lin_idiv (nx) : zLin (za_idiv nx) := by
  intro C L S h hC; unfold za_idiv; split
  · exact lin_and (lin_K _ _ _ (Nat.le_refl _) (Nat.le_refl _))
  · exact lin_F
theorem lin_irem (nx) : zLin (za_irem nx) := by
  intro C L S h hC; unfold za_irem; split
  · exact lin_and (lin_K _ _ _ (Nat.le_refl _) (Nat.le_refl _))
  · exact lin_F
theorem lin_ldiv (nx) : zLin (za_ldiv nx) := by
  intro C L S h hC; unfold za_ldiv; split
  · exact lin_and (lin_K _ _ _ (Nat.le_refl _) (Nat.le_refl _))
  · exact lin_F
theorem lin_lrem (nx) : zLin (za_lrem nx) := by
  intro C L S h hC; unfold za_lrem; split
  · exact lin_and (lin_K _ _ _ (Nat.le_refl _) (Nat.le_refl _))
  · exact lin_F
theorem lin_goto (tg) : zLin (za_goto tg) := fun _ _ _ _ _ => lin_K _ _ _ (Nat.le_refl _) (Nat.le_refl _)
theorem lin_if (k tg nx) : zLin (za_if k tg nx) := by
  intro C L S h hC; unfold za_if; split
  · exact lin_or (lin_K _ _ _ (Nat.le_refl _) (Nat.le_refl _)) (lin_K _ _ _ (Nat.le_refl _) (Nat.le_refl _))
  · exact lin_F
theorem lin_icmp (k tg nx) : zLin (za_icmp k tg nx) := by
  intro C L S h hC; unfold za_icmp; split
  · exact lin_or (lin_K _ _ _ (Nat.le_refl _) (Nat.le_refl _)) (lin_K _ _ _ (Nat.le_refl _) (Nat.le_refl _))
  · exact lin_F
theorem lin_ifnull (tg nx) : zLin (za_ifnull tg nx) := by
  intro C L S h hC; unfold za_ifnull; split
  · exact lin_K _ _ _ (Nat.le_refl _) (Nat.le_refl _)
  · exact lin_K _ _ _ (Nat.le_refl _) (Nat.le_refl _)
  · exact lin_F
theorem lin_acmp (tg nx) : zLin (za_acmp tg nx) := by
  intro C L S h hC; unfold za_acmp; split
  · exact lin_or (lin_K _ _ _ (Nat.le_refl _) (Nat.le_refl _)) (lin_K _ _ _ (Nat.le_refl _) (Nat.le_refl _))
  · exact lin_F
theorem lin_dup (nx) : zLin (za_dup nx) := by
  intro C L S h hC; unfold za_dup; split
  · exact lin_and (lin_K _ _ _ (Nat.le_refl _) (Nat.le_refl _))
  · exact lin_F
theorem lin_pop (nx) : zLin (za_pop nx) := by
  intro C L S h hC; unfold za_pop; split
  · exact lin_and (lin_K _ _ _ (Nat.le_refl _) (Nat.le_refl _))
  · exact lin_F
theorem lin_dupx1 (nx) : zLin (za_dupx1 nx) := by
  intro C L S h hC; unfold za_dupx1; split
  · exact lin_and (lin_and (lin_K _ _ _ (Nat.le_refl _) (Nat.le_refl _)))
  · exact lin_F
theorem lin_dup2 (nx) : zLin (za_dup2 nx) := by
  intro C L S h hC; unfold za_dup2; split
  · exact lin_and (lin_and (lin_K _ _ _ (Nat.le_refl _) (Nat.le_refl _)))
  · exact lin_F
theorem lin_sw (f) : zLin (za_sw f) := by
  intro C L S h hC; unfold za_sw; split
  · exact lin_K _ _ _ (Nat.le_refl _) (Nat.le_refl _)
  · exact lin_F
theorem lin_getI (ci k nx) : zLin (za_getI ci k nx) := by
  intro C L S h hC; unfold za_getI; split
  · exact lin_and (lin_K _ _ _ (Nat.le_refl _) (Nat.le_refl _))
  · exact lin_F
theorem lin_getL (ci k nx) : zLin (za_getL ci k nx) := by
  intro C L S h hC; unfold za_getL; split
  · exact lin_and (lin_K _ _ _ (Nat.le_refl _) (Nat.le_refl _))
  · exact lin_F
theorem lin_getA (ci k nx) : zLin (za_getA ci k nx) := by
  intro C L S h hC; unfold za_getA; split
  · exact lin_and (lin_K _ _ _ (Nat.le_refl _) (Nat.le_refl _))
  · exact lin_F
theorem lin_putI (b ci k lo hi nx) : zLin (za_putI b ci k lo hi nx) := by
  intro C L S h hC; unfold za_putI; split
  · exact lin_and (lin_and (lin_and (lin_and (lin_K _ _ _ (Nat.le_refl _) (Nat.le_refl _)))))
  · exact lin_F
theorem lin_putL (b ci k nx) : zLin (za_putL b ci k nx) := by
  intro C L S h hC; unfold za_putL; split
  · exact lin_and (lin_and (lin_K _ _ _ (Nat.le_refl _) (Nat.le_refl _)))
  · exact lin_F
theorem lin_putA (b ci k nx) : zLin (za_putA b ci k nx) := by
  intro C L S h hC; unfold za_putA; split
  · exact lin_and (lin_and (lin_K _ _ _ (Nat.le_refl _) (Nat.le_refl _)))
  · exact lin_F
theorem lin_ald (ty nx) : zLin (za_ald ty nx) := by
  intro C L S h hC; unfold za_ald; split
  · exact lin_ex fun _ => lin_and (lin_and (lin_and (lin_K _ _ _ (Nat.le_refl _) (Nat.le_refl _))))
  · exact lin_F
theorem lin_lald (nx) : zLin (za_lald nx) := by
  intro C L S h hC; unfold za_lald; split
  · exact lin_ex fun _ => lin_and (lin_and (lin_and (lin_K _ _ _ (Nat.le_refl _) (Nat.le_refl _))))
  · exact lin_F
theorem lin_aald (ty nx) : zLin (za_aald ty nx) := by
  intro C L S h hC; unfold za_aald; split
  · exact lin_ex fun _ => lin_and (lin_and (lin_and (lin_K _ _ _ (Nat.le_refl _) (Nat.le_refl _))))
  · exact lin_F
theorem lin_ast (b ty nar nx) : zLin (za_ast b ty nar nx) := by
  intro C L S h hC; unfold za_ast; split
  · exact lin_ex fun _ => lin_and (lin_and (lin_and (lin_and (lin_K _ _ _ (Nat.le_refl _) (Nat.le_refl _)))))
  · exact lin_F
theorem lin_last (b nx) : zLin (za_last b nx) := by
  intro C L S h hC; unfold za_last; split
  · exact lin_ex fun _ => lin_and (lin_and (lin_and (lin_and (lin_K _ _ _ (Nat.le_refl _) (Nat.le_refl _)))))
  · exact lin_F
theorem lin_aast (b ty ok nx) : zLin (za_aast b ty ok nx) := by
  intro C L S h hC; unfold za_aast; split
  · exact lin_and (lin_and (lin_K _ _ _ (Nat.le_refl _) (Nat.le_refl _)))
  · exact lin_F
theorem lin_alen (nx) : zLin (za_alen nx) := by
  intro C L S h hC; unfold za_alen; split
  · exact lin_ex fun _ => lin_ex fun _ => lin_and (lin_K _ _ _ (Nat.le_refl _) (Nat.le_refl _))
  · exact lin_F
theorem lin_new (ci n nx) : zLin (za_new ci n nx) := fun _ _ _ _ _ => lin_K _ _ _ (Nat.le_add_right _ _) (Nat.le_add_right _ _)
theorem lin_newa (ty nx) : zLin (za_newa ty nx) := by
  intro C L S h hC; unfold za_newa; split
  · exact lin_and (lin_and (lin_K _ _ _ (Nat.le_add_right _ _) (Nat.le_add_right _ _)))
  · exact lin_F
theorem lin_inv (m n nx hs) : zLin (za_inv m n nx hs) := by
  intro C L S h hC; unfold za_inv
  exact lin_and (lin_and (lin_call hC _ _ fun o h1 k1 k2 => lin_aft _ _ _ _ _ k1 k2))
theorem lin_invI (m n nx hs) : zLin (za_invI m n nx hs) := by
  intro C L S h hC; unfold za_invI
  refine lin_and (lin_and ?_)
  split
  · exact lin_call hC _ _ fun o h1 k1 k2 => lin_aft _ _ _ _ _ k1 k2
  · exact lin_F
theorem lin_invV (tab n nx hs) : zLin (za_invV tab n nx hs) := by
  intro C L S h hC; unfold za_invV
  refine lin_and (lin_and ?_)
  split
  · split
    · split
      · exact lin_call hC _ _ fun o h1 k1 k2 => lin_aft _ _ _ _ _ k1 k2
      · exact lin_F
    · exact lin_F
  · exact lin_F
theorem lin_ret : zLin za_ret := by
  intro C L S h hC; unfold za_ret; split
  · exact lin_E _ (Nat.le_refl _) (Nat.le_refl _)
  · exact lin_F
theorem lin_reti (lo hi) : zLin (za_reti lo hi) := by
  intro C L S h hC; unfold za_reti; split
  · exact lin_and (lin_and (lin_E _ (Nat.le_refl _) (Nat.le_refl _)))
  · exact lin_F
theorem lin_retl : zLin za_retl := by
  intro C L S h hC; unfold za_retl; split
  · exact lin_E _ (Nat.le_refl _) (Nat.le_refl _)
  · exact lin_F
theorem lin_retr : zLin za_retr := by
  intro C L S h hC; unfold za_retr; split
  · exact lin_E _ (Nat.le_refl _) (Nat.le_refl _)
  · exact lin_F
theorem lin_thr (b hs) : zLin (za_thr b hs) := by
  intro C L S h hC; unfold za_thr; split
  · refine lin_and (lin_and ?_)
    split
    · exact lin_K _ _ _ (Nat.le_refl _) (Nat.le_refl _)
    · exact lin_E _ (Nat.le_refl _) (Nat.le_refl _)
    · exact lin_F
  · exact lin_F
theorem lin_mk (ci n nx) : zLin (za_mk ci n nx) := fun _ _ _ _ _ => lin_and (lin_K _ _ _ (Nat.le_add_right _ _) (Nat.le_add_right _ _))
theorem lin_aldN (ty nx hp ci n) : zLin (za_aldN ty nx hp ci n) := by
  intro C L S h hC; unfold za_aldN; split
  · exact lin_ex fun _ => lin_and (lin_and (lin_and (lin_K _ _ _ (Nat.le_refl _) (Nat.le_refl _))))
  · exact lin_and (lin_K _ _ _ (Nat.le_add_right _ _) (Nat.le_add_right _ _))
  · exact lin_F
theorem lin_obj (nx) : zLin (za_obj nx) := by
  intro C L S h hC; unfold za_obj; split
  · exact lin_and (lin_K _ _ _ (Nat.le_refl _) (Nat.le_refl _))
  · exact lin_F
theorem lin_copy (b ty nx) : zLin (za_copy b ty nx) := by
  intro C L S h hC; unfold za_copy; split
  · exact lin_ex fun _ => lin_ex fun _ => lin_and (lin_and (lin_and (lin_and (lin_and (lin_and (lin_and (lin_and (lin_and (lin_K _ _ _ (Nat.le_refl _) (Nat.le_refl _))))))))))
  · exact lin_F
theorem lin_multi (ty nx) : zLin (za_multi ty nx) := by
  intro C L S h hC; unfold za_multi; split
  · exact lin_and (lin_and (lin_and (lin_and (lin_K _ _ _ (by rw [zsz_multi]; omega) (by rw [zN_multi]; omega)))))
  · exact lin_F
theorem lin_inst (ok nx) : zLin (za_inst ok nx) := by
  intro C L S h hC; unfold za_inst; split
  · exact lin_K _ _ _ (Nat.le_refl _) (Nat.le_refl _)
  · exact lin_and (lin_K _ _ _ (Nat.le_refl _) (Nat.le_refl _))
  · exact lin_F
theorem lin_cast (ok nx) : zLin (za_cast ok nx) := by
  intro C L S h hC; unfold za_cast; split
  · exact lin_K _ _ _ (Nat.le_refl _) (Nat.le_refl _)
  · exact lin_and (lin_K _ _ _ (Nat.le_refl _) (Nat.le_refl _))
  · exact lin_F
theorem lin_castA (b ty nx) : zLin (za_castA b ty nx) := by
  intro C L S h hC; unfold za_castA; split
  · exact lin_K _ _ _ (Nat.le_refl _) (Nat.le_refl _)
  · exact lin_ex fun _ => lin_and (lin_and (lin_K _ _ _ (Nat.le_refl _) (Nat.le_refl _)))
  · exact lin_F
theorem lin_clone (b ty nx) : zLin (za_clone b ty nx) := by
  intro C L S h hC; unfold za_clone; split
  · exact lin_ex fun _ => lin_and (lin_and (lin_and (lin_K _ _ _ (Nat.le_add_right _ _) (Nat.le_add_right _ _))))
  · exact lin_F
