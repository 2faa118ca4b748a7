/-! ===== maths: the maps of a frame as codes of one of three groups ===== -/
def xdb (mul : Nat → Nat → Nat) (x y : Nat) : Nat := 2 * mul (x / 2) (y / 2) + (x % 2 + y % 2) % 2
structure yCd (T : yT) (N : Nat) (mul : Nat → Nat → Nat) (tr : Nat → Int) (c : Nat → Nat) : Prop where
  lt : ∀ {a}, a < Tm T → c a < 2 * N
  inj : ∀ {a b}, a < Tm T → b < Tm T → c a = c b → a = b
  th : ∀ {a b}, a < Tm T → b < Tm T → c (yth T a b) = xdb mul (c a) (c b)
  g : ∀ {a}, a < Tm T → Tg T a = (if c a % 2 = 0 then 1 else -1)
  t : ∀ {a}, a < Tm T → Tt T a = Tg T a * tr (c a / 2)
section
variable {F : yF}
/-- the rotation of map i -/
noncomputable def yrM (F : yF) (i : Nat) : xM := xsm (Tg (yTF F) i) (xA F (Tx (yTF F) i))
theorem at_rM {i : Nat} {π : Nat → Nat} {sg : Int} (h : yAt F i π sg) : yrM F i = xsm sg (xB F π sg) := by
  unfold yrM xB
  rw [h.g]
  have : Tx (yTF F) i = yMo F π sg := by
    show (fun r => (ylg (yord F) i).2.2 r) = _
    rw [h.eq]; rfl
  rw [this]
theorem yCd_of (hW : yW F) (h3 : y3 F ≠ -1) {N : Nat} {mul : Nat → Nat → Nat} {tr : Nat → Int} {Φ : xM → Nat} (E : xEmb (yRt F) N mul tr Φ) : yCd (yTF F) N mul tr (fun a => 2 * Φ (xtp (yrM F a)) + (if Tg (yTF F) a = 1 then 0 else 1)) := by
  have G := yRt_G hW h3
  have rt : ∀ {a π sg}, yAt F a π sg → yRt F (xtp (yrM F a)) := fun {a π sg} h => by
    rw [at_rM h]; exact G.tp ⟨π, sg, h.go, rfl⟩
  have ev : ∀ (x : Nat) {s : Int}, s = 1 ∨ s = -1 → (2 * x + (if s = 1 then 0 else 1)) / 2 = x ∧ (2 * x + (if s = 1 then 0 else 1)) % 2 = (if s = 1 then 0 else 1) := fun x s _ => by
    split <;> omega
  refine ⟨fun {a} ha => ?_, fun {a b} ha hb e => ?_, fun {a b} ha hb => ?_, fun {a} ha => ?_, fun {a} ha => ?_⟩
  · obtain ⟨π, sg, p⟩ := at_ex hW h3 ha
    have := E.lt (rt p)
    show 2 * Φ (xtp (yrM F a)) + _ < 2 * N
    split <;> omega
  · obtain ⟨π, sg, p⟩ := at_ex hW h3 ha
    obtain ⟨ρ, sh, q⟩ := at_ex hW h3 hb
    have e : 2 * Φ (xtp (yrM F a)) + (if Tg (yTF F) a = 1 then 0 else 1) = 2 * Φ (xtp (yrM F b)) + (if Tg (yTF F) b = 1 then 0 else 1) := e
    rw [p.g, q.g] at e
    have e1 := ev (Φ (xtp (yrM F a))) p.go.s1
    have e2 := ev (Φ (xtp (yrM F b))) q.go.s1
    have s : sg = sh := by
      have : (if sg = 1 then (0 : Nat) else 1) = (if sh = 1 then 0 else 1) := by rw [← e1.2, ← e2.2, e]
      rcases p.go.s1 with r | r <;> rcases q.go.s1 with r' | r' <;> rw [r, r'] at this ⊢ <;> simp at this
    have ph : Φ (xtp (yrM F a)) = Φ (xtp (yrM F b)) := by rw [← e1.1, ← e2.1, e]
    have ph := congrArg xtp (E.inj (rt p) (rt q) ph)
    rw [xtp_tp, xtp_tp, at_rM p, at_rM q] at ph
    subst s
    have ph := xsm_inj (fun z => by have := ysq p.go.s1; rw [z] at this; grind) ph
    exact at_inj hW h3 p q (p.go.inj hW h3 q.go ph) rfl
  · obtain ⟨π, sg, p⟩ := at_ex hW h3 ha
    obtain ⟨ρ, sh, q⟩ := at_ex hW h3 hb
    have r := at_th hW h3 p q
    show 2 * Φ (xtp (yrM F (yth (yTF F) a b))) + (if Tg (yTF F) (yth (yTF F) a b) = 1 then 0 else 1) = xdb mul (2 * Φ (xtp (yrM F a)) + (if Tg (yTF F) a = 1 then 0 else 1)) (2 * Φ (xtp (yrM F b)) + (if Tg (yTF F) b = 1 then 0 else 1))
    rw [r.g, p.g, q.g]
    unfold xdb
    rw [(ev (Φ (xtp (yrM F a))) p.go.s1).1, (ev (Φ (xtp (yrM F a))) p.go.s1).2, (ev (Φ (xtp (yrM F b))) q.go.s1).1, (ev (Φ (xtp (yrM F b))) q.go.s1).2]
    have m : xtp (yrM F (yth (yTF F) a b)) = xmul (xtp (yrM F a)) (xtp (yrM F b)) := by
      rw [at_rM r, at_rM p, at_rM q, ← xtp_mul, p.go.comp_mat h3 q.go, xsm_mul, xmul_sm, xsm_sm]
      congr 2
      push_cast; grind
    rw [m, E.mul (rt p) (rt q)]
    rcases p.go.s1 with r | r <;> rcases q.go.s1 with r' | r' <;> rw [r, r'] <;> rfl
  · obtain ⟨π, sg, p⟩ := at_ex hW h3 ha
    show Tg (yTF F) a = (if (2 * Φ (xtp (yrM F a)) + (if Tg (yTF F) a = 1 then 0 else 1)) % 2 = 0 then 1 else -1)
    rw [p.g, (ev _ p.go.s1).2]
    rcases p.go.s1 with r | r <;> rw [r] <;> rfl
  · obtain ⟨π, sg, p⟩ := at_ex hW h3 ha
    show Tt (yTF F) a = Tg (yTF F) a * tr ((2 * Φ (xtp (yrM F a)) + (if Tg (yTF F) a = 1 then 0 else 1)) / 2)
    obtain ⟨z, e, _, e2⟩ := at_tr h3 p
    rw [e2, p.g, (ev _ p.go.s1).1]
    have := E.tr (rt p)
    rw [xtr_tp, at_rM p, e] at this
    rw [yqi.mp this, at_rM p]
theorem yCd_ex (hW : yW F) (h3 : y3 F ≠ -1) : (∃ c, yCd (yTF F) 24 xmS xtS c) ∨ (∃ c, yCd (yTF F) 12 (xmD 6) xt6 c) ∨ (∃ c, yCd (yTF F) 8 (xmD 4) xt4 c) := by
  rcases (yRt_G hW h3).emb with ⟨Φ, E⟩ | ⟨Φ, E⟩ | ⟨Φ, E⟩
  · exact Or.inl ⟨_, yCd_of hW h3 E⟩
  · exact Or.inr (Or.inl ⟨_, yCd_of hW h3 E⟩)
  · exact Or.inr (Or.inr ⟨_, yCd_of hW h3 E⟩)
theorem yops_48 (hW : yW F) : (yops F).length ≤ 48 := by
  by_cases h3 : y3 F = -1
  · rw [yops_nil h3]; exact Nat.zero_le _
  have m : (yord F).length = (yops F).length := (yord_perm F).length_eq
  rw [← m]
  have key : ∀ N mul tr c, yCd (yTF F) N mul tr c → (yord F).length ≤ 2 * N := fun N mul tr c E => by
    have := ycnt_inj (p := fun _ => true) (q := fun _ => true) (f := c) (Tm (yTF F)) (2 * N) (fun i hi _ => ⟨E.lt hi, rfl⟩) (fun i j hi hj _ _ e => E.inj hi hj e)
    have b : ∀ n, ycnt (fun _ => true) n = (n : Int) := fun n => by
      induction n with
      | zero => rfl
      | succ n ih => rw [ycnt_s, ih]; simp
    rw [b, b] at this
    exact Int.ofNat_le.mp this
  rcases yCd_ex hW h3 with ⟨c, E⟩ | ⟨c, E⟩ | ⟨c, E⟩ <;> have := key _ _ _ _ E <;> omega
end
