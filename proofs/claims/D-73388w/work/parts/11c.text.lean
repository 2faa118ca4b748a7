/-! ===== texts: tokens, words ===== -/
/-- the sign at k of a text of n bytes; -1 behind it -/
def ybt (t : Nat → Int) (n k : Nat) : Int := if k < n then t k % 256 else -1
def yisD (c : Int) : Bool := decide (48 ≤ c ∧ c ≤ 57)
def yisS (c : Int) : Bool := decide (97 ≤ c ∧ c ≤ 122)
def yisB (c : Int) : Bool := decide (c = 32 ∨ c = 10)
/-- the first place, from k on, without q -/
def yrun (q : Int → Bool) (B : Nat → Int) : Nat → Nat → Nat
  | 0, k => k
  | j + 1, k => if q (B k) = true then yrun q B j (k + 1) else k
/-- the digits from s on, so many, as a number -/
def ydec (B : Nat → Int) (s : Nat) : Nat → Int
  | 0 => 0
  | j + 1 => 10 * ydec B s j + (B (s + j) - 48)
/-- a token: its sort (0 the end, 1 broken, 2 a word, 3 a number, 4 a sign), from where, to where, its number -/
abbrev yTk : Type := Int × Nat × Nat × Int
def ytk2 (B : Nat → Int) (n f : Nat) : yTk :=
  if B f = -1 then (0, f, f, 0) else if B f = 59 then (4, f, f + 1, 0) else if yisS (B f) = true then (2, f, yrun yisS B (n - (f + 1)) (f + 1), 0)
  else if yisD (B f) = true then (if 4 < yrun yisD B (n - f) f - f then 1 else 3, f, yrun yisD B (n - f) f, ydec B f (yrun yisD B (n - f) f - f))
  else if B f = 45 ∧ yisD (B (f + 1)) = true then (if 4 < yrun yisD B (n - (f + 1)) (f + 1) - (f + 1) then 1 else 3, f, yrun yisD B (n - (f + 1)) (f + 1), -ydec B (f + 1) (yrun yisD B (n - (f + 1)) (f + 1) - (f + 1)))
  else (1, f, f + 1, 0)
def ytk (B : Nat → Int) (n e : Nat) : yTk := ytk2 B n (yrun yisB B (n - e) e)
/-- which of some words stands there -/
def yweq (B : Nat → Int) (f e : Nat) (w : List Nat) : Bool := decide (w.length = e - f) && yallb (fun i => decide (((w[i]?).getD 0 : Int) = B (f + i))) w.length
def ywix (B : Nat → Int) (f e : Nat) : List (List Nat) → Nat → Int
  | [], _ => -1
  | w :: W, k => if yweq B f e w = true then (k : Int) else ywix B f e W (k + 1)
def ywst (W : List (List Nat)) : List Nat := 32 :: W.flatMap (· ++ [32])
section
variable {B : Nat → Int} {n : Nat} {q : Int → Bool}
theorem yrun_t (hB : ∀ k, n ≤ k → q (B k) = false) {k : Nat} (h : q (B k) = true) : k < n ∧ yrun q B (n - k) k = yrun q B (n - (k + 1)) (k + 1) := by
  have hk : k < n := by
    apply Nat.lt_of_not_le
    intro z
    rw [hB k z] at h; cases h
  refine ⟨hk, ?_⟩
  rw [show n - k = (n - (k + 1)) + 1 by omega]
  show (if _ then _ else _) = _
  rw [if_pos h]
theorem yrun_f {j k : Nat} (h : q (B k) = false) : yrun q B j k = k := by
  cases j with
  | zero => rfl
  | succ j => show (if _ then _ else _) = _; rw [if_neg (by rw [h]; simp)]
theorem yrun_ge : ∀ j k, k ≤ yrun q B j k ∧ yrun q B j k ≤ k + j := by
  intro j
  induction j with
  | zero => intro k; exact ⟨Nat.le_refl _, Nat.le_refl _⟩
  | succ j ih =>
    intro k
    show k ≤ (if _ then _ else _) ∧ (if _ then _ else _) ≤ _
    split
    · have := ih (k + 1); omega
    · omega
theorem yrun_all : ∀ j k i, k ≤ i → i < yrun q B j k → q (B i) = true := by
  intro j
  induction j with
  | zero => intro k i h1 h2; exact absurd h2 (by show ¬ i < k; omega)
  | succ j ih =>
    intro k i h1 h2
    change i < (if _ then _ else _) at h2
    by_cases c : q (B k) = true
    · rw [if_pos c] at h2
      by_cases ci : i = k
      · rw [ci]; exact c
      · exact ih (k + 1) i (by omega) h2
    · rw [if_neg c] at h2; omega
theorem ydec_bd (B : Nat → Int) (s : Nat) : ∀ j, j ≤ 4 → (∀ i, i < j → 48 ≤ B (s + i) ∧ B (s + i) ≤ 57) → 0 ≤ ydec B s j ∧ ydec B s j < 10 ^ j := by
  intro j
  induction j with
  | zero => intro _ _; show (0 : Int) ≤ 0 ∧ (0 : Int) < 10 ^ 0; decide
  | succ j ih =>
    intro hj hd
    have h1 := ih (by omega) (fun i hi => hd i (by omega))
    have h2 := hd j (by omega)
    have e : (10 : Int) ^ (j + 1) = 10 ^ j * 10 := Int.pow_succ ..
    show 0 ≤ 10 * ydec B s j + (B (s + j) - 48) ∧ _
    rw [e]
    show _ ∧ 10 * ydec B s j + (B (s + j) - 48) < _
    omega
end
theorem ybt_bd (t : Nat → Int) (n k : Nat) : -1 ≤ ybt t n k ∧ ybt t n k ≤ 255 := by unfold ybt; split <;> omega
theorem ybt_B (t : Nat → Int) (n : Nat) : ∀ k, n ≤ k → yisB (ybt t n k) = false := fun k hk => by unfold ybt; rw [if_neg (by omega)]; rfl
theorem ybt_D (t : Nat → Int) (n : Nat) : ∀ k, n ≤ k → yisD (ybt t n k) = false := fun k hk => by unfold ybt; rw [if_neg (by omega)]; rfl
theorem ybt_S (t : Nat → Int) (n : Nat) : ∀ k, n ≤ k → yisS (ybt t n k) = false := fun k hk => by unfold ybt; rw [if_neg (by omega)]; rfl
