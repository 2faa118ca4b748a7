/-! ===== maths: counting bits as the library does ===== -/
theorem yand_add (u v m M : Nat) (hu : u < 256) (hm : m < 256) : (u + 256 * v) &&& (m + 256 * M) = (u &&& m) + 256 * (v &&& M) := by
  have hum : u &&& m < 256 := Nat.lt_of_le_of_lt Nat.and_le_left hu
  apply Nat.eq_of_testBit_eq
  intro i
  have e : ∀ a b : Nat, a < 256 → (a + 256 * b).testBit i = if i < 8 then a.testBit i else b.testBit (i - 8) := fun a b ha => by
    rw [Nat.add_comm, show 256 = 2 ^ 8 from rfl]
    exact Nat.testBit_two_pow_mul_add b (by simpa using ha) i
  rw [Nat.testBit_and, e u v hu, e m M hm, e _ _ hum]
  split
  · rw [Nat.testBit_and]
  · rw [Nat.testBit_and]
def yM (c : Nat) : Nat → Nat
  | 0 => 0
  | k + 1 => c + 256 * yM c k
def yA8 (b : Nat) : Nat := b - (b / 2 &&& 85)
def yB8 (b : Nat) : Nat := (b &&& 51) + (b / 4 &&& 51)
def yC8 (b : Nat) : Nat := (b + b / 16) &&& 15
def yA9 (k x : Nat) : Nat := x - (x / 2 &&& yM 85 k)
def yB9 (k x : Nat) : Nat := (x &&& yM 51 k) + (x / 4 &&& yM 51 k)
def yC9 (k x : Nat) : Nat := (x + x / 16) &&& yM 15 k
def yp8 (b : Nat) : Nat := b % 2 + b / 2 % 2 + b / 4 % 2 + b / 8 % 2 + b / 16 % 2 + b / 32 % 2 + b / 64 % 2 + b / 128 % 2
theorem y8_all : ∀ b, b < 256 → yA8 b < 256 ∧ (b / 2 &&& 85) ≤ b ∧ yB8 (yA8 b) < 256 ∧ yB8 (yA8 b) % 16 ≤ 4 ∧ yB8 (yA8 b) / 16 ≤ 4 ∧ yC8 (yB8 (yA8 b)) = yp8 b ∧ yp8 b ≤ 8 := by decide +kernel
theorem y7_and : ∀ b, b < 256 → (b &&& 85) = (b % 128 &&& 85) ∧ (b &&& 51) = (b % 64 &&& 51) ∧ (b &&& 15) = (b % 16 &&& 15) := by decide +kernel
theorem yA9_s (k b y : Nat) (hb : b < 256) : yA9 (k + 1) (b + 256 * y) = yA8 b + 256 * yA9 k y := by
  have h8 := y8_all b hb
  have e : (b + 256 * y) / 2 = (b / 2 + 128 * (y % 2)) + 256 * (y / 2) := by omega
  have ha := yand_add (b / 2 + 128 * (y % 2)) (y / 2) 85 (yM 85 k) (by omega) (by omega)
  have hl : (b / 2 + 128 * (y % 2)) &&& 85 = b / 2 &&& 85 := by
    rw [(y7_and _ (by omega)).1, (y7_and (b / 2) (by omega)).1]
    congr 1; omega
  have le : (y / 2 &&& yM 85 k) ≤ y / 2 := Nat.and_le_left
  unfold yA9 yA8
  rw [e, show yM 85 (k + 1) = 85 + 256 * yM 85 k from rfl, ha, hl]
  omega
theorem yB9_s (k b y : Nat) (hb : b < 256) : yB9 (k + 1) (b + 256 * y) = yB8 b + 256 * yB9 k y := by
  have e : (b + 256 * y) / 4 = (b / 4 + 64 * (y % 4)) + 256 * (y / 4) := by omega
  have ha := yand_add (b / 4 + 64 * (y % 4)) (y / 4) 51 (yM 51 k) (by omega) (by omega)
  have hb' := yand_add b y 51 (yM 51 k) hb (by omega)
  have hl : (b / 4 + 64 * (y % 4)) &&& 51 = b / 4 &&& 51 := by
    rw [(y7_and _ (by omega)).2.1, (y7_and (b / 4) (by omega)).2.1]
    congr 1; omega
  unfold yB9 yB8
  rw [e, show yM 51 (k + 1) = 51 + 256 * yM 51 k from rfl, ha, hb', hl]
  omega
theorem yC9_s (k b y : Nat) (hb : b < 256) (h1 : b % 16 ≤ 4) (h2 : b / 16 ≤ 4) (hy : y % 16 ≤ 4) : yC9 (k + 1) (b + 256 * y) = yC8 b + 256 * yC9 k y := by
  have e : (b + 256 * y) + (b + 256 * y) / 16 = (b + b / 16 + 16 * (y % 16)) + 256 * (y + y / 16) := by omega
  have ha := yand_add (b + b / 16 + 16 * (y % 16)) (y + y / 16) 15 (yM 15 k) (by omega) (by omega)
  have hl : (b + b / 16 + 16 * (y % 16)) &&& 15 = (b + b / 16) &&& 15 := by
    rw [(y7_and _ (by omega)).2.2, (y7_and (b + b / 16) (by omega)).2.2]
    congr 1; omega
  unfold yC9 yC8
  rw [e, show yM 15 (k + 1) = 15 + 256 * yM 15 k from rfl, ha, hl]
/-- the bits of each byte -/
def yP9 : Nat → Nat → Nat
  | 0, _ => 0
  | k + 1, x => yp8 (x % 256) + 256 * yP9 k (x / 256)
theorem y9_all : ∀ k x, x < 256 ^ k → yC9 k (yB9 k (yA9 k x)) = yP9 k x ∧ yB9 k (yA9 k x) % 16 ≤ 4 := by
  intro k
  induction k with
  | zero =>
    intro x hx
    have : x = 0 := by simpa using hx
    subst this
    exact ⟨rfl, by decide⟩
  | succ k ih =>
    intro x hx
    have hd : x = x % 256 + 256 * (x / 256) := by omega
    have hb : x % 256 < 256 := by omega
    have i := ih (x / 256) (by rw [Nat.pow_succ] at hx; omega)
    have h8 := y8_all _ hb
    rw [hd, yA9_s k _ _ hb, yB9_s k _ _ h8.1]
    have e1 : (x % 256 + 256 * (x / 256)) % 256 = x % 256 := by omega
    have e2 : (x % 256 + 256 * (x / 256)) / 256 = x / 256 := by omega
    rw [yC9_s k _ _ h8.2.2.1 h8.2.2.2.1 h8.2.2.2.2.1 i.2, i.1, h8.2.2.2.2.2.1]
    refine ⟨?_, by omega⟩
    rw [show yP9 (k + 1) (x % 256 + 256 * (x / 256)) = yp8 ((x % 256 + 256 * (x / 256)) % 256) + 256 * yP9 k ((x % 256 + 256 * (x / 256)) / 256) from rfl, e1, e2]
theorem yM_85 : yM 85 8 = 6148914691236517205 := by decide
theorem yM_51 : yM 51 8 = 3689348814741910323 := by decide
theorem yM_15 : yM 15 8 = 1085102592571150095 := by decide
theorem yp8_cnt (x n : Nat) : ycnt x.testBit (n + 8) = (yp8 (x % 256) : Int) + ycnt (x / 256).testBit n := by
  have e : ∀ i, x % 256 / 2 ^ i = x / 2 ^ i % 2 ^ (8 - i) ∨ 8 < i ∨ True := fun _ => Or.inr (Or.inr trivial)
  rw [show n + 8 = n + 7 + 1 from rfl, ycnt_bits, show n + 7 = n + 6 + 1 from rfl, ycnt_bits, show n + 6 = n + 5 + 1 from rfl, ycnt_bits, show n + 5 = n + 4 + 1 from rfl, ycnt_bits, show n + 4 = n + 3 + 1 from rfl, ycnt_bits, show n + 3 = n + 2 + 1 from rfl, ycnt_bits, show n + 2 = n + 1 + 1 from rfl, ycnt_bits, ycnt_bits]
  rw [show x / 2 / 2 / 2 / 2 / 2 / 2 / 2 / 2 = x / 256 by omega]
  unfold yp8
  omega
/-- the sum of the bytes' bits -/
theorem yP9_sum {x : Nat} (hx : x < 2 ^ 48) : (yP9 8 x + yP9 8 x / 256 + (yP9 8 x + yP9 8 x / 256) / 65536 + (yP9 8 x + yP9 8 x / 256 + (yP9 8 x + yP9 8 x / 256) / 65536) / 4294967296) % 128 = ypc x ∧ yP9 8 x < 2 ^ 44 := by
  have b0 := (y8_all (x % 256) (by omega)).2.2.2.2.2.2
  have b1 := (y8_all (x / 256 % 256) (by omega)).2.2.2.2.2.2
  have b2 := (y8_all (x / 256 / 256 % 256) (by omega)).2.2.2.2.2.2
  have b3 := (y8_all (x / 256 / 256 / 256 % 256) (by omega)).2.2.2.2.2.2
  have b4 := (y8_all (x / 256 / 256 / 256 / 256 % 256) (by omega)).2.2.2.2.2.2
  have b5 := (y8_all (x / 256 / 256 / 256 / 256 / 256 % 256) (by omega)).2.2.2.2.2.2
  have z6 : x / 256 / 256 / 256 / 256 / 256 / 256 = 0 := by omega
  have pe : yP9 8 x = yp8 (x % 256) + 256 * (yp8 (x / 256 % 256) + 256 * (yp8 (x / 256 / 256 % 256) + 256 * (yp8 (x / 256 / 256 / 256 % 256) + 256 * (yp8 (x / 256 / 256 / 256 / 256 % 256) + 256 * yp8 (x / 256 / 256 / 256 / 256 / 256 % 256))))) := by
    simp only [yP9, z6]
    simp [yp8]
  have ce : ycnt x.testBit 64 = (yp8 (x % 256) : Int) + ((yp8 (x / 256 % 256) : Int) + ((yp8 (x / 256 / 256 % 256) : Int) + ((yp8 (x / 256 / 256 / 256 % 256) : Int) + ((yp8 (x / 256 / 256 / 256 / 256 % 256) : Int) + (yp8 (x / 256 / 256 / 256 / 256 / 256 % 256) : Int))))) := by
    rw [show 64 = 56 + 8 from rfl, yp8_cnt, show 56 = 48 + 8 from rfl, yp8_cnt, show 48 = 40 + 8 from rfl, yp8_cnt, show 40 = 32 + 8 from rfl, yp8_cnt, show 32 = 24 + 8 from rfl, yp8_cnt, show 24 = 16 + 8 from rfl, yp8_cnt, z6, ycnt_zero]
    simp
  unfold ypc
  rw [pe]
  generalize yp8 (x % 256) = p0 at *
  generalize yp8 (x / 256 % 256) = p1 at *
  generalize yp8 (x / 256 / 256 % 256) = p2 at *
  generalize yp8 (x / 256 / 256 / 256 % 256) = p3 at *
  generalize yp8 (x / 256 / 256 / 256 / 256 % 256) = p4 at *
  generalize yp8 (x / 256 / 256 / 256 / 256 / 256 % 256) = p5 at *
  clear z6 pe hx
  rw [ce]
  have t : ((p0 : Int) + ((p1 : Int) + ((p2 : Int) + ((p3 : Int) + ((p4 : Int) + (p5 : Int)))))).toNat = p0 + p1 + p2 + p3 + p4 + p5 := by omega
  rw [t]
  clear ce t
  have d1 : (p0 + 256 * (p1 + 256 * (p2 + 256 * (p3 + 256 * (p4 + 256 * p5))))) / 256 = p1 + 256 * (p2 + 256 * (p3 + 256 * (p4 + 256 * p5))) := by omega
  rw [d1]
  have d2 : (p0 + 256 * (p1 + 256 * (p2 + 256 * (p3 + 256 * (p4 + 256 * p5)))) + (p1 + 256 * (p2 + 256 * (p3 + 256 * (p4 + 256 * p5))))) / 65536 = p2 + p3 + 256 * (p3 + p4 + 256 * (p4 + p5 + 256 * p5)) := by omega
  rw [d2]
  have d3 : (p0 + 256 * (p1 + 256 * (p2 + 256 * (p3 + 256 * (p4 + 256 * p5)))) + (p1 + 256 * (p2 + 256 * (p3 + 256 * (p4 + 256 * p5)))) + (p2 + p3 + 256 * (p3 + p4 + 256 * (p4 + p5 + 256 * p5)))) / 4294967296 = p4 + p5 + 256 * p5 := by omega
  rw [d3]
  omega
