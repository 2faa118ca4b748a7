/-! ===== texts: what is read from them ===== -/
abbrev yPs : Type := Sum (Int × Int) (yTk × yF)
def ybd (k : yTk) (c : Int) : yPs := Sum.inl (if k.1 = 1 then 1 else c, (k.2.1 : Int))
def ynx (B : Nat → Int) (n : Nat) (k : yTk) : yTk := ytk B n k.2.2.1
def ywd (B : Nat → Int) (W : List (List Nat)) (k : yTk) : Int := if k.1 = 2 then ywix B k.2.1 k.2.2.1 W 0 else -1
def yKW : List (List Nat) := [[104], [99], [110], [111], [102], [115], [112], [99, 108], [98, 114]]
def yIW : List (List Nat) := [[105, 110, 118, 101, 114, 116], [102, 108, 105, 112, 120], [102, 108, 105, 112, 121], [102, 108, 105, 112, 122], [115, 119, 97, 112, 120, 121], [115, 119, 97, 112, 121, 122], [115, 119, 97, 112, 120, 122], [99, 121, 99, 108, 101]]
def yLW : List (List Nat) := [[97, 116, 111, 109], [105, 109, 97, 103, 101], [115, 104, 105, 102, 116], [107, 105, 110, 100], [100, 114, 111, 112]]
def yclo (B : Nat → Int) (n : Nat) (k : yTk) (F : yF) : yPs := if k.1 = 4 then Sum.inr (ynx B n k, F) else ybd k 2
def yco (k : yTk) : Bool := decide (-50 ≤ k.2.2.2 ∧ k.2.2.2 ≤ 50)
def yatm4 (B : Nat → Int) (n : Nat) (c x y : Int) (k : yTk) (F : yF) : yPs := if ¬ k.1 = 3 then ybd k 2 else if yco k = false then ybd k 4 else if ¬ yatom F x y k.2.2.2 = -1 then ybd k 5 else Sum.inr (ynx B n k, (F.1 + 1, yset F.1 (yat c x y k.2.2.2) F.2))
def yatm3 (B : Nat → Int) (n : Nat) (c x : Int) (k : yTk) (F : yF) : yPs := if ¬ k.1 = 3 then ybd k 2 else if yco k = false then ybd k 4 else yatm4 B n c x k.2.2.2 (ynx B n k) F
def yatm2 (B : Nat → Int) (n : Nat) (c : Int) (k : yTk) (F : yF) : yPs := if ¬ k.1 = 3 then ybd k 2 else if yco k = false then ybd k 4 else yatm3 B n c k.2.2.2 (ynx B n k) F
def yatm1 (B : Nat → Int) (n : Nat) (k : yTk) (F : yF) : yPs := if ywd B yKW k = -1 then ybd k 2 else yatm2 B n (ywd B yKW k + 1) (ynx B n k) F
def yatm (B : Nat → Int) (n : Nat) (k : yTk) (F : yF) : yPs := if F.1 = 12 then ybd k 6 else yatm1 B n (ynx B n k) F
def yimL (B : Nat → Int) (n : Nat) (k : yTk) (F : yF) : yPs := if ywd B yIW k = -1 then ybd k 2 else if 12 < ycnt (ynew (ywd B yIW k).toNat F) F.1 + F.1 then ybd k 6 else Sum.inr (ynx B n k, ygrow (ywd B yIW k).toNat F.1 0 F)
def ysf1 (B : Nat → Int) (n i : Nat) (k : yTk) (F : yF) : yPs := if ¬ k.1 = 3 then ybd k 2 else if ¬ ((-100 ≤ k.2.2.2 ∧ k.2.2.2 ≤ 100) ∧ yfind (fun j => !yin F i 1 k.2.2.2 j) F.1 0 = -1) then ybd k 4 else Sum.inr (ynx B n k, ychF i 1 k.2.2.2 F)
def ybnd (r : yPs) (f : yTk → yF → yPs) : yPs := match r with
  | Sum.inl x => Sum.inl x
  | Sum.inr p => f p.1 p.2
def ysfL (B : Nat → Int) (n : Nat) (k : yTk) (F : yF) : yPs := ybnd (ysf1 B n 1 k F) (fun k F => ybnd (ysf1 B n 2 k F) (fun k F => ysf1 B n 3 k F))
def yrec (x y : Int) (F : yF) : yF := (F.1, fun k j => if j = 0 ∧ F.2 k 0 = x then y else F.2 k j)
def ykdL (B : Nat → Int) (n : Nat) (k : yTk) (F : yF) : yPs := if ywd B yKW k = -1 then ybd k 2 else if ywd B yKW (ynx B n k) = -1 then ybd (ynx B n k) 2 else Sum.inr (ynx B n (ynx B n k), yrec (ywd B yKW k + 1) (ywd B yKW (ynx B n k) + 1) F)
def ydpL (B : Nat → Int) (n : Nat) (k : yTk) (F : yF) : yPs := if ¬ k.1 = 3 then ybd k 2 else if ¬ (0 ≤ k.2.2.2 ∧ k.2.2.2 < (F.1 : Int)) then ybd k 4 else Sum.inr (ynx B n k, (F.1 - 1, ydrp k.2.2.2.toNat F.2))
def yline (B : Nat → Int) (n : Nat) (k : yTk) (F : yF) : yPs := if ywd B yLW k = -1 then ybd k 2 else
  ybnd (if ywd B yLW k = 0 then yatm B n k F else if ywd B yLW k = 1 then yimL B n (ynx B n k) F else if ywd B yLW k = 2 then ysfL B n (ynx B n k) F else if ywd B yLW k = 3 then ykdL B n (ynx B n k) F else ydpL B n (ynx B n k) F) (yclo B n)
def yrl8 (B : Nat → Int) (n : Nat) : Nat → yTk → yF → Sum (Int × Int) yF
  | 0, _, F => Sum.inr F
  | j + 1, k, F => if k.1 = 0 then Sum.inr F else match yline B n k F with
    | Sum.inl x => Sum.inl x
    | Sum.inr p => yrl8 B n j p.1 p.2
/-- a text of n bytes: a fault, or a frame -/
def ytext (t : Nat → Int) (n : Nat) : Sum (Int × Int) yF := yrl8 (ybt t n) n (n + 1) (ytk (ybt t n) n 0) (0, fun _ _ => 0)
theorem ywix_bd (B : Nat → Int) (f e : Nat) : ∀ (W : List (List Nat)) (k : Nat), ywix B f e W k = -1 ∨ ((k : Int) ≤ ywix B f e W k ∧ ywix B f e W k < (k + W.length : Nat)) := by
  intro W
  induction W with
  | nil => intro k; exact Or.inl rfl
  | cons w W ih =>
    intro k
    show (if _ then _ else _) = _ ∨ (_ ≤ (if _ then _ else _) ∧ (if _ then _ else _) < _)
    by_cases c : yweq B f e w = true
    · rw [if_pos c]; right; simp only [List.length_cons]; omega
    · rw [if_neg c]
      rcases ih (k + 1) with q | q
      · exact Or.inl q
      · right; simp only [List.length_cons]; omega
theorem ywd_bd (B : Nat → Int) (W : List (List Nat)) (k : yTk) : ywd B W k = -1 ∨ (0 ≤ ywd B W k ∧ ywd B W k < W.length) := by
  unfold ywd
  split
  · have := ywix_bd B k.2.1 k.2.2.1 W 0
    simpa using this
  · exact Or.inl rfl
/-- what is known of a token -/
def yTok (n : Nat) (k : yTk) : Prop := (0 ≤ k.1 ∧ k.1 ≤ 4) ∧ k.2.1 ≤ k.2.2.1 ∧ k.2.2.1 ≤ n ∧ (k.1 = 3 → -9999 ≤ k.2.2.2 ∧ k.2.2.2 ≤ 9999)
theorem ytk_ok (t : Nat → Int) (n e : Nat) (he : e ≤ n) : yTok n (ytk (ybt t n) n e) ∧ ((ytk (ybt t n) n e).1 ≠ 0 → e < (ytk (ybt t n) n e).2.2.1) := by
  have hF := yrun_ge (q := yisB) (B := ybt t n) (n - e) e
  unfold ytk
  generalize yrun yisB (ybt t n) (n - e) e = F at *
  have bb := ybt_bd t n
  have lt : ybt t n F ≠ -1 → F < n := fun q => by
    apply Nat.lt_of_not_le
    intro z
    have : ybt t n F = -1 := by unfold ybt; rw [if_neg (by omega)]
    exact q this
  have dec : ∀ g, g ≤ n → ¬ 4 < yrun yisD (ybt t n) (n - g) g - g → -9999 ≤ ydec (ybt t n) g (yrun yisD (ybt t n) (n - g) g - g) ∧ ydec (ybt t n) g (yrun yisD (ybt t n) (n - g) g - g) ≤ 9999 := fun g hg q => by
    have ge := yrun_ge (q := yisD) (B := ybt t n) (n - g) g
    have bd := ydec_bd (ybt t n) g (yrun yisD (ybt t n) (n - g) g - g) (by omega) (fun i hi => of_decide_eq_true (yrun_all (q := yisD) (B := ybt t n) (n - g) g (g + i) (by omega) (by omega)))
    generalize yrun yisD (ybt t n) (n - g) g - g = j at *
    have pw : (10 : Int) ^ j ≤ 10000 := by
      have : j = 0 ∨ j = 1 ∨ j = 2 ∨ j = 3 ∨ j = 4 := by omega
      rcases this with z | z | z | z | z <;> rw [z] <;> decide
    omega
  unfold ytk2
  by_cases c1 : ybt t n F = -1
  · rw [if_pos c1]; exact ⟨⟨by dsimp only; omega, by dsimp only; omega, by dsimp only; omega, fun z => by dsimp only at z; omega⟩, fun z => absurd rfl z⟩
  · have hFn := lt c1
    rw [if_neg c1]
    by_cases c2 : ybt t n F = 59
    · rw [if_pos c2]; exact ⟨⟨by dsimp only; omega, by dsimp only; omega, by dsimp only; omega, fun z => by dsimp only at z; omega⟩, fun _ => by dsimp only; omega⟩
    · rw [if_neg c2]
      by_cases c3 : yisS (ybt t n F) = true
      · have ge := yrun_ge (q := yisS) (B := ybt t n) (n - (F + 1)) (F + 1)
        rw [if_pos c3]; exact ⟨⟨by dsimp only; omega, by dsimp only; omega, by dsimp only; omega, fun z => by dsimp only at z; omega⟩, fun _ => by dsimp only; omega⟩
      · rw [if_neg c3]
        by_cases c4 : yisD (ybt t n F) = true
        · have ge := yrun_ge (q := yisD) (B := ybt t n) (n - F) F
          have gt : F < yrun yisD (ybt t n) (n - F) F := by
            rw [(yrun_t (ybt_D t n) c4).2]
            have := yrun_ge (q := yisD) (B := ybt t n) (n - (F + 1)) (F + 1)
            omega
          rw [if_pos c4]
          refine ⟨⟨by dsimp only; split <;> omega, by dsimp only; omega, by dsimp only; omega, fun z => ?_⟩, fun _ => by dsimp only; omega⟩
          dsimp only at z ⊢
          refine dec F (by omega) (fun q => ?_)
          rw [if_pos q] at z; omega
        · rw [if_neg c4]
          by_cases c5 : ybt t n F = 45 ∧ yisD (ybt t n (F + 1)) = true
          · have ge := yrun_ge (q := yisD) (B := ybt t n) (n - (F + 1)) (F + 1)
            rw [if_pos c5]
            refine ⟨⟨by dsimp only; split <;> omega, by dsimp only; omega, by dsimp only; omega, fun z => ?_⟩, fun _ => by dsimp only; omega⟩
            dsimp only at z ⊢
            have := dec (F + 1) (by omega) (fun q => by rw [if_pos q] at z; omega)
            omega
          · rw [if_neg c5]; exact ⟨⟨by dsimp only; omega, by dsimp only; omega, by dsimp only; omega, fun z => by dsimp only at z; omega⟩, fun _ => by dsimp only; omega⟩
theorem ynx_ok {t : Nat → Int} {n : Nat} {k : yTk} (h : yTok n k) : yTok n (ynx (ybt t n) n k) := (ytk_ok t n k.2.2.1 h.2.2.1).1
theorem ynx_gt {t : Nat → Int} {n : Nat} {k : yTk} (h : yTok n k) : k.2.2.1 ≤ (ynx (ybt t n) n k).2.2.1 := by
  have := (ytk_ok t n k.2.2.1 h.2.2.1)
  by_cases c : (ynx (ybt t n) n k).1 = 0
  · -- the end: it stands at n or behind
    have hF := yrun_ge (q := yisB) (B := ybt t n) (n - k.2.2.1) k.2.2.1
    unfold ynx ytk ytk2 at c ⊢
    generalize yrun yisB (ybt t n) (n - k.2.2.1) k.2.2.1 = F at *
    have g1 := yrun_ge (q := yisS) (B := ybt t n) (n - (F + 1)) (F + 1)
    have g2 := yrun_ge (q := yisD) (B := ybt t n) (n - F) F
    have g3 := yrun_ge (q := yisD) (B := ybt t n) (n - (F + 1)) (F + 1)
    (repeat' split) <;> dsimp only <;> omega
  · exact Nat.le_of_lt (this.2 c)
