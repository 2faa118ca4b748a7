/-! ===== a region of cells at once: rH n h b φ ψ α is h, but the cells b .. b+n-1 hold φ (ints), ψ (longs), α (references) ===== -/
def rH (n : Nat) (h : zH) (b : Nat) (φ ψ : Nat → Nat → Int) (α : Nat → Nat → Option Nat) : zH := (zsz h, zK h, fun c => if b ≤ c ∧ c < b + n then φ (c - b) else zI h c, fun c => if b ≤ c ∧ c < b + n then ψ (c - b) else zL h c, fun c => if b ≤ c ∧ c < b + n then α (c - b) else zA h c, zN h)
section
variable {n b : Nat} {h : zH} {φ ψ : Nat → Nat → Int} {α : Nat → Nat → Option Nat}
theorem zK_rH : zK (rH n h b φ ψ α) = zK h := rfl
theorem zN_rH : zN (rH n h b φ ψ α) = zN h := rfl
theorem zsz_rH : zsz (rH n h b φ ψ α) = zsz h := rfl
theorem zI_rH {i : Nat} (hi : i < n) : zI (rH n h b φ ψ α) (b + i) = φ i := by
  show (if b ≤ b + i ∧ b + i < b + n then φ (b + i - b) else zI h (b + i)) = _
  rw [if_pos (by omega), Nat.add_sub_cancel_left]
theorem zL_rH {i : Nat} (hi : i < n) : zL (rH n h b φ ψ α) (b + i) = ψ i := by
  show (if b ≤ b + i ∧ b + i < b + n then ψ (b + i - b) else zL h (b + i)) = _
  rw [if_pos (by omega), Nat.add_sub_cancel_left]
theorem zA_rH {i : Nat} (hi : i < n) : zA (rH n h b φ ψ α) (b + i) = α i := by
  show (if b ≤ b + i ∧ b + i < b + n then α (b + i - b) else zA h (b + i)) = _
  rw [if_pos (by omega), Nat.add_sub_cancel_left]
theorem zI_rH0 (hn : 0 < n) : zI (rH n h b φ ψ α) b = φ 0 := zI_rH (i := 0) hn
theorem zL_rH0 (hn : 0 < n) : zL (rH n h b φ ψ α) b = ψ 0 := zL_rH (i := 0) hn
theorem zA_rH0 (hn : 0 < n) : zA (rH n h b φ ψ α) b = α 0 := zA_rH (i := 0) hn
theorem zI_rHn {c : Nat} (hc : ¬ (b ≤ c ∧ c < b + n)) : zI (rH n h b φ ψ α) c = zI h c := if_neg hc
theorem zL_rHn {c : Nat} (hc : ¬ (b ≤ c ∧ c < b + n)) : zL (rH n h b φ ψ α) c = zL h c := if_neg hc
theorem zA_rHn {c : Nat} (hc : ¬ (b ≤ c ∧ c < b + n)) : zA (rH n h b φ ψ α) c = zA h c := if_neg hc
theorem zsI_rH {i : Nat} (hi : i < n) (k : Nat) (v : Int) : zsI (rH n h b φ ψ α) (b + i) k v = rH n h b (zu φ i k v) ψ α := by
  refine zeq rfl rfl ?_ rfl rfl rfl
  funext c j
  show zu (zI (rH n h b φ ψ α)) (b + i) k v c j = (if b ≤ c ∧ c < b + n then zu φ i k v (c - b) else zI h c) j
  by_cases hc : b ≤ c ∧ c < b + n
  · rw [if_pos hc]
    obtain ⟨q, rfl⟩ : ∃ q, c = b + q := ⟨c - b, by omega⟩
    simp only [zu, zI_rH (h := h) (φ := φ) (ψ := ψ) (α := α) (b := b) (show q < n by omega), Nat.add_sub_cancel_left, Nat.add_left_cancel_iff]
  · rw [if_neg hc]
    simp only [zu]
    rw [if_neg (by omega), zI_rHn hc]
theorem zsL_rH {i : Nat} (hi : i < n) (k : Nat) (v : Int) : zsL (rH n h b φ ψ α) (b + i) k v = rH n h b φ (zu ψ i k v) α := by
  refine zeq rfl rfl rfl ?_ rfl rfl
  funext c j
  show zu (zL (rH n h b φ ψ α)) (b + i) k v c j = (if b ≤ c ∧ c < b + n then zu ψ i k v (c - b) else zL h c) j
  by_cases hc : b ≤ c ∧ c < b + n
  · rw [if_pos hc]
    obtain ⟨q, rfl⟩ : ∃ q, c = b + q := ⟨c - b, by omega⟩
    simp only [zu, zL_rH (h := h) (φ := φ) (ψ := ψ) (α := α) (b := b) (show q < n by omega), Nat.add_sub_cancel_left, Nat.add_left_cancel_iff]
  · rw [if_neg hc]
    simp only [zu]
    rw [if_neg (by omega), zL_rHn hc]
theorem zsA_rH {i : Nat} (hi : i < n) (k : Nat) (v : Option Nat) : zsA (rH n h b φ ψ α) (b + i) k v = rH n h b φ ψ (zu α i k v) := by
  refine zeq rfl rfl rfl rfl ?_ rfl
  funext c j
  show zu (zA (rH n h b φ ψ α)) (b + i) k v c j = (if b ≤ c ∧ c < b + n then zu α i k v (c - b) else zA h c) j
  by_cases hc : b ≤ c ∧ c < b + n
  · rw [if_pos hc]
    obtain ⟨q, rfl⟩ : ∃ q, c = b + q := ⟨c - b, by omega⟩
    simp only [zu, zA_rH (h := h) (φ := φ) (ψ := ψ) (α := α) (b := b) (show q < n by omega), Nat.add_sub_cancel_left, Nat.add_left_cancel_iff]
  · rw [if_neg hc]
    simp only [zu]
    rw [if_neg (by omega), zA_rHn hc]
theorem zsI_rH0 (hn : 0 < n) (k : Nat) (v : Int) : zsI (rH n h b φ ψ α) b k v = rH n h b (zu φ 0 k v) ψ α := zsI_rH (i := 0) hn k v
theorem zsL_rH0 (hn : 0 < n) (k : Nat) (v : Int) : zsL (rH n h b φ ψ α) b k v = rH n h b φ (zu ψ 0 k v) α := zsL_rH (i := 0) hn k v
theorem zsA_rH0 (hn : 0 < n) (k : Nat) (v : Option Nat) : zsA (rH n h b φ ψ α) b k v = rH n h b φ ψ (zu α 0 k v) := zsA_rH (i := 0) hn k v
theorem zcpI_rH {i j : Nat} (hi : i < n) (hj : j < n) (dp sp m : Nat) : zcpI (rH n h b φ ψ α) (b + i) dp (b + j) sp m = rH n h b (zcpy φ i dp j sp m) ψ α := by
  refine zeq rfl rfl ?_ rfl rfl rfl
  funext c q
  show zcpy (zI (rH n h b φ ψ α)) (b + i) dp (b + j) sp m c q = (if b ≤ c ∧ c < b + n then zcpy φ i dp j sp m (c - b) else zI h c) q
  by_cases hc : b ≤ c ∧ c < b + n
  · rw [if_pos hc]
    obtain ⟨r, rfl⟩ : ∃ r, c = b + r := ⟨c - b, by omega⟩
    simp only [zcpy, zI_rH (h := h) (φ := φ) (ψ := ψ) (α := α) (b := b) (show r < n by omega), zI_rH (h := h) (φ := φ) (ψ := ψ) (α := α) (b := b) hj, Nat.add_sub_cancel_left, Nat.add_left_cancel_iff]
  · rw [if_neg hc]
    simp only [zcpy]
    rw [if_neg (by omega), zI_rHn hc]
theorem rH_id (n : Nat) (h : zH) (b : Nat) : rH n h b (fun i => zI h (b + i)) (fun i => zL h (b + i)) (fun i => zA h (b + i)) = h := by
  refine zeq rfl rfl ?_ ?_ ?_ rfl
  all_goals
    funext c
    by_cases hc : b ≤ c ∧ c < b + n
    · show (if b ≤ c ∧ c < b + n then _ else _) = _
      rw [if_pos hc, show b + (c - b) = c by omega]
    · show (if b ≤ c ∧ c < b + n then _ else _) = _
      rw [if_neg hc]
theorem rH_rH (φ' ψ' : Nat → Nat → Int) (α' : Nat → Nat → Option Nat) : rH n (rH n h b φ ψ α) b φ' ψ' α' = rH n h b φ' ψ' α' := by
  refine zeq rfl rfl ?_ ?_ ?_ rfl
  · funext c
    show (if b ≤ c ∧ c < b + n then φ' (c - b) else zI (rH n h b φ ψ α) c) = (if b ≤ c ∧ c < b + n then φ' (c - b) else zI h c)
    by_cases hc : b ≤ c ∧ c < b + n
    · rw [if_pos hc, if_pos hc]
    · rw [if_neg hc, if_neg hc, zI_rHn hc]
  · funext c
    show (if b ≤ c ∧ c < b + n then ψ' (c - b) else zL (rH n h b φ ψ α) c) = (if b ≤ c ∧ c < b + n then ψ' (c - b) else zL h c)
    by_cases hc : b ≤ c ∧ c < b + n
    · rw [if_pos hc, if_pos hc]
    · rw [if_neg hc, if_neg hc, zL_rHn hc]
  · funext c
    show (if b ≤ c ∧ c < b + n then α' (c - b) else zA (rH n h b φ ψ α) c) = (if b ≤ c ∧ c < b + n then α' (c - b) else zA h c)
    by_cases hc : b ≤ c ∧ c < b + n
    · rw [if_pos hc, if_pos hc]
    · rw [if_neg hc, if_neg hc, zA_rHn hc]
/-- two regions that don't meet -/
theorem rH_comm {n' b' : Nat} {φ' ψ' : Nat → Nat → Int} {α' : Nat → Nat → Option Nat} (hd : b + n ≤ b' ∨ b' + n' ≤ b) : rH n (rH n' h b' φ' ψ' α') b φ ψ α = rH n' (rH n h b φ ψ α) b' φ' ψ' α' := by
  refine zeq rfl rfl ?_ ?_ ?_ rfl
  · funext c
    show (if b ≤ c ∧ c < b + n then φ (c - b) else (if b' ≤ c ∧ c < b' + n' then φ' (c - b') else zI h c)) = (if b' ≤ c ∧ c < b' + n' then φ' (c - b') else (if b ≤ c ∧ c < b + n then φ (c - b) else zI h c))
    by_cases hc : b ≤ c ∧ c < b + n
    · rw [if_pos hc, if_neg (by omega), if_pos hc]
    · rw [if_neg hc, if_neg hc]
  · funext c
    show (if b ≤ c ∧ c < b + n then ψ (c - b) else (if b' ≤ c ∧ c < b' + n' then ψ' (c - b') else zL h c)) = (if b' ≤ c ∧ c < b' + n' then ψ' (c - b') else (if b ≤ c ∧ c < b + n then ψ (c - b) else zL h c))
    by_cases hc : b ≤ c ∧ c < b + n
    · rw [if_pos hc, if_neg (by omega), if_pos hc]
    · rw [if_neg hc, if_neg hc]
  · funext c
    show (if b ≤ c ∧ c < b + n then α (c - b) else (if b' ≤ c ∧ c < b' + n' then α' (c - b') else zA h c)) = (if b' ≤ c ∧ c < b' + n' then α' (c - b') else (if b ≤ c ∧ c < b + n then α (c - b) else zA h c))
    by_cases hc : b ≤ c ∧ c < b + n
    · rw [if_pos hc, if_neg (by omega), if_pos hc]
    · rw [if_neg hc, if_neg hc]
end
