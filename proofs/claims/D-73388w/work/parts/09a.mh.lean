/-! ===== the reference's cells at once: mH h a φ ψ is h, but the cells a .. a+41 hold φ 0 .. φ 41 (ints), ψ 0 .. ψ 41 (longs) ===== -/
def mH (h : zH) (a : Nat) (φ ψ : Nat → Nat → Int) : zH := (zsz h, zK h, fun b => if a ≤ b ∧ b < a + 42 then φ (b - a) else zI h b, fun b => if a ≤ b ∧ b < a + 42 then ψ (b - a) else zL h b, zA h, zN h)
theorem zK_mH (h a φ ψ) : zK (mH h a φ ψ) = zK h := rfl
theorem zA_mH (h a φ ψ) : zA (mH h a φ ψ) = zA h := rfl
theorem zN_mH (h a φ ψ) : zN (mH h a φ ψ) = zN h := rfl
theorem zsz_mH (h a φ ψ) : zsz (mH h a φ ψ) = zsz h := rfl
theorem zI_mHi (h a φ ψ) {i : Nat} (hi : i < 42) : zI (mH h a φ ψ) (a + i) = φ i := by
  show (if a ≤ a + i ∧ a + i < a + 42 then φ (a + i - a) else zI h (a + i)) = _
  rw [if_pos (by omega), Nat.add_sub_cancel_left]
theorem zL_mHi (h a φ ψ) {i : Nat} (hi : i < 42) : zL (mH h a φ ψ) (a + i) = ψ i := by
  show (if a ≤ a + i ∧ a + i < a + 42 then ψ (a + i - a) else zL h (a + i)) = _
  rw [if_pos (by omega), Nat.add_sub_cancel_left]
theorem zI_mHn (h a φ ψ) {b : Nat} (hb : ¬ (a ≤ b ∧ b < a + 42)) : zI (mH h a φ ψ) b = zI h b := if_neg hb
theorem zL_mHn (h a φ ψ) {b : Nat} (hb : ¬ (a ≤ b ∧ b < a + 42)) : zL (mH h a φ ψ) b = zL h b := if_neg hb
theorem zI_mH0 (h a φ ψ) : zI (mH h a φ ψ) a = φ 0 := zI_mHi h a φ ψ (i := 0) (by omega)
theorem zL_mH0 (h a φ ψ) : zL (mH h a φ ψ) a = ψ 0 := zL_mHi h a φ ψ (i := 0) (by omega)
theorem zsI_mHi (h a φ ψ) {i : Nat} (hi : i < 42) (k : Nat) (v : Int) : zsI (mH h a φ ψ) (a + i) k v = mH h a (zu φ i k v) ψ := by
  refine zeq rfl rfl ?_ rfl rfl rfl
  funext b j
  show zu (zI (mH h a φ ψ)) (a + i) k v b j = (if a ≤ b ∧ b < a + 42 then zu φ i k v (b - a) else zI h b) j
  by_cases hb : a ≤ b ∧ b < a + 42
  · rw [if_pos hb]
    obtain ⟨c, rfl⟩ : ∃ c, b = a + c := ⟨b - a, by omega⟩
    simp only [zu, zI_mHi h a φ ψ (show c < 42 by omega), Nat.add_sub_cancel_left, Nat.add_left_cancel_iff]
  · rw [if_neg hb]
    simp only [zu]
    rw [if_neg (by omega), zI_mHn _ _ _ _ hb]
theorem zsL_mHi (h a φ ψ) {i : Nat} (hi : i < 42) (k : Nat) (v : Int) : zsL (mH h a φ ψ) (a + i) k v = mH h a φ (zu ψ i k v) := by
  refine zeq rfl rfl rfl ?_ rfl rfl
  funext b j
  show zu (zL (mH h a φ ψ)) (a + i) k v b j = (if a ≤ b ∧ b < a + 42 then zu ψ i k v (b - a) else zL h b) j
  by_cases hb : a ≤ b ∧ b < a + 42
  · rw [if_pos hb]
    obtain ⟨c, rfl⟩ : ∃ c, b = a + c := ⟨b - a, by omega⟩
    simp only [zu, zL_mHi h a φ ψ (show c < 42 by omega), Nat.add_sub_cancel_left, Nat.add_left_cancel_iff]
  · rw [if_neg hb]
    simp only [zu]
    rw [if_neg (by omega), zL_mHn _ _ _ _ hb]
theorem zsI_mH0 (h a φ ψ) (k : Nat) (v : Int) : zsI (mH h a φ ψ) a k v = mH h a (zu φ 0 k v) ψ := zsI_mHi h a φ ψ (i := 0) (by omega) k v
theorem zsL_mH0 (h a φ ψ) (k : Nat) (v : Int) : zsL (mH h a φ ψ) a k v = mH h a φ (zu ψ 0 k v) := zsL_mHi h a φ ψ (i := 0) (by omega) k v
theorem mH_id (h a) : mH h a (fun i => zI h (a + i)) (fun i => zL h (a + i)) = h := by
  refine zeq rfl rfl ?_ ?_ rfl rfl
  · funext b
    show (if a ≤ b ∧ b < a + 42 then zI h (a + (b - a)) else zI h b) = _
    by_cases hb : a ≤ b ∧ b < a + 42
    · rw [if_pos hb, show a + (b - a) = b by omega]
    · rw [if_neg hb]
  · funext b
    show (if a ≤ b ∧ b < a + 42 then zL h (a + (b - a)) else zL h b) = _
    by_cases hb : a ≤ b ∧ b < a + 42
    · rw [if_pos hb, show a + (b - a) = b by omega]
    · rw [if_neg hb]
/-- only the reference's cells differ: then it is such a heap -/
theorem mH_only {h h' : zH} {a : Nat} {S : Nat → Prop} (hS : ∀ b, S b → a ≤ b ∧ b < a + 42) (o : zonly S h h') : h' = mH h a (fun i => zI h' (a + i)) (fun i => zL h' (a + i)) := by
  obtain ⟨o1, o2, o3, o4, o5⟩ := o
  refine zeq o1 o2 ?_ ?_ o3 o4
  · funext b
    show _ = (if a ≤ b ∧ b < a + 42 then zI h' (a + (b - a)) else zI h b)
    by_cases hb : a ≤ b ∧ b < a + 42
    · rw [if_pos hb, show a + (b - a) = b by omega]
    · rw [if_neg hb]; exact (o5 b (fun z => hb (hS b z))).1
  · funext b
    show _ = (if a ≤ b ∧ b < a + 42 then zL h' (a + (b - a)) else zL h b)
    by_cases hb : a ≤ b ∧ b < a + 42
    · rw [if_pos hb, show a + (b - a) = b by omega]
    · rw [if_neg hb]; exact (o5 b (fun z => hb (hS b z))).2
theorem mH_mH (h a φ ψ φ' ψ') : mH (mH h a φ ψ) a φ' ψ' = mH h a φ' ψ' := by
  refine zeq rfl rfl ?_ ?_ rfl rfl
  · funext b
    show (if a ≤ b ∧ b < a + 42 then φ' (b - a) else zI (mH h a φ ψ) b) = (if a ≤ b ∧ b < a + 42 then φ' (b - a) else zI h b)
    by_cases hb : a ≤ b ∧ b < a + 42
    · rw [if_pos hb, if_pos hb]
    · rw [if_neg hb, if_neg hb, zI_mHn _ _ _ _ hb]
  · funext b
    show (if a ≤ b ∧ b < a + 42 then ψ' (b - a) else zL (mH h a φ ψ) b) = (if a ≤ b ∧ b < a + 42 then ψ' (b - a) else zL h b)
    by_cases hb : a ≤ b ∧ b < a + 42
    · rw [if_pos hb, if_pos hb]
    · rw [if_neg hb, if_neg hb, zL_mHn _ _ _ _ hb]
theorem mH_zonly (h a φ ψ) : zonly (fun b => a ≤ b ∧ b < a + 42) h (mH h a φ ψ) := ⟨rfl, rfl, rfl, rfl, fun b hb => ⟨zI_mHn _ _ _ _ hb, zL_mHn _ _ _ _ hb⟩⟩
theorem zmo.mH {e : zEv} {a : Nat} {h : zH} (H : zmo e a h) (φ ψ : Nat → Nat → Int) : zmo e a (mH h a φ ψ) := zmo.of rfl rfl H
/-- a loop that counts up: from the end back -/
theorem zdown (G : Nat → Prop) (n : Nat) (h0 : G n) (hs : ∀ k, k < n → G (k + 1) → G k) : ∀ k, k ≤ n → G k := by
  intro k hk
  obtain ⟨j, rfl⟩ : ∃ j, n = k + j := ⟨n - k, by omega⟩
  clear hk
  induction j generalizing k with
  | zero => exact h0
  | succ j ih => exact hs k (by omega) (ih (k + 1) (by rw [show k + 1 + j = k + (j + 1) by omega]; exact h0) (fun i hi => hs i (by omega)))
theorem zdown0 (G : Nat → Prop) (n : Nat) (h0 : G n) (hs : ∀ k, k < n → G (k + 1) → G k) : G 0 := zdown G n h0 hs 0 (Nat.zero_le _)
theorem zu_ne {α : Type} {f : Nat → Nat → α} {a b k j : Nat} {x : α} (h : b ≠ a) : zu f a k x b j = f b j := by simp [zu, h]
theorem zu_sl {α : Type} {f : Nat → Nat → α} {a k j : Nat} {x : α} (h : j ≠ k) : zu f a k x a j = f a j := by simp [zu, h]
theorem zu_eq {α : Type} {f : Nat → Nat → α} {a k j : Nat} {x : α} (h : j = k) : zu f a k x a j = x := by simp [zu, h]
theorem zu_if {α : Type} (f : Nat → Nat → α) (a k : Nat) (x : α) (j : Nat) : zu f a k x a j = if j = k then x else f a j := by
  simp only [zu, true_and]
theorem zu_fn {α : Type} {f : Nat → Nat → α} {a b k : Nat} {x : α} (h : b ≠ a) : zu f a k x b = f b := zu_cell f k x h
theorem zI_mH1 (h a φ ψ) : zI (mH h a φ ψ) (a + 1) = φ 1 := zI_mHi h a φ ψ (by omega)
theorem zL_mH1 (h a φ ψ) : zL (mH h a φ ψ) (a + 1) = ψ 1 := zL_mHi h a φ ψ (by omega)
theorem zsI_mH1 (h a φ ψ) (k : Nat) (v : Int) : zsI (mH h a φ ψ) (a + 1) k v = mH h a (zu φ 1 k v) ψ := zsI_mHi h a φ ψ (by omega) k v
theorem zsL_mH1 (h a φ ψ) (k : Nat) (v : Int) : zsL (mH h a φ ψ) (a + 1) k v = mH h a φ (zu ψ 1 k v) := zsL_mHi h a φ ψ (by omega) k v
theorem zI_mH2 (h a φ ψ) : zI (mH h a φ ψ) (a + 2) = φ 2 := zI_mHi h a φ ψ (by omega)
theorem zL_mH2 (h a φ ψ) : zL (mH h a φ ψ) (a + 2) = ψ 2 := zL_mHi h a φ ψ (by omega)
theorem zsI_mH2 (h a φ ψ) (k : Nat) (v : Int) : zsI (mH h a φ ψ) (a + 2) k v = mH h a (zu φ 2 k v) ψ := zsI_mHi h a φ ψ (by omega) k v
theorem zsL_mH2 (h a φ ψ) (k : Nat) (v : Int) : zsL (mH h a φ ψ) (a + 2) k v = mH h a φ (zu ψ 2 k v) := zsL_mHi h a φ ψ (by omega) k v
theorem zI_mH3 (h a φ ψ) : zI (mH h a φ ψ) (a + 3) = φ 3 := zI_mHi h a φ ψ (by omega)
theorem zL_mH3 (h a φ ψ) : zL (mH h a φ ψ) (a + 3) = ψ 3 := zL_mHi h a φ ψ (by omega)
theorem zsI_mH3 (h a φ ψ) (k : Nat) (v : Int) : zsI (mH h a φ ψ) (a + 3) k v = mH h a (zu φ 3 k v) ψ := zsI_mHi h a φ ψ (by omega) k v
theorem zsL_mH3 (h a φ ψ) (k : Nat) (v : Int) : zsL (mH h a φ ψ) (a + 3) k v = mH h a φ (zu ψ 3 k v) := zsL_mHi h a φ ψ (by omega) k v
theorem zI_mH4 (h a φ ψ) : zI (mH h a φ ψ) (a + 4) = φ 4 := zI_mHi h a φ ψ (by omega)
theorem zL_mH4 (h a φ ψ) : zL (mH h a φ ψ) (a + 4) = ψ 4 := zL_mHi h a φ ψ (by omega)
theorem zsI_mH4 (h a φ ψ) (k : Nat) (v : Int) : zsI (mH h a φ ψ) (a + 4) k v = mH h a (zu φ 4 k v) ψ := zsI_mHi h a φ ψ (by omega) k v
theorem zsL_mH4 (h a φ ψ) (k : Nat) (v : Int) : zsL (mH h a φ ψ) (a + 4) k v = mH h a φ (zu ψ 4 k v) := zsL_mHi h a φ ψ (by omega) k v
theorem zI_mH5 (h a φ ψ) : zI (mH h a φ ψ) (a + 5) = φ 5 := zI_mHi h a φ ψ (by omega)
theorem zL_mH5 (h a φ ψ) : zL (mH h a φ ψ) (a + 5) = ψ 5 := zL_mHi h a φ ψ (by omega)
theorem zsI_mH5 (h a φ ψ) (k : Nat) (v : Int) : zsI (mH h a φ ψ) (a + 5) k v = mH h a (zu φ 5 k v) ψ := zsI_mHi h a φ ψ (by omega) k v
theorem zsL_mH5 (h a φ ψ) (k : Nat) (v : Int) : zsL (mH h a φ ψ) (a + 5) k v = mH h a φ (zu ψ 5 k v) := zsL_mHi h a φ ψ (by omega) k v
theorem zI_mH6 (h a φ ψ) : zI (mH h a φ ψ) (a + 6) = φ 6 := zI_mHi h a φ ψ (by omega)
theorem zL_mH6 (h a φ ψ) : zL (mH h a φ ψ) (a + 6) = ψ 6 := zL_mHi h a φ ψ (by omega)
theorem zsI_mH6 (h a φ ψ) (k : Nat) (v : Int) : zsI (mH h a φ ψ) (a + 6) k v = mH h a (zu φ 6 k v) ψ := zsI_mHi h a φ ψ (by omega) k v
theorem zsL_mH6 (h a φ ψ) (k : Nat) (v : Int) : zsL (mH h a φ ψ) (a + 6) k v = mH h a φ (zu ψ 6 k v) := zsL_mHi h a φ ψ (by omega) k v
theorem zI_mH7 (h a φ ψ) : zI (mH h a φ ψ) (a + 7) = φ 7 := zI_mHi h a φ ψ (by omega)
theorem zL_mH7 (h a φ ψ) : zL (mH h a φ ψ) (a + 7) = ψ 7 := zL_mHi h a φ ψ (by omega)
theorem zsI_mH7 (h a φ ψ) (k : Nat) (v : Int) : zsI (mH h a φ ψ) (a + 7) k v = mH h a (zu φ 7 k v) ψ := zsI_mHi h a φ ψ (by omega) k v
theorem zsL_mH7 (h a φ ψ) (k : Nat) (v : Int) : zsL (mH h a φ ψ) (a + 7) k v = mH h a φ (zu ψ 7 k v) := zsL_mHi h a φ ψ (by omega) k v
theorem zI_mH8 (h a φ ψ) : zI (mH h a φ ψ) (a + 8) = φ 8 := zI_mHi h a φ ψ (by omega)
theorem zL_mH8 (h a φ ψ) : zL (mH h a φ ψ) (a + 8) = ψ 8 := zL_mHi h a φ ψ (by omega)
theorem zsI_mH8 (h a φ ψ) (k : Nat) (v : Int) : zsI (mH h a φ ψ) (a + 8) k v = mH h a (zu φ 8 k v) ψ := zsI_mHi h a φ ψ (by omega) k v
theorem zsL_mH8 (h a φ ψ) (k : Nat) (v : Int) : zsL (mH h a φ ψ) (a + 8) k v = mH h a φ (zu ψ 8 k v) := zsL_mHi h a φ ψ (by omega) k v
theorem zI_mH9 (h a φ ψ) : zI (mH h a φ ψ) (a + 9) = φ 9 := zI_mHi h a φ ψ (by omega)
theorem zL_mH9 (h a φ ψ) : zL (mH h a φ ψ) (a + 9) = ψ 9 := zL_mHi h a φ ψ (by omega)
theorem zsI_mH9 (h a φ ψ) (k : Nat) (v : Int) : zsI (mH h a φ ψ) (a + 9) k v = mH h a (zu φ 9 k v) ψ := zsI_mHi h a φ ψ (by omega) k v
theorem zsL_mH9 (h a φ ψ) (k : Nat) (v : Int) : zsL (mH h a φ ψ) (a + 9) k v = mH h a φ (zu ψ 9 k v) := zsL_mHi h a φ ψ (by omega) k v
theorem zI_mH10 (h a φ ψ) : zI (mH h a φ ψ) (a + 10) = φ 10 := zI_mHi h a φ ψ (by omega)
theorem zL_mH10 (h a φ ψ) : zL (mH h a φ ψ) (a + 10) = ψ 10 := zL_mHi h a φ ψ (by omega)
theorem zsI_mH10 (h a φ ψ) (k : Nat) (v : Int) : zsI (mH h a φ ψ) (a + 10) k v = mH h a (zu φ 10 k v) ψ := zsI_mHi h a φ ψ (by omega) k v
theorem zsL_mH10 (h a φ ψ) (k : Nat) (v : Int) : zsL (mH h a φ ψ) (a + 10) k v = mH h a φ (zu ψ 10 k v) := zsL_mHi h a φ ψ (by omega) k v
theorem zI_mH11 (h a φ ψ) : zI (mH h a φ ψ) (a + 11) = φ 11 := zI_mHi h a φ ψ (by omega)
theorem zL_mH11 (h a φ ψ) : zL (mH h a φ ψ) (a + 11) = ψ 11 := zL_mHi h a φ ψ (by omega)
theorem zsI_mH11 (h a φ ψ) (k : Nat) (v : Int) : zsI (mH h a φ ψ) (a + 11) k v = mH h a (zu φ 11 k v) ψ := zsI_mHi h a φ ψ (by omega) k v
theorem zsL_mH11 (h a φ ψ) (k : Nat) (v : Int) : zsL (mH h a φ ψ) (a + 11) k v = mH h a φ (zu ψ 11 k v) := zsL_mHi h a φ ψ (by omega) k v
theorem zI_mH12 (h a φ ψ) : zI (mH h a φ ψ) (a + 12) = φ 12 := zI_mHi h a φ ψ (by omega)
theorem zL_mH12 (h a φ ψ) : zL (mH h a φ ψ) (a + 12) = ψ 12 := zL_mHi h a φ ψ (by omega)
theorem zsI_mH12 (h a φ ψ) (k : Nat) (v : Int) : zsI (mH h a φ ψ) (a + 12) k v = mH h a (zu φ 12 k v) ψ := zsI_mHi h a φ ψ (by omega) k v
theorem zsL_mH12 (h a φ ψ) (k : Nat) (v : Int) : zsL (mH h a φ ψ) (a + 12) k v = mH h a φ (zu ψ 12 k v) := zsL_mHi h a φ ψ (by omega) k v
theorem zI_mH13 (h a φ ψ) : zI (mH h a φ ψ) (a + 13) = φ 13 := zI_mHi h a φ ψ (by omega)
theorem zL_mH13 (h a φ ψ) : zL (mH h a φ ψ) (a + 13) = ψ 13 := zL_mHi h a φ ψ (by omega)
theorem zsI_mH13 (h a φ ψ) (k : Nat) (v : Int) : zsI (mH h a φ ψ) (a + 13) k v = mH h a (zu φ 13 k v) ψ := zsI_mHi h a φ ψ (by omega) k v
theorem zsL_mH13 (h a φ ψ) (k : Nat) (v : Int) : zsL (mH h a φ ψ) (a + 13) k v = mH h a φ (zu ψ 13 k v) := zsL_mHi h a φ ψ (by omega) k v
theorem zI_mH14 (h a φ ψ) : zI (mH h a φ ψ) (a + 14) = φ 14 := zI_mHi h a φ ψ (by omega)
theorem zL_mH14 (h a φ ψ) : zL (mH h a φ ψ) (a + 14) = ψ 14 := zL_mHi h a φ ψ (by omega)
theorem zsI_mH14 (h a φ ψ) (k : Nat) (v : Int) : zsI (mH h a φ ψ) (a + 14) k v = mH h a (zu φ 14 k v) ψ := zsI_mHi h a φ ψ (by omega) k v
theorem zsL_mH14 (h a φ ψ) (k : Nat) (v : Int) : zsL (mH h a φ ψ) (a + 14) k v = mH h a φ (zu ψ 14 k v) := zsL_mHi h a φ ψ (by omega) k v
theorem zI_mH15 (h a φ ψ) : zI (mH h a φ ψ) (a + 15) = φ 15 := zI_mHi h a φ ψ (by omega)
theorem zL_mH15 (h a φ ψ) : zL (mH h a φ ψ) (a + 15) = ψ 15 := zL_mHi h a φ ψ (by omega)
theorem zsI_mH15 (h a φ ψ) (k : Nat) (v : Int) : zsI (mH h a φ ψ) (a + 15) k v = mH h a (zu φ 15 k v) ψ := zsI_mHi h a φ ψ (by omega) k v
theorem zsL_mH15 (h a φ ψ) (k : Nat) (v : Int) : zsL (mH h a φ ψ) (a + 15) k v = mH h a φ (zu ψ 15 k v) := zsL_mHi h a φ ψ (by omega) k v
theorem zI_mH16 (h a φ ψ) : zI (mH h a φ ψ) (a + 16) = φ 16 := zI_mHi h a φ ψ (by omega)
theorem zL_mH16 (h a φ ψ) : zL (mH h a φ ψ) (a + 16) = ψ 16 := zL_mHi h a φ ψ (by omega)
theorem zsI_mH16 (h a φ ψ) (k : Nat) (v : Int) : zsI (mH h a φ ψ) (a + 16) k v = mH h a (zu φ 16 k v) ψ := zsI_mHi h a φ ψ (by omega) k v
theorem zsL_mH16 (h a φ ψ) (k : Nat) (v : Int) : zsL (mH h a φ ψ) (a + 16) k v = mH h a φ (zu ψ 16 k v) := zsL_mHi h a φ ψ (by omega) k v
theorem zI_mH17 (h a φ ψ) : zI (mH h a φ ψ) (a + 17) = φ 17 := zI_mHi h a φ ψ (by omega)
theorem zL_mH17 (h a φ ψ) : zL (mH h a φ ψ) (a + 17) = ψ 17 := zL_mHi h a φ ψ (by omega)
theorem zsI_mH17 (h a φ ψ) (k : Nat) (v : Int) : zsI (mH h a φ ψ) (a + 17) k v = mH h a (zu φ 17 k v) ψ := zsI_mHi h a φ ψ (by omega) k v
theorem zsL_mH17 (h a φ ψ) (k : Nat) (v : Int) : zsL (mH h a φ ψ) (a + 17) k v = mH h a φ (zu ψ 17 k v) := zsL_mHi h a φ ψ (by omega) k v
theorem zI_mH18 (h a φ ψ) : zI (mH h a φ ψ) (a + 18) = φ 18 := zI_mHi h a φ ψ (by omega)
theorem zL_mH18 (h a φ ψ) : zL (mH h a φ ψ) (a + 18) = ψ 18 := zL_mHi h a φ ψ (by omega)
theorem zsI_mH18 (h a φ ψ) (k : Nat) (v : Int) : zsI (mH h a φ ψ) (a + 18) k v = mH h a (zu φ 18 k v) ψ := zsI_mHi h a φ ψ (by omega) k v
theorem zsL_mH18 (h a φ ψ) (k : Nat) (v : Int) : zsL (mH h a φ ψ) (a + 18) k v = mH h a φ (zu ψ 18 k v) := zsL_mHi h a φ ψ (by omega) k v
theorem zI_mH19 (h a φ ψ) : zI (mH h a φ ψ) (a + 19) = φ 19 := zI_mHi h a φ ψ (by omega)
theorem zL_mH19 (h a φ ψ) : zL (mH h a φ ψ) (a + 19) = ψ 19 := zL_mHi h a φ ψ (by omega)
theorem zsI_mH19 (h a φ ψ) (k : Nat) (v : Int) : zsI (mH h a φ ψ) (a + 19) k v = mH h a (zu φ 19 k v) ψ := zsI_mHi h a φ ψ (by omega) k v
theorem zsL_mH19 (h a φ ψ) (k : Nat) (v : Int) : zsL (mH h a φ ψ) (a + 19) k v = mH h a φ (zu ψ 19 k v) := zsL_mHi h a φ ψ (by omega) k v
theorem zI_mH20 (h a φ ψ) : zI (mH h a φ ψ) (a + 20) = φ 20 := zI_mHi h a φ ψ (by omega)
theorem zL_mH20 (h a φ ψ) : zL (mH h a φ ψ) (a + 20) = ψ 20 := zL_mHi h a φ ψ (by omega)
theorem zsI_mH20 (h a φ ψ) (k : Nat) (v : Int) : zsI (mH h a φ ψ) (a + 20) k v = mH h a (zu φ 20 k v) ψ := zsI_mHi h a φ ψ (by omega) k v
theorem zsL_mH20 (h a φ ψ) (k : Nat) (v : Int) : zsL (mH h a φ ψ) (a + 20) k v = mH h a φ (zu ψ 20 k v) := zsL_mHi h a φ ψ (by omega) k v
theorem zI_mH21 (h a φ ψ) : zI (mH h a φ ψ) (a + 21) = φ 21 := zI_mHi h a φ ψ (by omega)
theorem zL_mH21 (h a φ ψ) : zL (mH h a φ ψ) (a + 21) = ψ 21 := zL_mHi h a φ ψ (by omega)
theorem zsI_mH21 (h a φ ψ) (k : Nat) (v : Int) : zsI (mH h a φ ψ) (a + 21) k v = mH h a (zu φ 21 k v) ψ := zsI_mHi h a φ ψ (by omega) k v
theorem zsL_mH21 (h a φ ψ) (k : Nat) (v : Int) : zsL (mH h a φ ψ) (a + 21) k v = mH h a φ (zu ψ 21 k v) := zsL_mHi h a φ ψ (by omega) k v
theorem zI_mH22 (h a φ ψ) : zI (mH h a φ ψ) (a + 22) = φ 22 := zI_mHi h a φ ψ (by omega)
theorem zL_mH22 (h a φ ψ) : zL (mH h a φ ψ) (a + 22) = ψ 22 := zL_mHi h a φ ψ (by omega)
theorem zsI_mH22 (h a φ ψ) (k : Nat) (v : Int) : zsI (mH h a φ ψ) (a + 22) k v = mH h a (zu φ 22 k v) ψ := zsI_mHi h a φ ψ (by omega) k v
theorem zsL_mH22 (h a φ ψ) (k : Nat) (v : Int) : zsL (mH h a φ ψ) (a + 22) k v = mH h a φ (zu ψ 22 k v) := zsL_mHi h a φ ψ (by omega) k v
theorem zI_mH23 (h a φ ψ) : zI (mH h a φ ψ) (a + 23) = φ 23 := zI_mHi h a φ ψ (by omega)
theorem zL_mH23 (h a φ ψ) : zL (mH h a φ ψ) (a + 23) = ψ 23 := zL_mHi h a φ ψ (by omega)
theorem zsI_mH23 (h a φ ψ) (k : Nat) (v : Int) : zsI (mH h a φ ψ) (a + 23) k v = mH h a (zu φ 23 k v) ψ := zsI_mHi h a φ ψ (by omega) k v
theorem zsL_mH23 (h a φ ψ) (k : Nat) (v : Int) : zsL (mH h a φ ψ) (a + 23) k v = mH h a φ (zu ψ 23 k v) := zsL_mHi h a φ ψ (by omega) k v
theorem zI_mH24 (h a φ ψ) : zI (mH h a φ ψ) (a + 24) = φ 24 := zI_mHi h a φ ψ (by omega)
theorem zL_mH24 (h a φ ψ) : zL (mH h a φ ψ) (a + 24) = ψ 24 := zL_mHi h a φ ψ (by omega)
theorem zsI_mH24 (h a φ ψ) (k : Nat) (v : Int) : zsI (mH h a φ ψ) (a + 24) k v = mH h a (zu φ 24 k v) ψ := zsI_mHi h a φ ψ (by omega) k v
theorem zsL_mH24 (h a φ ψ) (k : Nat) (v : Int) : zsL (mH h a φ ψ) (a + 24) k v = mH h a φ (zu ψ 24 k v) := zsL_mHi h a φ ψ (by omega) k v
theorem zI_mH25 (h a φ ψ) : zI (mH h a φ ψ) (a + 25) = φ 25 := zI_mHi h a φ ψ (by omega)
theorem zL_mH25 (h a φ ψ) : zL (mH h a φ ψ) (a + 25) = ψ 25 := zL_mHi h a φ ψ (by omega)
theorem zsI_mH25 (h a φ ψ) (k : Nat) (v : Int) : zsI (mH h a φ ψ) (a + 25) k v = mH h a (zu φ 25 k v) ψ := zsI_mHi h a φ ψ (by omega) k v
theorem zsL_mH25 (h a φ ψ) (k : Nat) (v : Int) : zsL (mH h a φ ψ) (a + 25) k v = mH h a φ (zu ψ 25 k v) := zsL_mHi h a φ ψ (by omega) k v
theorem zI_mH26 (h a φ ψ) : zI (mH h a φ ψ) (a + 26) = φ 26 := zI_mHi h a φ ψ (by omega)
theorem zL_mH26 (h a φ ψ) : zL (mH h a φ ψ) (a + 26) = ψ 26 := zL_mHi h a φ ψ (by omega)
theorem zsI_mH26 (h a φ ψ) (k : Nat) (v : Int) : zsI (mH h a φ ψ) (a + 26) k v = mH h a (zu φ 26 k v) ψ := zsI_mHi h a φ ψ (by omega) k v
theorem zsL_mH26 (h a φ ψ) (k : Nat) (v : Int) : zsL (mH h a φ ψ) (a + 26) k v = mH h a φ (zu ψ 26 k v) := zsL_mHi h a φ ψ (by omega) k v
theorem zI_mH27 (h a φ ψ) : zI (mH h a φ ψ) (a + 27) = φ 27 := zI_mHi h a φ ψ (by omega)
theorem zL_mH27 (h a φ ψ) : zL (mH h a φ ψ) (a + 27) = ψ 27 := zL_mHi h a φ ψ (by omega)
theorem zsI_mH27 (h a φ ψ) (k : Nat) (v : Int) : zsI (mH h a φ ψ) (a + 27) k v = mH h a (zu φ 27 k v) ψ := zsI_mHi h a φ ψ (by omega) k v
theorem zsL_mH27 (h a φ ψ) (k : Nat) (v : Int) : zsL (mH h a φ ψ) (a + 27) k v = mH h a φ (zu ψ 27 k v) := zsL_mHi h a φ ψ (by omega) k v
theorem zI_mH28 (h a φ ψ) : zI (mH h a φ ψ) (a + 28) = φ 28 := zI_mHi h a φ ψ (by omega)
theorem zL_mH28 (h a φ ψ) : zL (mH h a φ ψ) (a + 28) = ψ 28 := zL_mHi h a φ ψ (by omega)
theorem zsI_mH28 (h a φ ψ) (k : Nat) (v : Int) : zsI (mH h a φ ψ) (a + 28) k v = mH h a (zu φ 28 k v) ψ := zsI_mHi h a φ ψ (by omega) k v
theorem zsL_mH28 (h a φ ψ) (k : Nat) (v : Int) : zsL (mH h a φ ψ) (a + 28) k v = mH h a φ (zu ψ 28 k v) := zsL_mHi h a φ ψ (by omega) k v
theorem zI_mH29 (h a φ ψ) : zI (mH h a φ ψ) (a + 29) = φ 29 := zI_mHi h a φ ψ (by omega)
theorem zL_mH29 (h a φ ψ) : zL (mH h a φ ψ) (a + 29) = ψ 29 := zL_mHi h a φ ψ (by omega)
theorem zsI_mH29 (h a φ ψ) (k : Nat) (v : Int) : zsI (mH h a φ ψ) (a + 29) k v = mH h a (zu φ 29 k v) ψ := zsI_mHi h a φ ψ (by omega) k v
theorem zsL_mH29 (h a φ ψ) (k : Nat) (v : Int) : zsL (mH h a φ ψ) (a + 29) k v = mH h a φ (zu ψ 29 k v) := zsL_mHi h a φ ψ (by omega) k v
theorem zI_mH30 (h a φ ψ) : zI (mH h a φ ψ) (a + 30) = φ 30 := zI_mHi h a φ ψ (by omega)
theorem zL_mH30 (h a φ ψ) : zL (mH h a φ ψ) (a + 30) = ψ 30 := zL_mHi h a φ ψ (by omega)
theorem zsI_mH30 (h a φ ψ) (k : Nat) (v : Int) : zsI (mH h a φ ψ) (a + 30) k v = mH h a (zu φ 30 k v) ψ := zsI_mHi h a φ ψ (by omega) k v
theorem zsL_mH30 (h a φ ψ) (k : Nat) (v : Int) : zsL (mH h a φ ψ) (a + 30) k v = mH h a φ (zu ψ 30 k v) := zsL_mHi h a φ ψ (by omega) k v
theorem zI_mH31 (h a φ ψ) : zI (mH h a φ ψ) (a + 31) = φ 31 := zI_mHi h a φ ψ (by omega)
theorem zL_mH31 (h a φ ψ) : zL (mH h a φ ψ) (a + 31) = ψ 31 := zL_mHi h a φ ψ (by omega)
theorem zsI_mH31 (h a φ ψ) (k : Nat) (v : Int) : zsI (mH h a φ ψ) (a + 31) k v = mH h a (zu φ 31 k v) ψ := zsI_mHi h a φ ψ (by omega) k v
theorem zsL_mH31 (h a φ ψ) (k : Nat) (v : Int) : zsL (mH h a φ ψ) (a + 31) k v = mH h a φ (zu ψ 31 k v) := zsL_mHi h a φ ψ (by omega) k v
theorem zI_mH32 (h a φ ψ) : zI (mH h a φ ψ) (a + 32) = φ 32 := zI_mHi h a φ ψ (by omega)
theorem zL_mH32 (h a φ ψ) : zL (mH h a φ ψ) (a + 32) = ψ 32 := zL_mHi h a φ ψ (by omega)
theorem zsI_mH32 (h a φ ψ) (k : Nat) (v : Int) : zsI (mH h a φ ψ) (a + 32) k v = mH h a (zu φ 32 k v) ψ := zsI_mHi h a φ ψ (by omega) k v
theorem zsL_mH32 (h a φ ψ) (k : Nat) (v : Int) : zsL (mH h a φ ψ) (a + 32) k v = mH h a φ (zu ψ 32 k v) := zsL_mHi h a φ ψ (by omega) k v
theorem zI_mH33 (h a φ ψ) : zI (mH h a φ ψ) (a + 33) = φ 33 := zI_mHi h a φ ψ (by omega)
theorem zL_mH33 (h a φ ψ) : zL (mH h a φ ψ) (a + 33) = ψ 33 := zL_mHi h a φ ψ (by omega)
theorem zsI_mH33 (h a φ ψ) (k : Nat) (v : Int) : zsI (mH h a φ ψ) (a + 33) k v = mH h a (zu φ 33 k v) ψ := zsI_mHi h a φ ψ (by omega) k v
theorem zsL_mH33 (h a φ ψ) (k : Nat) (v : Int) : zsL (mH h a φ ψ) (a + 33) k v = mH h a φ (zu ψ 33 k v) := zsL_mHi h a φ ψ (by omega) k v
theorem zI_mH34 (h a φ ψ) : zI (mH h a φ ψ) (a + 34) = φ 34 := zI_mHi h a φ ψ (by omega)
theorem zL_mH34 (h a φ ψ) : zL (mH h a φ ψ) (a + 34) = ψ 34 := zL_mHi h a φ ψ (by omega)
theorem zsI_mH34 (h a φ ψ) (k : Nat) (v : Int) : zsI (mH h a φ ψ) (a + 34) k v = mH h a (zu φ 34 k v) ψ := zsI_mHi h a φ ψ (by omega) k v
theorem zsL_mH34 (h a φ ψ) (k : Nat) (v : Int) : zsL (mH h a φ ψ) (a + 34) k v = mH h a φ (zu ψ 34 k v) := zsL_mHi h a φ ψ (by omega) k v
theorem zI_mH35 (h a φ ψ) : zI (mH h a φ ψ) (a + 35) = φ 35 := zI_mHi h a φ ψ (by omega)
theorem zL_mH35 (h a φ ψ) : zL (mH h a φ ψ) (a + 35) = ψ 35 := zL_mHi h a φ ψ (by omega)
theorem zsI_mH35 (h a φ ψ) (k : Nat) (v : Int) : zsI (mH h a φ ψ) (a + 35) k v = mH h a (zu φ 35 k v) ψ := zsI_mHi h a φ ψ (by omega) k v
theorem zsL_mH35 (h a φ ψ) (k : Nat) (v : Int) : zsL (mH h a φ ψ) (a + 35) k v = mH h a φ (zu ψ 35 k v) := zsL_mHi h a φ ψ (by omega) k v
theorem zI_mH36 (h a φ ψ) : zI (mH h a φ ψ) (a + 36) = φ 36 := zI_mHi h a φ ψ (by omega)
theorem zL_mH36 (h a φ ψ) : zL (mH h a φ ψ) (a + 36) = ψ 36 := zL_mHi h a φ ψ (by omega)
theorem zsI_mH36 (h a φ ψ) (k : Nat) (v : Int) : zsI (mH h a φ ψ) (a + 36) k v = mH h a (zu φ 36 k v) ψ := zsI_mHi h a φ ψ (by omega) k v
theorem zsL_mH36 (h a φ ψ) (k : Nat) (v : Int) : zsL (mH h a φ ψ) (a + 36) k v = mH h a φ (zu ψ 36 k v) := zsL_mHi h a φ ψ (by omega) k v
theorem zI_mH37 (h a φ ψ) : zI (mH h a φ ψ) (a + 37) = φ 37 := zI_mHi h a φ ψ (by omega)
theorem zL_mH37 (h a φ ψ) : zL (mH h a φ ψ) (a + 37) = ψ 37 := zL_mHi h a φ ψ (by omega)
theorem zsI_mH37 (h a φ ψ) (k : Nat) (v : Int) : zsI (mH h a φ ψ) (a + 37) k v = mH h a (zu φ 37 k v) ψ := zsI_mHi h a φ ψ (by omega) k v
theorem zsL_mH37 (h a φ ψ) (k : Nat) (v : Int) : zsL (mH h a φ ψ) (a + 37) k v = mH h a φ (zu ψ 37 k v) := zsL_mHi h a φ ψ (by omega) k v
theorem zI_mH38 (h a φ ψ) : zI (mH h a φ ψ) (a + 38) = φ 38 := zI_mHi h a φ ψ (by omega)
theorem zL_mH38 (h a φ ψ) : zL (mH h a φ ψ) (a + 38) = ψ 38 := zL_mHi h a φ ψ (by omega)
theorem zsI_mH38 (h a φ ψ) (k : Nat) (v : Int) : zsI (mH h a φ ψ) (a + 38) k v = mH h a (zu φ 38 k v) ψ := zsI_mHi h a φ ψ (by omega) k v
theorem zsL_mH38 (h a φ ψ) (k : Nat) (v : Int) : zsL (mH h a φ ψ) (a + 38) k v = mH h a φ (zu ψ 38 k v) := zsL_mHi h a φ ψ (by omega) k v
theorem zI_mH39 (h a φ ψ) : zI (mH h a φ ψ) (a + 39) = φ 39 := zI_mHi h a φ ψ (by omega)
theorem zL_mH39 (h a φ ψ) : zL (mH h a φ ψ) (a + 39) = ψ 39 := zL_mHi h a φ ψ (by omega)
theorem zsI_mH39 (h a φ ψ) (k : Nat) (v : Int) : zsI (mH h a φ ψ) (a + 39) k v = mH h a (zu φ 39 k v) ψ := zsI_mHi h a φ ψ (by omega) k v
theorem zsL_mH39 (h a φ ψ) (k : Nat) (v : Int) : zsL (mH h a φ ψ) (a + 39) k v = mH h a φ (zu ψ 39 k v) := zsL_mHi h a φ ψ (by omega) k v
theorem zI_mH40 (h a φ ψ) : zI (mH h a φ ψ) (a + 40) = φ 40 := zI_mHi h a φ ψ (by omega)
theorem zL_mH40 (h a φ ψ) : zL (mH h a φ ψ) (a + 40) = ψ 40 := zL_mHi h a φ ψ (by omega)
theorem zsI_mH40 (h a φ ψ) (k : Nat) (v : Int) : zsI (mH h a φ ψ) (a + 40) k v = mH h a (zu φ 40 k v) ψ := zsI_mHi h a φ ψ (by omega) k v
theorem zsL_mH40 (h a φ ψ) (k : Nat) (v : Int) : zsL (mH h a φ ψ) (a + 40) k v = mH h a φ (zu ψ 40 k v) := zsL_mHi h a φ ψ (by omega) k v
theorem zI_mH41 (h a φ ψ) : zI (mH h a φ ψ) (a + 41) = φ 41 := zI_mHi h a φ ψ (by omega)
theorem zL_mH41 (h a φ ψ) : zL (mH h a φ ψ) (a + 41) = ψ 41 := zL_mHi h a φ ψ (by omega)
theorem zsI_mH41 (h a φ ψ) (k : Nat) (v : Int) : zsI (mH h a φ ψ) (a + 41) k v = mH h a (zu φ 41 k v) ψ := zsI_mHi h a φ ψ (by omega) k v
theorem zsL_mH41 (h a φ ψ) (k : Nat) (v : Int) : zsL (mH h a φ ψ) (a + 41) k v = mH h a φ (zu ψ 41 k v) := zsL_mHi h a φ ψ (by omega) k v
theorem zt4 (x y : Nat) : ((4 : Int) * (x : Int) + (y : Int)).toNat = 4 * x + y := by omega
theorem zt_4 (x : Nat) : ((4 : Int) * (x : Int)).toNat = 4 * x := by omega
theorem zt6 (x y : Nat) : ((6 : Int) * (x : Int) + (y : Int)).toNat = 6 * x + y := by omega
theorem zt_6 (x : Nat) : ((6 : Int) * (x : Int)).toNat = 6 * x := by omega
theorem zt9 (x y : Nat) : ((9 : Int) * (x : Int) + (y : Int)).toNat = 9 * x + y := by omega
theorem zt_9 (x : Nat) : ((9 : Int) * (x : Int)).toNat = 9 * x := by omega
theorem zt12 (x y : Nat) : ((12 : Int) * (x : Int) + (y : Int)).toNat = 12 * x + y := by omega
theorem zt_12 (x : Nat) : ((12 : Int) * (x : Int)).toNat = 12 * x := by omega
theorem zt48 (x y : Nat) : ((48 : Int) * (x : Int) + (y : Int)).toNat = 48 * x + y := by omega
theorem zt_48 (x : Nat) : ((48 : Int) * (x : Int)).toNat = 48 * x := by omega
theorem zt97 (x y : Nat) : ((97 : Int) * (x : Int) + (y : Int)).toNat = 97 * x + y := by omega
theorem zt_97 (x : Nat) : ((97 : Int) * (x : Int)).toNat = 97 * x := by omega
theorem zt144 (x y z : Nat) : ((144 : Int) * (x : Int) + (12 * (y : Int) + (z : Int))).toNat = 144 * x + 12 * y + z := by omega
theorem zt144b (x y z : Nat) : ((144 : Int) * (x : Int) + 12 * (y : Int) + (z : Int)).toNat = 144 * x + 12 * y + z := by omega
