/-! ===== the reference is made ===== -/
/-- its first k arrays are made; its own numbers -/
structure zini (h0 : zH) (a : Nat) (h : zH) (k : Nat) (f g : Nat → Int) : Prop where
  sz : zsz h = a + 1 + k
  nn : zN h = zN h0 + (zmoL.take k).foldl (fun s q => s + q.2.2.2) 0
  K : ∀ b, b ≤ a → zK h b = zK h0 b
  lo : ∀ b, b < a → zI h b = zI h0 b ∧ zL h b = zL h0 b ∧ zA h b = zA h0 b
  arr : ∀ q ∈ zmoL.take k, zA h a q.1 = some (a + q.2.1) ∧ zK h (a + q.2.1) = some (Sum.inr (q.2.2.1, q.2.2.2))
  zero : ∀ i, 1 ≤ i → i ≤ k → (zI h (a + i) = fun _ => 0) ∧ (zL h (a + i) = fun _ => 0)
  f : zI h a = f
  g : zL h a = g
section
variable {e : zEv} {a d : Nat} {h0 h : zH} {k : Nat} {f g : Nat → Int}
theorem zini.step (I : zini h0 a h k f g) {fl n : Nat} {ty : FieldType} (hq : zmoL[k]? = some (fl, k + 1, ty, n)) (hd : ((zmoL.take k).all (fun q => decide (q.1 ≠ fl) && decide (q.2.1 ≤ k))) = true) : zini h0 a (zsA (znew h (Sum.inr (ty, n)) n) a fl (some (zsz h))) (k + 1) f g := by
  have hs := I.sz
  have hk : k < zmoL.length := (List.getElem?_eq_some_iff.mp hq).1
  have ht : zmoL.take (k + 1) = zmoL.take k ++ [(fl, k + 1, ty, n)] := by rw [List.take_succ, hq]; rfl
  rw [List.all_eq_true] at hd
  refine ⟨?_, ?_, fun b hb => ?_, fun b hb => ⟨?_, ?_, ?_⟩, fun q hq' => ?_, fun i i1 i2 => ?_, ?_, ?_⟩
  · rw [zsz_sA, zsz_new, hs]; omega
  · have e1 : zN (zsA (znew h (Sum.inr (ty, n)) n) a fl (some (zsz h))) = zN h + n := rfl
    rw [e1, I.nn, ht, List.foldl_append]; simp only [List.foldl_cons, List.foldl_nil]; omega
  · rw [zK_sA, zK_new]; dsimp only; rw [if_neg (by omega)]; exact I.K b hb
  · rw [zI_sA, zI_new]; dsimp only; rw [if_neg (by omega)]; exact (I.lo b hb).1
  · rw [zL_sA, zL_new]; dsimp only; rw [if_neg (by omega)]; exact (I.lo b hb).2.1
  · rw [zA_sA, zu_cell _ _ _ (by omega), zA_new]; dsimp only; rw [if_neg (by omega)]; exact (I.lo b hb).2.2
  · rw [ht, List.mem_append] at hq'
    rcases hq' with q1 | q1
    · have hd' := hd q q1
      rw [Bool.and_eq_true, decide_eq_true_iff, decide_eq_true_iff] at hd'
      obtain ⟨a1, a2⟩ := I.arr q q1
      refine ⟨?_, ?_⟩
      · rw [zA_sA, zu_slot _ _ _ hd'.1, zA_new]; dsimp only; rw [if_neg (by omega)]; exact a1
      · rw [zK_sA, zK_new]; dsimp only; rw [if_neg (by omega)]; exact a2
    · rw [List.mem_singleton] at q1
      subst q1
      refine ⟨?_, ?_⟩
      · rw [zA_sA, zu_same, hs]; congr 1; dsimp only; omega
      · rw [zK_sA, zK_new]; dsimp only; rw [if_pos (by omega)]
  · rw [zI_sA, zL_sA, zI_new, zL_new]
    dsimp only
    by_cases c : i = k + 1
    · rw [if_pos (by omega), if_pos (by omega)]; exact ⟨rfl, rfl⟩
    · rw [if_neg (by omega), if_neg (by omega)]; exact I.zero i i1 (by omega)
  · rw [zI_sA, zI_new]; dsimp only; rw [if_neg (by omega)]; exact I.f
  · rw [zL_sA, zL_new]; dsimp only; rw [if_neg (by omega)]; exact I.g
theorem zini.sI (I : zini h0 a h k f g) (j : Nat) (v : Int) : zini h0 a (zsI h a j v) k (zup f j v) g := by
  rw [zsI_f, I.f]
  refine ⟨I.sz, I.nn, I.K, fun b hb => ⟨?_, (I.lo b hb).2.1, (I.lo b hb).2.2⟩, I.arr, fun i i1 i2 => ⟨?_, (I.zero i i1 i2).2⟩, zI_fI_s _ _ _, I.g⟩
  · rw [zI_fI_n _ _ (by omega)]; exact (I.lo b hb).1
  · rw [zI_fI_n _ _ (by omega)]; exact (I.zero i i1 i2).1
theorem zini.sL (I : zini h0 a h k f g) (j : Nat) (v : Int) : zini h0 a (zsL h a j v) k f (zup g j v) := by
  rw [zsL_f, I.g]
  refine ⟨I.sz, I.nn, I.K, fun b hb => ⟨(I.lo b hb).1, ?_, (I.lo b hb).2.2⟩, I.arr, fun i i1 i2 => ⟨(I.zero i i1 i2).1, ?_⟩, I.f, zL_fL_s _ _ _⟩
  · rw [zL_fL_n _ _ (by omega)]; exact (I.lo b hb).2.1
  · rw [zL_fL_n _ _ (by omega)]; exact (I.zero i i1 i2).2
end
