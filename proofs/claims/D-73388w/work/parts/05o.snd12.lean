/-! ===== M is sound (12): an exception's cell ===== -/
theorem zRel_ex {s0 : State} {D : zD} {h : zH} {H H1 : Heap} {ci n : Nat} {ce : Cell} {r : vw_C} (hR : zRel s0 D h H) (hci : zcl[ci]? = some r) (h0 : r.2.2 = 0) (e1 : H1.size = H.size + 1) (e2 : ∀ z : Nat, z < H.size → H1[z]? = H[z]?) (e3 : H1[H.size]? = some ce) (hv : ce.vm = .none) (hc : ce.cls = D.1 ci) : zRel s0 D (znew h (Sum.inl ci) n) H1 := by
  obtain ⟨r1, r2, r3, r4, r5⟩ := hR
  have hold : ∀ b x, H[b]? = some x → H1[b]? = H[b]? := fun b x hb => e2 b (Array.getElem?_eq_some_iff.mp hb).1
  refine ⟨by rw [e1, r1, zsz_new], by rw [zsz_new]; omega, fun q hq => by rw [e2 q (by omega)]; exact r3 q hq, fun b ci' hb => ?_, fun b ty k hb => ?_⟩
  · rw [zK_new] at hb
    by_cases hbz : b = zsz h
    · subst hbz
      simp only [if_true, Option.some.injEq] at hb
      cases hb
      refine ⟨r, ce, hci, by rw [← r1]; exact e3, hc, by rw [hv]; exact fun z => (by cases z), by rw [hv]; rfl, fun _ => hv, fun k hk => ?_⟩
      rw [h0] at hk
      exact absurd hk (Nat.not_lt_zero k)
    · simp only [if_neg hbz] at hb
      obtain ⟨r', cl, g1, g2, g3, g4, g5, g6, g7⟩ := r4 b ci' hb
      exact ⟨r', cl, g1, by rw [hold b _ g2]; exact g2, g3, g4, g5, g6, fun k hk => by rw [zval_ne hbz]; exact g7 k hk⟩
  · rw [zK_new] at hb
    by_cases hbz : b = zsz h
    · subst hbz
      simp only [if_true, Option.some.injEq] at hb
      cases hb
    · simp only [if_neg hbz] at hb
      obtain ⟨cl, g2, g3, g4, g5, g6, g7, g8, g9⟩ := r5 b ty k hb
      exact ⟨cl, by rw [hold b _ g2]; exact g2, g3, g4, g5, g6, g7, g8, fun j hj => by rw [zval_ne hbz]; exact g9 j hj⟩
theorem zS0 {s0 s : State} {D : zD} {h : zH} {H : Heap} {locs : List Loc} (hR : zRel s0 D h H) (hlo : ∀ q ∈ locs, s0.heap.size ≤ q.base) : va_S (fun a => s0.heap.size ≤ a) s0.heap H locs := ⟨by rw [hR.1]; exact hR.2.1, fun q hq _ => hR.2.2.1 q hq, hlo⟩
theorem zSs_at {s0 s : State} {D : zD} {h : zH} {H : Heap} {C n d : String} (hwm : s0.WarmedH s.vm) (hR : zRel s0 D h H) (hs : s0.heap.size ≤ s.heap.size) (hold : ∀ q, q < s0.heap.size → s.heap[q]? = s0.heap[q]?) (hz : vx_Zq C n d (fun a => s0.heap.size ≤ a) s0 s0.heap) : vx_Zq C n d (fun a => s0.heap.size ≤ a) s s.heap :=
  vx_Zq.moved hwm.alike (hz.kept (fun a ha _ => hold a ha))
section
variable {B : zB} {mi : Nat → zMI} {I : zMI} {pc nx : Nat}
theorem snd_mk {ik is ic ci j : Nat} {cls text : String} {names : List String} {r : vw_C} (hci : zcl[ci]? = some r) (h0 : r.2.2 = 0) (hrc : r.1 = cls) (hcls : Bundle.fit cls = true) (hnames : ∀ n ∈ names, Bundle.fit n = true) (hnl : names.length ≤ 4) (hk : zW (Cond.classLink I.1.cls ik cls)) (hini : zW (Cond.initialized cls)) (hj : B.2.1[j]? = some (I.1.cls, is, text))
    (hat : ∀ w ∈ vx_atS I.1.cls ic cls names, zW w) (hgood : ∀ w ∈ Cond.classLink I.1.cls ik cls :: Cond.initialized cls :: vx_atS I.1.cls ic cls names, vx_ot w = true)
    (d0 : decode I.2.1 pc = .ok (.new ik, 3)) (d3 : decode I.2.1 (pc + 3) = .ok (.dup, 1)) (d4 : decode I.2.1 (pc + 4) = .ok (.ldc is, 2)) (d6 : decode I.2.1 (pc + 6) = .ok (.invokespecial ic, 3)) (hn : pc + 9 = nx) : zSnd B mi I pc (za_mk ci 6 nx) := by
  intro s0 b0 D l d p e R s m args below meth c C Q cF sF c0 n0 L S h K E H ls locs cells slots X hC hb1 hb2 hP ha hK hE
  obtain ⟨hx, hb, hr, hml, hown, hlk, hnm, hwd, hwm, hfx, hRf, hRl, hfl, hex, hB, hSt⟩ := X
  subst hn
  obtain ⟨hlen, ha⟩ := (show S.length ≤ 24 ∧ K (pc + 9) L (Sum.inr (Sum.inl (some (zsz h))) :: S) (znew h (Sum.inl ci) 6) from ha)
  have hm := (hK _ _ _ _ ha).1
  rw [zsz_new, zN_new] at hm
  have q1 := hP.2.2.1
  have q2 := hP.2.2.2.1
  have hz := zcat_le S
  intro T hT Xs
  have hS9 : va_S (fun a => s0.heap.size ≤ a) s.heap H locs := ⟨by rw [← hT]; exact Xs.same.2.1, fun q hq hn => (by
    have hq0 : q < s0.heap.size := Nat.lt_of_not_le hn
    rw [hP.1.2.2.1 q hq0, hSt.2.2.2 q hq0]), hP.2.2.2.2⟩
  refine zx_makeS hx hb (by rw [Launch.stackTraces, hfl]; rfl) hown hcls hnames (hk s0 s b0 args hwd hwm) (hini s0 s b0 args hwd hwm) (vk_R.warm hwm (hSt.1 j _ hj)) (fun w hw => hat w hw s0 s b0 args hwd hwm) hgood (vx_Zq.moved hwm.alike (hSt.2.1.2.1.kept (fun a ha _ => hSt.2.2.2 a ha))) (vx_Zq.moved hwm.alike (hSt.2.1.2.2.kept (fun a ha _ => hSt.2.2.2 a ha))) hS9 (by rw [hml]; exact hP.2.1.1) d0 d3 d4 d6 (by omega) ?_ (by omega) (by omega) (fun H1 ce e1 e2 e3 e4 e5 => ?_) T hT Xs
  · replace hRl := Nat.le_trans (Nat.le_add_left 12000 (128 * (d + 1))) hRl
    refine Nat.le_trans ?_ (Nat.le_trans (Nat.le_of_ble_eq_true rfl : 500 ≤ 12000) hRl)
    omega
  · have hKn := u_Kn_moved hwm.alike (hfx.1 _ _ hci)
    have hcc : ce.cls = D.1 ci := by rw [← hrc] at e5; exact Option.some.inj (e5.symm.trans hKn.2.1)
    have k9 := hK.go ha (hP.nw (zRel_ex hP.1 hci h0 e1 e2 e3 e4 hcc))
    rw [List.map_cons, show zv (Sum.inr (Sum.inl (some (zsz h)))) = Value.ref H.size by rw [hP.1.1]; rfl] at k9
    exact k9
theorem snd_aldN {hp ci nb : Nat} {r : vw_C} {x : ExceptionTableEntry} {nm : String} (hci : zcl[ci]? = some r) (h0 : r.2.2 = 0) (hrc : r.1 = "java/lang/NullPointerException") (hat : ∀ w ∈ vx_atN nb, zW w) (hgood : ∀ w ∈ vx_atN nb, vx_ot w = true) (htab : tableOf I.2.2.2.2 = [x]) (hcov : covers x pc = true) (hct : x.catchType ≠ 0) (hw1 : zW (Cond.classLink I.1.cls x.catchType nm)) (hw2 : zW (Cond.castable r.1 nm)) (hhp : x.handlerPc = hp) (hd : decode I.2.1 pc = .ok (.iaload, 1)) (hn : pc + 1 = nx) : zSnd B mi I pc (za_aldN .int nx hp ci nb) := by
  intro s0 b0 D l d p e R s m args below meth c C Q cF sF c0 n0 L S h K E H ls locs cells slots X hC hb1 hb2 hP ha hK hE
  obtain ⟨hx, hb, hr, hml, hown, hlk, hnm, hwd, hwm, hfx, hRf, hRl, hfl, hex, hB, hSt⟩ := X
  subst hn
  match S, ha with
  | Sum.inl i :: Sum.inr (Sum.inl (some a)) :: S, ha =>
    obtain ⟨n, a1, a2, a3, a4⟩ := ha
    obtain ⟨cell, g2, g3, g4, g5, g6, g7, g8, g9⟩ := hP.1.2.2.2.2 a _ n a1
    have hlt : (zn i).toNat < n := by omega
    exact W.iald (v := .int (Int32.ofInt (zI h a (zn i).toNat))) hx hb g2 (State.isArrayOf_alike hwm.alike g5) g3 (zin a2 a3 g8) (by rw [zt_c, (g9 _ hlt).1]; rfl) rfl rfl hd (hK.go a4 hP)
  | Sum.inl i :: Sum.inr (Sum.inl none) :: S, ha =>
    obtain ⟨hlen, ha⟩ := (show S.length ≤ 24 ∧ K hp L [Sum.inr (Sum.inl (some (zsz h)))] (znew h (Sum.inl ci) nb) from ha)
    have hm := (hK _ _ _ _ ha).1
    rw [zsz_new, zN_new] at hm
    have q1 := hP.2.2.1
    have q2 := hP.2.2.2.1
    have hz := zcat_le S
    intro T hT Xs
    have hS9 : va_S (fun a => s0.heap.size ≤ a) s.heap H locs := ⟨by rw [← hT]; exact Xs.same.2.1, fun q hq hn => (by
      have hq0 : q < s0.heap.size := Nat.lt_of_not_le hn
      rw [hP.1.2.2.1 q hq0, hSt.2.2.2 q hq0]), hP.2.2.2.2⟩
    refine vx_ialoadN hx hb hd (zx_npe hx (by rw [Launch.stackTraces, hfl]; rfl) (fun w hw => hat w hw s0 s b0 args hwd hwm) hgood (vx_Zq.moved hwm.alike (hSt.2.1.2.1.kept (fun a ha _ => hSt.2.2.2 a ha))) (vx_Zq.moved hwm.alike (hSt.2.1.2.2.kept (fun a ha _ => hSt.2.2.2 a ha))) hS9 (by rw [hml]; exact hP.2.1.1) (by omega) ?_ (by omega) (by omega) hlk (fun H1 ce e1 e2 e3 e4 e5 => ?_)) T hT Xs
    · replace hRl := Nat.le_trans (Nat.le_add_left 12000 (128 * (d + 1))) hRl
      refine Nat.le_trans ?_ (Nat.le_trans (Nat.le_of_ble_eq_true rfl : 48 + 10240 ≤ 12000) hRl)
      exact Nat.add_le_add_right (by omega) 10240
    · have hKn := u_Kn_moved hwm.alike (hfx.1 _ _ hci)
      have hcc : ce.cls = D.1 ci := by rw [← hrc] at e5; exact Option.some.inj (e5.symm.trans hKn.2.1)
      have k9 := hK.go ha (hP.nw (zRel_ex hP.1 hci h0 e1 e2 e3 e4 hcc))
      rw [List.map_cons, show zv (Sum.inr (Sum.inl (some (zsz h)))) = Value.ref H.size by rw [hP.1.1]; rfl] at k9
      subst hhp
      exact vx_catch hown [] x [] (by rw [hex, htab]; rfl) (fun z hz => absurd hz List.not_mem_nil) hcov hct (hw1 s0 s b0 args hwd hwm) (hw2 s0 s b0 args hwd hwm) e3 e4 (by rw [hrc]; exact e5) k9
end
