/-! ===== M is sound (3): switches, fields, arrays, new cells, ends ===== -/
def zts (lo : Int) (tg : List Nat) (dt : Nat) : Int → Nat := fun x => if lo ≤ x ∧ x < lo + tg.length then tg.getD (x - lo).toNat dt else dt
def zls : List (Int × Nat) → Nat → Int → Nat
  | [], dt, _ => dt
  | (k, t) :: r, dt, x => if x = k then t else zls r dt x
section
variable {B : zB} {mi : Nat → zMI} {I : zMI} {pc nx : Nat}
theorem snd_table {dflt lo hi : Int} {offs : Array Int} {len dt : Nat} {tg : List Nat} (hd : decode I.2.1 pc = .ok (.tableswitch dflt lo hi offs, len)) (h1 : (pc : Int) + dflt = (dt : Int)) (h2 : offs.toList = tg.map (fun t : Nat => (t : Int) - (pc : Int))) (h3 : lo + (tg.length : Int) = hi + 1) : zSnd B mi I pc (za_sw (zts lo tg dt)) := by
  intro s0 b0 D l d p e R s m args below meth c C Q cF sF c0 n0 L S h K E H ls locs cells slots X hC hb1 hb2 hP ha hK hE
  obtain ⟨hx, hb, hr, hml, hown, hlk, hnm, hwd, hwm, hfx, hRf, hRl, hfl, hex, hB, hSt⟩ := X
  match S, ha with
  | Sum.inl x :: S, ha =>
    have ht := zt_i x
    by_cases hin : lo ≤ zn x ∧ zn x < lo + tg.length
    · have hlt : (zn x - lo).toNat < tg.length := by omega
      have hs : offs[(zn x - lo).toNat]? = some ((tg[(zn x - lo).toNat] : Int) - pc) := by
        rw [← Array.getElem?_toList, h2, List.getElem?_map, List.getElem?_eq_getElem hlt]
        rfl
      refine lv_tableIn (tgt := tg[(zn x - lo).toNat]) hx hb hd (by rw [ht]; omega) (by rw [ht]; omega) (by rw [ht]; exact hs) (by omega) ?_
      have k := hK.go ha hP
      rw [show zts lo tg dt (zn x) = tg[(zn x - lo).toNat] by unfold zts; rw [if_pos hin, List.getD_eq_getElem?_getD, List.getElem?_eq_getElem hlt]; rfl] at k
      exact k
    · refine lv_tableOut (tgt := dt) hx hb hd (by rw [ht]; omega) h1 ?_
      have k := hK.go ha hP
      rw [show zts lo tg dt (zn x) = dt by unfold zts; rw [if_neg hin]] at k
      exact k
theorem z_look (ps : List (Int × Nat)) (dt pc : Nat) (d x : Int) (hd : (pc : Int) + d = (dt : Int)) : (pc : Int) + Op.lookupswitch.offset (ps.map (fun q => (q.1, (q.2 : Int) - (pc : Int)))) d x = (zls ps dt x : Int) := by
  induction ps with
  | nil => simpa [Op.lookupswitch.offset, zls] using hd
  | cons q r ih =>
    obtain ⟨k, t⟩ := q
    by_cases hk : x = k
    · subst hk
      simp [Op.lookupswitch.offset, zls]
      omega
    · have hk' : ¬ k = x := fun z => hk z.symm
      simp only [List.map_cons, Op.lookupswitch.offset, zls, if_neg hk]
      first
        | rw [if_neg hk]; exact ih
        | rw [if_neg hk']; exact ih
        | (simp [hk, hk']; exact ih)
theorem snd_lookup {dflt : Int} {qs : Array (Int × Int)} {len dt : Nat} {ps : List (Int × Nat)} (hd : decode I.2.1 pc = .ok (.lookupswitch dflt qs, len)) (h1 : (pc : Int) + dflt = (dt : Int)) (h2 : qs.toList = ps.map (fun q => (q.1, (q.2 : Int) - (pc : Int)))) (h3 : (qs.toList.zip (qs.toList.drop 1)).all (fun (a, next) => a.1 < next.1) = true) : zSnd B mi I pc (za_sw (zls ps dt)) := by
  intro s0 b0 D l d p e R s m args below meth c C Q cF sF c0 n0 L S h K E H ls locs cells slots X hC hb1 hb2 hP ha hK hE
  obtain ⟨hx, hb, hr, hml, hown, hlk, hnm, hwd, hwm, hfx, hRf, hRl, hfl, hex, hB, hSt⟩ := X
  match S, ha with
  | Sum.inl x :: S, ha =>
    refine lv_lookup (tgt := zls ps dt (zn x)) hx hb hd h3 rfl ?_ (hK.go ha hP)
    rw [zt_i, h2]
    exact z_look ps dt pc dflt (zn x) h1
/-! fields -/
theorem zfind {s0 s : State} {D : zD} {b0 : Nat} {args : Array Value} (hfx : zFx s0 D) (hwd : ∀ w ∈ zt, w.before #[Value.ref b0] s0 = true) (hwm : s0.WarmedH s.vm) {ci k N : Nat} {Cn : String} {T : u_T} (hc : zcl[ci]? = some (Cn, T, N)) (hk : k < N) (hin : ∀ w ∈ u_ws Cn T N, w ∈ lw_all) :
    ∃ (cf : ClassId) (kf : Class) (fi : Nat) (f : Field) (kC : Class), s.fieldFound? (T k).1 (T k).2.1 (T k).2.2.1 = some (cf, kf, fi, f) ∧ f.slot = D.2 ci k ∧ f.isStatic = false ∧ s.vm.findClass Cn = some (D.1 ci) ∧ s.vm.classes[D.1 ci]? = some kC ∧ kC.kind = .ordinary := by
  obtain ⟨hS, hfc, kC, hkC, hkind⟩ := u_Kn_moved hwm.alike (hfx.1 ci _ hc)
  obtain ⟨cf, kf, fi, f, hi, hsl⟩ := hS k hk
  have hts : ∀ w ∈ lw_all, w.before args s = true := fun w hw => zW_all hw s0 s b0 args hwd hwm
  exact ⟨cf, kf, fi, f, kC, hi, hsl, (u_facts hfc hkC (u_lays hts hin hk) hi).1, hfc, hkC, hkind⟩
theorem snd_getI {ci k N idx : Nat} {Cn : String} {T : u_T} (hc : zcl[ci]? = some (Cn, T, N)) (hk : k < N) (hin : ∀ w ∈ u_ws Cn T N, w ∈ lw_all) (hv : ∀ (h : zH) (a : Nat), zval (zty ci k) h a k = .int (Int32.ofInt (zI h a k))) (hw : zW (Cond.fieldLink I.1.cls idx (T k).1 (T k).2.1 (T k).2.2.1)) (hd : decode I.2.1 pc = .ok (.getfield idx, 3)) (hn : pc + 3 = nx) : zSnd B mi I pc (za_getI ci k nx) := by
  intro s0 b0 D l d p e R s m args below meth c C Q cF sF c0 n0 L S h K E H ls locs cells slots X hC hb1 hb2 hP ha hK hE
  obtain ⟨hx, hb, hr, hml, hown, hlk, hnm, hwd, hwm, hfx, hRf, hRl, hfl, hex, hB, hSt⟩ := X
  subst hn
  match S, ha with
  | Sum.inr (Sum.inl (some a)) :: S, ha =>
    obtain ⟨cf, kf, fi, f, kC, hi, hsl, hst, -, -, -⟩ := zfind (s := s) (args := args) hfx hwd hwm hc hk hin
    obtain ⟨r, cell, g1, g2, g3, g4, g5, g6, g7⟩ := hP.1.2.2.2.1 a ci ha.1
    have hr9 : r = (Cn, T, N) := Option.some.inj (g1.symm.trans hc)
    subst hr9
    exact W.getf (v := .int (Int32.ofInt (zI h a k))) hx hb hown (hw s0 s b0 args hwd hwm) hi hst g2 g4 (by rw [hsl, g7 k hk, hv]) rfl rfl hd (hK.go ha.2 hP)
theorem snd_getIN {ci k N idx : Nat} {Cn : String} {T : u_T} {host : String} (hc : zcl[ci]? = some (Cn, T, N)) (hk : k < N) (hin : ∀ w ∈ u_ws Cn T N, w ∈ lw_all) (hv : ∀ (h : zH) (a : Nat), zval (zty ci k) h a k = .int (Int32.ofInt (zI h a k))) (hw : zW (Cond.fieldLinkNest I.1.cls idx (T k).1 (T k).2.1 (T k).2.2.1 host)) (hd : decode I.2.1 pc = .ok (.getfield idx, 3)) (hn : pc + 3 = nx) : zSnd B mi I pc (za_getI ci k nx) := by
  intro s0 b0 D l d p e R s m args below meth c C Q cF sF c0 n0 L S h K E H ls locs cells slots X hC hb1 hb2 hP ha hK hE
  obtain ⟨hx, hb, hr, hml, hown, hlk, hnm, hwd, hwm, hfx, hRf, hRl, hfl, hex, hB, hSt⟩ := X
  subst hn
  match S, ha with
  | Sum.inr (Sum.inl (some a)) :: S, ha =>
    obtain ⟨cf, kf, fi, f, kC, hi, hsl, hst, -, -, -⟩ := zfind (s := s) (args := args) hfx hwd hwm hc hk hin
    obtain ⟨r, cell, g1, g2, g3, g4, g5, g6, g7⟩ := hP.1.2.2.2.1 a ci ha.1
    have hr9 : r = (Cn, T, N) := Option.some.inj (g1.symm.trans hc)
    subst hr9
    exact va_Wgetf (v := .int (Int32.ofInt (zI h a k))) hx hb hown (hw s0 s b0 args hwd hwm) hi hst g2 g4 (by rw [hsl, g7 k hk, hv]) rfl rfl hd (hK.go ha.2 hP)
theorem snd_getL {ci k N idx : Nat} {Cn : String} {T : u_T} (hc : zcl[ci]? = some (Cn, T, N)) (hk : k < N) (hin : ∀ w ∈ u_ws Cn T N, w ∈ lw_all) (hv : ∀ (h : zH) (a : Nat), zval (zty ci k) h a k = .long (Int64.ofInt (zL h a k))) (hw : zW (Cond.fieldLink I.1.cls idx (T k).1 (T k).2.1 (T k).2.2.1)) (hd : decode I.2.1 pc = .ok (.getfield idx, 3)) (hn : pc + 3 = nx) : zSnd B mi I pc (za_getL ci k nx) := by
  intro s0 b0 D l d p e R s m args below meth c C Q cF sF c0 n0 L S h K E H ls locs cells slots X hC hb1 hb2 hP ha hK hE
  obtain ⟨hx, hb, hr, hml, hown, hlk, hnm, hwd, hwm, hfx, hRf, hRl, hfl, hex, hB, hSt⟩ := X
  subst hn
  match S, ha with
  | Sum.inr (Sum.inl (some a)) :: S, ha =>
    obtain ⟨cf, kf, fi, f, kC, hi, hsl, hst, -, -, -⟩ := zfind (s := s) (args := args) hfx hwd hwm hc hk hin
    obtain ⟨r, cell, g1, g2, g3, g4, g5, g6, g7⟩ := hP.1.2.2.2.1 a ci ha.1
    have hr9 : r = (Cn, T, N) := Option.some.inj (g1.symm.trans hc)
    subst hr9
    exact W.getf (v := .long (Int64.ofInt (zL h a k))) hx hb hown (hw s0 s b0 args hwd hwm) hi hst g2 g4 (by rw [hsl, g7 k hk, hv]) rfl rfl hd (hK.go ha.2 hP)
theorem snd_getLN {ci k N idx : Nat} {Cn : String} {T : u_T} {host : String} (hc : zcl[ci]? = some (Cn, T, N)) (hk : k < N) (hin : ∀ w ∈ u_ws Cn T N, w ∈ lw_all) (hv : ∀ (h : zH) (a : Nat), zval (zty ci k) h a k = .long (Int64.ofInt (zL h a k))) (hw : zW (Cond.fieldLinkNest I.1.cls idx (T k).1 (T k).2.1 (T k).2.2.1 host)) (hd : decode I.2.1 pc = .ok (.getfield idx, 3)) (hn : pc + 3 = nx) : zSnd B mi I pc (za_getL ci k nx) := by
  intro s0 b0 D l d p e R s m args below meth c C Q cF sF c0 n0 L S h K E H ls locs cells slots X hC hb1 hb2 hP ha hK hE
  obtain ⟨hx, hb, hr, hml, hown, hlk, hnm, hwd, hwm, hfx, hRf, hRl, hfl, hex, hB, hSt⟩ := X
  subst hn
  match S, ha with
  | Sum.inr (Sum.inl (some a)) :: S, ha =>
    obtain ⟨cf, kf, fi, f, kC, hi, hsl, hst, -, -, -⟩ := zfind (s := s) (args := args) hfx hwd hwm hc hk hin
    obtain ⟨r, cell, g1, g2, g3, g4, g5, g6, g7⟩ := hP.1.2.2.2.1 a ci ha.1
    have hr9 : r = (Cn, T, N) := Option.some.inj (g1.symm.trans hc)
    subst hr9
    exact va_Wgetf (v := .long (Int64.ofInt (zL h a k))) hx hb hown (hw s0 s b0 args hwd hwm) hi hst g2 g4 (by rw [hsl, g7 k hk, hv]) rfl rfl hd (hK.go ha.2 hP)
theorem snd_getA {ci k N idx : Nat} {Cn : String} {T : u_T} (hc : zcl[ci]? = some (Cn, T, N)) (hk : k < N) (hin : ∀ w ∈ u_ws Cn T N, w ∈ lw_all) (hv : ∀ (h : zH) (a : Nat), zval (zty ci k) h a k = va_rf (zA h a k)) (hw : zW (Cond.fieldLink I.1.cls idx (T k).1 (T k).2.1 (T k).2.2.1)) (hd : decode I.2.1 pc = .ok (.getfield idx, 3)) (hn : pc + 3 = nx) : zSnd B mi I pc (za_getA ci k nx) := by
  intro s0 b0 D l d p e R s m args below meth c C Q cF sF c0 n0 L S h K E H ls locs cells slots X hC hb1 hb2 hP ha hK hE
  obtain ⟨hx, hb, hr, hml, hown, hlk, hnm, hwd, hwm, hfx, hRf, hRl, hfl, hex, hB, hSt⟩ := X
  subst hn
  match S, ha with
  | Sum.inr (Sum.inl (some a)) :: S, ha =>
    obtain ⟨cf, kf, fi, f, kC, hi, hsl, hst, -, -, -⟩ := zfind (s := s) (args := args) hfx hwd hwm hc hk hin
    obtain ⟨r, cell, g1, g2, g3, g4, g5, g6, g7⟩ := hP.1.2.2.2.1 a ci ha.1
    have hr9 : r = (Cn, T, N) := Option.some.inj (g1.symm.trans hc)
    subst hr9
    exact W.getf (v := va_rf (zA h a k)) hx hb hown (hw s0 s b0 args hwd hwm) hi hst g2 g4 (by rw [hsl, g7 k hk, hv]) rfl rfl hd ((by have k9 := hK.go ha.2 hP; rw [List.map_cons, ← z_rf] at k9; exact k9))
theorem snd_getAN {ci k N idx : Nat} {Cn : String} {T : u_T} {host : String} (hc : zcl[ci]? = some (Cn, T, N)) (hk : k < N) (hin : ∀ w ∈ u_ws Cn T N, w ∈ lw_all) (hv : ∀ (h : zH) (a : Nat), zval (zty ci k) h a k = va_rf (zA h a k)) (hw : zW (Cond.fieldLinkNest I.1.cls idx (T k).1 (T k).2.1 (T k).2.2.1 host)) (hd : decode I.2.1 pc = .ok (.getfield idx, 3)) (hn : pc + 3 = nx) : zSnd B mi I pc (za_getA ci k nx) := by
  intro s0 b0 D l d p e R s m args below meth c C Q cF sF c0 n0 L S h K E H ls locs cells slots X hC hb1 hb2 hP ha hK hE
  obtain ⟨hx, hb, hr, hml, hown, hlk, hnm, hwd, hwm, hfx, hRf, hRl, hfl, hex, hB, hSt⟩ := X
  subst hn
  match S, ha with
  | Sum.inr (Sum.inl (some a)) :: S, ha =>
    obtain ⟨cf, kf, fi, f, kC, hi, hsl, hst, -, -, -⟩ := zfind (s := s) (args := args) hfx hwd hwm hc hk hin
    obtain ⟨r, cell, g1, g2, g3, g4, g5, g6, g7⟩ := hP.1.2.2.2.1 a ci ha.1
    have hr9 : r = (Cn, T, N) := Option.some.inj (g1.symm.trans hc)
    subst hr9
    exact va_Wgetf (v := va_rf (zA h a k)) hx hb hown (hw s0 s b0 args hwd hwm) hi hst g2 g4 (by rw [hsl, g7 k hk, hv]) rfl rfl hd ((by have k9 := hK.go ha.2 hP; rw [List.map_cons, ← z_rf] at k9; exact k9))
end
