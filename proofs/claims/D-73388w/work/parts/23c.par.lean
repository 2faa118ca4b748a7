/-! ===== maths: as many laws as classes; each law has its partner; names ===== -/
section
variable {T : yT} {N : Nat} {m : Nat → Nat → Nat} {iv : Nat → Nat} {tr : Nat → Int} {c : Nat → Nat} {e : Nat × List Nat × List Nat × List (Nat × Nat)}
theorem yEx.lawlen (V : yV T) (E : yEx T N m iv tr c e) : (ylw T).length = yK T := by
  have pw := xdis_pw E.parts.2.2.2.2.2.1
  have nd : (e.2.2.2.map (fun p => yvG T (yGf c p.1))).Nodup := by
    rw [List.nodup_iff_pairwise_ne, List.pairwise_map]
    exact List.Pairwise.imp_of_mem (fun {p q} hp hq h => E.ne V hp hq h) pw
  have := nd.length_le_of_subset (l₂ := ylw T) fun v hv => by
    obtain ⟨p, hp, ep⟩ := List.mem_map.mp hv
    rw [← ep]; exact E.law V hp
  rw [List.length_map, ← E.parts.2.2.2.1] at this
  have k := E.K V.v0
  have l := ylw_12 V
  omega
theorem yEx.fe (V : yV T) (E : yEx T N m iv tr c e) {p : Nat × Nat} (hp : p ∈ e.2.2.2) {a b : Nat} (ha : a < Tm T) (hb : b < Tm T) : yEs T (yGf c p.1) a b % 97 = ((Tm T : Int) * (yGf c p.1 a * yGf c p.1 b)) % 97 := by
  have cf := E.cf V hp
  have q := xlaw_parts (E.parts.2.2.2.2.2.2.1 p hp)
  obtain ⟨k, hk, mk⟩ := E.ld V.v0 ha
  obtain ⟨k', hk', mk'⟩ := E.ld V.v0 hb
  rw [← V.Es_a cf ha hb hk, ← V.Es_b (V.cj hk ha) hb hk', ← cf k a hk ha, ← cf k' b hk' hb]
  have f := q.2.2.2.1 _ _ mk mk'
  unfold xfe at f
  have f := Nat.eq_of_beq_eq_true f
  have f : (Tm T * (xgv p.1 (c (ycj T k a)) * xgv p.1 (c (ycj T k' b)))) % 97 = xsmg p.1 (e.2.1.map (fun h => m (c (ycj T k a)) (xcjc m iv h (c (ycj T k' b))))) % 97 := by rw [← E.len]; exact f
  have f2 : (((Tm T * (xgv p.1 (c (ycj T k a)) * xgv p.1 (c (ycj T k' b))) : Nat) : Int)) % 97 = ((xsmg p.1 (e.2.1.map (fun h => m (c (ycj T k a)) (xcjc m iv h (c (ycj T k' b))))) : Nat) : Int) % 97 := by exact_mod_cast f
  rw [xsmg_sum, E.sum] at f2
  unfold yGf
  refine Eq.trans ?_ (f2.symm.trans (by push_cast; rfl))
  congr 1
  unfold yEs
  refine ysum_cg fun h hh => ?_
  show (xgv p.1 (c (yth T (ycj T k a) (ycj T h (ycj T k' b)))) : Int) = _
  rw [E.th (V.cj hk ha) (V.cj hh (V.cj hk' hb)), E.cj V.v0 hh (V.cj hk' hb)]
theorem yV.cj_iv2 (V : yV T) {k b : Nat} (hk : k < Tm T) (hb : b < Tm T) : yiv T (ycj T k b) = ycj T k (yiv T b) := by
  refine (V.iv_uniq (V.cj hk hb) (V.cj hk (V.iv hb)) ?_).symm
  rw [← V.cj_th hk hb (V.iv hb), V.ivr hb]
  unfold ycj; rw [V.id2 hk, V.ivr hk]
/-- each law has its partner -/
theorem yEx.partner (V : yV T) (E : yEx T N m iv tr c e) {i : Nat} (hi : i < (ylw T).length) : ∃ k, k < (ylw T).length ∧ ∀ s, s < yK T → ylx T k s = ylx T i (ybk T s) := by
  obtain ⟨p, hp, ep⟩ := E.all V (List.getElem_mem hi)
  have cf := E.cf V hp
  have cf2 : ycf T (fun a => yGf c p.1 (yiv T a)) := fun k a hk ha => by
    show yGf c p.1 (yiv T (ycj T k a)) = _
    rw [V.cj_iv2 hk ha, cf k _ hk (V.iv ha)]
  have law := yvG_law V cf2 (by
    show yGf c p.1 (yiv T 0) = 1
    rw [V.iv00]; unfold yGf; rw [E.c0, (xlaw_parts (E.parts.2.2.2.2.2.2.1 p hp)).1]; rfl) (fun a b ha hb => by
    have f := E.fe V hp (V.iv ha) (V.iv hb)
    refine Eq.trans ?_ f
    congr 1
    unfold yEs
    refine ysum_cg fun h hh => ?_
    show yGf c p.1 (yiv T (yth T a (ycj T h b))) = yGf c p.1 (yth T (yiv T a) (ycj T h (yiv T b)))
    have hib := V.iv (V.cj hh hb)
    have hia := V.iv ha
    rw [V.ivth ha (V.cj hh hb), V.cj_iv2 hh hb] at *
    -- conjugate by the inverse of a
    have := cf (yiv T a) (yth T (ycj T h (yiv T b)) (yiv T a)) hia (V.th (V.cj hh (V.iv hb)) hia)
    rw [← this]
    congr 1
    unfold ycj
    rw [V.iviv ha]
    rw [← V.as hia (V.th (V.th hh (V.iv hb)) (V.iv hh)) hia, V.as (V.th hia (V.th (V.th hh (V.iv hb)) (V.iv hh))) hia ha, V.ivl ha, V.id2 (V.th hia (V.th (V.th hh (V.iv hb)) (V.iv hh)))])
  obtain ⟨k, hk, ek⟩ := List.mem_iff_getElem.mp law
  refine ⟨k, hk, fun s hs => ?_⟩
  have x1 : ylx T k s = ylv (yvG T (fun a => yGf c p.1 (yiv T a))) s := by unfold ylx; rw [List.getElem?_eq_getElem hk, ek]; rfl
  have x2 : ylx T i (ybk T s) = ylv (yvG T (yGf c p.1)) (ybk T s) := by unfold ylx; rw [List.getElem?_eq_getElem hi, ep]; rfl
  have e1 := yvG_at (T := T) (G := fun a => yGf c p.1 (yiv T a)) hs
  have e2 := yvG_at (T := T) (G := yGf c p.1) (V.bk hs)
  have gb : yGf c p.1 (yls T (ybk T s)) = yGf c p.1 (yiv T (yls T s)) := V.cf cf (V.ls (V.bk hs)).1 (V.iv (V.ls hs).1) (by rw [(V.ls (V.bk hs)).2.2]; rfl)
  rw [V.bk_sz hs, gb] at e2
  rw [x1, x2]
  have : (ylv (yvG T (fun a => yGf c p.1 (yiv T a))) s : Int) = (ylv (yvG T (yGf c p.1)) (ybk T s) : Int) := by rw [e1, e2]
  omega
end
theorem ylw_K {F : yF} (hW : yW F) (h3 : y3 F ≠ -1) : (ylw (yTF F)).length = yK (yTF F) := by
  obtain ⟨N, m, iv, tr, c, e, E, _⟩ := yEx_ex hW h3
  exact E.lawlen (yTF_V hW h3)
theorem ypar {F : yF} (hW : yW F) (h3 : y3 F ≠ -1) {i : Nat} (hi : i < (ylw (yTF F)).length) : ∃ k, k < (ylw (yTF F)).length ∧ yptp (yTF F) i k = true := by
  obtain ⟨N, m, iv, tr, c, e, E, _⟩ := yEx_ex hW h3
  obtain ⟨k, hk, h⟩ := E.partner (yTF_V hW h3) hi
  exact ⟨k, hk, yallb_iff.mpr fun s hs => decide_eq_true (h s hs)⟩
