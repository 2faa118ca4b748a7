/-! ===== the reference: where its arrays lie ===== -/
def zmoL : List (Nat × Nat × FieldType × Nat) := [(0, 1, .int, 468), (5, 2, .byte, 600), (6, 3, .byte, 600), (16, 4, .int, 4), (22, 5, .long, 9), (23, 6, .long, 9), (24, 7, .long, 9), (25, 8, .boolean, 144), (26, 9, .boolean, 144), (28, 10, .int, 588), (29, 11, .int, 49), (30, 12, .int, 576), (31, 13, .int, 48), (32, 14, .int, 48), (33, 15, .long, 441), (34, 16, .long, 432), (36, 17, .int, 2304), (37, 18, .int, 48), (38, 19, .int, 12), (39, 20, .int, 12), (40, 21, .int, 12), (41, 22, .int, 1728), (43, 23, .long, 160), (44, 24, .int, 960), (45, 25, .int, 160), (46, 26, .int, 7680), (47, 27, .int, 160), (48, 28, .int, 160), (49, 29, .int, 48), (51, 30, .int, 3), (53, 31, .int, 144), (54, 32, .int, 144), (55, 33, .int, 1164), (56, 34, .int, 12), (57, 35, .int, 12), (58, 36, .int, 12), (59, 37, .int, 144), (60, 38, .int, 12), (61, 39, .int, 144), (63, 40, .int, 12), (64, 41, .int, 13)]
def zmo (e : zEv) (a : Nat) (h : zH) : Prop := e.1 ≤ a ∧ zK h a = some (Sum.inl 10) ∧ ∀ q ∈ zmoL, zA h a q.1 = some (a + q.2.1) ∧ zK h (a + q.2.1) = some (Sum.inr (q.2.2.1, q.2.2.2))
section
variable {e : zEv} {a : Nat} {h : zH}
theorem zmo.A0 (H : zmo e a h) : zA h a 0 = some (a + 1) := (H.2.2 (0, 1, .int, 468) (List.mem_of_getElem? (i := 0) rfl)).1
theorem zmo.K1 (H : zmo e a h) : zK h (a + 1) = some (Sum.inr (.int, 468)) := (H.2.2 (0, 1, .int, 468) (List.mem_of_getElem? (i := 0) rfl)).2
theorem zmo.A5 (H : zmo e a h) : zA h a 5 = some (a + 2) := (H.2.2 (5, 2, .byte, 600) (List.mem_of_getElem? (i := 1) rfl)).1
theorem zmo.K2 (H : zmo e a h) : zK h (a + 2) = some (Sum.inr (.byte, 600)) := (H.2.2 (5, 2, .byte, 600) (List.mem_of_getElem? (i := 1) rfl)).2
theorem zmo.A6 (H : zmo e a h) : zA h a 6 = some (a + 3) := (H.2.2 (6, 3, .byte, 600) (List.mem_of_getElem? (i := 2) rfl)).1
theorem zmo.K3 (H : zmo e a h) : zK h (a + 3) = some (Sum.inr (.byte, 600)) := (H.2.2 (6, 3, .byte, 600) (List.mem_of_getElem? (i := 2) rfl)).2
theorem zmo.A16 (H : zmo e a h) : zA h a 16 = some (a + 4) := (H.2.2 (16, 4, .int, 4) (List.mem_of_getElem? (i := 3) rfl)).1
theorem zmo.K4 (H : zmo e a h) : zK h (a + 4) = some (Sum.inr (.int, 4)) := (H.2.2 (16, 4, .int, 4) (List.mem_of_getElem? (i := 3) rfl)).2
theorem zmo.A22 (H : zmo e a h) : zA h a 22 = some (a + 5) := (H.2.2 (22, 5, .long, 9) (List.mem_of_getElem? (i := 4) rfl)).1
theorem zmo.K5 (H : zmo e a h) : zK h (a + 5) = some (Sum.inr (.long, 9)) := (H.2.2 (22, 5, .long, 9) (List.mem_of_getElem? (i := 4) rfl)).2
theorem zmo.A23 (H : zmo e a h) : zA h a 23 = some (a + 6) := (H.2.2 (23, 6, .long, 9) (List.mem_of_getElem? (i := 5) rfl)).1
theorem zmo.K6 (H : zmo e a h) : zK h (a + 6) = some (Sum.inr (.long, 9)) := (H.2.2 (23, 6, .long, 9) (List.mem_of_getElem? (i := 5) rfl)).2
theorem zmo.A24 (H : zmo e a h) : zA h a 24 = some (a + 7) := (H.2.2 (24, 7, .long, 9) (List.mem_of_getElem? (i := 6) rfl)).1
theorem zmo.K7 (H : zmo e a h) : zK h (a + 7) = some (Sum.inr (.long, 9)) := (H.2.2 (24, 7, .long, 9) (List.mem_of_getElem? (i := 6) rfl)).2
theorem zmo.A25 (H : zmo e a h) : zA h a 25 = some (a + 8) := (H.2.2 (25, 8, .boolean, 144) (List.mem_of_getElem? (i := 7) rfl)).1
theorem zmo.K8 (H : zmo e a h) : zK h (a + 8) = some (Sum.inr (.boolean, 144)) := (H.2.2 (25, 8, .boolean, 144) (List.mem_of_getElem? (i := 7) rfl)).2
theorem zmo.A26 (H : zmo e a h) : zA h a 26 = some (a + 9) := (H.2.2 (26, 9, .boolean, 144) (List.mem_of_getElem? (i := 8) rfl)).1
theorem zmo.K9 (H : zmo e a h) : zK h (a + 9) = some (Sum.inr (.boolean, 144)) := (H.2.2 (26, 9, .boolean, 144) (List.mem_of_getElem? (i := 8) rfl)).2
theorem zmo.A28 (H : zmo e a h) : zA h a 28 = some (a + 10) := (H.2.2 (28, 10, .int, 588) (List.mem_of_getElem? (i := 9) rfl)).1
theorem zmo.K10 (H : zmo e a h) : zK h (a + 10) = some (Sum.inr (.int, 588)) := (H.2.2 (28, 10, .int, 588) (List.mem_of_getElem? (i := 9) rfl)).2
theorem zmo.A29 (H : zmo e a h) : zA h a 29 = some (a + 11) := (H.2.2 (29, 11, .int, 49) (List.mem_of_getElem? (i := 10) rfl)).1
theorem zmo.K11 (H : zmo e a h) : zK h (a + 11) = some (Sum.inr (.int, 49)) := (H.2.2 (29, 11, .int, 49) (List.mem_of_getElem? (i := 10) rfl)).2
theorem zmo.A30 (H : zmo e a h) : zA h a 30 = some (a + 12) := (H.2.2 (30, 12, .int, 576) (List.mem_of_getElem? (i := 11) rfl)).1
theorem zmo.K12 (H : zmo e a h) : zK h (a + 12) = some (Sum.inr (.int, 576)) := (H.2.2 (30, 12, .int, 576) (List.mem_of_getElem? (i := 11) rfl)).2
theorem zmo.A31 (H : zmo e a h) : zA h a 31 = some (a + 13) := (H.2.2 (31, 13, .int, 48) (List.mem_of_getElem? (i := 12) rfl)).1
theorem zmo.K13 (H : zmo e a h) : zK h (a + 13) = some (Sum.inr (.int, 48)) := (H.2.2 (31, 13, .int, 48) (List.mem_of_getElem? (i := 12) rfl)).2
theorem zmo.A32 (H : zmo e a h) : zA h a 32 = some (a + 14) := (H.2.2 (32, 14, .int, 48) (List.mem_of_getElem? (i := 13) rfl)).1
theorem zmo.K14 (H : zmo e a h) : zK h (a + 14) = some (Sum.inr (.int, 48)) := (H.2.2 (32, 14, .int, 48) (List.mem_of_getElem? (i := 13) rfl)).2
theorem zmo.A33 (H : zmo e a h) : zA h a 33 = some (a + 15) := (H.2.2 (33, 15, .long, 441) (List.mem_of_getElem? (i := 14) rfl)).1
theorem zmo.K15 (H : zmo e a h) : zK h (a + 15) = some (Sum.inr (.long, 441)) := (H.2.2 (33, 15, .long, 441) (List.mem_of_getElem? (i := 14) rfl)).2
theorem zmo.A34 (H : zmo e a h) : zA h a 34 = some (a + 16) := (H.2.2 (34, 16, .long, 432) (List.mem_of_getElem? (i := 15) rfl)).1
theorem zmo.K16 (H : zmo e a h) : zK h (a + 16) = some (Sum.inr (.long, 432)) := (H.2.2 (34, 16, .long, 432) (List.mem_of_getElem? (i := 15) rfl)).2
theorem zmo.A36 (H : zmo e a h) : zA h a 36 = some (a + 17) := (H.2.2 (36, 17, .int, 2304) (List.mem_of_getElem? (i := 16) rfl)).1
theorem zmo.K17 (H : zmo e a h) : zK h (a + 17) = some (Sum.inr (.int, 2304)) := (H.2.2 (36, 17, .int, 2304) (List.mem_of_getElem? (i := 16) rfl)).2
theorem zmo.A37 (H : zmo e a h) : zA h a 37 = some (a + 18) := (H.2.2 (37, 18, .int, 48) (List.mem_of_getElem? (i := 17) rfl)).1
theorem zmo.K18 (H : zmo e a h) : zK h (a + 18) = some (Sum.inr (.int, 48)) := (H.2.2 (37, 18, .int, 48) (List.mem_of_getElem? (i := 17) rfl)).2
theorem zmo.A38 (H : zmo e a h) : zA h a 38 = some (a + 19) := (H.2.2 (38, 19, .int, 12) (List.mem_of_getElem? (i := 18) rfl)).1
theorem zmo.K19 (H : zmo e a h) : zK h (a + 19) = some (Sum.inr (.int, 12)) := (H.2.2 (38, 19, .int, 12) (List.mem_of_getElem? (i := 18) rfl)).2
theorem zmo.A39 (H : zmo e a h) : zA h a 39 = some (a + 20) := (H.2.2 (39, 20, .int, 12) (List.mem_of_getElem? (i := 19) rfl)).1
theorem zmo.K20 (H : zmo e a h) : zK h (a + 20) = some (Sum.inr (.int, 12)) := (H.2.2 (39, 20, .int, 12) (List.mem_of_getElem? (i := 19) rfl)).2
theorem zmo.A40 (H : zmo e a h) : zA h a 40 = some (a + 21) := (H.2.2 (40, 21, .int, 12) (List.mem_of_getElem? (i := 20) rfl)).1
theorem zmo.K21 (H : zmo e a h) : zK h (a + 21) = some (Sum.inr (.int, 12)) := (H.2.2 (40, 21, .int, 12) (List.mem_of_getElem? (i := 20) rfl)).2
theorem zmo.A41 (H : zmo e a h) : zA h a 41 = some (a + 22) := (H.2.2 (41, 22, .int, 1728) (List.mem_of_getElem? (i := 21) rfl)).1
theorem zmo.K22 (H : zmo e a h) : zK h (a + 22) = some (Sum.inr (.int, 1728)) := (H.2.2 (41, 22, .int, 1728) (List.mem_of_getElem? (i := 21) rfl)).2
theorem zmo.A43 (H : zmo e a h) : zA h a 43 = some (a + 23) := (H.2.2 (43, 23, .long, 160) (List.mem_of_getElem? (i := 22) rfl)).1
theorem zmo.K23 (H : zmo e a h) : zK h (a + 23) = some (Sum.inr (.long, 160)) := (H.2.2 (43, 23, .long, 160) (List.mem_of_getElem? (i := 22) rfl)).2
theorem zmo.A44 (H : zmo e a h) : zA h a 44 = some (a + 24) := (H.2.2 (44, 24, .int, 960) (List.mem_of_getElem? (i := 23) rfl)).1
theorem zmo.K24 (H : zmo e a h) : zK h (a + 24) = some (Sum.inr (.int, 960)) := (H.2.2 (44, 24, .int, 960) (List.mem_of_getElem? (i := 23) rfl)).2
theorem zmo.A45 (H : zmo e a h) : zA h a 45 = some (a + 25) := (H.2.2 (45, 25, .int, 160) (List.mem_of_getElem? (i := 24) rfl)).1
theorem zmo.K25 (H : zmo e a h) : zK h (a + 25) = some (Sum.inr (.int, 160)) := (H.2.2 (45, 25, .int, 160) (List.mem_of_getElem? (i := 24) rfl)).2
theorem zmo.A46 (H : zmo e a h) : zA h a 46 = some (a + 26) := (H.2.2 (46, 26, .int, 7680) (List.mem_of_getElem? (i := 25) rfl)).1
theorem zmo.K26 (H : zmo e a h) : zK h (a + 26) = some (Sum.inr (.int, 7680)) := (H.2.2 (46, 26, .int, 7680) (List.mem_of_getElem? (i := 25) rfl)).2
theorem zmo.A47 (H : zmo e a h) : zA h a 47 = some (a + 27) := (H.2.2 (47, 27, .int, 160) (List.mem_of_getElem? (i := 26) rfl)).1
theorem zmo.K27 (H : zmo e a h) : zK h (a + 27) = some (Sum.inr (.int, 160)) := (H.2.2 (47, 27, .int, 160) (List.mem_of_getElem? (i := 26) rfl)).2
theorem zmo.A48 (H : zmo e a h) : zA h a 48 = some (a + 28) := (H.2.2 (48, 28, .int, 160) (List.mem_of_getElem? (i := 27) rfl)).1
theorem zmo.K28 (H : zmo e a h) : zK h (a + 28) = some (Sum.inr (.int, 160)) := (H.2.2 (48, 28, .int, 160) (List.mem_of_getElem? (i := 27) rfl)).2
theorem zmo.A49 (H : zmo e a h) : zA h a 49 = some (a + 29) := (H.2.2 (49, 29, .int, 48) (List.mem_of_getElem? (i := 28) rfl)).1
theorem zmo.K29 (H : zmo e a h) : zK h (a + 29) = some (Sum.inr (.int, 48)) := (H.2.2 (49, 29, .int, 48) (List.mem_of_getElem? (i := 28) rfl)).2
theorem zmo.A51 (H : zmo e a h) : zA h a 51 = some (a + 30) := (H.2.2 (51, 30, .int, 3) (List.mem_of_getElem? (i := 29) rfl)).1
theorem zmo.K30 (H : zmo e a h) : zK h (a + 30) = some (Sum.inr (.int, 3)) := (H.2.2 (51, 30, .int, 3) (List.mem_of_getElem? (i := 29) rfl)).2
theorem zmo.A53 (H : zmo e a h) : zA h a 53 = some (a + 31) := (H.2.2 (53, 31, .int, 144) (List.mem_of_getElem? (i := 30) rfl)).1
theorem zmo.K31 (H : zmo e a h) : zK h (a + 31) = some (Sum.inr (.int, 144)) := (H.2.2 (53, 31, .int, 144) (List.mem_of_getElem? (i := 30) rfl)).2
theorem zmo.A54 (H : zmo e a h) : zA h a 54 = some (a + 32) := (H.2.2 (54, 32, .int, 144) (List.mem_of_getElem? (i := 31) rfl)).1
theorem zmo.K32 (H : zmo e a h) : zK h (a + 32) = some (Sum.inr (.int, 144)) := (H.2.2 (54, 32, .int, 144) (List.mem_of_getElem? (i := 31) rfl)).2
theorem zmo.A55 (H : zmo e a h) : zA h a 55 = some (a + 33) := (H.2.2 (55, 33, .int, 1164) (List.mem_of_getElem? (i := 32) rfl)).1
theorem zmo.K33 (H : zmo e a h) : zK h (a + 33) = some (Sum.inr (.int, 1164)) := (H.2.2 (55, 33, .int, 1164) (List.mem_of_getElem? (i := 32) rfl)).2
theorem zmo.A56 (H : zmo e a h) : zA h a 56 = some (a + 34) := (H.2.2 (56, 34, .int, 12) (List.mem_of_getElem? (i := 33) rfl)).1
theorem zmo.K34 (H : zmo e a h) : zK h (a + 34) = some (Sum.inr (.int, 12)) := (H.2.2 (56, 34, .int, 12) (List.mem_of_getElem? (i := 33) rfl)).2
theorem zmo.A57 (H : zmo e a h) : zA h a 57 = some (a + 35) := (H.2.2 (57, 35, .int, 12) (List.mem_of_getElem? (i := 34) rfl)).1
theorem zmo.K35 (H : zmo e a h) : zK h (a + 35) = some (Sum.inr (.int, 12)) := (H.2.2 (57, 35, .int, 12) (List.mem_of_getElem? (i := 34) rfl)).2
theorem zmo.A58 (H : zmo e a h) : zA h a 58 = some (a + 36) := (H.2.2 (58, 36, .int, 12) (List.mem_of_getElem? (i := 35) rfl)).1
theorem zmo.K36 (H : zmo e a h) : zK h (a + 36) = some (Sum.inr (.int, 12)) := (H.2.2 (58, 36, .int, 12) (List.mem_of_getElem? (i := 35) rfl)).2
theorem zmo.A59 (H : zmo e a h) : zA h a 59 = some (a + 37) := (H.2.2 (59, 37, .int, 144) (List.mem_of_getElem? (i := 36) rfl)).1
theorem zmo.K37 (H : zmo e a h) : zK h (a + 37) = some (Sum.inr (.int, 144)) := (H.2.2 (59, 37, .int, 144) (List.mem_of_getElem? (i := 36) rfl)).2
theorem zmo.A60 (H : zmo e a h) : zA h a 60 = some (a + 38) := (H.2.2 (60, 38, .int, 12) (List.mem_of_getElem? (i := 37) rfl)).1
theorem zmo.K38 (H : zmo e a h) : zK h (a + 38) = some (Sum.inr (.int, 12)) := (H.2.2 (60, 38, .int, 12) (List.mem_of_getElem? (i := 37) rfl)).2
theorem zmo.A61 (H : zmo e a h) : zA h a 61 = some (a + 39) := (H.2.2 (61, 39, .int, 144) (List.mem_of_getElem? (i := 38) rfl)).1
theorem zmo.K39 (H : zmo e a h) : zK h (a + 39) = some (Sum.inr (.int, 144)) := (H.2.2 (61, 39, .int, 144) (List.mem_of_getElem? (i := 38) rfl)).2
theorem zmo.A63 (H : zmo e a h) : zA h a 63 = some (a + 40) := (H.2.2 (63, 40, .int, 12) (List.mem_of_getElem? (i := 39) rfl)).1
theorem zmo.K40 (H : zmo e a h) : zK h (a + 40) = some (Sum.inr (.int, 12)) := (H.2.2 (63, 40, .int, 12) (List.mem_of_getElem? (i := 39) rfl)).2
theorem zmo.A64 (H : zmo e a h) : zA h a 64 = some (a + 41) := (H.2.2 (64, 41, .int, 13) (List.mem_of_getElem? (i := 40) rfl)).1
theorem zmo.K41 (H : zmo e a h) : zK h (a + 41) = some (Sum.inr (.int, 13)) := (H.2.2 (64, 41, .int, 13) (List.mem_of_getElem? (i := 40) rfl)).2
theorem zmo.K (H : zmo e a h) : zK h a = some (Sum.inl 10) := H.2.1
theorem zmo.b (H : zmo e a h) (k : Nat) : e.1 ≤ a + k := Nat.le_trans H.1 (Nat.le_add_right _ _)
theorem zmo.of {h1 : zH} (hk : zK h1 = zK h) (ha : zA h1 = zA h) (H : zmo e a h) : zmo e a h1 := by unfold zmo at *; rw [hk, ha]; exact H
end
