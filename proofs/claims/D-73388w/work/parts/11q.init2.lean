/-! ===== the reference's constructor ===== -/
section
variable {e : zEv} {a d : Nat} {h : zH}
/-- the reference is made -/
theorem m_init (ha : e.1 ≤ a) (hsz : zsz h = a + 1) (hK : zK h a = some (Sum.inl 10)) (hI : zI h a = fun _ => 0) (hL : zL h a = fun _ => 0) : zc e (d + 1) 202 [zr (some a)] h (fun o h' => o = Sum.inl none ∧ zini h a h' 41 (zup (zup (fun _ => 0) 14 (-1)) 15 (-1)) (zup (fun _ => 0) 4 1)) := by
  have I0 : zini h a h 0 (fun _ => 0) (fun _ => 0) := ⟨hsz, rfl, fun _ _ => rfl, fun _ _ => ⟨rfl, rfl, rfl⟩, fun q hq => (by cases hq), fun i i1 i2 => by omega, hI, hL⟩
  generalize hP : (fun (o : zO) (h' : zH) => o = Sum.inl none ∧ zini h a h' 41 (zup (zup (fun _ => 0) 14 (-1)) 15 (-1)) (zup (fun _ => 0) 4 1)) = P
  have KK : ∀ {h1 : zH} {k : Nat} {f g : Nat → Int}, zini h a h1 k f g → zK h1 a = some (Sum.inl 10) := fun I => by rw [I.K a (Nat.le_refl _)]; exact hK
  have KN : ∀ {h1 : zH} {k : Nat} {f g : Nat → Int} (kd : zKd) (n : Nat), zini h a h1 k f g → zK (znew h1 kd n) a = some (Sum.inl 10) := fun kd n I => by
    have := I.sz
    rw [zK_new]; dsimp only; rw [if_neg (by omega)]; exact KK I
  simp only [n202, r202_0, r202_1, List.length_nil, Nat.zero_le, true_and]
  simp only [r202_4, r202_5, r202_8, r202_10]
  rw [show (zn 468).toNat = 468 from by decide]
  refine ⟨by decide, by decide, KN _ _ I0, ha, ?_⟩
  have I1 := I0.step (fl := 0) (n := 468) (ty := .int) rfl (by decide)
  generalize zsA (znew h (Sum.inr (.int, 468)) 468) a 0 (some (zsz h)) = h1 at I1 ⊢
  clear I0
  simp only [r202_13, r202_14, r202_15]
  refine ⟨KK I1, ha, ?_⟩
  have I2 := I1.sL 4 1
  generalize zsL h1 a 4 1 = h2 at I2 ⊢
  clear I1
  simp only [r202_18, r202_19, r202_22, r202_24]
  rw [show (zn 600).toNat = 600 from by decide]
  refine ⟨by decide, by decide, KN _ _ I2, ha, ?_⟩
  have I3 := I2.step (fl := 5) (n := 600) (ty := .byte) rfl (by decide)
  generalize zsA (znew h2 (Sum.inr (.byte, 600)) 600) a 5 (some (zsz h2)) = h3 at I3 ⊢
  clear I2
  simp only [r202_27, r202_28, r202_31, r202_33]
  rw [show (zn 600).toNat = 600 from by decide]
  refine ⟨by decide, by decide, KN _ _ I3, ha, ?_⟩
  have I4 := I3.step (fl := 6) (n := 600) (ty := .byte) rfl (by decide)
  generalize zsA (znew h3 (Sum.inr (.byte, 600)) 600) a 6 (some (zsz h3)) = h4 at I4 ⊢
  clear I3
  simp only [r202_36, r202_37, r202_38]
  refine ⟨KK I4, ha, ?_⟩
  have I5 := I4.sI 14 (-1)
  generalize zsI h4 a 14 (-1) = h5 at I5 ⊢
  clear I4
  simp only [r202_41, r202_42, r202_43]
  refine ⟨KK I5, ha, ?_⟩
  have I6 := I5.sI 15 (-1)
  generalize zsI h5 a 15 (-1) = h6 at I6 ⊢
  clear I5
  simp only [r202_46, r202_47, r202_48, r202_50]
  rw [show (zn 4).toNat = 4 from by decide]
  refine ⟨by decide, by decide, KN _ _ I6, ha, ?_⟩
  have I7 := I6.step (fl := 16) (n := 4) (ty := .int) rfl (by decide)
  generalize zsA (znew h6 (Sum.inr (.int, 4)) 4) a 16 (some (zsz h6)) = h7 at I7 ⊢
  clear I6
  simp only [r202_53, r202_54, r202_56, r202_58]
  rw [show (zn 9).toNat = 9 from by decide]
  refine ⟨by decide, by decide, KN _ _ I7, ha, ?_⟩
  have I8 := I7.step (fl := 22) (n := 9) (ty := .long) rfl (by decide)
  generalize zsA (znew h7 (Sum.inr (.long, 9)) 9) a 22 (some (zsz h7)) = h8 at I8 ⊢
  clear I7
  simp only [r202_61, r202_62, r202_64, r202_66]
  rw [show (zn 9).toNat = 9 from by decide]
  refine ⟨by decide, by decide, KN _ _ I8, ha, ?_⟩
  have I9 := I8.step (fl := 23) (n := 9) (ty := .long) rfl (by decide)
  generalize zsA (znew h8 (Sum.inr (.long, 9)) 9) a 23 (some (zsz h8)) = h9 at I9 ⊢
  clear I8
  simp only [r202_69, r202_70, r202_72, r202_74]
  rw [show (zn 9).toNat = 9 from by decide]
  refine ⟨by decide, by decide, KN _ _ I9, ha, ?_⟩
  have I10 := I9.step (fl := 24) (n := 9) (ty := .long) rfl (by decide)
  generalize zsA (znew h9 (Sum.inr (.long, 9)) 9) a 24 (some (zsz h9)) = h10 at I10 ⊢
  clear I9
  simp only [r202_77, r202_78, r202_81, r202_83]
  rw [show (zn 144).toNat = 144 from by decide]
  refine ⟨by decide, by decide, KN _ _ I10, ha, ?_⟩
  have I11 := I10.step (fl := 25) (n := 144) (ty := .boolean) rfl (by decide)
  generalize zsA (znew h10 (Sum.inr (.boolean, 144)) 144) a 25 (some (zsz h10)) = h11 at I11 ⊢
  clear I10
  simp only [r202_86, r202_87, r202_90, r202_92]
  rw [show (zn 144).toNat = 144 from by decide]
  refine ⟨by decide, by decide, KN _ _ I11, ha, ?_⟩
  have I12 := I11.step (fl := 26) (n := 144) (ty := .boolean) rfl (by decide)
  generalize zsA (znew h11 (Sum.inr (.boolean, 144)) 144) a 26 (some (zsz h11)) = h12 at I12 ⊢
  clear I11
  simp only [r202_95, r202_96, r202_99, r202_101]
  rw [show (zn 588).toNat = 588 from by decide]
  refine ⟨by decide, by decide, KN _ _ I12, ha, ?_⟩
  have I13 := I12.step (fl := 28) (n := 588) (ty := .int) rfl (by decide)
  generalize zsA (znew h12 (Sum.inr (.int, 588)) 588) a 28 (some (zsz h12)) = h13 at I13 ⊢
  clear I12
  simp only [r202_104, r202_105, r202_107, r202_109]
  rw [show (zn 49).toNat = 49 from by decide]
  refine ⟨by decide, by decide, KN _ _ I13, ha, ?_⟩
  have I14 := I13.step (fl := 29) (n := 49) (ty := .int) rfl (by decide)
  generalize zsA (znew h13 (Sum.inr (.int, 49)) 49) a 29 (some (zsz h13)) = h14 at I14 ⊢
  clear I13
  simp only [r202_112, r202_113, r202_116, r202_118]
  rw [show (zn 576).toNat = 576 from by decide]
  refine ⟨by decide, by decide, KN _ _ I14, ha, ?_⟩
  have I15 := I14.step (fl := 30) (n := 576) (ty := .int) rfl (by decide)
  generalize zsA (znew h14 (Sum.inr (.int, 576)) 576) a 30 (some (zsz h14)) = h15 at I15 ⊢
  clear I14
  simp only [r202_121, r202_122, r202_124, r202_126]
  rw [show (zn 48).toNat = 48 from by decide]
  refine ⟨by decide, by decide, KN _ _ I15, ha, ?_⟩
  have I16 := I15.step (fl := 31) (n := 48) (ty := .int) rfl (by decide)
  generalize zsA (znew h15 (Sum.inr (.int, 48)) 48) a 31 (some (zsz h15)) = h16 at I16 ⊢
  clear I15
  simp only [r202_129, r202_130, r202_132, r202_134]
  rw [show (zn 48).toNat = 48 from by decide]
  refine ⟨by decide, by decide, KN _ _ I16, ha, ?_⟩
  have I17 := I16.step (fl := 32) (n := 48) (ty := .int) rfl (by decide)
  generalize zsA (znew h16 (Sum.inr (.int, 48)) 48) a 32 (some (zsz h16)) = h17 at I17 ⊢
  clear I16
  simp only [r202_137, r202_138, r202_141, r202_143]
  rw [show (zn 441).toNat = 441 from by decide]
  refine ⟨by decide, by decide, KN _ _ I17, ha, ?_⟩
  have I18 := I17.step (fl := 33) (n := 441) (ty := .long) rfl (by decide)
  generalize zsA (znew h17 (Sum.inr (.long, 441)) 441) a 33 (some (zsz h17)) = h18 at I18 ⊢
  clear I17
  simp only [r202_146, r202_147, r202_150, r202_152]
  rw [show (zn 432).toNat = 432 from by decide]
  refine ⟨by decide, by decide, KN _ _ I18, ha, ?_⟩
  have I19 := I18.step (fl := 34) (n := 432) (ty := .long) rfl (by decide)
  generalize zsA (znew h18 (Sum.inr (.long, 432)) 432) a 34 (some (zsz h18)) = h19 at I19 ⊢
  clear I18
  simp only [r202_155, r202_156, r202_159, r202_161]
  rw [show (zn 2304).toNat = 2304 from by decide]
  refine ⟨by decide, by decide, KN _ _ I19, ha, ?_⟩
  have I20 := I19.step (fl := 36) (n := 2304) (ty := .int) rfl (by decide)
  generalize zsA (znew h19 (Sum.inr (.int, 2304)) 2304) a 36 (some (zsz h19)) = h20 at I20 ⊢
  clear I19
  simp only [r202_164, r202_165, r202_167, r202_169]
  rw [show (zn 48).toNat = 48 from by decide]
  refine ⟨by decide, by decide, KN _ _ I20, ha, ?_⟩
  have I21 := I20.step (fl := 37) (n := 48) (ty := .int) rfl (by decide)
  generalize zsA (znew h20 (Sum.inr (.int, 48)) 48) a 37 (some (zsz h20)) = h21 at I21 ⊢
  clear I20
  simp only [r202_172, r202_173, r202_175, r202_177]
  rw [show (zn 12).toNat = 12 from by decide]
  refine ⟨by decide, by decide, KN _ _ I21, ha, ?_⟩
  have I22 := I21.step (fl := 38) (n := 12) (ty := .int) rfl (by decide)
  generalize zsA (znew h21 (Sum.inr (.int, 12)) 12) a 38 (some (zsz h21)) = h22 at I22 ⊢
  clear I21
  simp only [r202_180, r202_181, r202_183, r202_185]
  rw [show (zn 12).toNat = 12 from by decide]
  refine ⟨by decide, by decide, KN _ _ I22, ha, ?_⟩
  have I23 := I22.step (fl := 39) (n := 12) (ty := .int) rfl (by decide)
  generalize zsA (znew h22 (Sum.inr (.int, 12)) 12) a 39 (some (zsz h22)) = h23 at I23 ⊢
  clear I22
  simp only [r202_188, r202_189, r202_191, r202_193]
  rw [show (zn 12).toNat = 12 from by decide]
  refine ⟨by decide, by decide, KN _ _ I23, ha, ?_⟩
  have I24 := I23.step (fl := 40) (n := 12) (ty := .int) rfl (by decide)
  generalize zsA (znew h23 (Sum.inr (.int, 12)) 12) a 40 (some (zsz h23)) = h24 at I24 ⊢
  clear I23
  simp only [r202_196, r202_197, r202_200, r202_202]
  rw [show (zn 1728).toNat = 1728 from by decide]
  refine ⟨by decide, by decide, KN _ _ I24, ha, ?_⟩
  have I25 := I24.step (fl := 41) (n := 1728) (ty := .int) rfl (by decide)
  generalize zsA (znew h24 (Sum.inr (.int, 1728)) 1728) a 41 (some (zsz h24)) = h25 at I25 ⊢
  clear I24
  simp only [r202_205, r202_206, r202_209, r202_211]
  rw [show (zn 160).toNat = 160 from by decide]
  refine ⟨by decide, by decide, KN _ _ I25, ha, ?_⟩
  have I26 := I25.step (fl := 43) (n := 160) (ty := .long) rfl (by decide)
  generalize zsA (znew h25 (Sum.inr (.long, 160)) 160) a 43 (some (zsz h25)) = h26 at I26 ⊢
  clear I25
  simp only [r202_214, r202_215, r202_218, r202_220]
  rw [show (zn 960).toNat = 960 from by decide]
  refine ⟨by decide, by decide, KN _ _ I26, ha, ?_⟩
  have I27 := I26.step (fl := 44) (n := 960) (ty := .int) rfl (by decide)
  generalize zsA (znew h26 (Sum.inr (.int, 960)) 960) a 44 (some (zsz h26)) = h27 at I27 ⊢
  clear I26
  simp only [r202_223, r202_224, r202_227, r202_229]
  rw [show (zn 160).toNat = 160 from by decide]
  refine ⟨by decide, by decide, KN _ _ I27, ha, ?_⟩
  have I28 := I27.step (fl := 45) (n := 160) (ty := .int) rfl (by decide)
  generalize zsA (znew h27 (Sum.inr (.int, 160)) 160) a 45 (some (zsz h27)) = h28 at I28 ⊢
  clear I27
  simp only [r202_232, r202_233, r202_236, r202_238]
  rw [show (zn 7680).toNat = 7680 from by decide]
  refine ⟨by decide, by decide, KN _ _ I28, ha, ?_⟩
  have I29 := I28.step (fl := 46) (n := 7680) (ty := .int) rfl (by decide)
  generalize zsA (znew h28 (Sum.inr (.int, 7680)) 7680) a 46 (some (zsz h28)) = h29 at I29 ⊢
  clear I28
  simp only [r202_241, r202_242, r202_245, r202_247]
  rw [show (zn 160).toNat = 160 from by decide]
  refine ⟨by decide, by decide, KN _ _ I29, ha, ?_⟩
  have I30 := I29.step (fl := 47) (n := 160) (ty := .int) rfl (by decide)
  generalize zsA (znew h29 (Sum.inr (.int, 160)) 160) a 47 (some (zsz h29)) = h30 at I30 ⊢
  clear I29
  simp only [r202_250, r202_251, r202_254, r202_256]
  rw [show (zn 160).toNat = 160 from by decide]
  refine ⟨by decide, by decide, KN _ _ I30, ha, ?_⟩
  have I31 := I30.step (fl := 48) (n := 160) (ty := .int) rfl (by decide)
  generalize zsA (znew h30 (Sum.inr (.int, 160)) 160) a 48 (some (zsz h30)) = h31 at I31 ⊢
  clear I30
  simp only [r202_259, r202_260, r202_262, r202_264]
  rw [show (zn 48).toNat = 48 from by decide]
  refine ⟨by decide, by decide, KN _ _ I31, ha, ?_⟩
  have I32 := I31.step (fl := 49) (n := 48) (ty := .int) rfl (by decide)
  generalize zsA (znew h31 (Sum.inr (.int, 48)) 48) a 49 (some (zsz h31)) = h32 at I32 ⊢
  clear I31
  simp only [r202_267, r202_268, r202_269, r202_271]
  rw [show (zn 3).toNat = 3 from by decide]
  refine ⟨by decide, by decide, KN _ _ I32, ha, ?_⟩
  have I33 := I32.step (fl := 51) (n := 3) (ty := .int) rfl (by decide)
  generalize zsA (znew h32 (Sum.inr (.int, 3)) 3) a 51 (some (zsz h32)) = h33 at I33 ⊢
  clear I32
  simp only [r202_274, r202_275, r202_278, r202_280]
  rw [show (zn 144).toNat = 144 from by decide]
  refine ⟨by decide, by decide, KN _ _ I33, ha, ?_⟩
  have I34 := I33.step (fl := 53) (n := 144) (ty := .int) rfl (by decide)
  generalize zsA (znew h33 (Sum.inr (.int, 144)) 144) a 53 (some (zsz h33)) = h34 at I34 ⊢
  clear I33
  simp only [r202_283, r202_284, r202_287, r202_289]
  rw [show (zn 144).toNat = 144 from by decide]
  refine ⟨by decide, by decide, KN _ _ I34, ha, ?_⟩
  have I35 := I34.step (fl := 54) (n := 144) (ty := .int) rfl (by decide)
  generalize zsA (znew h34 (Sum.inr (.int, 144)) 144) a 54 (some (zsz h34)) = h35 at I35 ⊢
  clear I34
  simp only [r202_292, r202_293, r202_296, r202_298]
  rw [show (zn 1164).toNat = 1164 from by decide]
  refine ⟨by decide, by decide, KN _ _ I35, ha, ?_⟩
  have I36 := I35.step (fl := 55) (n := 1164) (ty := .int) rfl (by decide)
  generalize zsA (znew h35 (Sum.inr (.int, 1164)) 1164) a 55 (some (zsz h35)) = h36 at I36 ⊢
  clear I35
  simp only [r202_301, r202_302, r202_304, r202_306]
  rw [show (zn 12).toNat = 12 from by decide]
  refine ⟨by decide, by decide, KN _ _ I36, ha, ?_⟩
  have I37 := I36.step (fl := 56) (n := 12) (ty := .int) rfl (by decide)
  generalize zsA (znew h36 (Sum.inr (.int, 12)) 12) a 56 (some (zsz h36)) = h37 at I37 ⊢
  clear I36
  simp only [r202_309, r202_310, r202_312, r202_314]
  rw [show (zn 12).toNat = 12 from by decide]
  refine ⟨by decide, by decide, KN _ _ I37, ha, ?_⟩
  have I38 := I37.step (fl := 57) (n := 12) (ty := .int) rfl (by decide)
  generalize zsA (znew h37 (Sum.inr (.int, 12)) 12) a 57 (some (zsz h37)) = h38 at I38 ⊢
  clear I37
  simp only [r202_317, r202_318, r202_320, r202_322]
  rw [show (zn 12).toNat = 12 from by decide]
  refine ⟨by decide, by decide, KN _ _ I38, ha, ?_⟩
  have I39 := I38.step (fl := 58) (n := 12) (ty := .int) rfl (by decide)
  generalize zsA (znew h38 (Sum.inr (.int, 12)) 12) a 58 (some (zsz h38)) = h39 at I39 ⊢
  clear I38
  simp only [r202_325, r202_326, r202_329, r202_331]
  rw [show (zn 144).toNat = 144 from by decide]
  refine ⟨by decide, by decide, KN _ _ I39, ha, ?_⟩
  have I40 := I39.step (fl := 59) (n := 144) (ty := .int) rfl (by decide)
  generalize zsA (znew h39 (Sum.inr (.int, 144)) 144) a 59 (some (zsz h39)) = h40 at I40 ⊢
  clear I39
  simp only [r202_334, r202_335, r202_337, r202_339]
  rw [show (zn 12).toNat = 12 from by decide]
  refine ⟨by decide, by decide, KN _ _ I40, ha, ?_⟩
  have I41 := I40.step (fl := 60) (n := 12) (ty := .int) rfl (by decide)
  generalize zsA (znew h40 (Sum.inr (.int, 12)) 12) a 60 (some (zsz h40)) = h41 at I41 ⊢
  clear I40
  simp only [r202_342, r202_343, r202_346, r202_348]
  rw [show (zn 144).toNat = 144 from by decide]
  refine ⟨by decide, by decide, KN _ _ I41, ha, ?_⟩
  have I42 := I41.step (fl := 61) (n := 144) (ty := .int) rfl (by decide)
  generalize zsA (znew h41 (Sum.inr (.int, 144)) 144) a 61 (some (zsz h41)) = h42 at I42 ⊢
  clear I41
  simp only [r202_351, r202_352, r202_354, r202_356]
  rw [show (zn 12).toNat = 12 from by decide]
  refine ⟨by decide, by decide, KN _ _ I42, ha, ?_⟩
  have I43 := I42.step (fl := 63) (n := 12) (ty := .int) rfl (by decide)
  generalize zsA (znew h42 (Sum.inr (.int, 12)) 12) a 63 (some (zsz h42)) = h43 at I43 ⊢
  clear I42
  simp only [r202_359, r202_360, r202_362, r202_364]
  rw [show (zn 13).toNat = 13 from by decide]
  refine ⟨by decide, by decide, KN _ _ I43, ha, ?_⟩
  have I44 := I43.step (fl := 64) (n := 13) (ty := .int) rfl (by decide)
  generalize zsA (znew h43 (Sum.inr (.int, 13)) 13) a 64 (some (zsz h43)) = h44 at I44 ⊢
  clear I43
  rw [r202_367]
  subst hP
  exact ⟨rfl, I44⟩
end
