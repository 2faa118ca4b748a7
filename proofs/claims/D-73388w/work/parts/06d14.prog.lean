/-! ===== program, piece 14 ===== -/
section
variable {b : Nat} {G : Nat → Nat} {V : Nat → zV}
theorem s91_0 : zSnd (zBB b G V) zmi zI91 0 (za_ldi 1 1) := snd_iload_n dJ8_checkLength_0 rfl rfl
theorem s91_1 : zSnd (zBB b G V) zmi zI91 1 (za_ldi 0 2) := snd_iload_n dJ8_checkLength_1 rfl rfl
theorem s91_2 : zSnd (zBB b G V) zmi zI91 2 (za_icmp 3 37 5) := snd_icmp_ge dJ8_checkLength_2 (by decide) rfl
theorem s91_8 : zSnd (zBB b G V) zmi zI91 8 (za_dup 9) := snd_dup dJ8_checkLength_8 rfl
theorem s91_12 : zSnd (zBB b G V) zmi zI91 12 (za_dup 13) := snd_dup dJ8_checkLength_12 rfl
theorem s91_37 : zSnd (zBB b G V) zmi zI91 37 (za_ret) := snd_ret dJ8_checkLength_37 rfl
def zp91 (b : Nat) (G : Nat → Nat) (V : Nat → zV) (pc : Nat) : zAct := (if pc < 8 then (if pc < 1 then (if pc = 0 then za_ldi 1 1 else za_no) else (if pc < 2 then (if pc = 1 then za_ldi 0 2 else za_no) else (if pc = 2 then za_icmp 3 37 5 else za_no))) else (if pc < 12 then (if pc = 8 then za_dup 9 else za_no) else (if pc < 37 then (if pc = 12 then za_dup 13 else za_no) else (if pc = 37 then za_ret else za_no))))
theorem zs91 (pc : Nat) : zSnd (zBB b G V) zmi zI91 pc (zp91 b G V pc) := (si (si (sl s91_0) (si (sl s91_1) (sl s91_2))) (si (sl s91_8) (si (sl s91_12) (sl s91_37))))
theorem s92_0 : zSnd (zBB b G V) zmi zI92 0 (za_ldr 0 1) := snd_aload_n dJ9_fillNull_0 rfl rfl
theorem s92_1 : zSnd (zBB b G V) zmi zI92 1 (za_ldi 1 2) := snd_iload_n dJ9_fillNull_1 rfl rfl
theorem s92_2 : zSnd (zBB b G V) zmi zI92 2 (za_ldi 2 3) := snd_iload_n dJ9_fillNull_2 rfl rfl
theorem s92_3 : zSnd (zBB b G V) zmi zI92 3 (za_push (Sum.inl 0) 4) := snd_iconst dJ9_fillNull_3 rfl
theorem s92_4 : zSnd (zBB b G V) zmi zI92 4 (za_inv 87 4 7 zh0) := snd_invS rfl (by decide) (zW_all q790) (zW_all q168) (zW_all q788) (zW_all q789) ⟨by decide, by decide⟩ (zlen rfl rfl) (zHok0 rfl) dJ9_fillNull_4 rfl
theorem s92_7 : zSnd (zBB b G V) zmi zI92 7 (za_ret) := snd_ret dJ9_fillNull_7 rfl
def zp92 (b : Nat) (G : Nat → Nat) (V : Nat → zV) (pc : Nat) : zAct := (if pc < 3 then (if pc < 1 then (if pc = 0 then za_ldr 0 1 else za_no) else (if pc < 2 then (if pc = 1 then za_ldi 1 2 else za_no) else (if pc = 2 then za_ldi 2 3 else za_no))) else (if pc < 4 then (if pc = 3 then za_push (Sum.inl 0) 4 else za_no) else (if pc < 7 then (if pc = 4 then za_inv 87 4 7 zh0 else za_no) else (if pc = 7 then za_ret else za_no))))
theorem zs92 (pc : Nat) : zSnd (zBB b G V) zmi zI92 pc (zp92 b G V pc) := (si (si (sl s92_0) (si (sl s92_1) (sl s92_2))) (si (sl s92_3) (si (sl s92_4) (sl s92_7))))
theorem s93_0 : zSnd (zBB b G V) zmi zI93 0 (za_ldi 0 1) := snd_iload_n dJ9_canEncode_0 rfl rfl
theorem s93_1 : zSnd (zBB b G V) zmi zI93 1 (za_push (Sum.inl 255) 4) := snd_sipush dJ9_canEncode_1 (by decide) rfl
theorem s93_4 : zSnd (zBB b G V) zmi zI93 4 (za_icmp 4 11 7) := snd_icmp_gt dJ9_canEncode_4 (by decide) rfl
theorem s93_7 : zSnd (zBB b G V) zmi zI93 7 (za_push (Sum.inl 1) 8) := snd_iconst dJ9_canEncode_7 rfl
theorem s93_8 : zSnd (zBB b G V) zmi zI93 8 (za_goto 12) := snd_goto dJ9_canEncode_8 (by decide)
theorem s93_11 : zSnd (zBB b G V) zmi zI93 11 (za_push (Sum.inl 0) 12) := snd_iconst dJ9_canEncode_11 rfl
theorem s93_12 : zSnd (zBB b G V) zmi zI93 12 (za_reti 0 1) := snd_reti dJ9_canEncode_12 rfl zr_Z
def zp93 (b : Nat) (G : Nat → Nat) (V : Nat → zV) (pc : Nat) : zAct := (if pc < 7 then (if pc < 1 then (if pc = 0 then za_ldi 0 1 else za_no) else (if pc < 4 then (if pc = 1 then za_push (Sum.inl 255) 4 else za_no) else (if pc = 4 then za_icmp 4 11 7 else za_no))) else (if pc < 11 then (if pc < 8 then (if pc = 7 then za_push (Sum.inl 1) 8 else za_no) else (if pc = 8 then za_goto 12 else za_no)) else (if pc < 12 then (if pc = 11 then za_push (Sum.inl 0) 12 else za_no) else (if pc = 12 then za_reti 0 1 else za_no))))
theorem zs93 (pc : Nat) : zSnd (zBB b G V) zmi zI93 pc (zp93 b G V pc) := (si (si (sl s93_0) (si (sl s93_1) (sl s93_4))) (si (si (sl s93_7) (sl s93_8)) (si (sl s93_11) (sl s93_12))))
theorem s94_0 : zSnd (zBB b G V) zmi zI94 0 (za_ldr 0 1) := snd_aload_n dJ9_inflate_0 rfl rfl
theorem s94_1 : zSnd (zBB b G V) zmi zI94 1 (za_ldi 1 2) := snd_iload_n dJ9_inflate_1 rfl rfl
theorem s94_2 : zSnd (zBB b G V) zmi zI94 2 (za_ldr 2 3) := snd_aload_n dJ9_inflate_2 rfl rfl
theorem s94_3 : zSnd (zBB b G V) zmi zI94 3 (za_ldi 3 4) := snd_iload_n dJ9_inflate_3 rfl rfl
theorem s94_4 : zSnd (zBB b G V) zmi zI94 4 (za_ldi 4 6) := snd_iload dJ9_inflate_4 rfl
theorem s94_6 : zSnd (zBB b G V) zmi zI94 6 (za_inv 55 5 9 zh0) := snd_invS rfl (by decide) (zW_all q817) (zW_all q155) (zW_all q815) (zW_all q816) ⟨by decide, by decide⟩ (zlen rfl rfl) (zHok0 rfl) dJ9_inflate_6 rfl
theorem s94_9 : zSnd (zBB b G V) zmi zI94 9 (za_ret) := snd_ret dJ9_inflate_9 rfl
def zp94 (b : Nat) (G : Nat → Nat) (V : Nat → zV) (pc : Nat) : zAct := (if pc < 3 then (if pc < 1 then (if pc = 0 then za_ldr 0 1 else za_no) else (if pc < 2 then (if pc = 1 then za_ldi 1 2 else za_no) else (if pc = 2 then za_ldr 2 3 else za_no))) else (if pc < 6 then (if pc < 4 then (if pc = 3 then za_ldi 3 4 else za_no) else (if pc = 4 then za_ldi 4 6 else za_no)) else (if pc < 9 then (if pc = 6 then za_inv 55 5 9 zh0 else za_no) else (if pc = 9 then za_ret else za_no))))
theorem zs94 (pc : Nat) : zSnd (zBB b G V) zmi zI94 pc (zp94 b G V pc) := (si (si (sl s94_0) (si (sl s94_1) (sl s94_2))) (si (si (sl s94_3) (sl s94_4)) (si (sl s94_6) (sl s94_9))))
theorem s95_0 : zSnd (zBB b G V) zmi zI95 0 (za_ldr 0 1) := snd_aload_n dJ9_hashCode_0 rfl rfl
theorem s95_1 : zSnd (zBB b G V) zmi zI95 1 (za_alen 2) := snd_alen dJ9_hashCode_1 rfl
theorem s95_2 : zSnd (zBB b G V) zmi zI95 2 (za_sw (zls [(0, 28), (1, 32)] 42)) := snd_lookup dJ9_hashCode_2 (by decide) (by decide) (by decide)
theorem s95_28 : zSnd (zBB b G V) zmi zI95 28 (za_push (Sum.inl 0) 29) := snd_iconst dJ9_hashCode_28 rfl
theorem s95_29 : zSnd (zBB b G V) zmi zI95 29 (za_goto 51) := snd_goto dJ9_hashCode_29 (by decide)
theorem s95_32 : zSnd (zBB b G V) zmi zI95 32 (za_ldr 0 33) := snd_aload_n dJ9_hashCode_32 rfl rfl
theorem s95_33 : zSnd (zBB b G V) zmi zI95 33 (za_push (Sum.inl 0) 34) := snd_iconst dJ9_hashCode_33 rfl
theorem s95_34 : zSnd (zBB b G V) zmi zI95 34 (za_ald .byte 35) := snd_bald dJ9_hashCode_34 rfl
theorem s95_35 : zSnd (zBB b G V) zmi zI95 35 (za_push (Sum.inl 255) 38) := snd_sipush dJ9_hashCode_35 (by decide) rfl
theorem s95_38 : zSnd (zBB b G V) zmi zI95 38 (za_i2 zand 39) := snd_iand dJ9_hashCode_38 rfl
theorem s95_39 : zSnd (zBB b G V) zmi zI95 39 (za_goto 51) := snd_goto dJ9_hashCode_39 (by decide)
theorem s95_42 : zSnd (zBB b G V) zmi zI95 42 (za_ldr 0 43) := snd_aload_n dJ9_hashCode_42 rfl rfl
theorem s95_43 : zSnd (zBB b G V) zmi zI95 43 (za_push (Sum.inl 0) 44) := snd_iconst dJ9_hashCode_43 rfl
theorem s95_44 : zSnd (zBB b G V) zmi zI95 44 (za_ldr 0 45) := snd_aload_n dJ9_hashCode_44 rfl rfl
theorem s95_45 : zSnd (zBB b G V) zmi zI95 45 (za_alen 46) := snd_alen dJ9_hashCode_45 rfl
theorem s95_46 : zSnd (zBB b G V) zmi zI95 46 (za_push (Sum.inl 0) 47) := snd_iconst dJ9_hashCode_46 rfl
theorem s95_47 : zSnd (zBB b G V) zmi zI95 47 (za_push (Sum.inl 4) 48) := snd_iconst dJ9_hashCode_47 rfl
theorem s95_48 : zSnd (zBB b G V) zmi zI95 48 (za_inv 71 5 51 zh0) := snd_invS rfl (by decide) (zW_all q970) (zW_all q166) (zW_all q968) (zW_all q969) ⟨by decide, by decide⟩ (zlen rfl rfl) (zHok0 rfl) dJ9_hashCode_48 rfl
theorem s95_51 : zSnd (zBB b G V) zmi zI95 51 (za_reti (-2147483648) 2147483647) := snd_reti dJ9_hashCode_51 rfl zr_I
def zp95 (b : Nat) (G : Nat → Nat) (V : Nat → zV) (pc : Nat) : zAct := (if pc < 38 then (if pc < 29 then (if pc < 2 then (if pc < 1 then (if pc = 0 then za_ldr 0 1 else za_no) else (if pc = 1 then za_alen 2 else za_no)) else (if pc < 28 then (if pc = 2 then za_sw (zls [(0, 28), (1, 32)] 42) else za_no) else (if pc = 28 then za_push (Sum.inl 0) 29 else za_no))) else (if pc < 33 then (if pc < 32 then (if pc = 29 then za_goto 51 else za_no) else (if pc = 32 then za_ldr 0 33 else za_no)) else (if pc < 34 then (if pc = 33 then za_push (Sum.inl 0) 34 else za_no) else (if pc < 35 then (if pc = 34 then za_ald .byte 35 else za_no) else (if pc = 35 then za_push (Sum.inl 255) 38 else za_no))))) else (if pc < 45 then (if pc < 42 then (if pc < 39 then (if pc = 38 then za_i2 zand 39 else za_no) else (if pc = 39 then za_goto 51 else za_no)) else (if pc < 43 then (if pc = 42 then za_ldr 0 43 else za_no) else (if pc < 44 then (if pc = 43 then za_push (Sum.inl 0) 44 else za_no) else (if pc = 44 then za_ldr 0 45 else za_no)))) else (if pc < 47 then (if pc < 46 then (if pc = 45 then za_alen 46 else za_no) else (if pc = 46 then za_push (Sum.inl 0) 47 else za_no)) else (if pc < 48 then (if pc = 47 then za_push (Sum.inl 4) 48 else za_no) else (if pc < 51 then (if pc = 48 then za_inv 71 5 51 zh0 else za_no) else (if pc = 51 then za_reti (-2147483648) 2147483647 else za_no))))))
theorem zs95 (pc : Nat) : zSnd (zBB b G V) zmi zI95 pc (zp95 b G V pc) := (si (si (si (si (sl s95_0) (sl s95_1)) (si (sl s95_2) (sl s95_28))) (si (si (sl s95_29) (sl s95_32)) (si (sl s95_33) (si (sl s95_34) (sl s95_35))))) (si (si (si (sl s95_38) (sl s95_39)) (si (sl s95_42) (si (sl s95_43) (sl s95_44)))) (si (si (sl s95_45) (sl s95_46)) (si (sl s95_47) (si (sl s95_48) (sl s95_51))))))
theorem s96_0 : zSnd (zBB b G V) zmi zI96 0 (za_ldr 0 1) := snd_aload_n dJ9_equals_0 rfl rfl
theorem s96_1 : zSnd (zBB b G V) zmi zI96 1 (za_alen 2) := snd_alen dJ9_equals_1 rfl
theorem s96_2 : zSnd (zBB b G V) zmi zI96 2 (za_ldr 1 3) := snd_aload_n dJ9_equals_2 rfl rfl
theorem s96_3 : zSnd (zBB b G V) zmi zI96 3 (za_alen 4) := snd_alen dJ9_equals_3 rfl
theorem s96_4 : zSnd (zBB b G V) zmi zI96 4 (za_icmp 1 34 7) := snd_icmp_ne dJ9_equals_4 (by decide) rfl
theorem s96_7 : zSnd (zBB b G V) zmi zI96 7 (za_push (Sum.inl 0) 8) := snd_iconst dJ9_equals_7 rfl
theorem s96_8 : zSnd (zBB b G V) zmi zI96 8 (za_sti 2 9) := snd_istore_n dJ9_equals_8 rfl rfl
theorem s96_9 : zSnd (zBB b G V) zmi zI96 9 (za_ldi 2 10) := snd_iload_n dJ9_equals_9 rfl rfl
theorem s96_10 : zSnd (zBB b G V) zmi zI96 10 (za_ldr 0 11) := snd_aload_n dJ9_equals_10 rfl rfl
theorem s96_11 : zSnd (zBB b G V) zmi zI96 11 (za_alen 12) := snd_alen dJ9_equals_11 rfl
theorem s96_12 : zSnd (zBB b G V) zmi zI96 12 (za_icmp 3 32 15) := snd_icmp_ge dJ9_equals_12 (by decide) rfl
theorem s96_15 : zSnd (zBB b G V) zmi zI96 15 (za_ldr 0 16) := snd_aload_n dJ9_equals_15 rfl rfl
theorem s96_16 : zSnd (zBB b G V) zmi zI96 16 (za_ldi 2 17) := snd_iload_n dJ9_equals_16 rfl rfl
theorem s96_17 : zSnd (zBB b G V) zmi zI96 17 (za_ald .byte 18) := snd_bald dJ9_equals_17 rfl
theorem s96_18 : zSnd (zBB b G V) zmi zI96 18 (za_ldr 1 19) := snd_aload_n dJ9_equals_18 rfl rfl
theorem s96_19 : zSnd (zBB b G V) zmi zI96 19 (za_ldi 2 20) := snd_iload_n dJ9_equals_19 rfl rfl
theorem s96_20 : zSnd (zBB b G V) zmi zI96 20 (za_ald .byte 21) := snd_bald dJ9_equals_20 rfl
theorem s96_21 : zSnd (zBB b G V) zmi zI96 21 (za_icmp 0 26 24) := snd_icmp_eq dJ9_equals_21 (by decide) rfl
theorem s96_24 : zSnd (zBB b G V) zmi zI96 24 (za_push (Sum.inl 0) 25) := snd_iconst dJ9_equals_24 rfl
theorem s96_25 : zSnd (zBB b G V) zmi zI96 25 (za_reti 0 1) := snd_reti dJ9_equals_25 rfl zr_Z
theorem s96_26 : zSnd (zBB b G V) zmi zI96 26 (za_inc 2 1 29) := snd_iinc dJ9_equals_26 rfl
theorem s96_29 : zSnd (zBB b G V) zmi zI96 29 (za_goto 9) := snd_goto dJ9_equals_29 (by decide)
theorem s96_32 : zSnd (zBB b G V) zmi zI96 32 (za_push (Sum.inl 1) 33) := snd_iconst dJ9_equals_32 rfl
theorem s96_33 : zSnd (zBB b G V) zmi zI96 33 (za_reti 0 1) := snd_reti dJ9_equals_33 rfl zr_Z
theorem s96_34 : zSnd (zBB b G V) zmi zI96 34 (za_push (Sum.inl 0) 35) := snd_iconst dJ9_equals_34 rfl
theorem s96_35 : zSnd (zBB b G V) zmi zI96 35 (za_reti 0 1) := snd_reti dJ9_equals_35 rfl zr_Z
def zp96 (b : Nat) (G : Nat → Nat) (V : Nat → zV) (pc : Nat) : zAct := (if pc < 17 then (if pc < 8 then (if pc < 3 then (if pc < 1 then (if pc = 0 then za_ldr 0 1 else za_no) else (if pc < 2 then (if pc = 1 then za_alen 2 else za_no) else (if pc = 2 then za_ldr 1 3 else za_no))) else (if pc < 4 then (if pc = 3 then za_alen 4 else za_no) else (if pc < 7 then (if pc = 4 then za_icmp 1 34 7 else za_no) else (if pc = 7 then za_push (Sum.inl 0) 8 else za_no)))) else (if pc < 11 then (if pc < 9 then (if pc = 8 then za_sti 2 9 else za_no) else (if pc < 10 then (if pc = 9 then za_ldi 2 10 else za_no) else (if pc = 10 then za_ldr 0 11 else za_no))) else (if pc < 15 then (if pc < 12 then (if pc = 11 then za_alen 12 else za_no) else (if pc = 12 then za_icmp 3 32 15 else za_no)) else (if pc < 16 then (if pc = 15 then za_ldr 0 16 else za_no) else (if pc = 16 then za_ldi 2 17 else za_no))))) else (if pc < 25 then (if pc < 20 then (if pc < 18 then (if pc = 17 then za_ald .byte 18 else za_no) else (if pc < 19 then (if pc = 18 then za_ldr 1 19 else za_no) else (if pc = 19 then za_ldi 2 20 else za_no))) else (if pc < 21 then (if pc = 20 then za_ald .byte 21 else za_no) else (if pc < 24 then (if pc = 21 then za_icmp 0 26 24 else za_no) else (if pc = 24 then za_push (Sum.inl 0) 25 else za_no)))) else (if pc < 32 then (if pc < 26 then (if pc = 25 then za_reti 0 1 else za_no) else (if pc < 29 then (if pc = 26 then za_inc 2 1 29 else za_no) else (if pc = 29 then za_goto 9 else za_no))) else (if pc < 34 then (if pc < 33 then (if pc = 32 then za_push (Sum.inl 1) 33 else za_no) else (if pc = 33 then za_reti 0 1 else za_no)) else (if pc < 35 then (if pc = 34 then za_push (Sum.inl 0) 35 else za_no) else (if pc = 35 then za_reti 0 1 else za_no))))))
theorem zs96 (pc : Nat) : zSnd (zBB b G V) zmi zI96 pc (zp96 b G V pc) := (si (si (si (si (sl s96_0) (si (sl s96_1) (sl s96_2))) (si (sl s96_3) (si (sl s96_4) (sl s96_7)))) (si (si (sl s96_8) (si (sl s96_9) (sl s96_10))) (si (si (sl s96_11) (sl s96_12)) (si (sl s96_15) (sl s96_16))))) (si (si (si (sl s96_17) (si (sl s96_18) (sl s96_19))) (si (sl s96_20) (si (sl s96_21) (sl s96_24)))) (si (si (sl s96_25) (si (sl s96_26) (sl s96_29))) (si (si (sl s96_32) (sl s96_33)) (si (sl s96_34) (sl s96_35))))))
theorem s97_0 : zSnd (zBB b G V) zmi zI97 0 (za_ldi 1 1) := snd_iload_n dJ9_charAt_0 rfl rfl
theorem s97_1 : zSnd (zBB b G V) zmi zI97 1 (za_ldr 0 2) := snd_aload_n dJ9_charAt_1 rfl rfl
theorem s97_2 : zSnd (zBB b G V) zmi zI97 2 (za_alen 3) := snd_alen dJ9_charAt_2 rfl
theorem s97_3 : zSnd (zBB b G V) zmi zI97 3 (za_inv 41 2 6 zh0) := snd_invS rfl (by decide) (zW_all q849) (zW_all q154) (zW_all q1831) (zW_all q848) ⟨by decide, by decide⟩ (zlen rfl rfl) (zHok0 rfl) dJ9_charAt_3 rfl
theorem s97_6 : zSnd (zBB b G V) zmi zI97 6 (za_ldr 0 7) := snd_aload_n dJ9_charAt_6 rfl rfl
theorem s97_7 : zSnd (zBB b G V) zmi zI97 7 (za_ldi 1 8) := snd_iload_n dJ9_charAt_7 rfl rfl
theorem s97_8 : zSnd (zBB b G V) zmi zI97 8 (za_ald .byte 9) := snd_bald dJ9_charAt_8 rfl
theorem s97_9 : zSnd (zBB b G V) zmi zI97 9 (za_push (Sum.inl 255) 12) := snd_sipush dJ9_charAt_9 (by decide) rfl
theorem s97_12 : zSnd (zBB b G V) zmi zI97 12 (za_i2 zand 13) := snd_iand dJ9_charAt_12 rfl
theorem s97_13 : zSnd (zBB b G V) zmi zI97 13 (za_i1 zi2c 14) := snd_i2c dJ9_charAt_13 rfl
theorem s97_14 : zSnd (zBB b G V) zmi zI97 14 (za_reti 0 65535) := snd_reti dJ9_charAt_14 rfl zr_C
def zp97 (b : Nat) (G : Nat → Nat) (V : Nat → zV) (pc : Nat) : zAct := (if pc < 7 then (if pc < 2 then (if pc < 1 then (if pc = 0 then za_ldi 1 1 else za_no) else (if pc = 1 then za_ldr 0 2 else za_no)) else (if pc < 3 then (if pc = 2 then za_alen 3 else za_no) else (if pc < 6 then (if pc = 3 then za_inv 41 2 6 zh0 else za_no) else (if pc = 6 then za_ldr 0 7 else za_no)))) else (if pc < 12 then (if pc < 8 then (if pc = 7 then za_ldi 1 8 else za_no) else (if pc < 9 then (if pc = 8 then za_ald .byte 9 else za_no) else (if pc = 9 then za_push (Sum.inl 255) 12 else za_no))) else (if pc < 13 then (if pc = 12 then za_i2 zand 13 else za_no) else (if pc < 14 then (if pc = 13 then za_i1 zi2c 14 else za_no) else (if pc = 14 then za_reti 0 65535 else za_no)))))
theorem zs97 (pc : Nat) : zSnd (zBB b G V) zmi zI97 pc (zp97 b G V pc) := (si (si (si (sl s97_0) (sl s97_1)) (si (sl s97_2) (si (sl s97_3) (sl s97_6)))) (si (si (sl s97_7) (si (sl s97_8) (sl s97_9))) (si (sl s97_12) (si (sl s97_13) (sl s97_14)))))
theorem zl91 (b : Nat) (G : Nat → Nat) (V : Nat → zV) (pc : Nat) : zLin (zp91 b G V pc) := (li (li (ll (lin_ldi _ _)) (li (ll (lin_ldi _ _)) (ll (lin_icmp _ _ _)))) (li (ll (lin_dup _)) (li (ll (lin_dup _)) (ll (lin_ret)))))
theorem zl92 (b : Nat) (G : Nat → Nat) (V : Nat → zV) (pc : Nat) : zLin (zp92 b G V pc) := (li (li (ll (lin_ldr _ _)) (li (ll (lin_ldi _ _)) (ll (lin_ldi _ _)))) (li (ll (lin_push _ _)) (li (ll (lin_inv _ _ _ _)) (ll (lin_ret)))))
theorem zl93 (b : Nat) (G : Nat → Nat) (V : Nat → zV) (pc : Nat) : zLin (zp93 b G V pc) := (li (li (ll (lin_ldi _ _)) (li (ll (lin_push _ _)) (ll (lin_icmp _ _ _)))) (li (li (ll (lin_push _ _)) (ll (lin_goto _))) (li (ll (lin_push _ _)) (ll (lin_reti _ _)))))
theorem zl94 (b : Nat) (G : Nat → Nat) (V : Nat → zV) (pc : Nat) : zLin (zp94 b G V pc) := (li (li (ll (lin_ldr _ _)) (li (ll (lin_ldi _ _)) (ll (lin_ldr _ _)))) (li (li (ll (lin_ldi _ _)) (ll (lin_ldi _ _))) (li (ll (lin_inv _ _ _ _)) (ll (lin_ret)))))
theorem zl95 (b : Nat) (G : Nat → Nat) (V : Nat → zV) (pc : Nat) : zLin (zp95 b G V pc) := (li (li (li (li (ll (lin_ldr _ _)) (ll (lin_alen _))) (li (ll (lin_sw _)) (ll (lin_push _ _)))) (li (li (ll (lin_goto _)) (ll (lin_ldr _ _))) (li (ll (lin_push _ _)) (li (ll (lin_ald _ _)) (ll (lin_push _ _)))))) (li (li (li (ll (lin_i2 _ _)) (ll (lin_goto _))) (li (ll (lin_ldr _ _)) (li (ll (lin_push _ _)) (ll (lin_ldr _ _))))) (li (li (ll (lin_alen _)) (ll (lin_push _ _))) (li (ll (lin_push _ _)) (li (ll (lin_inv _ _ _ _)) (ll (lin_reti _ _)))))))
theorem zl96 (b : Nat) (G : Nat → Nat) (V : Nat → zV) (pc : Nat) : zLin (zp96 b G V pc) := (li (li (li (li (ll (lin_ldr _ _)) (li (ll (lin_alen _)) (ll (lin_ldr _ _)))) (li (ll (lin_alen _)) (li (ll (lin_icmp _ _ _)) (ll (lin_push _ _))))) (li (li (ll (lin_sti _ _)) (li (ll (lin_ldi _ _)) (ll (lin_ldr _ _)))) (li (li (ll (lin_alen _)) (ll (lin_icmp _ _ _))) (li (ll (lin_ldr _ _)) (ll (lin_ldi _ _)))))) (li (li (li (ll (lin_ald _ _)) (li (ll (lin_ldr _ _)) (ll (lin_ldi _ _)))) (li (ll (lin_ald _ _)) (li (ll (lin_icmp _ _ _)) (ll (lin_push _ _))))) (li (li (ll (lin_reti _ _)) (li (ll (lin_inc _ _ _)) (ll (lin_goto _)))) (li (li (ll (lin_push _ _)) (ll (lin_reti _ _))) (li (ll (lin_push _ _)) (ll (lin_reti _ _)))))))
theorem zl97 (b : Nat) (G : Nat → Nat) (V : Nat → zV) (pc : Nat) : zLin (zp97 b G V pc) := (li (li (li (ll (lin_ldi _ _)) (ll (lin_ldr _ _))) (li (ll (lin_alen _)) (li (ll (lin_inv _ _ _ _)) (ll (lin_ldr _ _))))) (li (li (ll (lin_ldi _ _)) (li (ll (lin_ald _ _)) (ll (lin_push _ _)))) (li (ll (lin_i2 _ _)) (li (ll (lin_i1 _ _)) (ll (lin_reti _ _))))))
end
