theorem q147 : (Jvm.Cond.initialized "VibrationDeskLaw") ∈ lw_all := lw_g (lw_at lw_m1 0 rfl) rfl
set_option maxRecDepth 100000
theorem q179 : (Jvm.Cond.classLink "VibrationDeskLaw" (7 : Nat) "VibrationDesk") ∈ lw_all := lw_g (lw_at lw_m1 32 rfl) rfl
theorem q181 : (Jvm.Cond.methodLink "VibrationDeskLaw" (9 : Nat) ({ cls := "VibrationDesk", name := "<init>", desc := "()V" } : Jvm.MethodName)) ∈ lw_all := lw_g (lw_at lw_m1 34 rfl) rfl
theorem q663 : (Jvm.Cond.methodLink "VibrationDeskLaw" (13 : Nat) ({ cls := "VibrationDesk", name := "status", desc := "()I" } : Jvm.MethodName)) ∈ lw_all := lw_g (lw_at lw_m3 36 rfl) rfl
theorem q667 : (Jvm.Cond.methodLink "VibrationDeskLaw" (18 : Nat) ({ cls := "VibrationDesk", name := "top", desc := "()J" } : Jvm.MethodName)) ∈ lw_all := lw_g (lw_at lw_m3 40 rfl) rfl
theorem q671 : (Jvm.Cond.methodLink "VibrationDeskLaw" (23 : Nat) ({ cls := "VibrationDesk", name := "bottom", desc := "()J" } : Jvm.MethodName)) ∈ lw_all := lw_g (lw_at lw_m3 44 rfl) rfl
theorem q675 : (Jvm.Cond.methodLink "VibrationDeskLaw" (82 : Nat) ({ cls := "VibrationDesk", name := "back", desc := "()I" } : Jvm.MethodName)) ∈ lw_all := lw_g (lw_at lw_m3 48 rfl) rfl
theorem q694 : (Jvm.Cond.methodLink "VibrationDeskLaw" (27 : Nat) ({ cls := "VibrationDesk", name := "feed", desc := "(IIIII)I" } : Jvm.MethodName)) ∈ lw_all := lw_g (lw_at lw_m3 67 rfl) rfl
theorem q702 : (Jvm.Cond.methodLink "VibrationDeskLaw" (32 : Nat) ({ cls := "VibrationDesk", name := "frame", desc := "(I)I" } : Jvm.MethodName)) ∈ lw_all := lw_g (lw_at lw_m3 75 rfl) rfl
theorem q1122 : (Jvm.Cond.methodLink "VibrationDeskLaw" (37 : Nat) ({ cls := "VibrationDesk", name := "fault", desc := "(I)I" } : Jvm.MethodName)) ∈ lw_all := lw_g (lw_at lw_m5 15 rfl) rfl
theorem q1126 : (Jvm.Cond.methodLink "VibrationDeskLaw" (41 : Nat) ({ cls := "VibrationDesk", name := "atoms", desc := "()I" } : Jvm.MethodName)) ∈ lw_all := lw_g (lw_at lw_m5 19 rfl) rfl
theorem q1130 : (Jvm.Cond.methodLink "VibrationDeskLaw" (45 : Nat) ({ cls := "VibrationDesk", name := "atom", desc := "(II)I" } : Jvm.MethodName)) ∈ lw_all := lw_g (lw_at lw_m5 23 rfl) rfl
theorem q1143 : (Jvm.Cond.methodLink "VibrationDeskLaw" (50 : Nat) ({ cls := "VibrationDesk", name := "put", desc := "(IIII)I" } : Jvm.MethodName)) ∈ lw_all := lw_g (lw_at lw_m5 36 rfl) rfl
theorem q1155 : (Jvm.Cond.methodLink "VibrationDeskLaw" (55 : Nat) ({ cls := "VibrationDesk", name := "drop", desc := "(I)I" } : Jvm.MethodName)) ∈ lw_all := lw_g (lw_at lw_m5 48 rfl) rfl
theorem q1160 : (Jvm.Cond.methodLink "VibrationDeskLaw" (59 : Nat) ({ cls := "VibrationDesk", name := "move", desc := "(IIII)Z" } : Jvm.MethodName)) ∈ lw_all := lw_g (lw_at lw_m5 53 rfl) rfl
theorem q1165 : (Jvm.Cond.methodLink "VibrationDeskLaw" (64 : Nat) ({ cls := "VibrationDesk", name := "swap", desc := "(II)I" } : Jvm.MethodName)) ∈ lw_all := lw_g (lw_at lw_m5 58 rfl) rfl
theorem q1169 : (Jvm.Cond.methodLink "VibrationDeskLaw" (68 : Nat) ({ cls := "VibrationDesk", name := "image", desc := "(I)I" } : Jvm.MethodName)) ∈ lw_all := lw_g (lw_at lw_m5 62 rfl) rfl
theorem q1176 : (Jvm.Cond.methodLink "VibrationDeskLaw" (72 : Nat) ({ cls := "VibrationDesk", name := "shift", desc := "(III)Z" } : Jvm.MethodName)) ∈ lw_all := lw_g (lw_at lw_m5 69 rfl) rfl
theorem q1184 : (Jvm.Cond.methodLink "VibrationDeskLaw" (77 : Nat) ({ cls := "VibrationDesk", name := "stretch", desc := "(I)Z" } : Jvm.MethodName)) ∈ lw_all := lw_g (lw_at lw_m5 77 rfl) rfl
theorem q1226 : (Jvm.Cond.methodLink "VibrationDeskLaw" (86 : Nat) ({ cls := "VibrationDesk", name := "far", desc := "(II)I" } : Jvm.MethodName)) ∈ lw_all := lw_g (lw_at lw_m5 119 rfl) rfl
theorem q1263 : (Jvm.Cond.methodLink "VibrationDeskLaw" (90 : Nat) ({ cls := "VibrationDesk", name := "shape", desc := "()I" } : Jvm.MethodName)) ∈ lw_all := lw_g (lw_at lw_m5 156 rfl) rfl
theorem q1289 : (Jvm.Cond.methodLink "VibrationDeskLaw" (94 : Nat) ({ cls := "VibrationDesk", name := "centre", desc := "(I)Z" } : Jvm.MethodName)) ∈ lw_all := lw_g (lw_at lw_m5 182 rfl) rfl
theorem q1301 : (Jvm.Cond.methodLink "VibrationDeskLaw" (98 : Nat) ({ cls := "VibrationDesk", name := "cellMany", desc := "()I" } : Jvm.MethodName)) ∈ lw_all := lw_g (lw_at lw_m5 194 rfl) rfl
theorem q1318 : (Jvm.Cond.methodLink "VibrationDeskLaw" (102 : Nat) ({ cls := "VibrationDesk", name := "cellOf", desc := "(I)I" } : Jvm.MethodName)) ∈ lw_all := lw_g (lw_at lw_m5 211 rfl) rfl
theorem q1322 : (Jvm.Cond.methodLink "VibrationDeskLaw" (106 : Nat) ({ cls := "VibrationDesk", name := "order", desc := "()I" } : Jvm.MethodName)) ∈ lw_all := lw_g (lw_at lw_m5 215 rfl) rfl
theorem q1546 : (Jvm.Cond.methodLink "VibrationDeskLaw" (110 : Nat) ({ cls := "VibrationDesk", name := "rowAt", desc := "(II)I" } : Jvm.MethodName)) ∈ lw_all := lw_g (lw_at lw_m6 199 rfl) rfl
theorem q1559 : (Jvm.Cond.methodLink "VibrationDeskLaw" (114 : Nat) ({ cls := "VibrationDesk", name := "sign", desc := "(I)I" } : Jvm.MethodName)) ∈ lw_all := lw_g (lw_at lw_m6 212 rfl) rfl
theorem q1564 : (Jvm.Cond.methodLink "VibrationDeskLaw" (118 : Nat) ({ cls := "VibrationDesk", name := "trace", desc := "(I)I" } : Jvm.MethodName)) ∈ lw_all := lw_g (lw_at lw_m6 217 rfl) rfl
theorem q1568 : (Jvm.Cond.methodLink "VibrationDeskLaw" (122 : Nat) ({ cls := "VibrationDesk", name := "entry", desc := "(III)Z" } : Jvm.MethodName)) ∈ lw_all := lw_g (lw_at lw_m6 221 rfl) rfl
theorem q1574 : (Jvm.Cond.methodLink "VibrationDeskLaw" (126 : Nat) ({ cls := "VibrationDesk", name := "then", desc := "(II)I" } : Jvm.MethodName)) ∈ lw_all := lw_g (lw_at lw_m6 227 rfl) rfl
theorem q1582 : (Jvm.Cond.methodLink "VibrationDeskLaw" (130 : Nat) ({ cls := "VibrationDesk", name := "inverse", desc := "(I)I" } : Jvm.MethodName)) ∈ lw_all := lw_g (lw_at lw_m6 235 rfl) rfl
theorem q1586 : (Jvm.Cond.methodLink "VibrationDeskLaw" (134 : Nat) ({ cls := "VibrationDesk", name := "period", desc := "(I)I" } : Jvm.MethodName)) ∈ lw_all := lw_g (lw_at lw_m6 239 rfl) rfl
theorem q1591 : (Jvm.Cond.methodLink "VibrationDeskLaw" (138 : Nat) ({ cls := "VibrationDesk", name := "power", desc := "(II)I" } : Jvm.MethodName)) ∈ lw_all := lw_g (lw_at lw_m7 4 rfl) rfl
theorem q1596 : (Jvm.Cond.methodLink "VibrationDeskLaw" (142 : Nat) ({ cls := "VibrationDesk", name := "fixed", desc := "(I)I" } : Jvm.MethodName)) ∈ lw_all := lw_g (lw_at lw_m7 9 rfl) rfl
theorem q1614 : (Jvm.Cond.methodLink "VibrationDeskLaw" (146 : Nat) ({ cls := "VibrationDesk", name := "cycles", desc := "(I)I" } : Jvm.MethodName)) ∈ lw_all := lw_g (lw_at lw_m7 27 rfl) rfl
theorem q1632 : (Jvm.Cond.methodLink "VibrationDeskLaw" (150 : Nat) ({ cls := "VibrationDesk", name := "find", desc := "(II)I" } : Jvm.MethodName)) ∈ lw_all := lw_g (lw_at lw_m7 45 rfl) rfl
theorem q1640 : (Jvm.Cond.methodLink "VibrationDeskLaw" (154 : Nat) ({ cls := "VibrationDesk", name := "count", desc := "(II)I" } : Jvm.MethodName)) ∈ lw_all := lw_g (lw_at lw_m7 53 rfl) rfl
theorem q1645 : (Jvm.Cond.methodLink "VibrationDeskLaw" (158 : Nat) ({ cls := "VibrationDesk", name := "classes", desc := "()I" } : Jvm.MethodName)) ∈ lw_all := lw_g (lw_at lw_m7 58 rfl) rfl
theorem q1649 : (Jvm.Cond.methodLink "VibrationDeskLaw" (162 : Nat) ({ cls := "VibrationDesk", name := "classOf", desc := "(I)I" } : Jvm.MethodName)) ∈ lw_all := lw_g (lw_at lw_m7 62 rfl) rfl
theorem q1653 : (Jvm.Cond.methodLink "VibrationDeskLaw" (166 : Nat) ({ cls := "VibrationDesk", name := "classAt", desc := "(II)I" } : Jvm.MethodName)) ∈ lw_all := lw_g (lw_at lw_m7 66 rfl) rfl
theorem q1661 : (Jvm.Cond.methodLink "VibrationDeskLaw" (170 : Nat) ({ cls := "VibrationDesk", name := "joins", desc := "(III)I" } : Jvm.MethodName)) ∈ lw_all := lw_g (lw_at lw_m7 74 rfl) rfl
theorem q1666 : (Jvm.Cond.methodLink "VibrationDeskLaw" (175 : Nat) ({ cls := "VibrationDesk", name := "orbits", desc := "()I" } : Jvm.MethodName)) ∈ lw_all := lw_g (lw_at lw_m7 79 rfl) rfl
theorem q1687 : (Jvm.Cond.methodLink "VibrationDeskLaw" (179 : Nat) ({ cls := "VibrationDesk", name := "orbitOf", desc := "(I)I" } : Jvm.MethodName)) ∈ lw_all := lw_g (lw_at lw_m7 100 rfl) rfl
theorem q1696 : (Jvm.Cond.methodLink "VibrationDeskLaw" (183 : Nat) ({ cls := "VibrationDesk", name := "orbitSize", desc := "(I)I" } : Jvm.MethodName)) ∈ lw_all := lw_g (lw_at lw_m7 109 rfl) rfl
theorem q1700 : (Jvm.Cond.methodLink "VibrationDeskLaw" (187 : Nat) ({ cls := "VibrationDesk", name := "keeps", desc := "(II)I" } : Jvm.MethodName)) ∈ lw_all := lw_g (lw_at lw_m7 113 rfl) rfl
theorem q1704 : (Jvm.Cond.methodLink "VibrationDeskLaw" (191 : Nat) ({ cls := "VibrationDesk", name := "pairOrbits", desc := "()I" } : Jvm.MethodName)) ∈ lw_all := lw_g (lw_at lw_m7 117 rfl) rfl
theorem q1716 : (Jvm.Cond.methodLink "VibrationDeskLaw" (195 : Nat) ({ cls := "VibrationDesk", name := "middle", desc := "()I" } : Jvm.MethodName)) ∈ lw_all := lw_g (lw_at lw_m7 129 rfl) rfl
theorem q1720 : (Jvm.Cond.methodLink "VibrationDeskLaw" (199 : Nat) ({ cls := "VibrationDesk", name := "derived", desc := "()I" } : Jvm.MethodName)) ∈ lw_all := lw_g (lw_at lw_m7 133 rfl) rfl
theorem q1741 : (Jvm.Cond.methodLink "VibrationDeskLaw" (203 : Nat) ({ cls := "VibrationDesk", name := "generated", desc := "(II)I" } : Jvm.MethodName)) ∈ lw_all := lw_g (lw_at lw_m7 154 rfl) rfl
theorem q1745 : (Jvm.Cond.methodLink "VibrationDeskLaw" (207 : Nat) ({ cls := "VibrationDesk", name := "fewest", desc := "()I" } : Jvm.MethodName)) ∈ lw_all := lw_g (lw_at lw_m7 158 rfl) rfl
theorem q1759 : (Jvm.Cond.methodLink "VibrationDeskLaw" (211 : Nat) ({ cls := "VibrationDesk", name := "subgroups", desc := "()I" } : Jvm.MethodName)) ∈ lw_all := lw_g (lw_at lw_m7 172 rfl) rfl
theorem q1784 : (Jvm.Cond.methodLink "VibrationDeskLaw" (215 : Nat) ({ cls := "VibrationDesk", name := "subgroup", desc := "(I)J" } : Jvm.MethodName)) ∈ lw_all := lw_g (lw_at lw_m7 197 rfl) rfl
theorem q1793 : (Jvm.Cond.methodLink "VibrationDeskLaw" (220 : Nat) ({ cls := "VibrationDesk", name := "subgroupAt", desc := "(II)I" } : Jvm.MethodName)) ∈ lw_all := lw_g (lw_at lw_m7 206 rfl) rfl
theorem q1815 : (Jvm.Cond.methodLink "VibrationDeskLaw" (224 : Nat) ({ cls := "VibrationDesk", name := "nameLength", desc := "()I" } : Jvm.MethodName)) ∈ lw_all := lw_g (lw_at lw_m7 228 rfl) rfl
theorem q1820 : (Jvm.Cond.methodLink "VibrationDeskLaw" (228 : Nat) ({ cls := "VibrationDesk", name := "nameAt", desc := "(I)I" } : Jvm.MethodName)) ∈ lw_all := lw_g (lw_at lw_m7 233 rfl) rfl
theorem q1835 : (Jvm.Cond.methodLink "VibrationDeskLaw" (232 : Nat) ({ cls := "VibrationDesk", name := "isNamed", desc := "(I)I" } : Jvm.MethodName)) ∈ lw_all := lw_g (lw_at lw_m8 8 rfl) rfl
theorem q1878 : (Jvm.Cond.methodLink "VibrationDeskLaw" (236 : Nat) ({ cls := "VibrationDesk", name := "orderNamed", desc := "(I)I" } : Jvm.MethodName)) ∈ lw_all := lw_g (lw_at lw_m8 51 rfl) rfl
theorem q1921 : (Jvm.Cond.methodLink "VibrationDeskLaw" (240 : Nat) ({ cls := "VibrationDesk", name := "lawAt", desc := "(II)I" } : Jvm.MethodName)) ∈ lw_all := lw_g (lw_at lw_m8 94 rfl) rfl
theorem q1979 : (Jvm.Cond.methodLink "VibrationDeskLaw" (244 : Nat) ({ cls := "VibrationDesk", name := "degree", desc := "(I)I" } : Jvm.MethodName)) ∈ lw_all := lw_g (lw_at lw_m8 152 rfl) rfl
theorem q1983 : (Jvm.Cond.methodLink "VibrationDeskLaw" (248 : Nat) ({ cls := "VibrationDesk", name := "character", desc := "(II)I" } : Jvm.MethodName)) ∈ lw_all := lw_g (lw_at lw_m8 156 rfl) rfl
theorem q1987 : (Jvm.Cond.methodLink "VibrationDeskLaw" (252 : Nat) ({ cls := "VibrationDesk", name := "share", desc := "(II)I" } : Jvm.MethodName)) ∈ lw_all := lw_g (lw_at lw_m8 160 rfl) rfl
theorem q2001 : (Jvm.Cond.methodLink "VibrationDeskLaw" (256 : Nat) ({ cls := "VibrationDesk", name := "product", desc := "(III)I" } : Jvm.MethodName)) ∈ lw_all := lw_g (lw_at lw_m8 174 rfl) rfl
theorem q2009 : (Jvm.Cond.methodLink "VibrationDeskLaw" (260 : Nat) ({ cls := "VibrationDesk", name := "partner", desc := "(I)I" } : Jvm.MethodName)) ∈ lw_all := lw_g (lw_at lw_m8 182 rfl) rfl
theorem q2021 : (Jvm.Cond.methodLink "VibrationDeskLaw" (264 : Nat) ({ cls := "VibrationDesk", name := "kernel", desc := "(I)I" } : Jvm.MethodName)) ∈ lw_all := lw_g (lw_at lw_m8 194 rfl) rfl
theorem q2029 : (Jvm.Cond.methodLink "VibrationDeskLaw" (268 : Nat) ({ cls := "VibrationDesk", name := "bright", desc := "(I)I" } : Jvm.MethodName)) ∈ lw_all := lw_g (lw_at lw_m8 202 rfl) rfl
theorem q2037 : (Jvm.Cond.methodLink "VibrationDeskLaw" (272 : Nat) ({ cls := "VibrationDesk", name := "paintings", desc := "(II)J" } : Jvm.MethodName)) ∈ lw_all := lw_g (lw_at lw_m8 210 rfl) rfl
theorem q2064 : (Jvm.Cond.methodLink "VibrationDeskLaw" (277 : Nat) ({ cls := "VibrationDesk", name := "painted", desc := "(II)I" } : Jvm.MethodName)) ∈ lw_all := lw_g (lw_at lw_m8 237 rfl) rfl
theorem q2073 : (Jvm.Cond.methodLink "VibrationDeskLaw" (281 : Nat) ({ cls := "VibrationDesk", name := "bestDrop", desc := "()I" } : Jvm.MethodName)) ∈ lw_all := lw_g (lw_at lw_m9 6 rfl) rfl
theorem q2081 : (Jvm.Cond.methodLink "VibrationDeskLaw" (285 : Nat) ({ cls := "VibrationDesk", name := "bestSwap", desc := "(I)I" } : Jvm.MethodName)) ∈ lw_all := lw_g (lw_at lw_m9 14 rfl) rfl
theorem q2085 : (Jvm.Cond.classLink "VibrationDeskLaw" (10 : Nat) "VibrationDeskModel") ∈ lw_all := lw_g (lw_at lw_m9 18 rfl) rfl
theorem q2087 : (Jvm.Cond.methodLink "VibrationDeskLaw" (12 : Nat) ({ cls := "VibrationDeskModel", name := "<init>", desc := "()V" } : Jvm.MethodName)) ∈ lw_all := lw_g (lw_at lw_m9 20 rfl) rfl
theorem q2287 : (Jvm.Cond.methodLink "VibrationDeskLaw" (17 : Nat) ({ cls := "VibrationDeskModel", name := "status", desc := "()I" } : Jvm.MethodName)) ∈ lw_all := lw_g (lw_at lw_m9 220 rfl) rfl
theorem q2291 : (Jvm.Cond.methodLink "VibrationDeskLaw" (22 : Nat) ({ cls := "VibrationDeskModel", name := "top", desc := "()J" } : Jvm.MethodName)) ∈ lw_all := lw_g (lw_at lw_m9 224 rfl) rfl
theorem q2295 : (Jvm.Cond.methodLink "VibrationDeskLaw" (26 : Nat) ({ cls := "VibrationDeskModel", name := "bottom", desc := "()J" } : Jvm.MethodName)) ∈ lw_all := lw_g (lw_at lw_m9 228 rfl) rfl
theorem q2299 : (Jvm.Cond.methodLink "VibrationDeskLaw" (31 : Nat) ({ cls := "VibrationDeskModel", name := "feed", desc := "(IIIII)I" } : Jvm.MethodName)) ∈ lw_all := lw_g (lw_at lw_m9 232 rfl) rfl
theorem q2307 : (Jvm.Cond.methodLink "VibrationDeskLaw" (36 : Nat) ({ cls := "VibrationDeskModel", name := "frame", desc := "(I)I" } : Jvm.MethodName)) ∈ lw_all := lw_g (lw_at lw_m10 0 rfl) rfl
theorem q2433 : (Jvm.Cond.methodLink "VibrationDeskLaw" (40 : Nat) ({ cls := "VibrationDeskModel", name := "fault", desc := "(I)I" } : Jvm.MethodName)) ∈ lw_all := lw_g (lw_at lw_m10 126 rfl) rfl
theorem q2437 : (Jvm.Cond.methodLink "VibrationDeskLaw" (44 : Nat) ({ cls := "VibrationDeskModel", name := "atoms", desc := "()I" } : Jvm.MethodName)) ∈ lw_all := lw_g (lw_at lw_m10 130 rfl) rfl
theorem q2441 : (Jvm.Cond.methodLink "VibrationDeskLaw" (49 : Nat) ({ cls := "VibrationDeskModel", name := "atom", desc := "(II)I" } : Jvm.MethodName)) ∈ lw_all := lw_g (lw_at lw_m10 134 rfl) rfl
theorem q2453 : (Jvm.Cond.methodLink "VibrationDeskLaw" (54 : Nat) ({ cls := "VibrationDeskModel", name := "put", desc := "(IIII)I" } : Jvm.MethodName)) ∈ lw_all := lw_g (lw_at lw_m10 146 rfl) rfl
theorem q2460 : (Jvm.Cond.methodLink "VibrationDeskLaw" (58 : Nat) ({ cls := "VibrationDeskModel", name := "drop", desc := "(I)I" } : Jvm.MethodName)) ∈ lw_all := lw_g (lw_at lw_m10 153 rfl) rfl
theorem q2464 : (Jvm.Cond.methodLink "VibrationDeskLaw" (63 : Nat) ({ cls := "VibrationDeskModel", name := "move", desc := "(IIII)Z" } : Jvm.MethodName)) ∈ lw_all := lw_g (lw_at lw_m10 157 rfl) rfl
theorem q2472 : (Jvm.Cond.methodLink "VibrationDeskLaw" (67 : Nat) ({ cls := "VibrationDeskModel", name := "swap", desc := "(II)I" } : Jvm.MethodName)) ∈ lw_all := lw_g (lw_at lw_m10 165 rfl) rfl
theorem q2476 : (Jvm.Cond.methodLink "VibrationDeskLaw" (71 : Nat) ({ cls := "VibrationDeskModel", name := "image", desc := "(I)I" } : Jvm.MethodName)) ∈ lw_all := lw_g (lw_at lw_m10 169 rfl) rfl
theorem q2480 : (Jvm.Cond.methodLink "VibrationDeskLaw" (76 : Nat) ({ cls := "VibrationDeskModel", name := "shift", desc := "(III)Z" } : Jvm.MethodName)) ∈ lw_all := lw_g (lw_at lw_m10 173 rfl) rfl
theorem q2484 : (Jvm.Cond.methodLink "VibrationDeskLaw" (81 : Nat) ({ cls := "VibrationDeskModel", name := "stretch", desc := "(I)Z" } : Jvm.MethodName)) ∈ lw_all := lw_g (lw_at lw_m10 177 rfl) rfl
theorem q2488 : (Jvm.Cond.methodLink "VibrationDeskLaw" (85 : Nat) ({ cls := "VibrationDeskModel", name := "back", desc := "()I" } : Jvm.MethodName)) ∈ lw_all := lw_g (lw_at lw_m10 181 rfl) rfl
theorem q2492 : (Jvm.Cond.methodLink "VibrationDeskLaw" (89 : Nat) ({ cls := "VibrationDeskModel", name := "far", desc := "(II)I" } : Jvm.MethodName)) ∈ lw_all := lw_g (lw_at lw_m10 185 rfl) rfl
theorem q2501 : (Jvm.Cond.methodLink "VibrationDeskLaw" (93 : Nat) ({ cls := "VibrationDeskModel", name := "shape", desc := "()I" } : Jvm.MethodName)) ∈ lw_all := lw_g (lw_at lw_m10 194 rfl) rfl
theorem q2519 : (Jvm.Cond.methodLink "VibrationDeskLaw" (97 : Nat) ({ cls := "VibrationDeskModel", name := "centre", desc := "(I)Z" } : Jvm.MethodName)) ∈ lw_all := lw_g (lw_at lw_m10 212 rfl) rfl
theorem q2527 : (Jvm.Cond.methodLink "VibrationDeskLaw" (101 : Nat) ({ cls := "VibrationDeskModel", name := "cellMany", desc := "()I" } : Jvm.MethodName)) ∈ lw_all := lw_g (lw_at lw_m10 220 rfl) rfl
theorem q2543 : (Jvm.Cond.methodLink "VibrationDeskLaw" (105 : Nat) ({ cls := "VibrationDeskModel", name := "cellOf", desc := "(I)I" } : Jvm.MethodName)) ∈ lw_all := lw_g (lw_at lw_m10 236 rfl) rfl
theorem q2547 : (Jvm.Cond.methodLink "VibrationDeskLaw" (109 : Nat) ({ cls := "VibrationDeskModel", name := "order", desc := "()I" } : Jvm.MethodName)) ∈ lw_all := lw_g (lw_at lw_m11 0 rfl) rfl
theorem q2594 : (Jvm.Cond.methodLink "VibrationDeskLaw" (113 : Nat) ({ cls := "VibrationDeskModel", name := "rowAt", desc := "(II)I" } : Jvm.MethodName)) ∈ lw_all := lw_g (lw_at lw_m11 47 rfl) rfl
theorem q2602 : (Jvm.Cond.methodLink "VibrationDeskLaw" (117 : Nat) ({ cls := "VibrationDeskModel", name := "sign", desc := "(I)I" } : Jvm.MethodName)) ∈ lw_all := lw_g (lw_at lw_m11 55 rfl) rfl
theorem q2606 : (Jvm.Cond.methodLink "VibrationDeskLaw" (121 : Nat) ({ cls := "VibrationDeskModel", name := "trace", desc := "(I)I" } : Jvm.MethodName)) ∈ lw_all := lw_g (lw_at lw_m11 59 rfl) rfl
theorem q2610 : (Jvm.Cond.methodLink "VibrationDeskLaw" (125 : Nat) ({ cls := "VibrationDeskModel", name := "entry", desc := "(III)Z" } : Jvm.MethodName)) ∈ lw_all := lw_g (lw_at lw_m11 63 rfl) rfl
theorem q2614 : (Jvm.Cond.methodLink "VibrationDeskLaw" (129 : Nat) ({ cls := "VibrationDeskModel", name := "then", desc := "(II)I" } : Jvm.MethodName)) ∈ lw_all := lw_g (lw_at lw_m11 67 rfl) rfl
theorem q2622 : (Jvm.Cond.methodLink "VibrationDeskLaw" (133 : Nat) ({ cls := "VibrationDeskModel", name := "inverse", desc := "(I)I" } : Jvm.MethodName)) ∈ lw_all := lw_g (lw_at lw_m11 75 rfl) rfl
theorem q2626 : (Jvm.Cond.methodLink "VibrationDeskLaw" (137 : Nat) ({ cls := "VibrationDeskModel", name := "period", desc := "(I)I" } : Jvm.MethodName)) ∈ lw_all := lw_g (lw_at lw_m11 79 rfl) rfl
theorem q2634 : (Jvm.Cond.methodLink "VibrationDeskLaw" (141 : Nat) ({ cls := "VibrationDeskModel", name := "power", desc := "(II)I" } : Jvm.MethodName)) ∈ lw_all := lw_g (lw_at lw_m11 87 rfl) rfl
theorem q2638 : (Jvm.Cond.methodLink "VibrationDeskLaw" (145 : Nat) ({ cls := "VibrationDeskModel", name := "fixed", desc := "(I)I" } : Jvm.MethodName)) ∈ lw_all := lw_g (lw_at lw_m11 91 rfl) rfl
theorem q2646 : (Jvm.Cond.methodLink "VibrationDeskLaw" (149 : Nat) ({ cls := "VibrationDeskModel", name := "cycles", desc := "(I)I" } : Jvm.MethodName)) ∈ lw_all := lw_g (lw_at lw_m11 99 rfl) rfl
theorem q2658 : (Jvm.Cond.methodLink "VibrationDeskLaw" (153 : Nat) ({ cls := "VibrationDeskModel", name := "find", desc := "(II)I" } : Jvm.MethodName)) ∈ lw_all := lw_g (lw_at lw_m11 111 rfl) rfl
theorem q2666 : (Jvm.Cond.methodLink "VibrationDeskLaw" (157 : Nat) ({ cls := "VibrationDeskModel", name := "count", desc := "(II)I" } : Jvm.MethodName)) ∈ lw_all := lw_g (lw_at lw_m11 119 rfl) rfl
theorem q2674 : (Jvm.Cond.methodLink "VibrationDeskLaw" (161 : Nat) ({ cls := "VibrationDeskModel", name := "classes", desc := "()I" } : Jvm.MethodName)) ∈ lw_all := lw_g (lw_at lw_m11 127 rfl) rfl
theorem q2678 : (Jvm.Cond.methodLink "VibrationDeskLaw" (165 : Nat) ({ cls := "VibrationDeskModel", name := "classOf", desc := "(I)I" } : Jvm.MethodName)) ∈ lw_all := lw_g (lw_at lw_m11 131 rfl) rfl
theorem q2682 : (Jvm.Cond.methodLink "VibrationDeskLaw" (169 : Nat) ({ cls := "VibrationDeskModel", name := "classAt", desc := "(II)I" } : Jvm.MethodName)) ∈ lw_all := lw_g (lw_at lw_m11 135 rfl) rfl
theorem q2690 : (Jvm.Cond.methodLink "VibrationDeskLaw" (174 : Nat) ({ cls := "VibrationDeskModel", name := "joins", desc := "(III)I" } : Jvm.MethodName)) ∈ lw_all := lw_g (lw_at lw_m11 143 rfl) rfl
theorem q2694 : (Jvm.Cond.methodLink "VibrationDeskLaw" (178 : Nat) ({ cls := "VibrationDeskModel", name := "orbits", desc := "()I" } : Jvm.MethodName)) ∈ lw_all := lw_g (lw_at lw_m11 147 rfl) rfl
theorem q2702 : (Jvm.Cond.methodLink "VibrationDeskLaw" (182 : Nat) ({ cls := "VibrationDeskModel", name := "orbitOf", desc := "(I)I" } : Jvm.MethodName)) ∈ lw_all := lw_g (lw_at lw_m11 155 rfl) rfl
theorem q2710 : (Jvm.Cond.methodLink "VibrationDeskLaw" (186 : Nat) ({ cls := "VibrationDeskModel", name := "orbitSize", desc := "(I)I" } : Jvm.MethodName)) ∈ lw_all := lw_g (lw_at lw_m11 163 rfl) rfl
theorem q2714 : (Jvm.Cond.methodLink "VibrationDeskLaw" (190 : Nat) ({ cls := "VibrationDeskModel", name := "keeps", desc := "(II)I" } : Jvm.MethodName)) ∈ lw_all := lw_g (lw_at lw_m11 167 rfl) rfl
theorem q2718 : (Jvm.Cond.methodLink "VibrationDeskLaw" (194 : Nat) ({ cls := "VibrationDeskModel", name := "pairOrbits", desc := "()I" } : Jvm.MethodName)) ∈ lw_all := lw_g (lw_at lw_m11 171 rfl) rfl
theorem q2726 : (Jvm.Cond.methodLink "VibrationDeskLaw" (198 : Nat) ({ cls := "VibrationDeskModel", name := "middle", desc := "()I" } : Jvm.MethodName)) ∈ lw_all := lw_g (lw_at lw_m11 179 rfl) rfl
theorem q2730 : (Jvm.Cond.methodLink "VibrationDeskLaw" (202 : Nat) ({ cls := "VibrationDeskModel", name := "derived", desc := "()I" } : Jvm.MethodName)) ∈ lw_all := lw_g (lw_at lw_m11 183 rfl) rfl
theorem q2752 : (Jvm.Cond.methodLink "VibrationDeskLaw" (206 : Nat) ({ cls := "VibrationDeskModel", name := "generated", desc := "(II)I" } : Jvm.MethodName)) ∈ lw_all := lw_g (lw_at lw_m11 205 rfl) rfl
theorem q2756 : (Jvm.Cond.methodLink "VibrationDeskLaw" (210 : Nat) ({ cls := "VibrationDeskModel", name := "fewest", desc := "()I" } : Jvm.MethodName)) ∈ lw_all := lw_g (lw_at lw_m11 209 rfl) rfl
theorem q2760 : (Jvm.Cond.methodLink "VibrationDeskLaw" (214 : Nat) ({ cls := "VibrationDeskModel", name := "subgroups", desc := "()I" } : Jvm.MethodName)) ∈ lw_all := lw_g (lw_at lw_m11 213 rfl) rfl
theorem q2764 : (Jvm.Cond.methodLink "VibrationDeskLaw" (219 : Nat) ({ cls := "VibrationDeskModel", name := "subgroup", desc := "(I)J" } : Jvm.MethodName)) ∈ lw_all := lw_g (lw_at lw_m11 217 rfl) rfl
theorem q2773 : (Jvm.Cond.methodLink "VibrationDeskLaw" (223 : Nat) ({ cls := "VibrationDeskModel", name := "subgroupAt", desc := "(II)I" } : Jvm.MethodName)) ∈ lw_all := lw_g (lw_at lw_m11 226 rfl) rfl
theorem q2797 : (Jvm.Cond.methodLink "VibrationDeskLaw" (227 : Nat) ({ cls := "VibrationDeskModel", name := "nameLength", desc := "()I" } : Jvm.MethodName)) ∈ lw_all := lw_g (lw_at lw_m12 10 rfl) rfl
theorem q2809 : (Jvm.Cond.methodLink "VibrationDeskLaw" (231 : Nat) ({ cls := "VibrationDeskModel", name := "nameAt", desc := "(I)I" } : Jvm.MethodName)) ∈ lw_all := lw_g (lw_at lw_m12 22 rfl) rfl
theorem q2813 : (Jvm.Cond.methodLink "VibrationDeskLaw" (235 : Nat) ({ cls := "VibrationDeskModel", name := "isNamed", desc := "(I)I" } : Jvm.MethodName)) ∈ lw_all := lw_g (lw_at lw_m12 26 rfl) rfl
theorem q2817 : (Jvm.Cond.methodLink "VibrationDeskLaw" (239 : Nat) ({ cls := "VibrationDeskModel", name := "orderNamed", desc := "(I)I" } : Jvm.MethodName)) ∈ lw_all := lw_g (lw_at lw_m12 30 rfl) rfl
theorem q2826 : (Jvm.Cond.methodLink "VibrationDeskLaw" (243 : Nat) ({ cls := "VibrationDeskModel", name := "lawAt", desc := "(II)I" } : Jvm.MethodName)) ∈ lw_all := lw_g (lw_at lw_m12 39 rfl) rfl
theorem q2868 : (Jvm.Cond.methodLink "VibrationDeskLaw" (247 : Nat) ({ cls := "VibrationDeskModel", name := "degree", desc := "(I)I" } : Jvm.MethodName)) ∈ lw_all := lw_g (lw_at lw_m12 81 rfl) rfl
theorem q2872 : (Jvm.Cond.methodLink "VibrationDeskLaw" (251 : Nat) ({ cls := "VibrationDeskModel", name := "character", desc := "(II)I" } : Jvm.MethodName)) ∈ lw_all := lw_g (lw_at lw_m12 85 rfl) rfl
theorem q2876 : (Jvm.Cond.methodLink "VibrationDeskLaw" (255 : Nat) ({ cls := "VibrationDeskModel", name := "share", desc := "(II)I" } : Jvm.MethodName)) ∈ lw_all := lw_g (lw_at lw_m12 89 rfl) rfl
theorem q2888 : (Jvm.Cond.methodLink "VibrationDeskLaw" (259 : Nat) ({ cls := "VibrationDeskModel", name := "product", desc := "(III)I" } : Jvm.MethodName)) ∈ lw_all := lw_g (lw_at lw_m12 101 rfl) rfl
theorem q2892 : (Jvm.Cond.methodLink "VibrationDeskLaw" (263 : Nat) ({ cls := "VibrationDeskModel", name := "partner", desc := "(I)I" } : Jvm.MethodName)) ∈ lw_all := lw_g (lw_at lw_m12 105 rfl) rfl
theorem q2896 : (Jvm.Cond.methodLink "VibrationDeskLaw" (267 : Nat) ({ cls := "VibrationDeskModel", name := "kernel", desc := "(I)I" } : Jvm.MethodName)) ∈ lw_all := lw_g (lw_at lw_m12 109 rfl) rfl
theorem q2900 : (Jvm.Cond.methodLink "VibrationDeskLaw" (271 : Nat) ({ cls := "VibrationDeskModel", name := "bright", desc := "(I)I" } : Jvm.MethodName)) ∈ lw_all := lw_g (lw_at lw_m12 113 rfl) rfl
theorem q2904 : (Jvm.Cond.methodLink "VibrationDeskLaw" (276 : Nat) ({ cls := "VibrationDeskModel", name := "paintings", desc := "(II)J" } : Jvm.MethodName)) ∈ lw_all := lw_g (lw_at lw_m12 117 rfl) rfl
theorem q2916 : (Jvm.Cond.methodLink "VibrationDeskLaw" (280 : Nat) ({ cls := "VibrationDeskModel", name := "painted", desc := "(II)I" } : Jvm.MethodName)) ∈ lw_all := lw_g (lw_at lw_m12 129 rfl) rfl
theorem q2920 : (Jvm.Cond.methodLink "VibrationDeskLaw" (284 : Nat) ({ cls := "VibrationDeskModel", name := "bestDrop", desc := "()I" } : Jvm.MethodName)) ∈ lw_all := lw_g (lw_at lw_m12 133 rfl) rfl
theorem q2924 : (Jvm.Cond.methodLink "VibrationDeskLaw" (288 : Nat) ({ cls := "VibrationDeskModel", name := "bestSwap", desc := "(I)I" } : Jvm.MethodName)) ∈ lw_all := lw_g (lw_at lw_m12 137 rfl) rfl
theorem q770 : (Jvm.Cond.sameMethod "[B" "java/lang/Object" "clone" "()Ljava/lang/Object;") ∈ lw_all := lw_g (lw_at lw_m3 143 rfl) rfl
set_option maxRecDepth 100000
theorem q773 : (Jvm.Cond.selects "[B" ({ cls := "[B", name := "clone", desc := "()Ljava/lang/Object;" } : Jvm.MethodName) ({ cls := "java/lang/Object", name := "clone", desc := "()Ljava/lang/Object;" } : Jvm.MethodName)) ∈ lw_all := lw_g (lw_at lw_m3 146 rfl) rfl
theorem q774 : (Jvm.Cond.castable "[B" "java/lang/Cloneable") ∈ lw_tbl := lw_at lw_m3 147 rfl
theorem q1850 : (Jvm.Cond.interfaceMethod "java/lang/CharSequence" "java/lang/CharSequence" "length" "()I") ∈ lw_tbl := lw_at lw_m8 23 rfl
set_option maxRecDepth 100000
theorem q1851 : (Jvm.Cond.declares ({ cls := "java/lang/CharSequence", name := "length", desc := "()I" } : Jvm.MethodName)) ∈ lw_tbl := lw_at lw_m8 24 rfl
theorem q1862 : (Jvm.Cond.interfaceMethod "java/lang/CharSequence" "java/lang/CharSequence" "charAt" "(I)C") ∈ lw_tbl := lw_at lw_m8 35 rfl
theorem q1863 : (Jvm.Cond.declares ({ cls := "java/lang/CharSequence", name := "charAt", desc := "(I)C" } : Jvm.MethodName)) ∈ lw_tbl := lw_at lw_m8 36 rfl
theorem q176 : (Jvm.Cond.initialized "java/lang/Number") ∈ lw_all := lw_g (lw_at lw_m1 29 rfl) rfl
set_option maxRecDepth 100000
theorem q169 : (Jvm.Cond.initialized "java/lang/System") ∈ lw_all := lw_g (lw_at lw_m1 22 rfl) rfl
set_option maxRecDepth 100000
theorem q684 : (Jvm.Cond.static ({ cls := "java/lang/System", name := "arraycopy", desc := "(Ljava/lang/Object;ILjava/lang/Object;II)V" } : Jvm.MethodName)) ∈ lw_all := lw_g (lw_at lw_m3 57 rfl) rfl
theorem q685 : (Jvm.Cond.native ({ cls := "java/lang/System", name := "arraycopy", desc := "(Ljava/lang/Object;ILjava/lang/Object;II)V" } : Jvm.MethodName)) ∈ lw_all := lw_g (lw_at lw_m3 58 rfl) rfl
theorem q982 : (Jvm.Cond.interfaceMethod "jdk/internal/access/JavaLangAccess" "jdk/internal/access/JavaLangAccess" "getUTF16Char" "([BI)C") ∈ lw_tbl := lw_at lw_m4 115 rfl
set_option maxRecDepth 100000
theorem q983 : (Jvm.Cond.declares ({ cls := "jdk/internal/access/JavaLangAccess", name := "getUTF16Char", desc := "([BI)C" } : Jvm.MethodName)) ∈ lw_tbl := lw_at lw_m4 116 rfl
theorem q269 : (Jvm.Cond.arrayClass Jvm.ClassFile.FieldType.byte) ∈ lw_all := lw_g (lw_at lw_m1 122 rfl) rfl
set_option maxRecDepth 100000
theorem q309 : (Jvm.Cond.arrayOver (Jvm.ClassFile.FieldType.array Jvm.ClassFile.FieldType.int)) ∈ lw_tbl := lw_at lw_m1 162 rfl
theorem q353 : (Jvm.Cond.arrayClass Jvm.ClassFile.FieldType.int) ∈ lw_all := lw_g (lw_at lw_m1 206 rfl) rfl
theorem q354 : (Jvm.Cond.arrayClass Jvm.ClassFile.FieldType.long) ∈ lw_all := lw_g (lw_at lw_m1 207 rfl) rfl
theorem q355 : (Jvm.Cond.arrayOver (Jvm.ClassFile.FieldType.object "VibrationDesk$Frame")) ∈ lw_tbl := lw_at lw_m1 208 rfl
theorem q363 : (Jvm.Cond.arrayOver (Jvm.ClassFile.FieldType.object "VibrationDesk$Op")) ∈ lw_tbl := lw_at lw_m1 216 rfl
theorem q391 : (Jvm.Cond.arrayOver (Jvm.ClassFile.FieldType.array Jvm.ClassFile.FieldType.long)) ∈ lw_tbl := lw_at lw_m2 4 rfl
theorem q441 : (Jvm.Cond.arrayClass Jvm.ClassFile.FieldType.boolean) ∈ lw_all := lw_g (lw_at lw_m2 54 rfl) rfl
theorem q2941 : (Jvm.Cond.arrayClass Jvm.ClassFile.FieldType.char) ∈ lw_all := lw_g (lw_at lw_m12 154 rfl) rfl
theorem q2942 : (Jvm.Cond.arrayClass Jvm.ClassFile.FieldType.short) ∈ lw_all := lw_g (lw_at lw_m12 155 rfl) rfl
