theorem q102 : (Jvm.Cond.initialized "TypesAtPrimeLaw") ∈ lw_all := lw_g (lw_at lw_m1 0 rfl) rfl
set_option maxRecDepth 100000
theorem q147 : (Jvm.Cond.classLink "TypesAtPrimeLaw" (7 : Nat) "TypesAtPrime") ∈ lw_all := lw_g (lw_at lw_m1 45 rfl) rfl
theorem q149 : (Jvm.Cond.methodLink "TypesAtPrimeLaw" (9 : Nat) ({ cls := "TypesAtPrime", name := "<init>", desc := "()V" } : Jvm.MethodName)) ∈ lw_all := lw_g (lw_at lw_m1 47 rfl) rfl
theorem q331 : (Jvm.Cond.methodLink "TypesAtPrimeLaw" (13 : Nat) ({ cls := "TypesAtPrime", name := "prime", desc := "(I)I" } : Jvm.MethodName)) ∈ lw_all := lw_g (lw_at lw_m1 229 rfl) rfl
theorem q339 : (Jvm.Cond.methodLink "TypesAtPrimeLaw" (31 : Nat) ({ cls := "TypesAtPrime", name := "set", desc := "(III)J" } : Jvm.MethodName)) ∈ lw_all := lw_g (lw_at lw_m1 237 rfl) rfl
theorem q357 : (Jvm.Cond.methodLink "TypesAtPrimeLaw" (36 : Nat) ({ cls := "TypesAtPrime", name := "at", desc := "(II)J" } : Jvm.MethodName)) ∈ lw_all := lw_g (lw_at lw_m2 15 rfl) rfl
theorem q361 : (Jvm.Cond.methodLink "TypesAtPrimeLaw" (41 : Nat) ({ cls := "TypesAtPrime", name := "told", desc := "(II)I" } : Jvm.MethodName)) ∈ lw_all := lw_g (lw_at lw_m2 19 rfl) rfl
theorem q374 : (Jvm.Cond.methodLink "TypesAtPrimeLaw" (46 : Nat) ({ cls := "TypesAtPrime", name := "mix", desc := "(IIIII)I" } : Jvm.MethodName)) ∈ lw_all := lw_g (lw_at lw_m2 32 rfl) rfl
theorem q419 : (Jvm.Cond.methodLink "TypesAtPrimeLaw" (51 : Nat) ({ cls := "TypesAtPrime", name := "times", desc := "(III)I" } : Jvm.MethodName)) ∈ lw_all := lw_g (lw_at lw_m2 77 rfl) rfl
theorem q423 : (Jvm.Cond.methodLink "TypesAtPrimeLaw" (56 : Nat) ({ cls := "TypesAtPrime", name := "worth", desc := "(II)J" } : Jvm.MethodName)) ∈ lw_all := lw_g (lw_at lw_m2 81 rfl) rfl
theorem q435 : (Jvm.Cond.methodLink "TypesAtPrimeLaw" (60 : Nat) ({ cls := "TypesAtPrime", name := "expansion", desc := "(IIII)J" } : Jvm.MethodName)) ∈ lw_all := lw_g (lw_at lw_m2 93 rfl) rfl
theorem q460 : (Jvm.Cond.methodLink "TypesAtPrimeLaw" (65 : Nat) ({ cls := "TypesAtPrime", name := "factor", desc := "(III)J" } : Jvm.MethodName)) ∈ lw_all := lw_g (lw_at lw_m2 118 rfl) rfl
theorem q638 : (Jvm.Cond.methodLink "TypesAtPrimeLaw" (18 : Nat) ({ cls := "TypesAtPrime", name := "feed", desc := "(I)I" } : Jvm.MethodName)) ∈ lw_all := lw_g (lw_at lw_m3 56 rfl) rfl
theorem q726 : (Jvm.Cond.methodLink "TypesAtPrimeLaw" (22 : Nat) ({ cls := "TypesAtPrime", name := "wipe", desc := "()I" } : Jvm.MethodName)) ∈ lw_all := lw_g (lw_at lw_m3 144 rfl) rfl
theorem q916 : (Jvm.Cond.methodLink "TypesAtPrimeLaw" (27 : Nat) ({ cls := "TypesAtPrime", name := "text", desc := "(I)I" } : Jvm.MethodName)) ∈ lw_all := lw_g (lw_at lw_m4 94 rfl) rfl
theorem q1048 : (Jvm.Cond.methodLink "TypesAtPrimeLaw" (69 : Nat) ({ cls := "TypesAtPrime", name := "grow", desc := "(I)I" } : Jvm.MethodName)) ∈ lw_all := lw_g (lw_at lw_m4 226 rfl) rfl
theorem q1420 : (Jvm.Cond.methodLink "TypesAtPrimeLaw" (73 : Nat) ({ cls := "TypesAtPrime", name := "tree", desc := "(I)I" } : Jvm.MethodName)) ∈ lw_all := lw_g (lw_at lw_m6 118 rfl) rfl
theorem q1708 : (Jvm.Cond.methodLink "TypesAtPrimeLaw" (77 : Nat) ({ cls := "TypesAtPrime", name := "knot", desc := "(II)I" } : Jvm.MethodName)) ∈ lw_all := lw_g (lw_at lw_m7 166 rfl) rfl
theorem q1718 : (Jvm.Cond.methodLink "TypesAtPrimeLaw" (81 : Nat) ({ cls := "TypesAtPrime", name := "key", desc := "(II)J" } : Jvm.MethodName)) ∈ lw_all := lw_g (lw_at lw_m7 176 rfl) rfl
theorem q1722 : (Jvm.Cond.methodLink "TypesAtPrimeLaw" (85 : Nat) ({ cls := "TypesAtPrime", name := "point", desc := "(II)I" } : Jvm.MethodName)) ∈ lw_all := lw_g (lw_at lw_m7 180 rfl) rfl
theorem q1726 : (Jvm.Cond.methodLink "TypesAtPrimeLaw" (89 : Nat) ({ cls := "TypesAtPrime", name := "side", desc := "(III)I" } : Jvm.MethodName)) ∈ lw_all := lw_g (lw_at lw_m7 184 rfl) rfl
theorem q1736 : (Jvm.Cond.methodLink "TypesAtPrimeLaw" (93 : Nat) ({ cls := "TypesAtPrime", name := "residual", desc := "(III)I" } : Jvm.MethodName)) ∈ lw_all := lw_g (lw_at lw_m7 194 rfl) rfl
theorem q1740 : (Jvm.Cond.methodLink "TypesAtPrimeLaw" (97 : Nat) ({ cls := "TypesAtPrime", name := "monomial", desc := "(III)I" } : Jvm.MethodName)) ∈ lw_all := lw_g (lw_at lw_m7 198 rfl) rfl
theorem q1744 : (Jvm.Cond.methodLink "TypesAtPrimeLaw" (101 : Nat) ({ cls := "TypesAtPrime", name := "leaf", desc := "(II)I" } : Jvm.MethodName)) ∈ lw_all := lw_g (lw_at lw_m7 202 rfl) rfl
theorem q1784 : (Jvm.Cond.methodLink "TypesAtPrimeLaw" (105 : Nat) ({ cls := "TypesAtPrime", name := "spelling", desc := "(I)I" } : Jvm.MethodName)) ∈ lw_all := lw_g (lw_at lw_m8 2 rfl) rfl
theorem q1790 : (Jvm.Cond.methodLink "TypesAtPrimeLaw" (109 : Nat) ({ cls := "TypesAtPrime", name := "ask", desc := "()I" } : Jvm.MethodName)) ∈ lw_all := lw_g (lw_at lw_m8 8 rfl) rfl
theorem q1861 : (Jvm.Cond.methodLink "TypesAtPrimeLaw" (113 : Nat) ({ cls := "TypesAtPrime", name := "corner", desc := "(II)I" } : Jvm.MethodName)) ∈ lw_all := lw_g (lw_at lw_m8 79 rfl) rfl
theorem q1905 : (Jvm.Cond.methodLink "TypesAtPrimeLaw" (117 : Nat) ({ cls := "TypesAtPrime", name := "slope", desc := "(IIII)J" } : Jvm.MethodName)) ∈ lw_all := lw_g (lw_at lw_m8 123 rfl) rfl
theorem q1917 : (Jvm.Cond.methodLink "TypesAtPrimeLaw" (121 : Nat) ({ cls := "TypesAtPrime", name := "whyNot", desc := "(III)I" } : Jvm.MethodName)) ∈ lw_all := lw_g (lw_at lw_m8 135 rfl) rfl
theorem q1921 : (Jvm.Cond.methodLink "TypesAtPrimeLaw" (125 : Nat) ({ cls := "TypesAtPrime", name := "spill", desc := "(III)I" } : Jvm.MethodName)) ∈ lw_all := lw_g (lw_at lw_m8 139 rfl) rfl
theorem q1930 : (Jvm.Cond.methodLink "TypesAtPrimeLaw" (129 : Nat) ({ cls := "TypesAtPrime", name := "sheet", desc := "(III)I" } : Jvm.MethodName)) ∈ lw_all := lw_g (lw_at lw_m8 148 rfl) rfl
theorem q1939 : (Jvm.Cond.methodLink "TypesAtPrimeLaw" (133 : Nat) ({ cls := "TypesAtPrime", name := "cell", desc := "(III)I" } : Jvm.MethodName)) ∈ lw_all := lw_g (lw_at lw_m8 157 rfl) rfl
theorem q1943 : (Jvm.Cond.methodLink "TypesAtPrimeLaw" (137 : Nat) ({ cls := "TypesAtPrime", name := "item", desc := "(II)J" } : Jvm.MethodName)) ∈ lw_all := lw_g (lw_at lw_m8 161 rfl) rfl
theorem q1947 : (Jvm.Cond.methodLink "TypesAtPrimeLaw" (141 : Nat) ({ cls := "TypesAtPrime", name := "shift", desc := "(IIIII)I" } : Jvm.MethodName)) ∈ lw_all := lw_g (lw_at lw_m8 165 rfl) rfl
theorem q1965 : (Jvm.Cond.methodLink "TypesAtPrimeLaw" (145 : Nat) ({ cls := "TypesAtPrime", name := "count", desc := "(I)I" } : Jvm.MethodName)) ∈ lw_all := lw_g (lw_at lw_m8 183 rfl) rfl
theorem q1977 : (Jvm.Cond.classLink "TypesAtPrimeLaw" (10 : Nat) "TypesAtPrimeModel") ∈ lw_all := lw_g (lw_at lw_m8 195 rfl) rfl
theorem q1979 : (Jvm.Cond.methodLink "TypesAtPrimeLaw" (12 : Nat) ({ cls := "TypesAtPrimeModel", name := "<init>", desc := "()V" } : Jvm.MethodName)) ∈ lw_all := lw_g (lw_at lw_m8 197 rfl) rfl
theorem q2189 : (Jvm.Cond.methodLink "TypesAtPrimeLaw" (17 : Nat) ({ cls := "TypesAtPrimeModel", name := "prime", desc := "(I)I" } : Jvm.MethodName)) ∈ lw_all := lw_g (lw_at lw_m9 167 rfl) rfl
theorem q2193 : (Jvm.Cond.methodLink "TypesAtPrimeLaw" (21 : Nat) ({ cls := "TypesAtPrimeModel", name := "feed", desc := "(I)I" } : Jvm.MethodName)) ∈ lw_all := lw_g (lw_at lw_m9 171 rfl) rfl
theorem q2201 : (Jvm.Cond.methodLink "TypesAtPrimeLaw" (26 : Nat) ({ cls := "TypesAtPrimeModel", name := "wipe", desc := "()I" } : Jvm.MethodName)) ∈ lw_all := lw_g (lw_at lw_m9 179 rfl) rfl
theorem q2205 : (Jvm.Cond.methodLink "TypesAtPrimeLaw" (30 : Nat) ({ cls := "TypesAtPrimeModel", name := "text", desc := "(I)I" } : Jvm.MethodName)) ∈ lw_all := lw_g (lw_at lw_m9 183 rfl) rfl
theorem q2257 : (Jvm.Cond.methodLink "TypesAtPrimeLaw" (35 : Nat) ({ cls := "TypesAtPrimeModel", name := "set", desc := "(III)J" } : Jvm.MethodName)) ∈ lw_all := lw_g (lw_at lw_m9 235 rfl) rfl
theorem q2265 : (Jvm.Cond.methodLink "TypesAtPrimeLaw" (40 : Nat) ({ cls := "TypesAtPrimeModel", name := "at", desc := "(II)J" } : Jvm.MethodName)) ∈ lw_all := lw_g (lw_at lw_m10 3 rfl) rfl
theorem q2269 : (Jvm.Cond.methodLink "TypesAtPrimeLaw" (45 : Nat) ({ cls := "TypesAtPrimeModel", name := "told", desc := "(II)I" } : Jvm.MethodName)) ∈ lw_all := lw_g (lw_at lw_m10 7 rfl) rfl
theorem q2277 : (Jvm.Cond.methodLink "TypesAtPrimeLaw" (50 : Nat) ({ cls := "TypesAtPrimeModel", name := "mix", desc := "(IIIII)I" } : Jvm.MethodName)) ∈ lw_all := lw_g (lw_at lw_m10 15 rfl) rfl
theorem q2281 : (Jvm.Cond.methodLink "TypesAtPrimeLaw" (55 : Nat) ({ cls := "TypesAtPrimeModel", name := "times", desc := "(III)I" } : Jvm.MethodName)) ∈ lw_all := lw_g (lw_at lw_m10 19 rfl) rfl
theorem q2285 : (Jvm.Cond.methodLink "TypesAtPrimeLaw" (59 : Nat) ({ cls := "TypesAtPrimeModel", name := "worth", desc := "(II)J" } : Jvm.MethodName)) ∈ lw_all := lw_g (lw_at lw_m10 23 rfl) rfl
theorem q2293 : (Jvm.Cond.methodLink "TypesAtPrimeLaw" (64 : Nat) ({ cls := "TypesAtPrimeModel", name := "expansion", desc := "(IIII)J" } : Jvm.MethodName)) ∈ lw_all := lw_g (lw_at lw_m10 31 rfl) rfl
theorem q2305 : (Jvm.Cond.methodLink "TypesAtPrimeLaw" (68 : Nat) ({ cls := "TypesAtPrimeModel", name := "factor", desc := "(III)J" } : Jvm.MethodName)) ∈ lw_all := lw_g (lw_at lw_m10 43 rfl) rfl
theorem q2343 : (Jvm.Cond.methodLink "TypesAtPrimeLaw" (72 : Nat) ({ cls := "TypesAtPrimeModel", name := "grow", desc := "(I)I" } : Jvm.MethodName)) ∈ lw_all := lw_g (lw_at lw_m10 81 rfl) rfl
theorem q2462 : (Jvm.Cond.methodLink "TypesAtPrimeLaw" (76 : Nat) ({ cls := "TypesAtPrimeModel", name := "tree", desc := "(I)I" } : Jvm.MethodName)) ∈ lw_all := lw_g (lw_at lw_m10 200 rfl) rfl
theorem q2471 : (Jvm.Cond.methodLink "TypesAtPrimeLaw" (80 : Nat) ({ cls := "TypesAtPrimeModel", name := "knot", desc := "(II)I" } : Jvm.MethodName)) ∈ lw_all := lw_g (lw_at lw_m10 209 rfl) rfl
theorem q2480 : (Jvm.Cond.methodLink "TypesAtPrimeLaw" (84 : Nat) ({ cls := "TypesAtPrimeModel", name := "key", desc := "(II)J" } : Jvm.MethodName)) ∈ lw_all := lw_g (lw_at lw_m10 218 rfl) rfl
theorem q2484 : (Jvm.Cond.methodLink "TypesAtPrimeLaw" (88 : Nat) ({ cls := "TypesAtPrimeModel", name := "point", desc := "(II)I" } : Jvm.MethodName)) ∈ lw_all := lw_g (lw_at lw_m10 222 rfl) rfl
theorem q2488 : (Jvm.Cond.methodLink "TypesAtPrimeLaw" (92 : Nat) ({ cls := "TypesAtPrimeModel", name := "side", desc := "(III)I" } : Jvm.MethodName)) ∈ lw_all := lw_g (lw_at lw_m10 226 rfl) rfl
theorem q2497 : (Jvm.Cond.methodLink "TypesAtPrimeLaw" (96 : Nat) ({ cls := "TypesAtPrimeModel", name := "residual", desc := "(III)I" } : Jvm.MethodName)) ∈ lw_all := lw_g (lw_at lw_m10 235 rfl) rfl
theorem q2501 : (Jvm.Cond.methodLink "TypesAtPrimeLaw" (100 : Nat) ({ cls := "TypesAtPrimeModel", name := "monomial", desc := "(III)I" } : Jvm.MethodName)) ∈ lw_all := lw_g (lw_at lw_m10 239 rfl) rfl
theorem q2505 : (Jvm.Cond.methodLink "TypesAtPrimeLaw" (104 : Nat) ({ cls := "TypesAtPrimeModel", name := "leaf", desc := "(II)I" } : Jvm.MethodName)) ∈ lw_all := lw_g (lw_at lw_m11 3 rfl) rfl
theorem q2510 : (Jvm.Cond.methodLink "TypesAtPrimeLaw" (108 : Nat) ({ cls := "TypesAtPrimeModel", name := "spelling", desc := "(I)I" } : Jvm.MethodName)) ∈ lw_all := lw_g (lw_at lw_m11 8 rfl) rfl
theorem q2514 : (Jvm.Cond.methodLink "TypesAtPrimeLaw" (112 : Nat) ({ cls := "TypesAtPrimeModel", name := "ask", desc := "()I" } : Jvm.MethodName)) ∈ lw_all := lw_g (lw_at lw_m11 12 rfl) rfl
theorem q2535 : (Jvm.Cond.methodLink "TypesAtPrimeLaw" (116 : Nat) ({ cls := "TypesAtPrimeModel", name := "corner", desc := "(II)I" } : Jvm.MethodName)) ∈ lw_all := lw_g (lw_at lw_m11 33 rfl) rfl
theorem q2550 : (Jvm.Cond.methodLink "TypesAtPrimeLaw" (120 : Nat) ({ cls := "TypesAtPrimeModel", name := "slope", desc := "(IIII)J" } : Jvm.MethodName)) ∈ lw_all := lw_g (lw_at lw_m11 48 rfl) rfl
theorem q2558 : (Jvm.Cond.methodLink "TypesAtPrimeLaw" (124 : Nat) ({ cls := "TypesAtPrimeModel", name := "whyNot", desc := "(III)I" } : Jvm.MethodName)) ∈ lw_all := lw_g (lw_at lw_m11 56 rfl) rfl
theorem q2562 : (Jvm.Cond.methodLink "TypesAtPrimeLaw" (128 : Nat) ({ cls := "TypesAtPrimeModel", name := "spill", desc := "(III)I" } : Jvm.MethodName)) ∈ lw_all := lw_g (lw_at lw_m11 60 rfl) rfl
theorem q2570 : (Jvm.Cond.methodLink "TypesAtPrimeLaw" (132 : Nat) ({ cls := "TypesAtPrimeModel", name := "sheet", desc := "(III)I" } : Jvm.MethodName)) ∈ lw_all := lw_g (lw_at lw_m11 68 rfl) rfl
theorem q2574 : (Jvm.Cond.methodLink "TypesAtPrimeLaw" (136 : Nat) ({ cls := "TypesAtPrimeModel", name := "cell", desc := "(III)I" } : Jvm.MethodName)) ∈ lw_all := lw_g (lw_at lw_m11 72 rfl) rfl
theorem q2578 : (Jvm.Cond.methodLink "TypesAtPrimeLaw" (140 : Nat) ({ cls := "TypesAtPrimeModel", name := "item", desc := "(II)J" } : Jvm.MethodName)) ∈ lw_all := lw_g (lw_at lw_m11 76 rfl) rfl
theorem q2582 : (Jvm.Cond.methodLink "TypesAtPrimeLaw" (144 : Nat) ({ cls := "TypesAtPrimeModel", name := "shift", desc := "(IIIII)I" } : Jvm.MethodName)) ∈ lw_all := lw_g (lw_at lw_m11 80 rfl) rfl
theorem q2586 : (Jvm.Cond.methodLink "TypesAtPrimeLaw" (148 : Nat) ({ cls := "TypesAtPrimeModel", name := "count", desc := "(I)I" } : Jvm.MethodName)) ∈ lw_all := lw_g (lw_at lw_m11 84 rfl) rfl

theorem q671 : (Jvm.Cond.sameMethod "[B" "java/lang/Object" "clone" "()Ljava/lang/Object;") ∈ lw_all := lw_g (lw_at lw_m3 89 rfl) rfl
set_option maxRecDepth 100000
theorem q672 : (Jvm.Cond.selects "[B" ({ cls := "[B", name := "clone", desc := "()Ljava/lang/Object;" } : Jvm.MethodName) ({ cls := "java/lang/Object", name := "clone", desc := "()Ljava/lang/Object;" } : Jvm.MethodName)) ∈ lw_all := lw_g (lw_at lw_m3 90 rfl) rfl
theorem q673 : (Jvm.Cond.castable "[B" "java/lang/Cloneable") ∈ lw_tbl := lw_at lw_m3 91 rfl
theorem q2662 : (Jvm.Cond.castable "[B" "java/lang/Object") ∈ lw_tbl := lw_at lw_m11 160 rfl

theorem q506 : (Jvm.Cond.sameMethod "[I" "java/lang/Object" "clone" "()Ljava/lang/Object;") ∈ lw_all := lw_g (lw_at lw_m2 164 rfl) rfl
set_option maxRecDepth 100000
theorem q509 : (Jvm.Cond.selects "[I" ({ cls := "[I", name := "clone", desc := "()Ljava/lang/Object;" } : Jvm.MethodName) ({ cls := "java/lang/Object", name := "clone", desc := "()Ljava/lang/Object;" } : Jvm.MethodName)) ∈ lw_all := lw_g (lw_at lw_m2 167 rfl) rfl
theorem q510 : (Jvm.Cond.castable "[I" "java/lang/Cloneable") ∈ lw_tbl := lw_at lw_m2 168 rfl
theorem q2661 : (Jvm.Cond.castable "[I" "java/lang/Object") ∈ lw_tbl := lw_at lw_m11 159 rfl

theorem q2660 : (Jvm.Cond.castable "[J" "java/lang/Object") ∈ lw_tbl := lw_at lw_m11 158 rfl
set_option maxRecDepth 100000

theorem q2665 : (Jvm.Cond.castable "[LTypesAtPrime$Monomial;" "java/lang/Object") ∈ lw_tbl := lw_at lw_m11 163 rfl
set_option maxRecDepth 100000

theorem q2663 : (Jvm.Cond.castable "[LTypesAtPrime$Sheet;" "java/lang/Object") ∈ lw_tbl := lw_at lw_m11 161 rfl
set_option maxRecDepth 100000

theorem q2654 : (Jvm.Cond.sameMethod "[Ljava/lang/Object;" "java/lang/Object" "getClass" "()Ljava/lang/Class;") ∈ lw_all := lw_g (lw_at lw_m11 152 rfl) rfl
set_option maxRecDepth 100000
theorem q2655 : (Jvm.Cond.selects "[Ljava/lang/Object;" ({ cls := "java/lang/Object", name := "getClass", desc := "()Ljava/lang/Class;" } : Jvm.MethodName) ({ cls := "java/lang/Object", name := "getClass", desc := "()Ljava/lang/Class;" } : Jvm.MethodName)) ∈ lw_all := lw_g (lw_at lw_m11 153 rfl) rfl
theorem q2664 : (Jvm.Cond.castable "[Ljava/lang/Object;" "java/lang/Object") ∈ lw_tbl := lw_at lw_m11 162 rfl

theorem q2659 : (Jvm.Cond.castable "[[I" "java/lang/Object") ∈ lw_tbl := lw_at lw_m11 157 rfl
set_option maxRecDepth 100000

theorem q2658 : (Jvm.Cond.castable "[[J" "java/lang/Object") ∈ lw_tbl := lw_at lw_m11 156 rfl
set_option maxRecDepth 100000

theorem q2657 : (Jvm.Cond.castable "[[[J" "java/lang/Object") ∈ lw_tbl := lw_at lw_m11 155 rfl
set_option maxRecDepth 100000

theorem q952 : (Jvm.Cond.interfaceMethod "java/lang/CharSequence" "java/lang/CharSequence" "length" "()I") ∈ lw_tbl := lw_at lw_m4 130 rfl
set_option maxRecDepth 100000
theorem q953 : (Jvm.Cond.declares ({ cls := "java/lang/CharSequence", name := "length", desc := "()I" } : Jvm.MethodName)) ∈ lw_tbl := lw_at lw_m4 131 rfl
theorem q964 : (Jvm.Cond.interfaceMethod "java/lang/CharSequence" "java/lang/CharSequence" "charAt" "(I)C") ∈ lw_tbl := lw_at lw_m4 142 rfl
theorem q965 : (Jvm.Cond.declares ({ cls := "java/lang/CharSequence", name := "charAt", desc := "(I)C" } : Jvm.MethodName)) ∈ lw_tbl := lw_at lw_m4 143 rfl

theorem q122 : (Jvm.Cond.initialized "java/lang/Number") ∈ lw_all := lw_g (lw_at lw_m1 20 rfl) rfl
set_option maxRecDepth 100000

theorem q117 : (Jvm.Cond.initialized "java/lang/System") ∈ lw_all := lw_g (lw_at lw_m1 15 rfl) rfl
set_option maxRecDepth 100000
theorem q451 : (Jvm.Cond.static ({ cls := "java/lang/System", name := "arraycopy", desc := "(Ljava/lang/Object;ILjava/lang/Object;II)V" } : Jvm.MethodName)) ∈ lw_all := lw_g (lw_at lw_m2 109 rfl) rfl
theorem q452 : (Jvm.Cond.native ({ cls := "java/lang/System", name := "arraycopy", desc := "(Ljava/lang/Object;ILjava/lang/Object;II)V" } : Jvm.MethodName)) ∈ lw_all := lw_g (lw_at lw_m2 110 rfl) rfl

theorem q1089 : (Jvm.Cond.interfaceMethod "java/util/Iterator" "java/util/Iterator" "hasNext" "()Z") ∈ lw_tbl := lw_at lw_m5 27 rfl
set_option maxRecDepth 100000
theorem q1090 : (Jvm.Cond.declares ({ cls := "java/util/Iterator", name := "hasNext", desc := "()Z" } : Jvm.MethodName)) ∈ lw_tbl := lw_at lw_m5 28 rfl
theorem q1099 : (Jvm.Cond.interfaceMethod "java/util/Iterator" "java/util/Iterator" "next" "()Ljava/lang/Object;") ∈ lw_tbl := lw_at lw_m5 37 rfl
theorem q1100 : (Jvm.Cond.declares ({ cls := "java/util/Iterator", name := "next", desc := "()Ljava/lang/Object;" } : Jvm.MethodName)) ∈ lw_tbl := lw_at lw_m5 38 rfl

theorem q1815 : (Jvm.Cond.interfaceMethod "jdk/internal/access/JavaLangAccess" "jdk/internal/access/JavaLangAccess" "getUTF16Char" "([BI)C") ∈ lw_tbl := lw_at lw_m8 33 rfl
set_option maxRecDepth 100000
theorem q1816 : (Jvm.Cond.declares ({ cls := "jdk/internal/access/JavaLangAccess", name := "getUTF16Char", desc := "([BI)C" } : Jvm.MethodName)) ∈ lw_tbl := lw_at lw_m8 34 rfl

theorem q160 : (Jvm.Cond.arrayOver (Jvm.ClassFile.FieldType.array (Jvm.ClassFile.FieldType.array Jvm.ClassFile.FieldType.long))) ∈ lw_tbl := lw_at lw_m1 58 rfl
set_option maxRecDepth 100000
theorem q161 : (Jvm.Cond.arrayOver (Jvm.ClassFile.FieldType.array Jvm.ClassFile.FieldType.long)) ∈ lw_tbl := lw_at lw_m1 59 rfl
theorem q163 : (Jvm.Cond.arrayOver (Jvm.ClassFile.FieldType.array Jvm.ClassFile.FieldType.int)) ∈ lw_tbl := lw_at lw_m1 61 rfl
theorem q262 : (Jvm.Cond.arrayClass Jvm.ClassFile.FieldType.long) ∈ lw_all := lw_g (lw_at lw_m1 160 rfl) rfl
theorem q263 : (Jvm.Cond.arrayClass Jvm.ClassFile.FieldType.int) ∈ lw_all := lw_g (lw_at lw_m1 161 rfl) rfl
theorem q264 : (Jvm.Cond.arrayClass Jvm.ClassFile.FieldType.byte) ∈ lw_all := lw_g (lw_at lw_m1 162 rfl) rfl
theorem q281 : (Jvm.Cond.arrayOver (Jvm.ClassFile.FieldType.object "TypesAtPrime$Sheet")) ∈ lw_tbl := lw_at lw_m1 179 rfl
theorem q604 : (Jvm.Cond.arrayOver (Jvm.ClassFile.FieldType.object "java/lang/Object")) ∈ lw_tbl := lw_at lw_m3 22 rfl
theorem q1204 : (Jvm.Cond.arrayOver (Jvm.ClassFile.FieldType.object "TypesAtPrime$Monomial")) ∈ lw_tbl := lw_at lw_m5 142 rfl
theorem q2666 : (Jvm.Cond.arrayClass Jvm.ClassFile.FieldType.char) ∈ lw_all := lw_g (lw_at lw_m11 164 rfl) rfl
theorem q2667 : (Jvm.Cond.arrayClass Jvm.ClassFile.FieldType.short) ∈ lw_all := lw_g (lw_at lw_m11 165 rfl) rfl

