/-! the words of the machine's exceptions, printed -/
set_option maxRecDepth 100000
theorem vx_no_of {L : List Cond} {w : Cond} (h : w ∈ L.filter vx_no) : w ∈ L ∧ vx_no w = true := List.mem_filter.mp h
set_option maxHeartbeats 4000000 in
theorem hat_AE : ∀ w ∈ vx_atM "java/lang/ArithmeticException" ["java/lang/RuntimeException", "java/lang/Exception"], w ∈ lw_all ∨ w ∈ hNW := by
  intro w hw
  obtain ⟨h1, h2⟩ := vx_no_of hw
  simp only [Bundle.messageArmAtoms, Bundle.throwableAtoms, Bundle.throwableSAtoms, Bundle.chainSAtoms, Bundle.passSAtoms, Bundle.stringAtoms, Bundle.npeArmAtoms, Bundle.npeAtoms, Bundle.passAtoms, List.mem_append, List.mem_cons, List.not_mem_nil, or_false, or_assoc] at h1
  rcases h1 with rfl | rfl | rfl | rfl | rfl | rfl | rfl | rfl | rfl | rfl | rfl | rfl | rfl | rfl | rfl | rfl | rfl | rfl | rfl | rfl | rfl | rfl | rfl | rfl | rfl | rfl | rfl | rfl | rfl | rfl | rfl | rfl | rfl | rfl | rfl | rfl | rfl | rfl | rfl | rfl | rfl | rfl | rfl | rfl | rfl | rfl | rfl | rfl | rfl | rfl | rfl | rfl | rfl | rfl | rfl | rfl | rfl | rfl | rfl | rfl | rfl | rfl | rfl | rfl
  · exact Or.inl q108
  · exact Or.inl q203
  · exact Or.inl q212
  · exact Or.inl q232
  · exact Or.inl q235
  · exact Or.inl q237
  · exact Or.inl q204
  · exact Or.inl q205
  · exact Or.inl q153
  · exact Or.inl q154
  · exact Or.inl q206
  · exact Or.inl q211
  · exact Or.inl q233
  · exact Or.inl q251
  · exact Or.inl q193
  · exact Or.inl q252
  · exact Or.inl q195
  · exact Or.inl q253
  · exact Or.inl q197
  · exact Or.inl q207
  · exact absurd h2 (by decide)
  · exact Or.inl q209
  · exact absurd h2 (by decide)
  · exact Or.inl q199
  · exact Or.inl q401
  · exact Or.inl q402
  · exact Or.inl q250
  · exact Or.inl q199
  · exact Or.inl q392
  · exact Or.inl q393
  · exact Or.inl q394
  · exact Or.inl q395
  · exact Or.inr (nw_of q185 rfl)
  · exact Or.inl q395
  · exact Or.inl q396
  · exact Or.inl q397
  · exact Or.inl q398
  · exact Or.inr (nw_of q187 rfl)
  · exact Or.inl q398
  · exact Or.inl q399
  · exact Or.inl q400
  · exact Or.inl q401
  · exact Or.inr (nw_of q189 rfl)
  · exact Or.inl q106
  · exact Or.inl q410
  · exact Or.inl q264
  · exact Or.inl q411
  · exact Or.inl q413
  · exact Or.inl q412
  · exact Or.inl q414
  · exact Or.inl q127
  · exact Or.inl q382
  · exact Or.inr (nw_of q383 rfl)
  · exact Or.inl q384
  · exact Or.inl q215
  · exact Or.inl q385
  · exact Or.inl q386
  · exact Or.inl q387
  · exact Or.inl q388
  · exact absurd h2 (by decide)
  · exact absurd h2 (by decide)
  · exact Or.inl q249
  · exact Or.inl q201
  · exact Or.inl q389
set_option maxHeartbeats 4000000 in
theorem hat_AX : ∀ w ∈ vx_atM "java/lang/ArrayIndexOutOfBoundsException" ["java/lang/IndexOutOfBoundsException", "java/lang/RuntimeException", "java/lang/Exception"], w ∈ lw_all ∨ w ∈ hNW := by
  intro w hw
  obtain ⟨h1, h2⟩ := vx_no_of hw
  simp only [Bundle.messageArmAtoms, Bundle.throwableAtoms, Bundle.throwableSAtoms, Bundle.chainSAtoms, Bundle.passSAtoms, Bundle.stringAtoms, Bundle.npeArmAtoms, Bundle.npeAtoms, Bundle.passAtoms, List.mem_append, List.mem_cons, List.not_mem_nil, or_false, or_assoc] at h1
  rcases h1 with rfl | rfl | rfl | rfl | rfl | rfl | rfl | rfl | rfl | rfl | rfl | rfl | rfl | rfl | rfl | rfl | rfl | rfl | rfl | rfl | rfl | rfl | rfl | rfl | rfl | rfl | rfl | rfl | rfl | rfl | rfl | rfl | rfl | rfl | rfl | rfl | rfl | rfl | rfl | rfl | rfl | rfl | rfl | rfl | rfl | rfl | rfl | rfl | rfl | rfl | rfl | rfl | rfl | rfl | rfl | rfl | rfl | rfl | rfl | rfl | rfl | rfl | rfl | rfl | rfl | rfl | rfl | rfl | rfl
  · exact Or.inl q108
  · exact Or.inl q203
  · exact Or.inl q212
  · exact Or.inl q232
  · exact Or.inl q235
  · exact Or.inl q237
  · exact Or.inl q204
  · exact Or.inl q205
  · exact Or.inl q153
  · exact Or.inl q154
  · exact Or.inl q206
  · exact Or.inl q211
  · exact Or.inl q233
  · exact Or.inl q251
  · exact Or.inl q193
  · exact Or.inl q252
  · exact Or.inl q195
  · exact Or.inl q253
  · exact Or.inl q197
  · exact Or.inl q207
  · exact absurd h2 (by decide)
  · exact Or.inl q209
  · exact absurd h2 (by decide)
  · exact Or.inl q199
  · exact Or.inl q401
  · exact Or.inl q402
  · exact Or.inl q250
  · exact Or.inl q199
  · exact Or.inl q1910
  · exact Or.inl q1911
  · exact Or.inl q909
  · exact Or.inl q870
  · exact Or.inr (nw_of q893 rfl)
  · exact Or.inl q870
  · exact Or.inl q871
  · exact Or.inl q872
  · exact Or.inl q395
  · exact Or.inr (nw_of q185 rfl)
  · exact Or.inl q395
  · exact Or.inl q396
  · exact Or.inl q397
  · exact Or.inl q398
  · exact Or.inr (nw_of q187 rfl)
  · exact Or.inl q398
  · exact Or.inl q399
  · exact Or.inl q400
  · exact Or.inl q401
  · exact Or.inr (nw_of q189 rfl)
  · exact Or.inl q106
  · exact Or.inl q410
  · exact Or.inl q264
  · exact Or.inl q411
  · exact Or.inl q413
  · exact Or.inl q412
  · exact Or.inl q414
  · exact Or.inl q124
  · exact Or.inl q890
  · exact Or.inr (nw_of q891 rfl)
  · exact Or.inl q894
  · exact Or.inl q216
  · exact Or.inl q895
  · exact Or.inl q896
  · exact Or.inl q897
  · exact Or.inl q898
  · exact absurd h2 (by decide)
  · exact absurd h2 (by decide)
  · exact Or.inl q249
  · exact Or.inl q201
  · exact Or.inl q899
set_option maxHeartbeats 4000000 in
theorem hat_AS : ∀ w ∈ vx_atM "java/lang/ArrayStoreException" ["java/lang/RuntimeException", "java/lang/Exception"], w ∈ lw_all ∨ w ∈ hNW := by
  intro w hw
  obtain ⟨h1, h2⟩ := vx_no_of hw
  simp only [Bundle.messageArmAtoms, Bundle.throwableAtoms, Bundle.throwableSAtoms, Bundle.chainSAtoms, Bundle.passSAtoms, Bundle.stringAtoms, Bundle.npeArmAtoms, Bundle.npeAtoms, Bundle.passAtoms, List.mem_append, List.mem_cons, List.not_mem_nil, or_false, or_assoc] at h1
  rcases h1 with rfl | rfl | rfl | rfl | rfl | rfl | rfl | rfl | rfl | rfl | rfl | rfl | rfl | rfl | rfl | rfl | rfl | rfl | rfl | rfl | rfl | rfl | rfl | rfl | rfl | rfl | rfl | rfl | rfl | rfl | rfl | rfl | rfl | rfl | rfl | rfl | rfl | rfl | rfl | rfl | rfl | rfl | rfl | rfl | rfl | rfl | rfl | rfl | rfl | rfl | rfl | rfl | rfl | rfl | rfl | rfl | rfl | rfl | rfl | rfl | rfl | rfl | rfl | rfl
  · exact Or.inl q108
  · exact Or.inl q203
  · exact Or.inl q212
  · exact Or.inl q232
  · exact Or.inl q235
  · exact Or.inl q237
  · exact Or.inl q204
  · exact Or.inl q205
  · exact Or.inl q153
  · exact Or.inl q154
  · exact Or.inl q206
  · exact Or.inl q211
  · exact Or.inl q233
  · exact Or.inl q251
  · exact Or.inl q193
  · exact Or.inl q252
  · exact Or.inl q195
  · exact Or.inl q253
  · exact Or.inl q197
  · exact Or.inl q207
  · exact absurd h2 (by decide)
  · exact Or.inl q209
  · exact absurd h2 (by decide)
  · exact Or.inl q199
  · exact Or.inl q401
  · exact Or.inl q402
  · exact Or.inl q250
  · exact Or.inl q199
  · exact Or.inl q1953
  · exact Or.inl q1954
  · exact Or.inl q1955
  · exact Or.inl q395
  · exact Or.inr (nw_of q185 rfl)
  · exact Or.inl q395
  · exact Or.inl q396
  · exact Or.inl q397
  · exact Or.inl q398
  · exact Or.inr (nw_of q187 rfl)
  · exact Or.inl q398
  · exact Or.inl q399
  · exact Or.inl q400
  · exact Or.inl q401
  · exact Or.inr (nw_of q189 rfl)
  · exact Or.inl q106
  · exact Or.inl q410
  · exact Or.inl q264
  · exact Or.inl q411
  · exact Or.inl q413
  · exact Or.inl q412
  · exact Or.inl q414
  · exact Or.inl q146
  · exact Or.inl q1952
  · exact Or.inr (nw_of q1963 rfl)
  · exact Or.inl q1964
  · exact Or.inl q217
  · exact Or.inl q1958
  · exact Or.inl q1959
  · exact Or.inl q1961
  · exact Or.inl q1957
  · exact absurd h2 (by decide)
  · exact absurd h2 (by decide)
  · exact Or.inl q249
  · exact Or.inl q201
  · exact Or.inl q1956
set_option maxHeartbeats 4000000 in
theorem hat_NA : ∀ w ∈ vx_atM "java/lang/NegativeArraySizeException" ["java/lang/RuntimeException", "java/lang/Exception"], w ∈ lw_all ∨ w ∈ hNW := by
  intro w hw
  obtain ⟨h1, h2⟩ := vx_no_of hw
  simp only [Bundle.messageArmAtoms, Bundle.throwableAtoms, Bundle.throwableSAtoms, Bundle.chainSAtoms, Bundle.passSAtoms, Bundle.stringAtoms, Bundle.npeArmAtoms, Bundle.npeAtoms, Bundle.passAtoms, List.mem_append, List.mem_cons, List.not_mem_nil, or_false, or_assoc] at h1
  rcases h1 with rfl | rfl | rfl | rfl | rfl | rfl | rfl | rfl | rfl | rfl | rfl | rfl | rfl | rfl | rfl | rfl | rfl | rfl | rfl | rfl | rfl | rfl | rfl | rfl | rfl | rfl | rfl | rfl | rfl | rfl | rfl | rfl | rfl | rfl | rfl | rfl | rfl | rfl | rfl | rfl | rfl | rfl | rfl | rfl | rfl | rfl | rfl | rfl | rfl | rfl | rfl | rfl | rfl | rfl | rfl | rfl | rfl | rfl | rfl | rfl | rfl | rfl | rfl | rfl
  · exact Or.inl q108
  · exact Or.inl q203
  · exact Or.inl q212
  · exact Or.inl q232
  · exact Or.inl q235
  · exact Or.inl q237
  · exact Or.inl q204
  · exact Or.inl q205
  · exact Or.inl q153
  · exact Or.inl q154
  · exact Or.inl q206
  · exact Or.inl q211
  · exact Or.inl q233
  · exact Or.inl q251
  · exact Or.inl q193
  · exact Or.inl q252
  · exact Or.inl q195
  · exact Or.inl q253
  · exact Or.inl q197
  · exact Or.inl q207
  · exact absurd h2 (by decide)
  · exact Or.inl q209
  · exact absurd h2 (by decide)
  · exact Or.inl q199
  · exact Or.inl q401
  · exact Or.inl q402
  · exact Or.inl q250
  · exact Or.inl q199
  · exact Or.inl q1935
  · exact Or.inl q1936
  · exact Or.inl q1937
  · exact Or.inl q395
  · exact Or.inr (nw_of q185 rfl)
  · exact Or.inl q395
  · exact Or.inl q396
  · exact Or.inl q397
  · exact Or.inl q398
  · exact Or.inr (nw_of q187 rfl)
  · exact Or.inl q398
  · exact Or.inl q399
  · exact Or.inl q400
  · exact Or.inl q401
  · exact Or.inr (nw_of q189 rfl)
  · exact Or.inl q106
  · exact Or.inl q410
  · exact Or.inl q264
  · exact Or.inl q411
  · exact Or.inl q413
  · exact Or.inl q412
  · exact Or.inl q414
  · exact Or.inl q111
  · exact Or.inl q182
  · exact Or.inr (nw_of q183 rfl)
  · exact Or.inl q190
  · exact Or.inl q191
  · exact Or.inl q192
  · exact Or.inl q194
  · exact Or.inl q196
  · exact Or.inl q198
  · exact absurd h2 (by decide)
  · exact absurd h2 (by decide)
  · exact Or.inl q249
  · exact Or.inl q201
  · exact Or.inl q200
set_option maxHeartbeats 4000000 in
theorem hat_NP : ∀ w ∈ vx_atN 8, w ∈ lw_all ∨ w ∈ hNW := by
  intro w hw
  obtain ⟨h1, h2⟩ := vx_no_of hw
  simp only [Bundle.messageArmAtoms, Bundle.throwableAtoms, Bundle.throwableSAtoms, Bundle.chainSAtoms, Bundle.passSAtoms, Bundle.stringAtoms, Bundle.npeArmAtoms, Bundle.npeAtoms, Bundle.passAtoms, List.mem_append, List.mem_cons, List.not_mem_nil, or_false, or_assoc] at h1
  rcases h1 with rfl | rfl | rfl | rfl | rfl | rfl | rfl | rfl | rfl | rfl | rfl | rfl | rfl | rfl | rfl | rfl | rfl | rfl | rfl | rfl | rfl | rfl | rfl | rfl | rfl | rfl | rfl | rfl | rfl | rfl | rfl | rfl | rfl | rfl | rfl | rfl | rfl | rfl | rfl | rfl | rfl | rfl | rfl | rfl | rfl | rfl | rfl | rfl | rfl | rfl | rfl | rfl | rfl | rfl | rfl | rfl | rfl | rfl | rfl | rfl
  · exact Or.inl q108
  · exact Or.inl q203
  · exact Or.inl q212
  · exact Or.inl q232
  · exact Or.inl q235
  · exact Or.inl q237
  · exact Or.inl q204
  · exact Or.inl q205
  · exact Or.inl q153
  · exact Or.inl q154
  · exact Or.inl q206
  · exact Or.inl q211
  · exact Or.inl q233
  · exact Or.inl q251
  · exact Or.inl q193
  · exact Or.inl q252
  · exact Or.inl q195
  · exact Or.inl q253
  · exact Or.inl q197
  · exact Or.inl q207
  · exact absurd h2 (by decide)
  · exact Or.inl q209
  · exact absurd h2 (by decide)
  · exact Or.inl q199
  · exact Or.inl q229
  · exact Or.inl q219
  · exact Or.inl q220
  · exact Or.inl q1869
  · exact Or.inl q1871
  · exact Or.inl q226
  · exact Or.inl q227
  · exact Or.inr (nw_of q1883 rfl)
  · exact Or.inl q1866
  · exact Or.inl q1867
  · exact Or.inl q1868
  · exact Or.inl q243
  · exact Or.inr (nw_of q184 rfl)
  · exact Or.inl q243
  · exact Or.inl q244
  · exact Or.inl q245
  · exact Or.inl q246
  · exact Or.inr (nw_of q186 rfl)
  · exact Or.inl q246
  · exact Or.inl q247
  · exact Or.inl q248
  · exact Or.inl q204
  · exact Or.inr (nw_of q188 rfl)
  · exact Or.inl q145
  · exact Or.inl q224
  · exact Or.inr (nw_of q1881 rfl)
  · exact Or.inl q1882
  · exact Or.inl q218
  · exact Or.inl q1877
  · exact Or.inl q1878
  · exact Or.inl q1880
  · exact absurd h2 (by decide)
  · exact absurd h2 (by decide)
  · exact Or.inl q249
  · exact Or.inl q201
  · exact Or.inl q1875
set_option maxHeartbeats 4000000 in
theorem hat_AM : ∀ w ∈ vx_atS "java/lang/Math" 113 "java/lang/ArithmeticException" ["java/lang/RuntimeException", "java/lang/Exception"], w ∈ lw_all ∨ w ∈ hNW := by
  intro w hw
  obtain ⟨h1, h2⟩ := vx_no_of hw
  simp only [Bundle.messageArmAtoms, Bundle.ownAtoms, Bundle.throwableAtoms, Bundle.throwableSAtoms, Bundle.chainSAtoms, Bundle.passSAtoms, Bundle.stringAtoms, Bundle.npeArmAtoms, Bundle.npeAtoms, Bundle.passAtoms, List.mem_append, List.mem_cons, List.not_mem_nil, or_false, or_assoc] at h1
  rcases h1 with rfl | rfl | rfl | rfl | rfl | rfl | rfl | rfl | rfl | rfl | rfl | rfl | rfl | rfl | rfl | rfl | rfl | rfl | rfl | rfl | rfl | rfl | rfl | rfl | rfl | rfl | rfl | rfl | rfl | rfl | rfl | rfl | rfl | rfl | rfl | rfl | rfl | rfl | rfl | rfl | rfl | rfl | rfl | rfl | rfl | rfl | rfl | rfl | rfl | rfl | rfl | rfl | rfl | rfl | rfl | rfl | rfl
  · exact Or.inl q108
  · exact Or.inl q203
  · exact Or.inl q212
  · exact Or.inl q232
  · exact Or.inl q235
  · exact Or.inl q237
  · exact Or.inl q204
  · exact Or.inl q205
  · exact Or.inl q153
  · exact Or.inl q154
  · exact Or.inl q206
  · exact Or.inl q211
  · exact Or.inl q233
  · exact Or.inl q251
  · exact Or.inl q193
  · exact Or.inl q252
  · exact Or.inl q195
  · exact Or.inl q253
  · exact Or.inl q197
  · exact Or.inl q207
  · exact absurd h2 (by decide)
  · exact Or.inl q209
  · exact absurd h2 (by decide)
  · exact Or.inl q199
  · exact Or.inl q401
  · exact Or.inl q402
  · exact Or.inl q250
  · exact Or.inl q199
  · exact Or.inl q392
  · exact Or.inl q393
  · exact Or.inl q394
  · exact Or.inl q395
  · exact Or.inr (nw_of q185 rfl)
  · exact Or.inl q395
  · exact Or.inl q396
  · exact Or.inl q397
  · exact Or.inl q398
  · exact Or.inr (nw_of q187 rfl)
  · exact Or.inl q398
  · exact Or.inl q399
  · exact Or.inl q400
  · exact Or.inl q401
  · exact Or.inr (nw_of q189 rfl)
  · exact Or.inl q391
  · exact Or.inl q382
  · exact Or.inr (nw_of q383 rfl)
  · exact Or.inl q384
  · exact Or.inl q215
  · exact Or.inl q385
  · exact Or.inl q386
  · exact Or.inl q387
  · exact Or.inl q388
  · exact absurd h2 (by decide)
  · exact absurd h2 (by decide)
  · exact Or.inl q249
  · exact Or.inl q201
  · exact Or.inl q389
theorem hat2_AE : ∀ w ∈ vx_atM "java/lang/ArithmeticException" ["java/lang/RuntimeException", "java/lang/Exception"], w.onTables = true ∨ w = .arrayClass .byte := List.all_eq_true.mp (by decide +kernel : (vx_atM "java/lang/ArithmeticException" ["java/lang/RuntimeException", "java/lang/Exception"]).all (fun w => decide (w.onTables = true ∨ w = .arrayClass .byte)) = true) |> fun h w hw => of_decide_eq_true (h w hw)
theorem hat3_AE : ∀ w ∈ vx_atM "java/lang/ArithmeticException" ["java/lang/RuntimeException", "java/lang/Exception"], vx_ot w = true := List.all_eq_true.mp (by decide +kernel : (vx_atM "java/lang/ArithmeticException" ["java/lang/RuntimeException", "java/lang/Exception"]).all vx_ot = true)
theorem hat2_AX : ∀ w ∈ vx_atM "java/lang/ArrayIndexOutOfBoundsException" ["java/lang/IndexOutOfBoundsException", "java/lang/RuntimeException", "java/lang/Exception"], w.onTables = true ∨ w = .arrayClass .byte := List.all_eq_true.mp (by decide +kernel : (vx_atM "java/lang/ArrayIndexOutOfBoundsException" ["java/lang/IndexOutOfBoundsException", "java/lang/RuntimeException", "java/lang/Exception"]).all (fun w => decide (w.onTables = true ∨ w = .arrayClass .byte)) = true) |> fun h w hw => of_decide_eq_true (h w hw)
theorem hat3_AX : ∀ w ∈ vx_atM "java/lang/ArrayIndexOutOfBoundsException" ["java/lang/IndexOutOfBoundsException", "java/lang/RuntimeException", "java/lang/Exception"], vx_ot w = true := List.all_eq_true.mp (by decide +kernel : (vx_atM "java/lang/ArrayIndexOutOfBoundsException" ["java/lang/IndexOutOfBoundsException", "java/lang/RuntimeException", "java/lang/Exception"]).all vx_ot = true)
theorem hat2_AS : ∀ w ∈ vx_atM "java/lang/ArrayStoreException" ["java/lang/RuntimeException", "java/lang/Exception"], w.onTables = true ∨ w = .arrayClass .byte := List.all_eq_true.mp (by decide +kernel : (vx_atM "java/lang/ArrayStoreException" ["java/lang/RuntimeException", "java/lang/Exception"]).all (fun w => decide (w.onTables = true ∨ w = .arrayClass .byte)) = true) |> fun h w hw => of_decide_eq_true (h w hw)
theorem hat3_AS : ∀ w ∈ vx_atM "java/lang/ArrayStoreException" ["java/lang/RuntimeException", "java/lang/Exception"], vx_ot w = true := List.all_eq_true.mp (by decide +kernel : (vx_atM "java/lang/ArrayStoreException" ["java/lang/RuntimeException", "java/lang/Exception"]).all vx_ot = true)
theorem hat2_NA : ∀ w ∈ vx_atM "java/lang/NegativeArraySizeException" ["java/lang/RuntimeException", "java/lang/Exception"], w.onTables = true ∨ w = .arrayClass .byte := List.all_eq_true.mp (by decide +kernel : (vx_atM "java/lang/NegativeArraySizeException" ["java/lang/RuntimeException", "java/lang/Exception"]).all (fun w => decide (w.onTables = true ∨ w = .arrayClass .byte)) = true) |> fun h w hw => of_decide_eq_true (h w hw)
theorem hat3_NA : ∀ w ∈ vx_atM "java/lang/NegativeArraySizeException" ["java/lang/RuntimeException", "java/lang/Exception"], vx_ot w = true := List.all_eq_true.mp (by decide +kernel : (vx_atM "java/lang/NegativeArraySizeException" ["java/lang/RuntimeException", "java/lang/Exception"]).all vx_ot = true)
theorem hat2_NP : ∀ w ∈ vx_atN 8, w.onTables = true ∨ w = .arrayClass .byte := List.all_eq_true.mp (by decide +kernel : (vx_atN 8).all (fun w => decide (w.onTables = true ∨ w = .arrayClass .byte)) = true) |> fun h w hw => of_decide_eq_true (h w hw)
theorem hat3_NP : ∀ w ∈ vx_atN 8, vx_ot w = true := List.all_eq_true.mp (by decide +kernel : (vx_atN 8).all vx_ot = true)
theorem hat2_AM : ∀ w ∈ vx_atS "java/lang/Math" 113 "java/lang/ArithmeticException" ["java/lang/RuntimeException", "java/lang/Exception"], w.onTables = true ∨ w = .arrayClass .byte := List.all_eq_true.mp (by decide +kernel : (vx_atS "java/lang/Math" 113 "java/lang/ArithmeticException" ["java/lang/RuntimeException", "java/lang/Exception"]).all (fun w => decide (w.onTables = true ∨ w = .arrayClass .byte)) = true) |> fun h w hw => of_decide_eq_true (h w hw)
theorem hat3_AM : ∀ w ∈ vx_atS "java/lang/Math" 113 "java/lang/ArithmeticException" ["java/lang/RuntimeException", "java/lang/Exception"], vx_ot w = true := List.all_eq_true.mp (by decide +kernel : (vx_atS "java/lang/Math" 113 "java/lang/ArithmeticException" ["java/lang/RuntimeException", "java/lang/Exception"]).all vx_ot = true)
